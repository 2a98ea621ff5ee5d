/-! calls that ask: feeds, enough, needed -/
set_option maxRecDepth 100000
section FEV
variable {d : Nat} {μ ν ξ : am_M} {K : Option Value → am_M → Prop} {x y z c : Int32} {h h' N C j i k r n M q m t w V p e D sm o : Nat} {v b : Int32} {ru : Option PF} {S a T : Nat → Int32} {g wo : Nat → Bool} {s : Nat → Nat}
def ffB (_ : Nat) : Bool := false
theorem orB_ff : ∀ N, orB ffB N = 0
  | 0 => rfl
  | n + 1 => by
    have e : ¬ ffB n = true := fun e => Bool.noConfusion e
    unfold orB
    rw [orB_ff n, if_neg e]
    exact Int32.or_zero
theorem gvF_le (hs : Sim N S a) (hV : V ≤ 30) (h8 : N ≤ 8) : gvF N V S wo ≤ 312 := by
  rw [← fed_law hs hV h8]
  have h0 : okF (vB (gF 2 S) N) 0 = true := (okF_iff h8 (by decide)).mpr (fun n hn => by simp at hn)
  exact Nat.le_trans (fcL_le (Nat.succ_pos _) h0) (coF_le hV h8 fun n => stF_le hs)
theorem wX1_fed (hC : CC N ru c μ) (hs : Sim N (cS μ 1) a) (hV : V ≤ 30) (hw : orB wo N = x) (hK : K (some (.int (nI (gvF N V (cS μ 1) wo)))) μ) : am_Wp (d + 2) mX1_fedBy 0 [.ref 0, .int (nI V), .int x, am_F, am_F, am_F, am_F, am_F, am_F] [] μ K := by
  rw [← hw]
  refine wX1_fedBy hC hs hV ?_
  rw [fed_law hs hV hC.2.2.1]
  exact hK
theorem wX1_wanted (hC : CC N ru c μ) : am_Wp (d + 1) mX1_wanted 0 [.ref 0, .int (nI V)] [] μ K ↔ K (some (.int (nI (V * fcN (gF 2 (cS μ 1)) N 0)))) μ := by
  have hcu := hC.1
  simp only [cL, spL, Nat.reduceAdd] at hcu
  have h1 := fun K => wX1_guests (d := d) (K := K) (h := 1) (fr := 2) hC.2.1 hC.2.2.1 hC.1.c hC.1.s1
  simp only [gX1_wanted_0, gX1_wanted_1, gX1_wanted_2, gX1_wanted_3, gX1_wanted_6, gX1_wanted_7, am_kill_int, am_kill_ref, am_kill_null, am_kill_F, am_kill_long, am_cat_n, am_cat_i, am_cat_r, am_cat_0, am_cat_l, am_nr_n, am_nr_i, am_nr_r, am_nr_0, am_nr_l, Option.toList_some, Option.toList_none, List.nil_append, List.cons_append, va_rf_s, va_rf_n, am_II, am_I_sR, am_I_sL, am_R_sI, am_RR, am_R_sL, am_L_sI, am_L_sR, am_LL, am_k_sI, am_k_sR, am_k_sL, am_n_sI, am_n_sR, am_n_sL, true_and, and_true, true_or, or_true, or_false, false_or, not_true_eq_false, not_false_eq_true, Nat.reduceLT, am_dS, am_dP, am_d1, Nat.reduceSub, Nat.reduceMul, ne_eq, Nat.reduceBEq, Nat.reduceAdd, Nat.reduceLeDiff, Nat.reduceEqDiff, and_self, and_false, false_and, if_true, if_false, am_nb, am_nb0, am_nb1, am_lc1, am_lc2, am_lc3, am_b0, am_b1, am_10, am_c8, am_c16, am_c24, am_c32, am_c40, am_c48, am_c56, am_c64, am_c72, Nat.add_zero, Bool.false_eq_true, Nat.zero_le, hcu]
  rw [h1]
  simp only [gX1_wanted_10, gX1_wanted_13, gX1_wanted_14, am_kill_int, am_kill_ref, am_kill_null, am_kill_F, am_kill_long, am_cat_n, am_cat_i, am_cat_r, am_cat_0, am_cat_l, am_nr_n, am_nr_i, am_nr_r, am_nr_0, am_nr_l, Option.toList_some, Option.toList_none, List.nil_append, List.cons_append, va_rf_s, va_rf_n, am_II, am_I_sR, am_I_sL, am_R_sI, am_RR, am_R_sL, am_L_sI, am_L_sR, am_LL, am_k_sI, am_k_sR, am_k_sL, am_n_sI, am_n_sR, am_n_sL, true_and, and_true, true_or, or_true, or_false, false_or, not_true_eq_false, not_false_eq_true, Nat.reduceLT, am_dS, am_dP, am_d1, Nat.reduceSub, Nat.reduceMul, ne_eq, Nat.reduceBEq, Nat.reduceAdd, Nat.reduceLeDiff, Nat.reduceEqDiff, and_self, and_false, false_and, if_true, if_false, am_nb, am_nb0, am_nb1, am_lc1, am_lc2, am_lc3, am_b0, am_b1, am_10, am_c8, am_c16, am_c24, am_c32, am_c40, am_c48, am_c56, am_c64, am_c72, Nat.add_zero, Bool.false_eq_true, Nat.zero_le, wJ10_bitCount, bc_cnt hC.2.2.1, nI_mul]
theorem no_m1 (n : Nat) (h8 : N ≤ 8) (hn : n < N) : (nI n = -1) = (ffB n = true) := eq_false (nI_m1 (by omega)) |>.trans (eq_false (fun e => Bool.noConfusion e : ¬ ffB n = true)).symm
theorem wX3_youngC (hC : MC N c μ) (hs : Sim N S (am_I μ 55)) : am_Wp d mX3_young 0 [.ref 54, am_F, am_F] [] μ K ↔ K (some (.int (orB (gF 2 S) N))) μ := by
  rw [wX3_young hC, hs.gFY]
def vFe (N : Nat) (S : Nat → Int32) (x : Int32) : Int32 := if isN x 31 = true then nI (gvF N x.toNatClampNeg S ffB) else -1
def pFe (N : Nat) (S : Nat → Int32) (x : Int32) : Option (List Int64) := if isN x 31 = true then some [(nI (x.toNatClampNeg * fcN (gF 2 S) N 0)).toInt64] else none
theorem e30L : (30 : Int64) = (nI 31 - 1).toInt64 := by decide
theorem e30I : (30 : Int32) = nI 31 - 1 := by decide
theorem j70 (hf : Fr (fun a _ => a = 70) μ ν) : Fw sM μ ν := hf.toW.le fun a b q => by unfold sM; omega
theorem qc_feeds (hP : Per N C ru c μ) : QC mX1_feeds [.ref 0, .int x] μ (vFe N (cS μ 1) x) (pFe N (cS μ 1) x) := by
  intro d K hK
  have hC := hP.1.1
  have hcu := hC.1
  simp only [cL, spL, Nat.reduceAdd] at hcu
  have hN := hC.2.1
  have h8 := hC.2.2.1
  have hk := hC.1.c
  unfold vFe pFe at hK
  by_cases hx : isN x 31 = true
  · simp only [if_pos hx] at hK
    obtain ⟨V, hV, rfl⟩ := isN_of (by omega) hx
    have hcl : (nI V).toNatClampNeg = V := nI_clamp (by omega)
    simp only [hcl] at hK
    have hF1 : Fw sC μ (am_sI μ 0 40 0) := Fw.I Fw.refl (by unfold sC; omega)
    have hC1 := hC.fw hF1 (fun a b q => by unfold sC at q; omega)
    have h2 := fun K => wX1_wanted (d := d + 198) (K := K) (V := V) hC1
    rw [cS_o (by omega)] at h2
    have hF2 : Fw sC μ (am_sI (am_sL (am_sI μ 0 40 0) 53 0 (nI (V * fcN (gF 2 (cS μ 1)) N 0)).toInt64) 0 40 1) := (hF1.L (Or.inl rfl)).I (by unfold sC; omega)
    have hC2 := hC.fw hF2 (fun a b q => by unfold sC at q; omega)
    have e12 : cS (am_sI (am_sL (am_sI μ 0 40 0) 53 0 (nI (V * fcN (gF 2 (cS μ 1)) N 0)).toInt64) 0 40 1) 1 = cS μ 1 := by rw [cS_o (by omega), cS_sL, cS_o (by omega)]
    simp only [gX1_feeds_0, gX1_feeds_1, gX1_feeds_2, gX1_feeds_3, gX1_feeds_6, gX1_feeds_9, gX1_feeds_12, gX1_feeds_13, gX1_feeds_14, gX1_feeds_15, gX1_feeds_16, gX1_feeds_19, gX1_feeds_20, gX1_feeds_21, gX1_feeds_22, am_kill_int, am_kill_ref, am_kill_null, am_kill_F, am_kill_long, am_cat_n, am_cat_i, am_cat_r, am_cat_0, am_cat_l, am_nr_n, am_nr_i, am_nr_r, am_nr_0, am_nr_l, Option.toList_some, Option.toList_none, List.nil_append, List.cons_append, va_rf_s, va_rf_n, am_II, am_I_sR, am_I_sL, am_R_sI, am_RR, am_R_sL, am_L_sI, am_L_sR, am_LL, am_k_sI, am_k_sR, am_k_sL, am_n_sI, am_n_sR, am_n_sL, true_and, and_true, true_or, or_true, or_false, false_or, not_true_eq_false, not_false_eq_true, Nat.reduceLT, am_dS, am_dP, am_d1, Nat.reduceSub, Nat.reduceMul, ne_eq, Nat.reduceBEq, Nat.reduceAdd, Nat.reduceLeDiff, Nat.reduceEqDiff, and_self, and_false, false_and, if_true, if_false, am_nb, am_nb0, am_nb1, am_lc1, am_lc2, am_lc3, am_b0, am_b1, am_10, am_c8, am_c16, am_c24, am_c32, am_c40, am_c48, am_c56, am_c64, am_c72, Nat.add_zero, Bool.false_eq_true, Nat.zero_le, hcu, wX1_in, am_l0, e30L, am_leL, am_isb, hx]
    rw [h2]
    simp only [gX1_feeds_25, gX1_feeds_26, gX1_feeds_29, gX1_feeds_30, gX1_feeds_31, gX1_feeds_32, am_kill_int, am_kill_ref, am_kill_null, am_kill_F, am_kill_long, am_cat_n, am_cat_i, am_cat_r, am_cat_0, am_cat_l, am_nr_n, am_nr_i, am_nr_r, am_nr_0, am_nr_l, Option.toList_some, Option.toList_none, List.nil_append, List.cons_append, va_rf_s, va_rf_n, am_II, am_I_sR, am_I_sL, am_R_sI, am_RR, am_R_sL, am_L_sI, am_L_sR, am_LL, am_k_sI, am_k_sR, am_k_sL, am_n_sI, am_n_sR, am_n_sL, true_and, and_true, true_or, or_true, or_false, false_or, not_true_eq_false, not_false_eq_true, Nat.reduceLT, am_dS, am_dP, am_d1, Nat.reduceSub, Nat.reduceMul, ne_eq, Nat.reduceBEq, Nat.reduceAdd, Nat.reduceLeDiff, Nat.reduceEqDiff, and_self, and_false, false_and, if_true, if_false, am_nb, am_nb0, am_nb1, am_lc1, am_lc2, am_lc3, am_b0, am_b1, am_10, am_c8, am_c16, am_c24, am_c32, am_c40, am_c48, am_c56, am_c64, am_c72, Nat.add_zero, Bool.false_eq_true, Nat.zero_le, hcu, wX1_tells0]
    refine wX1_fed (d := d + 197) (wo := ffB) hC2 (a := am_I μ 55) (by rw [e12]; exact hP.2.1) (by omega) (orB_ff N) ?_
    rw [e12]
    simp only [gX1_feeds_35, am_kill_int, am_kill_ref, am_kill_null, am_kill_F, am_kill_long, am_cat_n, am_cat_i, am_cat_r, am_cat_0, am_cat_l, am_nr_n, am_nr_i, am_nr_r, am_nr_0, am_nr_l, Option.toList_some, Option.toList_none, List.nil_append, List.cons_append, va_rf_s, va_rf_n, am_II, am_I_sR, am_I_sL, am_R_sI, am_RR, am_R_sL, am_L_sI, am_L_sR, am_LL, am_k_sI, am_k_sR, am_k_sL, am_n_sI, am_n_sR, am_n_sL, true_and, and_true, true_or, or_true, or_false, false_or, not_true_eq_false, not_false_eq_true, Nat.reduceLT, am_dS, am_dP, am_d1, Nat.reduceSub, Nat.reduceMul, ne_eq, Nat.reduceBEq, Nat.reduceAdd, Nat.reduceLeDiff, Nat.reduceEqDiff, and_self, and_false, false_and, if_true, if_false, am_nb, am_nb0, am_nb1, am_lc1, am_lc2, am_lc3, am_b0, am_b1, am_10, am_c8, am_c16, am_c24, am_c32, am_c40, am_c48, am_c56, am_c64, am_c72, Nat.add_zero, Bool.false_eq_true, Nat.zero_le]
    refine hK _ hF2 (TC1 ?_ ?_) (fun i => ?_)
    · simp only [am_II, and_self, if_true]
    · simp only [am_L_sI, am_LL, and_self, if_true]
    · simp only [am_L_sI, am_LL, Nat.reduceEqDiff, false_and, if_false]
  · simp only [hx, Bool.false_eq_true, if_false] at hK
    simp only [gX1_feeds_0, gX1_feeds_1, gX1_feeds_2, gX1_feeds_3, gX1_feeds_6, gX1_feeds_9, gX1_feeds_12, gX1_feeds_13, am_kill_int, am_kill_ref, am_kill_null, am_kill_F, am_kill_long, am_cat_n, am_cat_i, am_cat_r, am_cat_0, am_cat_l, am_nr_n, am_nr_i, am_nr_r, am_nr_0, am_nr_l, Option.toList_some, Option.toList_none, List.nil_append, List.cons_append, va_rf_s, va_rf_n, am_II, am_I_sR, am_I_sL, am_R_sI, am_RR, am_R_sL, am_L_sI, am_L_sR, am_LL, am_k_sI, am_k_sR, am_k_sL, am_n_sI, am_n_sR, am_n_sL, true_and, and_true, true_or, or_true, or_false, false_or, not_true_eq_false, not_false_eq_true, Nat.reduceLT, am_dS, am_dP, am_d1, Nat.reduceSub, Nat.reduceMul, ne_eq, Nat.reduceBEq, Nat.reduceAdd, Nat.reduceLeDiff, Nat.reduceEqDiff, and_self, and_false, false_and, if_true, if_false, am_nb, am_nb0, am_nb1, am_lc1, am_lc2, am_lc3, am_b0, am_b1, am_10, am_c8, am_c16, am_c24, am_c32, am_c40, am_c48, am_c56, am_c64, am_c72, Nat.add_zero, Bool.false_eq_true, Nat.zero_le, wX1_in, am_l0, e30L, am_leL, am_isb, hx]
    exact hK μ Fw.refl TC0 (fun _ => rfl)
theorem q5_feeds (hP : Per N C ru c μ) : Q5 mX3_feeds [.ref 54, .int x] μ (vFe N (cS μ 1) x) (pFe N (cS μ 1) x) := by
  intro d K hK
  have hS := hP.1.2.1
  have hC := hS.1
  have hmu := hC.1
  unfold mL at hmu
  have hN := hC.2.1
  have h8 := hC.2.2.1
  unfold vFe pFe at hK
  by_cases hx : isN x 31 = true
  · simp only [if_pos hx] at hK
    obtain ⟨V, hV, rfl⟩ := isN_of (by omega) hx
    have hcl : (nI V).toNatClampNeg = V := nI_clamp (by omega)
    simp only [hcl] at hK
    have hF1 : Fw sM μ (am_sI μ 54 6 0) := Fw.I Fw.refl (by unfold sM; omega)
    have hS1 := hS.sMm hF1 (by rw [am_I_sI, if_neg (by omega)]; exact hP.h17)
    have h2 := fun K => wX3_youngC (d := d + 199) (K := K) (S := cS μ 1) hS1.1 (by rw [am_row_o (by decide)]; exact hP.2.1)
    have hF2 : Fw sM μ (am_sI (am_sL (am_sI μ 54 6 0) 57 0 (nI (V * fcN (gF 2 (cS μ 1)) N 0)).toInt64) 54 6 1) := (hF1.L (Or.inr rfl)).I (by unfold sM; omega)
    have h172 : am_I (am_sI (am_sL (am_sI μ 54 6 0) 57 0 (nI (V * fcN (gF 2 (cS μ 1)) N 0)).toInt64) 54 6 1) 54 17 = 0 := by simp only [am_II, am_I_sL, Nat.reduceEqDiff, and_false, if_false]; exact hP.h17
    have hS2 := hS.sMm hF2 h172
    simp only [gX3_feeds_5, gX3_feeds_6, gX3_feeds_7, gX3_feeds_9, gX3_feeds_12, gX3_feeds_15, gX3_feeds_16, gX3_feeds_17, gX3_feeds_18, gX3_feeds_19, gX3_feeds_22, gX3_feeds_23, gX3_feeds_24, gX3_feeds_25, am_kill_int, am_kill_ref, am_kill_null, am_kill_F, am_kill_long, am_cat_n, am_cat_i, am_cat_r, am_cat_0, am_cat_l, am_nr_n, am_nr_i, am_nr_r, am_nr_0, am_nr_l, Option.toList_some, Option.toList_none, List.nil_append, List.cons_append, va_rf_s, va_rf_n, am_II, am_I_sR, am_I_sL, am_R_sI, am_RR, am_R_sL, am_L_sI, am_L_sR, am_LL, am_k_sI, am_k_sR, am_k_sL, am_n_sI, am_n_sR, am_n_sL, true_and, and_true, true_or, or_true, or_false, false_or, not_true_eq_false, not_false_eq_true, Nat.reduceLT, am_dS, am_dP, am_d1, Nat.reduceSub, Nat.reduceMul, ne_eq, Nat.reduceBEq, Nat.reduceAdd, Nat.reduceLeDiff, Nat.reduceEqDiff, and_self, and_false, false_and, if_true, if_false, am_nb, am_nb0, am_nb1, am_lc1, am_lc2, am_lc3, am_b0, am_b1, am_10, am_c8, am_c16, am_c24, am_c32, am_c40, am_c48, am_c56, am_c64, am_c72, Nat.add_zero, Bool.false_eq_true, Nat.zero_le, hmu, wX3_in, e30I, am_isb, hx]
    rw [h2]
    simp only [gX3_feeds_28, gX3_feeds_31, gX3_feeds_32, gX3_feeds_33, gX3_feeds_36, gX3_feeds_37, gX3_feeds_38, gX3_feeds_39, am_kill_int, am_kill_ref, am_kill_null, am_kill_F, am_kill_long, am_cat_n, am_cat_i, am_cat_r, am_cat_0, am_cat_l, am_nr_n, am_nr_i, am_nr_r, am_nr_0, am_nr_l, Option.toList_some, Option.toList_none, List.nil_append, List.cons_append, va_rf_s, va_rf_n, am_II, am_I_sR, am_I_sL, am_R_sI, am_RR, am_R_sL, am_L_sI, am_L_sR, am_LL, am_k_sI, am_k_sR, am_k_sL, am_n_sI, am_n_sR, am_n_sL, true_and, and_true, true_or, or_true, or_false, false_or, not_true_eq_false, not_false_eq_true, Nat.reduceLT, am_dS, am_dP, am_d1, Nat.reduceSub, Nat.reduceMul, ne_eq, Nat.reduceBEq, Nat.reduceAdd, Nat.reduceLeDiff, Nat.reduceEqDiff, and_self, and_false, false_and, if_true, if_false, am_nb, am_nb0, am_nb1, am_lc1, am_lc2, am_lc3, am_b0, am_b1, am_10, am_c8, am_c16, am_c24, am_c32, am_c40, am_c48, am_c56, am_c64, am_c72, Nat.add_zero, Bool.false_eq_true, Nat.zero_le, hmu, wJ10_bitCount, bc_cnt h8, nI_mul, wX3_tell0]
    refine wX3_givenBy (d := d + 198) (S := cS μ 1) (wo := ffB) hS2.1 (by rw [am_row_o (by decide), am_I_sL, am_row_o (by decide)]; exact hP.2.1) (by omega) (fun n hn => no_m1 n h8 hn) (fun ν hF => ?_)
    simp only [gX3_feeds_42, am_kill_int, am_kill_ref, am_kill_null, am_kill_F, am_kill_long, am_cat_n, am_cat_i, am_cat_r, am_cat_0, am_cat_l, am_nr_n, am_nr_i, am_nr_r, am_nr_0, am_nr_l, Option.toList_some, Option.toList_none, List.nil_append, List.cons_append, va_rf_s, va_rf_n, am_II, am_I_sR, am_I_sL, am_R_sI, am_RR, am_R_sL, am_L_sI, am_L_sR, am_LL, am_k_sI, am_k_sR, am_k_sL, am_n_sI, am_n_sR, am_n_sL, true_and, and_true, true_or, or_true, or_false, false_or, not_true_eq_false, not_false_eq_true, Nat.reduceLT, am_dS, am_dP, am_d1, Nat.reduceSub, Nat.reduceMul, ne_eq, Nat.reduceBEq, Nat.reduceAdd, Nat.reduceLeDiff, Nat.reduceEqDiff, and_self, and_false, false_and, if_true, if_false, am_nb, am_nb0, am_nb1, am_lc1, am_lc2, am_lc3, am_b0, am_b1, am_10, am_c8, am_c16, am_c24, am_c32, am_c40, am_c48, am_c56, am_c64, am_c72, Nat.add_zero, Bool.false_eq_true, Nat.zero_le]
    have hF3 := j70 hF
    refine hK ν (hF2.trans hF3) ?_ (TN1 ?_ ?_) (fun i => ?_)
    · rw [hF.1 54 17 (by decide)]; exact h172
    · rw [hF.1 54 6 (by decide)]; simp only [am_II, and_self, if_true]
    · rw [hF.L]; simp only [am_L_sI, am_LL, and_self, if_true]
    · rw [hF.L]; simp only [am_L_sI, am_LL, Nat.reduceEqDiff, false_and, if_false]
  · simp only [hx, Bool.false_eq_true, if_false] at hK
    simp only [gX3_feeds_5, gX3_feeds_6, gX3_feeds_7, gX3_feeds_9, gX3_feeds_12, gX3_feeds_15, gX3_feeds_16, am_kill_int, am_kill_ref, am_kill_null, am_kill_F, am_kill_long, am_cat_n, am_cat_i, am_cat_r, am_cat_0, am_cat_l, am_nr_n, am_nr_i, am_nr_r, am_nr_0, am_nr_l, Option.toList_some, Option.toList_none, List.nil_append, List.cons_append, va_rf_s, va_rf_n, am_II, am_I_sR, am_I_sL, am_R_sI, am_RR, am_R_sL, am_L_sI, am_L_sR, am_LL, am_k_sI, am_k_sR, am_k_sL, am_n_sI, am_n_sR, am_n_sL, true_and, and_true, true_or, or_true, or_false, false_or, not_true_eq_false, not_false_eq_true, Nat.reduceLT, am_dS, am_dP, am_d1, Nat.reduceSub, Nat.reduceMul, ne_eq, Nat.reduceBEq, Nat.reduceAdd, Nat.reduceLeDiff, Nat.reduceEqDiff, and_self, and_false, false_and, if_true, if_false, am_nb, am_nb0, am_nb1, am_lc1, am_lc2, am_lc3, am_b0, am_b1, am_10, am_c8, am_c16, am_c24, am_c32, am_c40, am_c48, am_c56, am_c64, am_c72, Nat.add_zero, Bool.false_eq_true, Nat.zero_le, wX3_in, e30I, am_isb, hx]
    exact hK μ Fw.refl hP.h17 TN0 (fun _ => rfl)
theorem op_feeds (hI : Inv q μ) : OP q mX1_feeds mX3_feeds [.ref 0, .int x] [.ref 54, .int x] μ :=
  op_S (V := fun N ru c S => vFe N S x) (P := fun N ru c S => pFe N S x) (fun hP => qc_feeds hP) (fun d K μ h h' => by simp only [gX3_feeds_0, gX3_feeds_1, gX3_feeds_2, am_kill_int, am_kill_ref, am_kill_null, am_kill_F, am_kill_long, am_cat_n, am_cat_i, am_cat_r, am_cat_0, am_cat_l, am_nr_n, am_nr_i, am_nr_r, am_nr_0, am_nr_l, Option.toList_some, Option.toList_none, List.nil_append, List.cons_append, va_rf_s, va_rf_n, am_I_sR, am_I_sL, am_R_sI, am_R_sL, am_L_sI, am_L_sR, am_k_sI, am_k_sR, am_k_sL, am_n_sI, am_n_sR, am_n_sL, true_and, and_true, true_or, or_true, or_false, false_or, not_true_eq_false, not_false_eq_true, Nat.reduceLT, am_dS, am_dP, am_d1, Nat.reduceSub, Nat.reduceMul, ne_eq, Nat.reduceBEq, Nat.reduceAdd, Nat.reduceLeDiff, Nat.reduceEqDiff, and_self, and_false, false_and, if_true, if_false, am_nb, am_nb0, am_nb1, am_lc1, am_lc2, am_lc3, am_b0, am_b1, am_10, am_c8, am_c16, am_c24, am_c32, am_c40, am_c48, am_c56, am_c64, am_c72, Nat.add_zero, Bool.false_eq_true, Nat.zero_le, h]; exact h') (fun hP => q5_feeds hP) hI
/-- the most that suffices -/
def enF (N : Nat) (S : Nat → Int32) : Nat → Nat
  | 0 => 0
  | v + 1 => if gvF N (v + 1) S ffB < (v + 1) * fcN (gF 2 S) N 0 then enF N S v else v + 1
theorem enF_le : ∀ v, enF N S v ≤ v
  | 0 => Nat.le_refl 0
  | v + 1 => by unfold enF; have := enF_le v; split <;> omega
def pEn (N : Nat) (S : Nat → Int32) : Option (List Int64) := some [(nI (fcN (gF 2 S) N 0)).toInt64]
theorem qcL_enough (hC : CC N ru c μ) (hs : Sim N (cS μ 1) a) : ∀ v, v ≤ 30 → am_Wp (d + 200) mX1_enough 23 [.ref 0, .int (nI (enF N (cS μ 1) v))] [] μ K → am_Wp (d + 200) mX1_enough 3 [.ref 0, .int (nI v)] [] μ K := by
  have hcu := hC.1.c
  have h8 := hC.2.2.1
  intro v
  have hcnt := fcN_le (p := gF 2 (cS μ 1)) (n := N) (i := 0)
  induction v with
  | zero =>
    intro _ hK
    have hw := fun K => wX1_wanted (d := d + 198) (K := K) (V := 0) hC
    rw [gX1_enough_3]
    simp only [gX1_enough_4, gX1_enough_5, gX1_enough_6, am_kill_int, am_kill_ref, am_kill_null, am_kill_F, am_kill_long, am_cat_n, am_cat_i, am_cat_r, am_cat_0, am_cat_l, am_nr_n, am_nr_i, am_nr_r, am_nr_0, am_nr_l, Option.toList_some, Option.toList_none, List.nil_append, List.cons_append, va_rf_s, va_rf_n, am_II, am_I_sR, am_I_sL, am_R_sI, am_RR, am_R_sL, am_L_sI, am_L_sR, am_LL, am_k_sI, am_k_sR, am_k_sL, am_n_sI, am_n_sR, am_n_sL, true_and, and_true, true_or, or_true, or_false, false_or, not_true_eq_false, not_false_eq_true, Nat.reduceLT, am_dS, am_dP, am_d1, Nat.reduceSub, Nat.reduceMul, ne_eq, Nat.reduceBEq, Nat.reduceAdd, Nat.reduceLeDiff, Nat.reduceEqDiff, and_self, and_false, false_and, if_true, if_false, am_nb, am_nb0, am_nb1, am_lc1, am_lc2, am_lc3, am_b0, am_b1, am_10, am_c8, am_c16, am_c24, am_c32, am_c40, am_c48, am_c56, am_c64, am_c72, Nat.add_zero, Bool.false_eq_true, Nat.zero_le, hcu]
    refine wX1_fed (d := d + 197) (wo := ffB) hC hs (by omega) (orB_ff N) ?_
    simp only [gX1_enough_9, gX1_enough_10, gX1_enough_11, am_kill_int, am_kill_ref, am_kill_null, am_kill_F, am_kill_long, am_cat_n, am_cat_i, am_cat_r, am_cat_0, am_cat_l, am_nr_n, am_nr_i, am_nr_r, am_nr_0, am_nr_l, Option.toList_some, Option.toList_none, List.nil_append, List.cons_append, va_rf_s, va_rf_n, am_II, am_I_sR, am_I_sL, am_R_sI, am_RR, am_R_sL, am_L_sI, am_L_sR, am_LL, am_k_sI, am_k_sR, am_k_sL, am_n_sI, am_n_sR, am_n_sL, true_and, and_true, true_or, or_true, or_false, false_or, not_true_eq_false, not_false_eq_true, Nat.reduceLT, am_dS, am_dP, am_d1, Nat.reduceSub, Nat.reduceMul, ne_eq, Nat.reduceBEq, Nat.reduceAdd, Nat.reduceLeDiff, Nat.reduceEqDiff, and_self, and_false, false_and, if_true, if_false, am_nb, am_nb0, am_nb1, am_lc1, am_lc2, am_lc3, am_b0, am_b1, am_10, am_c8, am_c16, am_c24, am_c32, am_c40, am_c48, am_c56, am_c64, am_c72, Nat.add_zero, Bool.false_eq_true, Nat.zero_le, hcu]
    rw [hw]
    have hle : nI (0 * fcN (gF 2 (cS μ 1)) N 0) ≤ nI (gvF N 0 (cS μ 1) ffB) := by
      rw [Nat.zero_mul]; exact nI_le (Nat.zero_le _) (by have := gvF_le (V := 0) (wo := ffB) hs (by omega) h8; omega)
    simp only [gX1_enough_14, am_kill_int, am_kill_ref, am_kill_null, am_kill_F, am_kill_long, am_cat_n, am_cat_i, am_cat_r, am_cat_0, am_cat_l, am_nr_n, am_nr_i, am_nr_r, am_nr_0, am_nr_l, Option.toList_some, Option.toList_none, List.nil_append, List.cons_append, va_rf_s, va_rf_n, am_II, am_I_sR, am_I_sL, am_R_sI, am_RR, am_R_sL, am_L_sI, am_L_sR, am_LL, am_k_sI, am_k_sR, am_k_sL, am_n_sI, am_n_sR, am_n_sL, true_and, and_true, true_or, or_true, or_false, false_or, not_true_eq_false, not_false_eq_true, Nat.reduceLT, am_dS, am_dP, am_d1, Nat.reduceSub, Nat.reduceMul, ne_eq, Nat.reduceBEq, Nat.reduceAdd, Nat.reduceLeDiff, Nat.reduceEqDiff, and_self, and_false, false_and, if_true, if_false, am_nb, am_nb0, am_nb1, am_lc1, am_lc2, am_lc3, am_b0, am_b1, am_10, am_c8, am_c16, am_c24, am_c32, am_c40, am_c48, am_c56, am_c64, am_c72, Nat.add_zero, Bool.false_eq_true, Nat.zero_le, hle]
    exact hK
  | succ v ih =>
    intro hv hK
    have hw := fun K => wX1_wanted (d := d + 198) (K := K) (V := v + 1) hC
    have hg := gvF_le (V := v + 1) (wo := ffB) hs (by omega) h8
    have hm : (v + 1) * fcN (gF 2 (cS μ 1)) N 0 ≤ 30 * 8 := Nat.mul_le_mul (by omega) (by omega)
    rw [show enF N (cS μ 1) (v + 1) = if gvF N (v + 1) (cS μ 1) ffB < (v + 1) * fcN (gF 2 (cS μ 1)) N 0 then enF N (cS μ 1) v else v + 1 from rfl] at hK
    rw [gX1_enough_3]
    simp only [gX1_enough_4, gX1_enough_5, gX1_enough_6, am_kill_int, am_kill_ref, am_kill_null, am_kill_F, am_kill_long, am_cat_n, am_cat_i, am_cat_r, am_cat_0, am_cat_l, am_nr_n, am_nr_i, am_nr_r, am_nr_0, am_nr_l, Option.toList_some, Option.toList_none, List.nil_append, List.cons_append, va_rf_s, va_rf_n, am_II, am_I_sR, am_I_sL, am_R_sI, am_RR, am_R_sL, am_L_sI, am_L_sR, am_LL, am_k_sI, am_k_sR, am_k_sL, am_n_sI, am_n_sR, am_n_sL, true_and, and_true, true_or, or_true, or_false, false_or, not_true_eq_false, not_false_eq_true, Nat.reduceLT, am_dS, am_dP, am_d1, Nat.reduceSub, Nat.reduceMul, ne_eq, Nat.reduceBEq, Nat.reduceAdd, Nat.reduceLeDiff, Nat.reduceEqDiff, and_self, and_false, false_and, if_true, if_false, am_nb, am_nb0, am_nb1, am_lc1, am_lc2, am_lc3, am_b0, am_b1, am_10, am_c8, am_c16, am_c24, am_c32, am_c40, am_c48, am_c56, am_c64, am_c72, Nat.add_zero, Bool.false_eq_true, Nat.zero_le, hcu]
    refine wX1_fed (d := d + 197) (wo := ffB) hC hs (by omega) (orB_ff N) ?_
    simp only [gX1_enough_9, gX1_enough_10, gX1_enough_11, am_kill_int, am_kill_ref, am_kill_null, am_kill_F, am_kill_long, am_cat_n, am_cat_i, am_cat_r, am_cat_0, am_cat_l, am_nr_n, am_nr_i, am_nr_r, am_nr_0, am_nr_l, Option.toList_some, Option.toList_none, List.nil_append, List.cons_append, va_rf_s, va_rf_n, am_II, am_I_sR, am_I_sL, am_R_sI, am_RR, am_R_sL, am_L_sI, am_L_sR, am_LL, am_k_sI, am_k_sR, am_k_sL, am_n_sI, am_n_sR, am_n_sL, true_and, and_true, true_or, or_true, or_false, false_or, not_true_eq_false, not_false_eq_true, Nat.reduceLT, am_dS, am_dP, am_d1, Nat.reduceSub, Nat.reduceMul, ne_eq, Nat.reduceBEq, Nat.reduceAdd, Nat.reduceLeDiff, Nat.reduceEqDiff, and_self, and_false, false_and, if_true, if_false, am_nb, am_nb0, am_nb1, am_lc1, am_lc2, am_lc3, am_b0, am_b1, am_10, am_c8, am_c16, am_c24, am_c32, am_c40, am_c48, am_c56, am_c64, am_c72, Nat.add_zero, Bool.false_eq_true, Nat.zero_le, hcu]
    rw [hw]
    by_cases f : gvF N (v + 1) (cS μ 1) ffB < (v + 1) * fcN (gF 2 (cS μ 1)) N 0
    · rw [if_pos f] at hK
      have hle : ¬ nI ((v + 1) * fcN (gF 2 (cS μ 1)) N 0) ≤ nI (gvF N (v + 1) (cS μ 1) ffB) := nI_ge f (by omega)
      have e1 : nI (v + 1) + -1 = nI v := by rw [← Int32.sub_eq_add_neg, nI_pred]
      simp only [gX1_enough_14, gX1_enough_17, gX1_enough_20, am_kill_int, am_kill_ref, am_kill_null, am_kill_F, am_kill_long, am_cat_n, am_cat_i, am_cat_r, am_cat_0, am_cat_l, am_nr_n, am_nr_i, am_nr_r, am_nr_0, am_nr_l, Option.toList_some, Option.toList_none, List.nil_append, List.cons_append, va_rf_s, va_rf_n, am_II, am_I_sR, am_I_sL, am_R_sI, am_RR, am_R_sL, am_L_sI, am_L_sR, am_LL, am_k_sI, am_k_sR, am_k_sL, am_n_sI, am_n_sR, am_n_sL, true_and, and_true, true_or, or_true, or_false, false_or, not_true_eq_false, not_false_eq_true, Nat.reduceLT, am_dS, am_dP, am_d1, Nat.reduceSub, Nat.reduceMul, ne_eq, Nat.reduceBEq, Nat.reduceAdd, Nat.reduceLeDiff, Nat.reduceEqDiff, and_self, and_false, false_and, if_true, if_false, am_nb, am_nb0, am_nb1, am_lc1, am_lc2, am_lc3, am_b0, am_b1, am_10, am_c8, am_c16, am_c24, am_c32, am_c40, am_c48, am_c56, am_c64, am_c72, Nat.add_zero, Bool.false_eq_true, Nat.zero_le, hle, e1, nI_pred]
      exact ih (by omega) hK
    · rw [if_neg f] at hK
      have hle : nI ((v + 1) * fcN (gF 2 (cS μ 1)) N 0) ≤ nI (gvF N (v + 1) (cS μ 1) ffB) := nI_le (by omega) (by omega)
      simp only [gX1_enough_14, am_kill_int, am_kill_ref, am_kill_null, am_kill_F, am_kill_long, am_cat_n, am_cat_i, am_cat_r, am_cat_0, am_cat_l, am_nr_n, am_nr_i, am_nr_r, am_nr_0, am_nr_l, Option.toList_some, Option.toList_none, List.nil_append, List.cons_append, va_rf_s, va_rf_n, am_II, am_I_sR, am_I_sL, am_R_sI, am_RR, am_R_sL, am_L_sI, am_L_sR, am_LL, am_k_sI, am_k_sR, am_k_sL, am_n_sI, am_n_sR, am_n_sL, true_and, and_true, true_or, or_true, or_false, false_or, not_true_eq_false, not_false_eq_true, Nat.reduceLT, am_dS, am_dP, am_d1, Nat.reduceSub, Nat.reduceMul, ne_eq, Nat.reduceBEq, Nat.reduceAdd, Nat.reduceLeDiff, Nat.reduceEqDiff, and_self, and_false, false_and, if_true, if_false, am_nb, am_nb0, am_nb1, am_lc1, am_lc2, am_lc3, am_b0, am_b1, am_10, am_c8, am_c16, am_c24, am_c32, am_c40, am_c48, am_c56, am_c64, am_c72, Nat.add_zero, Bool.false_eq_true, Nat.zero_le, hle]
      exact hK
theorem qc_enough (hP : Per N C ru c μ) : QC mX1_enough [.ref 0, am_F] μ (nI (enF N (cS μ 1) 30)) (pEn N (cS μ 1)) := by
  intro d K hK
  have hC := hP.1.1
  have hcu := hC.1
  simp only [cL, spL, Nat.reduceAdd] at hcu
  have hN := hC.2.1
  have h8 := hC.2.2.1
  have hk := hC.1.c
  unfold pEn at hK
  have hF1 : Fw sC μ (am_sI μ 0 40 0) := Fw.I Fw.refl (by unfold sC; omega)
  have hC1 := hC.fw hF1 (fun a b q => by unfold sC at q; omega)
  have h2 := fun K => wX1_guests (d := d + 199) (K := K) (h := 1) (fr := 2) hC1.2.1 h8 hC1.1.c hC1.1.s1
  rw [cS_o (by omega)] at h2
  simp only [gX1_enough_0, gX1_enough_2, am_kill_int, am_kill_ref, am_kill_null, am_kill_F, am_kill_long, am_cat_n, am_cat_i, am_cat_r, am_cat_0, am_cat_l, am_nr_n, am_nr_i, am_nr_r, am_nr_0, am_nr_l, Option.toList_some, Option.toList_none, List.nil_append, List.cons_append, va_rf_s, va_rf_n, am_II, am_I_sR, am_I_sL, am_R_sI, am_RR, am_R_sL, am_L_sI, am_L_sR, am_LL, am_k_sI, am_k_sR, am_k_sL, am_n_sI, am_n_sR, am_n_sL, true_and, and_true, true_or, or_true, or_false, false_or, not_true_eq_false, not_false_eq_true, Nat.reduceLT, am_dS, am_dP, am_d1, Nat.reduceSub, Nat.reduceMul, ne_eq, Nat.reduceBEq, Nat.reduceAdd, Nat.reduceLeDiff, Nat.reduceEqDiff, and_self, and_false, false_and, if_true, if_false, am_nb, am_nb0, am_nb1, am_lc1, am_lc2, am_lc3, am_b0, am_b1, am_10, am_c8, am_c16, am_c24, am_c32, am_c40, am_c48, am_c56, am_c64, am_c72, Nat.add_zero, Bool.false_eq_true, Nat.zero_le]
  refine qcL_enough hC hP.2.1 30 (by omega) ?_
  simp only [gX1_enough_23, gX1_enough_24, gX1_enough_25, gX1_enough_28, gX1_enough_29, gX1_enough_30, gX1_enough_31, gX1_enough_34, gX1_enough_35, am_kill_int, am_kill_ref, am_kill_null, am_kill_F, am_kill_long, am_cat_n, am_cat_i, am_cat_r, am_cat_0, am_cat_l, am_nr_n, am_nr_i, am_nr_r, am_nr_0, am_nr_l, Option.toList_some, Option.toList_none, List.nil_append, List.cons_append, va_rf_s, va_rf_n, am_II, am_I_sR, am_I_sL, am_R_sI, am_RR, am_R_sL, am_L_sI, am_L_sR, am_LL, am_k_sI, am_k_sR, am_k_sL, am_n_sI, am_n_sR, am_n_sL, true_and, and_true, true_or, or_true, or_false, false_or, not_true_eq_false, not_false_eq_true, Nat.reduceLT, am_dS, am_dP, am_d1, Nat.reduceSub, Nat.reduceMul, ne_eq, Nat.reduceBEq, Nat.reduceAdd, Nat.reduceLeDiff, Nat.reduceEqDiff, and_self, and_false, false_and, if_true, if_false, am_nb, am_nb0, am_nb1, am_lc1, am_lc2, am_lc3, am_b0, am_b1, am_10, am_c8, am_c16, am_c24, am_c32, am_c40, am_c48, am_c56, am_c64, am_c72, Nat.add_zero, Bool.false_eq_true, Nat.zero_le, hcu]
  rw [h2]
  simp only [gX1_enough_38, gX1_enough_41, gX1_enough_42, gX1_enough_45, gX1_enough_46, am_kill_int, am_kill_ref, am_kill_null, am_kill_F, am_kill_long, am_cat_n, am_cat_i, am_cat_r, am_cat_0, am_cat_l, am_nr_n, am_nr_i, am_nr_r, am_nr_0, am_nr_l, Option.toList_some, Option.toList_none, List.nil_append, List.cons_append, va_rf_s, va_rf_n, am_II, am_I_sR, am_I_sL, am_R_sI, am_RR, am_R_sL, am_L_sI, am_L_sR, am_LL, am_k_sI, am_k_sR, am_k_sL, am_n_sI, am_n_sR, am_n_sL, true_and, and_true, true_or, or_true, or_false, false_or, not_true_eq_false, not_false_eq_true, Nat.reduceLT, am_dS, am_dP, am_d1, Nat.reduceSub, Nat.reduceMul, ne_eq, Nat.reduceBEq, Nat.reduceAdd, Nat.reduceLeDiff, Nat.reduceEqDiff, and_self, and_false, false_and, if_true, if_false, am_nb, am_nb0, am_nb1, am_lc1, am_lc2, am_lc3, am_b0, am_b1, am_10, am_c8, am_c16, am_c24, am_c32, am_c40, am_c48, am_c56, am_c64, am_c72, Nat.add_zero, Bool.false_eq_true, Nat.zero_le, hcu, wJ10_bitCount, bc_cnt h8, wX1_tells0]
  refine hK _ ((hF1.L (Or.inl rfl)).I (by unfold sC; omega)) (TC1 ?_ ?_) (fun i => ?_)
  · simp only [am_II, and_self, if_true]
  · simp only [am_L_sI, am_LL, and_self, if_true]
  · simp only [am_L_sI, am_LL, Nat.reduceEqDiff, false_and, if_false]
theorem q5L_enough {cnt : Nat} (hcnt : cnt = fcN (gF 2 S) N 0) (h8 : N ≤ 8) : ∀ v (μ : am_M), v ≤ 30 → MC N c μ → Sim N S (am_I μ 55) → (∀ ν, Fr (fun a _ => a = 70) μ ν → am_Wp (d + 200) mX3_enough 34 [.ref 54, .int (nI cnt), .int (nI (enF N S v))] [] ν K) → am_Wp (d + 200) mX3_enough 16 [.ref 54, .int (nI cnt), .int (nI v)] [] μ K := by
  intro v
  have hc8 := fcN_le (p := gF 2 S) (n := N) (i := 0)
  induction v with
  | zero =>
    intro μ _ hC hs hK
    have hm := hC.1.1.1
    rw [gX3_enough_16]
    simp only [gX3_enough_17, gX3_enough_18, gX3_enough_19, am_kill_int, am_kill_ref, am_kill_null, am_kill_F, am_kill_long, am_cat_n, am_cat_i, am_cat_r, am_cat_0, am_cat_l, am_nr_n, am_nr_i, am_nr_r, am_nr_0, am_nr_l, Option.toList_some, Option.toList_none, List.nil_append, List.cons_append, va_rf_s, va_rf_n, am_II, am_I_sR, am_I_sL, am_R_sI, am_RR, am_R_sL, am_L_sI, am_L_sR, am_LL, am_k_sI, am_k_sR, am_k_sL, am_n_sI, am_n_sR, am_n_sL, true_and, and_true, true_or, or_true, or_false, false_or, not_true_eq_false, not_false_eq_true, Nat.reduceLT, am_dS, am_dP, am_d1, Nat.reduceSub, Nat.reduceMul, ne_eq, Nat.reduceBEq, Nat.reduceAdd, Nat.reduceLeDiff, Nat.reduceEqDiff, and_self, and_false, false_and, if_true, if_false, am_nb, am_nb0, am_nb1, am_lc1, am_lc2, am_lc3, am_b0, am_b1, am_10, am_c8, am_c16, am_c24, am_c32, am_c40, am_c48, am_c56, am_c64, am_c72, Nat.add_zero, Bool.false_eq_true, Nat.zero_le, hm]
    refine wX3_givenBy (d := d + 198) (V := 0) (S := S) (wo := ffB) hC hs (by omega) (fun n hn => no_m1 n h8 hn) (fun ν hF => ?_)
    have hle : nI (0 * cnt) ≤ nI (gvF N 0 S ffB) := by
      rw [Nat.zero_mul]; exact nI_le (Nat.zero_le _) (by have := gvF_le (V := 0) (wo := ffB) hs (by omega) h8; omega)
    simp only [gX3_enough_22, gX3_enough_23, gX3_enough_24, gX3_enough_25, am_kill_int, am_kill_ref, am_kill_null, am_kill_F, am_kill_long, am_cat_n, am_cat_i, am_cat_r, am_cat_0, am_cat_l, am_nr_n, am_nr_i, am_nr_r, am_nr_0, am_nr_l, Option.toList_some, Option.toList_none, List.nil_append, List.cons_append, va_rf_s, va_rf_n, am_II, am_I_sR, am_I_sL, am_R_sI, am_RR, am_R_sL, am_L_sI, am_L_sR, am_LL, am_k_sI, am_k_sR, am_k_sL, am_n_sI, am_n_sR, am_n_sL, true_and, and_true, true_or, or_true, or_false, false_or, not_true_eq_false, not_false_eq_true, Nat.reduceLT, am_dS, am_dP, am_d1, Nat.reduceSub, Nat.reduceMul, ne_eq, Nat.reduceBEq, Nat.reduceAdd, Nat.reduceLeDiff, Nat.reduceEqDiff, and_self, and_false, false_and, if_true, if_false, am_nb, am_nb0, am_nb1, am_lc1, am_lc2, am_lc3, am_b0, am_b1, am_10, am_c8, am_c16, am_c24, am_c32, am_c40, am_c48, am_c56, am_c64, am_c72, Nat.add_zero, Bool.false_eq_true, Nat.zero_le, nI_mul, hle]
    exact hK ν hF
  | succ v ih =>
    intro μ hv hC hs hK
    have hm := hC.1.1.1
    have hg := gvF_le (V := v + 1) (wo := ffB) hs (by omega) h8
    have hmm : (v + 1) * cnt ≤ 30 * 8 := Nat.mul_le_mul (by omega) (by omega)
    rw [show enF N S (v + 1) = if gvF N (v + 1) S ffB < (v + 1) * fcN (gF 2 S) N 0 then enF N S v else v + 1 from rfl, ← hcnt] at hK
    rw [gX3_enough_16]
    simp only [gX3_enough_17, gX3_enough_18, gX3_enough_19, am_kill_int, am_kill_ref, am_kill_null, am_kill_F, am_kill_long, am_cat_n, am_cat_i, am_cat_r, am_cat_0, am_cat_l, am_nr_n, am_nr_i, am_nr_r, am_nr_0, am_nr_l, Option.toList_some, Option.toList_none, List.nil_append, List.cons_append, va_rf_s, va_rf_n, am_II, am_I_sR, am_I_sL, am_R_sI, am_RR, am_R_sL, am_L_sI, am_L_sR, am_LL, am_k_sI, am_k_sR, am_k_sL, am_n_sI, am_n_sR, am_n_sL, true_and, and_true, true_or, or_true, or_false, false_or, not_true_eq_false, not_false_eq_true, Nat.reduceLT, am_dS, am_dP, am_d1, Nat.reduceSub, Nat.reduceMul, ne_eq, Nat.reduceBEq, Nat.reduceAdd, Nat.reduceLeDiff, Nat.reduceEqDiff, and_self, and_false, false_and, if_true, if_false, am_nb, am_nb0, am_nb1, am_lc1, am_lc2, am_lc3, am_b0, am_b1, am_10, am_c8, am_c16, am_c24, am_c32, am_c40, am_c48, am_c56, am_c64, am_c72, Nat.add_zero, Bool.false_eq_true, Nat.zero_le, hm]
    refine wX3_givenBy (d := d + 198) (V := v + 1) (S := S) (wo := ffB) hC hs (by omega) (fun n hn => no_m1 n h8 hn) (fun ν hF => ?_)
    have r55 : am_I ν 55 = am_I μ 55 := funext fun b => hF.1 55 b (fun e => absurd (show (55 : Nat) = 70 from e) (by decide))
    by_cases f : gvF N (v + 1) S ffB < (v + 1) * cnt
    · simp only [if_pos f] at hK
      have hle : ¬ nI ((v + 1) * cnt) ≤ nI (gvF N (v + 1) S ffB) := nI_ge f (by omega)
      have e1 : nI (v + 1) + -1 = nI v := by rw [← Int32.sub_eq_add_neg, nI_pred]
      simp only [gX3_enough_22, gX3_enough_23, gX3_enough_24, gX3_enough_25, gX3_enough_28, gX3_enough_31, am_kill_int, am_kill_ref, am_kill_null, am_kill_F, am_kill_long, am_cat_n, am_cat_i, am_cat_r, am_cat_0, am_cat_l, am_nr_n, am_nr_i, am_nr_r, am_nr_0, am_nr_l, Option.toList_some, Option.toList_none, List.nil_append, List.cons_append, va_rf_s, va_rf_n, am_II, am_I_sR, am_I_sL, am_R_sI, am_RR, am_R_sL, am_L_sI, am_L_sR, am_LL, am_k_sI, am_k_sR, am_k_sL, am_n_sI, am_n_sR, am_n_sL, true_and, and_true, true_or, or_true, or_false, false_or, not_true_eq_false, not_false_eq_true, Nat.reduceLT, am_dS, am_dP, am_d1, Nat.reduceSub, Nat.reduceMul, ne_eq, Nat.reduceBEq, Nat.reduceAdd, Nat.reduceLeDiff, Nat.reduceEqDiff, and_self, and_false, false_and, if_true, if_false, am_nb, am_nb0, am_nb1, am_lc1, am_lc2, am_lc3, am_b0, am_b1, am_10, am_c8, am_c16, am_c24, am_c32, am_c40, am_c48, am_c56, am_c64, am_c72, Nat.add_zero, Bool.false_eq_true, Nat.zero_le, nI_mul, hle, e1]
      exact ih ν (by omega) (hC.fr hF (fun a b e => by show ¬ _; omega)) (by rw [r55]; exact hs) (fun ξ hF2 => hK ξ (hF.trans hF2))
    · simp only [if_neg f] at hK
      have hle : nI ((v + 1) * cnt) ≤ nI (gvF N (v + 1) S ffB) := nI_le (by omega) (by omega)
      simp only [gX3_enough_22, gX3_enough_23, gX3_enough_24, gX3_enough_25, am_kill_int, am_kill_ref, am_kill_null, am_kill_F, am_kill_long, am_cat_n, am_cat_i, am_cat_r, am_cat_0, am_cat_l, am_nr_n, am_nr_i, am_nr_r, am_nr_0, am_nr_l, Option.toList_some, Option.toList_none, List.nil_append, List.cons_append, va_rf_s, va_rf_n, am_II, am_I_sR, am_I_sL, am_R_sI, am_RR, am_R_sL, am_L_sI, am_L_sR, am_LL, am_k_sI, am_k_sR, am_k_sL, am_n_sI, am_n_sR, am_n_sL, true_and, and_true, true_or, or_true, or_false, false_or, not_true_eq_false, not_false_eq_true, Nat.reduceLT, am_dS, am_dP, am_d1, Nat.reduceSub, Nat.reduceMul, ne_eq, Nat.reduceBEq, Nat.reduceAdd, Nat.reduceLeDiff, Nat.reduceEqDiff, and_self, and_false, false_and, if_true, if_false, am_nb, am_nb0, am_nb1, am_lc1, am_lc2, am_lc3, am_b0, am_b1, am_10, am_c8, am_c16, am_c24, am_c32, am_c40, am_c48, am_c56, am_c64, am_c72, Nat.add_zero, Bool.false_eq_true, Nat.zero_le, nI_mul, hle]
      exact hK ν hF
theorem q5_enough (hP : Per N C ru c μ) : Q5 mX3_enough [.ref 54, am_F, am_F] μ (nI (enF N (cS μ 1) 30)) (pEn N (cS μ 1)) := by
  intro d K hK
  have hS := hP.1.2.1
  have hC := hS.1
  have hmu := hC.1
  unfold mL at hmu
  have hN := hC.2.1
  have h8 := hC.2.2.1
  unfold pEn at hK
  have h2 := fun K => wX3_youngC (d := d + 199) (K := K) (S := cS μ 1) hC hP.2.1
  simp only [gX3_enough_5, gX3_enough_6, am_kill_int, am_kill_ref, am_kill_null, am_kill_F, am_kill_long, am_cat_n, am_cat_i, am_cat_r, am_cat_0, am_cat_l, am_nr_n, am_nr_i, am_nr_r, am_nr_0, am_nr_l, Option.toList_some, Option.toList_none, List.nil_append, List.cons_append, va_rf_s, va_rf_n, am_II, am_I_sR, am_I_sL, am_R_sI, am_RR, am_R_sL, am_L_sI, am_L_sR, am_LL, am_k_sI, am_k_sR, am_k_sL, am_n_sI, am_n_sR, am_n_sL, true_and, and_true, true_or, or_true, or_false, false_or, not_true_eq_false, not_false_eq_true, Nat.reduceLT, am_dS, am_dP, am_d1, Nat.reduceSub, Nat.reduceMul, ne_eq, Nat.reduceBEq, Nat.reduceAdd, Nat.reduceLeDiff, Nat.reduceEqDiff, and_self, and_false, false_and, if_true, if_false, am_nb, am_nb0, am_nb1, am_lc1, am_lc2, am_lc3, am_b0, am_b1, am_10, am_c8, am_c16, am_c24, am_c32, am_c40, am_c48, am_c56, am_c64, am_c72, Nat.add_zero, Bool.false_eq_true, Nat.zero_le, hmu]
  rw [h2]
  simp only [gX3_enough_9, gX3_enough_12, gX3_enough_13, gX3_enough_15, am_kill_int, am_kill_ref, am_kill_null, am_kill_F, am_kill_long, am_cat_n, am_cat_i, am_cat_r, am_cat_0, am_cat_l, am_nr_n, am_nr_i, am_nr_r, am_nr_0, am_nr_l, Option.toList_some, Option.toList_none, List.nil_append, List.cons_append, va_rf_s, va_rf_n, am_II, am_I_sR, am_I_sL, am_R_sI, am_RR, am_R_sL, am_L_sI, am_L_sR, am_LL, am_k_sI, am_k_sR, am_k_sL, am_n_sI, am_n_sR, am_n_sL, true_and, and_true, true_or, or_true, or_false, false_or, not_true_eq_false, not_false_eq_true, Nat.reduceLT, am_dS, am_dP, am_d1, Nat.reduceSub, Nat.reduceMul, ne_eq, Nat.reduceBEq, Nat.reduceAdd, Nat.reduceLeDiff, Nat.reduceEqDiff, and_self, and_false, false_and, if_true, if_false, am_nb, am_nb0, am_nb1, am_lc1, am_lc2, am_lc3, am_b0, am_b1, am_10, am_c8, am_c16, am_c24, am_c32, am_c40, am_c48, am_c56, am_c64, am_c72, Nat.add_zero, Bool.false_eq_true, Nat.zero_le, wJ10_bitCount, bc_cnt h8]
  refine q5L_enough rfl h8 30 μ (by omega) hC hP.2.1 (fun ν hF => ?_)
  have hF3 := j70 hF
  have h173 : am_I ν 54 17 = 0 := (hF.1 54 17 (by decide)).trans hP.h17
  have hmν := (hS.sMm hF3 h173).1.1
  unfold mL at hmν
  simp only [gX3_enough_34, gX3_enough_35, gX3_enough_36, gX3_enough_39, gX3_enough_40, gX3_enough_41, gX3_enough_42, gX3_enough_45, gX3_enough_46, am_kill_int, am_kill_ref, am_kill_null, am_kill_F, am_kill_long, am_cat_n, am_cat_i, am_cat_r, am_cat_0, am_cat_l, am_nr_n, am_nr_i, am_nr_r, am_nr_0, am_nr_l, Option.toList_some, Option.toList_none, List.nil_append, List.cons_append, va_rf_s, va_rf_n, am_II, am_I_sR, am_I_sL, am_R_sI, am_RR, am_R_sL, am_L_sI, am_L_sR, am_LL, am_k_sI, am_k_sR, am_k_sL, am_n_sI, am_n_sR, am_n_sL, true_and, and_true, true_or, or_true, or_false, false_or, not_true_eq_false, not_false_eq_true, Nat.reduceLT, am_dS, am_dP, am_d1, Nat.reduceSub, Nat.reduceMul, ne_eq, Nat.reduceBEq, Nat.reduceAdd, Nat.reduceLeDiff, Nat.reduceEqDiff, and_self, and_false, false_and, if_true, if_false, am_nb, am_nb0, am_nb1, am_lc1, am_lc2, am_lc3, am_b0, am_b1, am_10, am_c8, am_c16, am_c24, am_c32, am_c40, am_c48, am_c56, am_c64, am_c72, Nat.add_zero, Bool.false_eq_true, Nat.zero_le, hmν, wX3_tell0]
  refine hK _ (((hF3.I (by unfold sM; omega)).L (Or.inr rfl)).I (by unfold sM; omega)) ?_ (TN1 ?_ ?_) (fun i => ?_)
  · simp only [am_II, am_I_sL, Nat.reduceEqDiff, and_false, if_false]; exact h173
  · simp only [am_II, and_self, if_true]
  · simp only [am_L_sI, am_LL, and_self, if_true]
  · simp only [am_L_sI, am_LL, Nat.reduceEqDiff, false_and, if_false]; exact hF.L
theorem op_enough (hI : Inv q μ) : OP q mX1_enough mX3_enough [.ref 0, am_F] [.ref 54, am_F, am_F] μ :=
  op_S (V := fun N ru c S => nI (enF N S 30)) (P := fun N ru c S => pEn N S) (fun hP => qc_enough hP) (fun d K μ h h' => by simp only [gX3_enough_0, gX3_enough_1, gX3_enough_2, am_kill_int, am_kill_ref, am_kill_null, am_kill_F, am_kill_long, am_cat_n, am_cat_i, am_cat_r, am_cat_0, am_cat_l, am_nr_n, am_nr_i, am_nr_r, am_nr_0, am_nr_l, Option.toList_some, Option.toList_none, List.nil_append, List.cons_append, va_rf_s, va_rf_n, am_I_sR, am_I_sL, am_R_sI, am_R_sL, am_L_sI, am_L_sR, am_k_sI, am_k_sR, am_k_sL, am_n_sI, am_n_sR, am_n_sL, true_and, and_true, true_or, or_true, or_false, false_or, not_true_eq_false, not_false_eq_true, Nat.reduceLT, am_dS, am_dP, am_d1, Nat.reduceSub, Nat.reduceMul, ne_eq, Nat.reduceBEq, Nat.reduceAdd, Nat.reduceLeDiff, Nat.reduceEqDiff, and_self, and_false, false_and, if_true, if_false, am_nb, am_nb0, am_nb1, am_lc1, am_lc2, am_lc3, am_b0, am_b1, am_10, am_c8, am_c16, am_c24, am_c32, am_c40, am_c48, am_c56, am_c64, am_c72, Nat.add_zero, Bool.false_eq_true, Nat.zero_le, h]; exact h') (fun hP => q5_enough hP) hI
end FEV
