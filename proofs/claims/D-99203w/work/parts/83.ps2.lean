/-! calls that write: end, undo, again -/
set_option maxRecDepth 100000
section PSV
variable {d : Nat} {μ ν ξ : am_M} {K : Option Value → am_M → Prop} {x y z c : Int32} {h N C i j k r n M b q w u : Nat} {v : Int32} {ru : Option PF} {F G : Nat → Nat → Prop} {S a a' : Nat → Int32} {p : Int64}
theorem op_end (hI : Inv q μ) : OP q mX1_end mX3_end [.ref 0, .int x] [.ref 54, .int x] μ := by
  intro d
  have hI' := hI
  obtain ⟨⟨N, C, ru, c, hP⟩, ⟨t, t1, t2, t3⟩, hR, b1, b2, b3⟩ := hI
  have hC := hP.1.1
  have hk := hC.1.c
  have hS := hP.1.2.1
  have hmu := hS.1.1
  unfold mL at hmu
  by_cases hx : 0 ≤ x ∧ x ≤ nI t
  · simp only [gX1_end_0, gX1_end_1, gX1_end_2, gX1_end_3, gX1_end_4, gX1_end_7, gX1_end_8, gX1_end_11, gX1_end_14, gX1_end_15, gX1_end_16, gX1_end_17, gX1_end_18, gX1_end_21, gX1_end_22, am_kill_int, am_kill_ref, am_kill_null, am_kill_F, am_kill_long, am_cat_n, am_cat_i, am_cat_r, am_cat_0, am_cat_l, am_nr_n, am_nr_i, am_nr_r, am_nr_0, am_nr_l, Option.toList_some, Option.toList_none, List.nil_append, List.cons_append, va_rf_s, va_rf_n, am_II, am_I_sR, am_I_sL, am_R_sI, am_RR, am_R_sL, am_L_sI, am_L_sR, am_LL, am_k_sI, am_k_sR, am_k_sL, am_n_sI, am_n_sR, am_n_sL, true_and, and_true, true_or, or_true, or_false, false_or, not_true_eq_false, not_false_eq_true, Nat.reduceLT, am_dS, am_dP, am_d1, Nat.reduceSub, Nat.reduceMul, ne_eq, Nat.reduceBEq, Nat.reduceAdd, Nat.reduceLeDiff, Nat.reduceEqDiff, and_self, and_false, false_and, if_true, if_false, am_nb, am_nb0, am_nb1, am_lc1, am_lc2, am_lc3, am_b0, am_b1, am_10, am_c8, am_c16, am_c24, am_c32, am_c40, am_c48, am_c56, am_c64, am_c72, Nat.add_zero, Bool.false_eq_true, Nat.zero_le, hk, t2, wX1_in, am_l0, am_leL, hx]
    refine ⟨_, rfl, ?_⟩
    simp only [gX3_end_0, gX3_end_1, gX3_end_2, gX3_end_5, gX3_end_6, gX3_end_7, gX3_end_8, gX3_end_11, gX3_end_14, gX3_end_17, gX3_end_18, gX3_end_19, gX3_end_20, gX3_end_21, gX3_end_24, gX3_end_25, am_kill_int, am_kill_ref, am_kill_null, am_kill_F, am_kill_long, am_cat_n, am_cat_i, am_cat_r, am_cat_0, am_cat_l, am_nr_n, am_nr_i, am_nr_r, am_nr_0, am_nr_l, Option.toList_some, Option.toList_none, List.nil_append, List.cons_append, va_rf_s, va_rf_n, am_II, am_I_sR, am_I_sL, am_R_sI, am_RR, am_R_sL, am_L_sI, am_L_sR, am_LL, am_k_sI, am_k_sR, am_k_sL, am_n_sI, am_n_sR, am_n_sL, true_and, and_true, true_or, or_true, or_false, false_or, not_true_eq_false, not_false_eq_true, Nat.reduceLT, am_dS, am_dP, am_d1, Nat.reduceSub, Nat.reduceMul, ne_eq, Nat.reduceBEq, Nat.reduceAdd, Nat.reduceLeDiff, Nat.reduceEqDiff, and_self, and_false, false_and, if_true, if_false, am_nb, am_nb0, am_nb1, am_lc1, am_lc2, am_lc3, am_b0, am_b1, am_10, am_c8, am_c16, am_c24, am_c32, am_c40, am_c48, am_c56, am_c64, am_c72, Nat.add_zero, Bool.false_eq_true, Nat.zero_le, hmu, t3, wX3_in, hx]
    have hF : Fr (fun a b => (a = 0 ∧ b = 6) ∨ (a = 54 ∧ (b = 4 ∨ b = 7))) μ (am_sI (am_sI (am_sI μ 0 6 x) 54 7 0) 54 4 x) := Fr.I (Fr.I (Fr.I Fr.refl (by omega)) (by omega)) (by omega)
    have h17 : am_I (am_sI (am_sI (am_sI μ 0 6 x) 54 7 0) 54 4 x) 54 17 = 0 := (hF.1 54 17 (by omega)).trans hP.h17
    obtain ⟨k, hk', e⟩ := rngI (M := t) (by omega) hx.1 hx.2
    refine Inv.mk' (hP.fw hF.toW (fun a b z e => by unfold per at e; omega) h17) ⟨k, by omega, ?_, ?_⟩ (hR.fr hF (fun a b z => by omega)) hF hI' (hI'.2.2.2.2.2.2.fw hP.2.2.2.2.2.1 hF.toW fun a b z => by omega)
    · simp only [am_II, Nat.reduceEqDiff, false_and, if_false, and_self, if_true]; exact e
    · simp only [am_II, and_self, if_true]; exact e
  · simp only [gX1_end_0, gX1_end_1, gX1_end_2, gX1_end_3, gX1_end_4, gX1_end_7, gX1_end_8, gX1_end_11, gX1_end_14, gX1_end_15, gX1_end_16, gX1_end_17, gX1_end_18, gX1_end_21, gX1_end_22, am_kill_int, am_kill_ref, am_kill_null, am_kill_F, am_kill_long, am_cat_n, am_cat_i, am_cat_r, am_cat_0, am_cat_l, am_nr_n, am_nr_i, am_nr_r, am_nr_0, am_nr_l, Option.toList_some, Option.toList_none, List.nil_append, List.cons_append, va_rf_s, va_rf_n, am_II, am_I_sR, am_I_sL, am_R_sI, am_RR, am_R_sL, am_L_sI, am_L_sR, am_LL, am_k_sI, am_k_sR, am_k_sL, am_n_sI, am_n_sR, am_n_sL, true_and, and_true, true_or, or_true, or_false, false_or, not_true_eq_false, not_false_eq_true, Nat.reduceLT, am_dS, am_dP, am_d1, Nat.reduceSub, Nat.reduceMul, ne_eq, Nat.reduceBEq, Nat.reduceAdd, Nat.reduceLeDiff, Nat.reduceEqDiff, and_self, and_false, false_and, if_true, if_false, am_nb, am_nb0, am_nb1, am_lc1, am_lc2, am_lc3, am_b0, am_b1, am_10, am_c8, am_c16, am_c24, am_c32, am_c40, am_c48, am_c56, am_c64, am_c72, Nat.add_zero, Bool.false_eq_true, Nat.zero_le, hk, t2, wX1_in, am_l0, am_leL, hx]
    refine ⟨_, rfl, ?_⟩
    simp only [gX3_end_0, gX3_end_1, gX3_end_2, gX3_end_5, gX3_end_6, gX3_end_7, gX3_end_8, gX3_end_11, gX3_end_14, gX3_end_17, gX3_end_18, gX3_end_19, gX3_end_20, gX3_end_21, gX3_end_24, gX3_end_25, am_kill_int, am_kill_ref, am_kill_null, am_kill_F, am_kill_long, am_cat_n, am_cat_i, am_cat_r, am_cat_0, am_cat_l, am_nr_n, am_nr_i, am_nr_r, am_nr_0, am_nr_l, Option.toList_some, Option.toList_none, List.nil_append, List.cons_append, va_rf_s, va_rf_n, am_II, am_I_sR, am_I_sL, am_R_sI, am_RR, am_R_sL, am_L_sI, am_L_sR, am_LL, am_k_sI, am_k_sR, am_k_sL, am_n_sI, am_n_sR, am_n_sL, true_and, and_true, true_or, or_true, or_false, false_or, not_true_eq_false, not_false_eq_true, Nat.reduceLT, am_dS, am_dP, am_d1, Nat.reduceSub, Nat.reduceMul, ne_eq, Nat.reduceBEq, Nat.reduceAdd, Nat.reduceLeDiff, Nat.reduceEqDiff, and_self, and_false, false_and, if_true, if_false, am_nb, am_nb0, am_nb1, am_lc1, am_lc2, am_lc3, am_b0, am_b1, am_10, am_c8, am_c16, am_c24, am_c32, am_c40, am_c48, am_c56, am_c64, am_c72, Nat.add_zero, Bool.false_eq_true, Nat.zero_le, hmu, t3, wX3_in, hx]
    exact hI'.thr
def fN (a b : Nat) : Prop := (1 ≤ a ∧ a ≤ 11) ∨ a = 55 ∨ (a = 0 ∧ b = 21) ∨ (a = 54 ∧ (b = 20 ∨ b = 7))
theorem inv_N (hI : Inv q μ) (hP : Per N C ru c μ) (hF : Fr fN μ ν) (hs : Sim N (cS ν 1) (am_I ν 55)) (hU : pU N ν) (hb : ∃ f, f ≤ 5000 * (q + 1) ∧ cS ν 1 81 = nI f) : Inv (q + 1) ν := by
  have hI' := hI
  obtain ⟨_, hT, hR, b1, b2, b3⟩ := hI
  obtain ⟨p1, p2, p3, p4, p5, p6, p7, p8, p9, p10⟩ := hP
  have h17 : am_I ν 54 17 = 0 := (hF.1 54 17 (by unfold fN; omega)).trans p1.2.1.2.1.1.1
  exact Inv.mk' (N := N) (C := C) (ru := ru) (c := c) ⟨p1.fw hF.toW (fun a b z => by unfold fN at z; omega) h17, hs, p3.fw hF.toW (fun a b z => by unfold fN at z; omega), p4.fw hF.toW (fun a b z => by unfold fN at z; omega), p5.fw hF.toW (fun a b z => by unfold fN at z; omega), p6.fw hF.toW, hU, p8.fw p6 hF.toW (fun a b z => by unfold fN at z; omega), p9.fw hF.toW (fun a b z => by unfold fN at z; omega), by rw [hF.2.2.2.2.1]; exact p10⟩ (hT.fw hF.toW (fun a b z => by unfold fN at z; omega)) (hR.fr hF (fun a b z => by unfold fN at z; omega)) hF hI' (hI'.2.2.2.2.2.2.fwS p6 hF.toW (fun a b z => by unfold fN at z; omega) hb)
theorem pU_cut (hP : Per N C ru c μ) (hF : Fr fN μ ν) (hu : ∀ k, k < u → ∃ h, slR μ k = some h ∧ Sim N (cS μ h) (fun i => am_I μ 62 (83 * k + i))) (h12 : u ≤ 12) (e1 : am_I ν 0 21 = nI u) (e2 : am_I ν 54 20 = nI u) : pU N ν := by
  refine ⟨u, h12, e1, e2, fun k hk => ?_⟩
  obtain ⟨h, g1, g2⟩ := hu k hk
  have h78 := (hP.2.2.2.2.2.1.1 k h (by omega) g1).1
  refine ⟨h, (hF.toW.slR k).trans g1, ?_⟩
  rw [cS_Fr hF fun a b z1 z2 z3 => by unfold fN at z3; omega, show am_I ν 62 = am_I μ 62 from funext fun b => hF.1 62 b fun z => by unfold fN at z; omega]
  exact g2
theorem nI83 {k : Nat} : (83 : Int32) * nI k = nI (83 * k) := by
  rw [show (83 : Int32) = nI 83 by decide]; exact nI_mul
theorem op_undo (hI : Inv q μ) : OP q mX1_undo mX3_undo [.ref 0] [.ref 54, am_F] μ := by
  intro d
  have hI' := hI
  obtain ⟨⟨N, C, ru, c, hP⟩, hT, hR, b1, b2, b3⟩ := hI
  have hC := hP.1.1
  have hcu := hC.1
  simp only [cL, spL, Nat.reduceAdd] at hcu
  have hS := hP.1.2.1
  have hmu := hS.1.1
  unfold mL at hmu
  have h8 := hC.2.2.1
  obtain ⟨u, u12, u1, u2, u3⟩ : pU N μ := hP.2.2.2.2.2.2.1
  by_cases h0 : u = 0
  · have e0 : nI u = 0 := by rw [h0]; rfl
    simp only [gX1_undo_0, gX1_undo_1, gX1_undo_4, gX1_undo_7, gX1_undo_8, am_kill_int, am_kill_ref, am_kill_null, am_kill_F, am_kill_long, am_cat_n, am_cat_i, am_cat_r, am_cat_0, am_cat_l, am_nr_n, am_nr_i, am_nr_r, am_nr_0, am_nr_l, Option.toList_some, Option.toList_none, List.nil_append, List.cons_append, va_rf_s, va_rf_n, am_II, am_I_sR, am_I_sL, am_R_sI, am_RR, am_R_sL, am_L_sI, am_L_sR, am_LL, am_k_sI, am_k_sR, am_k_sL, am_n_sI, am_n_sR, am_n_sL, true_and, and_true, true_or, or_true, or_false, false_or, not_true_eq_false, not_false_eq_true, Nat.reduceLT, am_dS, am_dP, am_d1, Nat.reduceSub, Nat.reduceMul, ne_eq, Nat.reduceBEq, Nat.reduceAdd, Nat.reduceLeDiff, Nat.reduceEqDiff, and_self, and_false, false_and, if_true, if_false, am_nb, am_nb0, am_nb1, am_lc1, am_lc2, am_lc3, am_b0, am_b1, am_10, am_c8, am_c16, am_c24, am_c32, am_c40, am_c48, am_c56, am_c64, am_c72, Nat.add_zero, Bool.false_eq_true, Nat.zero_le, hcu, u1, e0]
    refine ⟨_, rfl, ?_⟩
    simp only [gX3_undo_0, gX3_undo_1, gX3_undo_2, gX3_undo_5, gX3_undo_6, gX3_undo_9, gX3_undo_12, gX3_undo_13, am_kill_int, am_kill_ref, am_kill_null, am_kill_F, am_kill_long, am_cat_n, am_cat_i, am_cat_r, am_cat_0, am_cat_l, am_nr_n, am_nr_i, am_nr_r, am_nr_0, am_nr_l, Option.toList_some, Option.toList_none, List.nil_append, List.cons_append, va_rf_s, va_rf_n, am_II, am_I_sR, am_I_sL, am_R_sI, am_RR, am_R_sL, am_L_sI, am_L_sR, am_LL, am_k_sI, am_k_sR, am_k_sL, am_n_sI, am_n_sR, am_n_sL, true_and, and_true, true_or, or_true, or_false, false_or, not_true_eq_false, not_false_eq_true, Nat.reduceLT, am_dS, am_dP, am_d1, Nat.reduceSub, Nat.reduceMul, ne_eq, Nat.reduceBEq, Nat.reduceAdd, Nat.reduceLeDiff, Nat.reduceEqDiff, and_self, and_false, false_and, if_true, if_false, am_nb, am_nb0, am_nb1, am_lc1, am_lc2, am_lc3, am_b0, am_b1, am_10, am_c8, am_c16, am_c24, am_c32, am_c40, am_c48, am_c56, am_c64, am_c72, Nat.add_zero, Bool.false_eq_true, Nat.zero_le, hmu, u2, e0]
    exact hI'.thr
  · obtain ⟨w, hw⟩ : ∃ w, u = w + 1 := ⟨u - 1, by omega⟩
    subst hw
    have e0 : ¬ nI (w + 1) = 0 := fun e => by
      have := nI_clamp (n := w + 1) (by omega)
      rw [e] at this
      have z : (0 : Int32).toNatClampNeg = 0 := by decide
      omega
    obtain ⟨h, g1, g2⟩ := u3 w (by omega)
    have gR : am_R μ 28 w = some h := by
      have := g1
      unfold slR at this
      rw [if_pos (by omega)] at this
      exact this
    obtain ⟨h78, hn, hsp⟩ := hP.2.2.2.2.2.1.1 w h (by omega) g1
    have hin : vp_in (nI w) 12 := vp_in_nI (by omega) (by omega)
    have hcl : (nI w).toNatClampNeg = w := nI_clamp (by omega)
    simp only [gX1_undo_0, gX1_undo_1, gX1_undo_4, gX1_undo_7, gX1_undo_8, gX1_undo_9, gX1_undo_10, gX1_undo_11, gX1_undo_14, gX1_undo_15, gX1_undo_16, gX1_undo_19, gX1_undo_20, gX1_undo_23, gX1_undo_24, gX1_undo_27, gX1_undo_28, gX1_undo_31, gX1_undo_32, am_kill_int, am_kill_ref, am_kill_null, am_kill_F, am_kill_long, am_cat_n, am_cat_i, am_cat_r, am_cat_0, am_cat_l, am_nr_n, am_nr_i, am_nr_r, am_nr_0, am_nr_l, Option.toList_some, Option.toList_none, List.nil_append, List.cons_append, va_rf_s, va_rf_n, am_II, am_I_sR, am_I_sL, am_R_sI, am_RR, am_R_sL, am_L_sI, am_L_sR, am_LL, am_k_sI, am_k_sR, am_k_sL, am_n_sI, am_n_sR, am_n_sL, true_and, and_true, true_or, or_true, or_false, false_or, not_true_eq_false, not_false_eq_true, Nat.reduceLT, am_dS, am_dP, am_d1, Nat.reduceSub, Nat.reduceMul, ne_eq, Nat.reduceBEq, Nat.reduceAdd, Nat.reduceLeDiff, Nat.reduceEqDiff, and_self, and_false, false_and, if_true, if_false, am_nb, am_nb0, am_nb1, am_lc1, am_lc2, am_lc3, am_b0, am_b1, am_10, am_c8, am_c16, am_c24, am_c32, am_c40, am_c48, am_c56, am_c64, am_c72, Nat.add_zero, Bool.false_eq_true, Nat.zero_le, hcu, u1, e0, nI_pred, hin, hcl, gR]
    refine wX2_becomes (d := d + 198) (μ := am_sI μ 0 21 (nI w)) (h := h) (h' := 1) hsp hC.1.s1 (by omega) (fun ν hF hT1 => ?_)
    rw [cS_o (by omega)] at hT1
    have hk0 : am_k ν 0 = (0, 0) := by rw [hF.2.2.2.1]; exact hC.1.c
    have e21 : am_I ν 0 21 = nI w := (hF.1 0 21 (by unfold inSp; omega)).trans (by rw [am_I_sI, if_pos ⟨rfl, rfl⟩])
    simp only [gX1_undo_35, gX1_undo_36, gX1_undo_39, am_kill_int, am_kill_ref, am_kill_null, am_kill_F, am_kill_long, am_cat_n, am_cat_i, am_cat_r, am_cat_0, am_cat_l, am_nr_n, am_nr_i, am_nr_r, am_nr_0, am_nr_l, Option.toList_some, Option.toList_none, List.nil_append, List.cons_append, va_rf_s, va_rf_n, am_II, am_I_sR, am_I_sL, am_R_sI, am_RR, am_R_sL, am_L_sI, am_L_sR, am_LL, am_k_sI, am_k_sR, am_k_sL, am_n_sI, am_n_sR, am_n_sL, true_and, and_true, true_or, or_true, or_false, false_or, not_true_eq_false, not_false_eq_true, Nat.reduceLT, am_dS, am_dP, am_d1, Nat.reduceSub, Nat.reduceMul, ne_eq, Nat.reduceBEq, Nat.reduceAdd, Nat.reduceLeDiff, Nat.reduceEqDiff, and_self, and_false, false_and, if_true, if_false, am_nb, am_nb0, am_nb1, am_lc1, am_lc2, am_lc3, am_b0, am_b1, am_10, am_c8, am_c16, am_c24, am_c32, am_c40, am_c48, am_c56, am_c64, am_c72, Nat.add_zero, Bool.false_eq_true, Nat.zero_le, hk0, e21]
    refine ⟨_, rfl, ?_⟩
    have hF0 : Fr fN μ ν := (Fr.I Fr.refl (by unfold fN; omega)).trans (hF.le fun a b q => by unfold inSp at q; unfold fN; omega)
    have hmν := hF0.mLk hS.1.1
    unfold mL at hmν
    have e20 : am_I ν 54 20 = nI (w + 1) := (hF.1 54 20 (by unfold inSp; omega)).trans (by rw [am_I_sI, if_neg (by omega)]; exact u2)
    simp only [gX3_undo_0, gX3_undo_1, gX3_undo_2, gX3_undo_5, gX3_undo_6, gX3_undo_9, gX3_undo_12, gX3_undo_13, gX3_undo_14, gX3_undo_15, gX3_undo_16, gX3_undo_19, gX3_undo_20, gX3_undo_21, gX3_undo_24, gX3_undo_25, am_kill_int, am_kill_ref, am_kill_null, am_kill_F, am_kill_long, am_cat_n, am_cat_i, am_cat_r, am_cat_0, am_cat_l, am_nr_n, am_nr_i, am_nr_r, am_nr_0, am_nr_l, Option.toList_some, Option.toList_none, List.nil_append, List.cons_append, va_rf_s, va_rf_n, am_II, am_I_sR, am_I_sL, am_R_sI, am_RR, am_R_sL, am_L_sI, am_L_sR, am_LL, am_k_sI, am_k_sR, am_k_sL, am_n_sI, am_n_sR, am_n_sL, true_and, and_true, true_or, or_true, or_false, false_or, not_true_eq_false, not_false_eq_true, Nat.reduceLT, am_dS, am_dP, am_d1, Nat.reduceSub, Nat.reduceMul, ne_eq, Nat.reduceBEq, Nat.reduceAdd, Nat.reduceLeDiff, Nat.reduceEqDiff, and_self, and_false, false_and, if_true, if_false, am_nb, am_nb0, am_nb1, am_lc1, am_lc2, am_lc3, am_b0, am_b1, am_10, am_c8, am_c16, am_c24, am_c32, am_c40, am_c48, am_c56, am_c64, am_c72, Nat.add_zero, Bool.false_eq_true, Nat.zero_le, hmν, e20, e0, nI_pred]
    have e83 : (83 : Int32) = nI 83 := rfl
    have hF1 : Fr fN ν (am_sI (am_sI ν 54 7 0) 54 20 (nI w)) := Fr.I (Fr.I Fr.refl (by unfold fN; omega)) (by unfold fN; omega)
    refine am_for (N := 83) (fun k ls ξ => ls = [.ref 54, .int (nI k)] ∧ Fr (fun a _ => a = 55) (am_sI (am_sI ν 54 7 0) 54 20 (nI w)) ξ ∧ ∀ i, i < k → am_I ξ 55 i = am_I μ 62 (83 * w + i)) ?_ ?_ 83 0 _ _ (by omega) ⟨rfl, Fr.refl, fun i hi => absurd hi (Nat.not_lt_zero i)⟩
    · rintro k ls ξ hk83 ⟨rfl, hF2, hr⟩ ih
      have hlt : ¬ nI 83 ≤ nI k := nI_ge hk83 (by omega)
      have hmξ := hF2.mLk (hF1.mLk (hF0.mLk hS.1.1))
      unfold mL at hmξ
      have e20' : am_I ξ 54 20 = nI w := (hF2.1 54 20 (by decide)).trans (by rw [am_I_sI, if_pos ⟨rfl, rfl⟩])
      have hv : vp_in (nI k) 83 := vp_in_nI (by omega) (by omega)
      have hck : (nI k).toNatClampNeg = k := nI_clamp (by omega)
      have hv2 : vp_in (nI (83 * w + k)) 996 := vp_in_nI (by omega) (by omega)
      have hck2 : (nI (83 * w + k)).toNatClampNeg = 83 * w + k := nI_clamp (by omega)
      have r62 : am_I ξ 62 (83 * w + k) = am_I μ 62 (83 * w + k) := by
        rw [hF2.1 62 _ (fun e => absurd (show (62 : Nat) = 55 from e) (by decide)), hF1.1 62 _ (by unfold fN; omega), hF0.1 62 _ (by unfold fN; omega)]
      have e83m : nI 83 * nI w = nI (83 * w) := nI_mul
      rw [gX3_undo_26]
      simp only [gX3_undo_27, gX3_undo_29, gX3_undo_32, gX3_undo_33, gX3_undo_36, gX3_undo_37, gX3_undo_38, gX3_undo_41, gX3_undo_43, gX3_undo_44, gX3_undo_47, gX3_undo_48, gX3_undo_49, gX3_undo_50, gX3_undo_51, gX3_undo_52, gX3_undo_55, am_kill_int, am_kill_ref, am_kill_null, am_kill_F, am_kill_long, am_cat_n, am_cat_i, am_cat_r, am_cat_0, am_cat_l, am_nr_n, am_nr_i, am_nr_r, am_nr_0, am_nr_l, Option.toList_some, Option.toList_none, List.nil_append, List.cons_append, va_rf_s, va_rf_n, am_II, am_I_sR, am_I_sL, am_R_sI, am_RR, am_R_sL, am_L_sI, am_L_sR, am_LL, am_k_sI, am_k_sR, am_k_sL, am_n_sI, am_n_sR, am_n_sL, true_and, and_true, true_or, or_true, or_false, false_or, not_true_eq_false, not_false_eq_true, Nat.reduceLT, am_dS, am_dP, am_d1, Nat.reduceSub, Nat.reduceMul, ne_eq, Nat.reduceBEq, Nat.reduceAdd, Nat.reduceLeDiff, Nat.reduceEqDiff, and_self, and_false, false_and, if_true, if_false, am_nb, am_nb0, am_nb1, am_lc1, am_lc2, am_lc3, am_b0, am_b1, am_10, am_c8, am_c16, am_c24, am_c32, am_c40, am_c48, am_c56, am_c64, am_c72, Nat.add_zero, Bool.false_eq_true, Nat.zero_le, hmξ, e83, hlt, e20', e83m, nI_add, hv, hck, hv2, hck2, r62, nI_1]
      refine ih _ _ ⟨rfl, Fr.I hF2 rfl, fun i hi => ?_⟩
      by_cases f : i = k
      · subst f; rw [am_I_sI, if_pos ⟨rfl, rfl⟩]
      · rw [am_I_sI, if_neg (by omega)]; exact hr i (by omega)
    · rintro ls ξ ⟨rfl, hF2, hr⟩
      have hmξ := hF2.mLk (hF1.mLk (hF0.mLk hS.1.1))
      unfold mL at hmξ
      have e20' : am_I ξ 54 20 = nI w := (hF2.1 54 20 (by decide)).trans (by rw [am_I_sI, if_pos ⟨rfl, rfl⟩])
      have hFa : Fr fN μ ξ := (hF0.trans hF1).trans (hF2.le fun a b q => Or.inr (Or.inl q))
      have e21' : am_I ξ 0 21 = nI w := (hF2.1 0 21 (by decide)).trans (by rw [am_I_sI, if_neg (by omega), am_I_sI, if_neg (by omega)]; exact e21)
      have hc1 : cS ξ 1 = cS μ h := by
        rw [cS_Fr hF2 fun a b z1 z2 z3 => by omega, cS_o (by omega), cS_o (by omega)]; exact hT1
      rw [gX3_undo_26]
      simp only [gX3_undo_27, gX3_undo_29, gX3_undo_58, gX3_undo_59, gX3_undo_62, am_kill_int, am_kill_ref, am_kill_null, am_kill_F, am_kill_long, am_cat_n, am_cat_i, am_cat_r, am_cat_0, am_cat_l, am_nr_n, am_nr_i, am_nr_r, am_nr_0, am_nr_l, Option.toList_some, Option.toList_none, List.nil_append, List.cons_append, va_rf_s, va_rf_n, am_II, am_I_sR, am_I_sL, am_R_sI, am_RR, am_R_sL, am_L_sI, am_L_sR, am_LL, am_k_sI, am_k_sR, am_k_sL, am_n_sI, am_n_sR, am_n_sL, true_and, and_true, true_or, or_true, or_false, false_or, not_true_eq_false, not_false_eq_true, Nat.reduceLT, am_dS, am_dP, am_d1, Nat.reduceSub, Nat.reduceMul, ne_eq, Nat.reduceBEq, Nat.reduceAdd, Nat.reduceLeDiff, Nat.reduceEqDiff, and_self, and_false, false_and, if_true, if_false, am_nb, am_nb0, am_nb1, am_lc1, am_lc2, am_lc3, am_b0, am_b1, am_10, am_c8, am_c16, am_c24, am_c32, am_c40, am_c48, am_c56, am_c64, am_c72, Nat.add_zero, Bool.false_eq_true, Nat.zero_le, hmξ, e83, Int32.le_refl, e20']
      refine inv_N hI' hP hFa ?_ (pU_cut hP hFa (fun k hk => u3 k (by omega)) (by omega) e21' e20') (by rw [hc1]; obtain ⟨f, z1, z2⟩ := hI'.2.2.2.2.2.2.2 w h (by omega) g1; exact ⟨f, by omega, z2⟩)
      rw [hc1]
      exact g2.row h8 (fun i hi => hr i hi)
end PSV
