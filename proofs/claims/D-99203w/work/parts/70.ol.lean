/-! calls that ask: spares -/
set_option maxRecDepth 100000
section OLV
variable {d : Nat} {μ ν ξ : am_M} {K : Option Value → am_M → Prop} {x y z c w : Int32} {h h' N C j i k r n M b q m ρ : Nat} {v : Int32} {ru : Option PF} {A o o' : Nat → Int32} {S a T : Nat → Int32} {g p p' : Nat → Bool}
theorem sp_eq : ∀ (d : Fin 100) (n : Fin 21) (c : Fin 10), 1 ≤ n.val → (decide (nI n.val ≤ maI 0 (nI c.val - nI d.val)) = decide (miI 99 (nI d.val + nI n.val - 1) < nI c.val)) := by decide +kernel
theorem sp_iff {dd y c : Int32} (hd : 0 ≤ dd ∧ dd ≤ 99) (hy : 1 ≤ y ∧ y ≤ 20) (hc : 0 ≤ c ∧ c ≤ 9) : (y ≤ maI 0 (c - dd)) ↔ (miI 99 (dd + y - 1) < c) := by
  obtain ⟨k, hk, rfl⟩ := rngI (M := 99) (by decide) hd.1 hd.2
  obtain ⟨n, hn, rfl⟩ := rngI (M := 20) (by decide) (Int32.le_trans (by decide) hy.1) hy.2
  obtain ⟨e, he, rfl⟩ := rngI (M := 9) (by decide) hc.1 hc.2
  have h1 : 1 ≤ n := by
    rcases Nat.eq_zero_or_pos n with q | q
    · subst q; exact absurd hy.1 (by decide)
    · exact q
  have := sp_eq ⟨k, hk⟩ ⟨n, hn⟩ ⟨e, he⟩ h1
  rw [decide_eq_decide] at this
  exact this
def cSp (c : Int32) (S : Nat → Int32) (j : Nat) (y : Int32) (r : Nat) : Bool := decide (y ≤ maI 0 (c - dBF (rhF S j) (S (32 + j)) r))
def vSp (N : Nat) (c : Int32) (S : Nat → Int32) (x y : Int32) : Int32 := if isN x N = true ∧ (1 ≤ y ∧ y ≤ 20) then (if 0 ≤ S (32 + x.toNatClampNeg) then wtF (cSp c S x.toNatClampNeg y) (4 - rhF S x.toNatClampNeg) 0 else -3) else -1
theorem l1L : (1 : Int64) = (1 : Int32).toInt64 := by decide
theorem e20L : (20 : Int64) = (20 : Int32).toInt64 := by decide
theorem qcL_spares (hP : Per N C ru c μ) (hj : j < N) (h0 : 0 ≤ cS μ 1 (32 + j)) : ∀ (m k : Nat) (ν : am_M), k + m = 4 - rhF (cS μ 1) j → Fr (jS 12) μ ν → (∀ ξ, Fr (jS 12) μ ξ → K (some (.int (wtF (cSp c (cS μ 1) j y) m k))) ξ) →
    am_Wp (d + 200) mX1_spares 38 [.ref 0, .int (nI j), .int y, .int (nI k)] [] ν K := by
  have hC := hP.1.1
  have h8 := hC.2.2.1
  have hj8 : j < 8 := by omega
  have hin : vp_in (nI j) 8 := vp_in_nI (by omega) (by omega)
  have hcl : (nI j).toNatClampNeg = j := nI_clamp (by omega)
  obtain ⟨r1, r2⟩ := hP.2.1.rh hj
  have e3 : (3 : Int32) = nI 3 := rfl
  intro m
  induction m with
  | zero =>
    intro k ν hkm hF hK
    have hC1 := hC.js (by decide) (by decide) hF
    have hcν := hC1.1
    simp only [cL, spL, Nat.reduceAdd] at hcν
    have e5 : am_I ν 7 j = nI (rhF (cS μ 1) j) := by rw [← r2, ← jS_1 hF]; exact (cS_5 hj8).symm
    have hlt : nI 3 < nI (k + rhF (cS μ 1) j) := nI_lt (by omega) (by omega)
    rw [gX1_spares_38]
    simp only [gX1_spares_39, gX1_spares_40, gX1_spares_43, gX1_spares_46, gX1_spares_47, gX1_spares_48, gX1_spares_49, gX1_spares_50, gX1_spares_71, gX1_spares_73, am_kill_int, am_kill_ref, am_kill_null, am_kill_F, am_kill_long, am_cat_n, am_cat_i, am_cat_r, am_cat_0, am_cat_l, am_nr_n, am_nr_i, am_nr_r, am_nr_0, am_nr_l, Option.toList_some, Option.toList_none, List.nil_append, List.cons_append, va_rf_s, va_rf_n, am_II, am_I_sR, am_I_sL, am_R_sI, am_RR, am_R_sL, am_L_sI, am_L_sR, am_LL, am_k_sI, am_k_sR, am_k_sL, am_n_sI, am_n_sR, am_n_sL, true_and, and_true, true_or, or_true, or_false, false_or, not_true_eq_false, not_false_eq_true, Nat.reduceLT, am_dS, am_dP, am_d1, Nat.reduceSub, Nat.reduceMul, ne_eq, Nat.reduceBEq, Nat.reduceAdd, Nat.reduceLeDiff, Nat.reduceEqDiff, and_self, and_false, false_and, if_true, if_false, am_nb, am_nb0, am_nb1, am_lc1, am_lc2, am_lc3, am_b0, am_b1, am_10, am_c8, am_c16, am_c24, am_c32, am_c40, am_c48, am_c56, am_c64, am_c72, Nat.add_zero, Bool.false_eq_true, Nat.zero_le, hcν, hin, hcl, e5, nI_add, e3, hlt]
    exact hK ν hF
  | succ m ih =>
    intro k ν hkm hF hK
    have hC1 := hC.js (by decide) (by decide) hF
    have hcν := hC1.1
    simp only [cL, spL, Nat.reduceAdd] at hcν
    have e5 : am_I ν 7 j = nI (rhF (cS μ 1) j) := by rw [← r2, ← jS_1 hF]; exact (cS_5 hj8).symm
    have hlt : ¬ nI 3 < nI (k + rhF (cS μ 1) j) := nI_nlt (by omega) (by omega)
    unfold wtF at hK
    rw [gX1_spares_38]
    simp only [gX1_spares_39, gX1_spares_40, gX1_spares_43, gX1_spares_46, gX1_spares_47, gX1_spares_48, gX1_spares_49, gX1_spares_50, gX1_spares_53, gX1_spares_54, gX1_spares_55, gX1_spares_56, am_kill_int, am_kill_ref, am_kill_null, am_kill_F, am_kill_long, am_cat_n, am_cat_i, am_cat_r, am_cat_0, am_cat_l, am_nr_n, am_nr_i, am_nr_r, am_nr_0, am_nr_l, Option.toList_some, Option.toList_none, List.nil_append, List.cons_append, va_rf_s, va_rf_n, am_II, am_I_sR, am_I_sL, am_R_sI, am_RR, am_R_sL, am_L_sI, am_L_sR, am_LL, am_k_sI, am_k_sR, am_k_sL, am_n_sI, am_n_sR, am_n_sL, true_and, and_true, true_or, or_true, or_false, false_or, not_true_eq_false, not_false_eq_true, Nat.reduceLT, am_dS, am_dP, am_d1, Nat.reduceSub, Nat.reduceMul, ne_eq, Nat.reduceBEq, Nat.reduceAdd, Nat.reduceLeDiff, Nat.reduceEqDiff, and_self, and_false, false_and, if_true, if_false, am_nb, am_nb0, am_nb1, am_lc1, am_lc2, am_lc3, am_b0, am_b1, am_10, am_c8, am_c16, am_c24, am_c32, am_c40, am_c48, am_c56, am_c64, am_c72, Nat.add_zero, Bool.false_eq_true, Nat.zero_le, hcν, hin, hcl, e5, nI_add, e3, hlt]
    refine wX1_waitsFor (d := d + 189) hC1 hj (by omega) r1 (by rw [jS_1 hF]; exact r2) (by rw [jS_1 hF]; exact hP.2.1.no hj h0) (fun ν1 hF1 => ?_)
    rw [jS_1 hF]
    by_cases q : y ≤ maI 0 (c - dBF (rhF (cS μ 1) j) (cS μ 1 (32 + j)) k)
    · have hc : cSp c (cS μ 1) j y k = true := decide_eq_true q
      simp only [if_pos hc] at hK
      simp only [gX1_spares_59, gX1_spares_60, gX1_spares_63, gX1_spares_64, am_kill_int, am_kill_ref, am_kill_null, am_kill_F, am_kill_long, am_cat_n, am_cat_i, am_cat_r, am_cat_0, am_cat_l, am_nr_n, am_nr_i, am_nr_r, am_nr_0, am_nr_l, Option.toList_some, Option.toList_none, List.nil_append, List.cons_append, va_rf_s, va_rf_n, am_II, am_I_sR, am_I_sL, am_R_sI, am_RR, am_R_sL, am_L_sI, am_L_sR, am_LL, am_k_sI, am_k_sR, am_k_sL, am_n_sI, am_n_sR, am_n_sL, true_and, and_true, true_or, or_true, or_false, false_or, not_true_eq_false, not_false_eq_true, Nat.reduceLT, am_dS, am_dP, am_d1, Nat.reduceSub, Nat.reduceMul, ne_eq, Nat.reduceBEq, Nat.reduceAdd, Nat.reduceLeDiff, Nat.reduceEqDiff, and_self, and_false, false_and, if_true, if_false, am_nb, am_nb0, am_nb1, am_lc1, am_lc2, am_lc3, am_b0, am_b1, am_10, am_c8, am_c16, am_c24, am_c32, am_c40, am_c48, am_c56, am_c64, am_c72, Nat.add_zero, Bool.false_eq_true, Nat.zero_le, Int32.not_lt.mpr q]
      exact hK ν1 (hF.trans hF1)
    · have hc : ¬ cSp c (cS μ 1) j y k = true := by unfold cSp; rw [decide_eq_false q]; decide
      simp only [if_neg hc] at hK
      simp only [gX1_spares_59, gX1_spares_60, gX1_spares_63, gX1_spares_64, gX1_spares_65, gX1_spares_68, am_kill_int, am_kill_ref, am_kill_null, am_kill_F, am_kill_long, am_cat_n, am_cat_i, am_cat_r, am_cat_0, am_cat_l, am_nr_n, am_nr_i, am_nr_r, am_nr_0, am_nr_l, Option.toList_some, Option.toList_none, List.nil_append, List.cons_append, va_rf_s, va_rf_n, am_II, am_I_sR, am_I_sL, am_R_sI, am_RR, am_R_sL, am_L_sI, am_L_sR, am_LL, am_k_sI, am_k_sR, am_k_sL, am_n_sI, am_n_sR, am_n_sL, true_and, and_true, true_or, or_true, or_false, false_or, not_true_eq_false, not_false_eq_true, Nat.reduceLT, am_dS, am_dP, am_d1, Nat.reduceSub, Nat.reduceMul, ne_eq, Nat.reduceBEq, Nat.reduceAdd, Nat.reduceLeDiff, Nat.reduceEqDiff, and_self, and_false, false_and, if_true, if_false, am_nb, am_nb0, am_nb1, am_lc1, am_lc2, am_lc3, am_b0, am_b1, am_10, am_c8, am_c16, am_c24, am_c32, am_c40, am_c48, am_c56, am_c64, am_c72, Nat.add_zero, Bool.false_eq_true, Nat.zero_le, Int32.not_le.mp q, nI_1]
      exact ih (k + 1) ν1 (by omega) (hF.trans hF1) hK
theorem qc_spares (hP : Per N C ru c μ) : QC mX1_spares [.ref 0, .int x, .int y, am_F] μ (vSp N c (cS μ 1) x y) none := by
  intro d K hK
  have hC := hP.1.1
  have hcu := hC.1
  simp only [cL, spL, Nat.reduceAdd] at hcu
  have hN := hC.2.1
  have h8 := hC.2.2.1
  have hk := hC.1.c
  unfold vSp at hK
  by_cases hx : isN x N = true
  · by_cases hy : 1 ≤ y ∧ y ≤ 20
    · simp only [if_pos (And.intro hx hy)] at hK
      obtain ⟨j, hj, rfl⟩ := isN_of (by omega) hx
      have hj8 : j < 8 := by omega
      have hin : vp_in (nI j) 8 := vp_in_nI (by omega) (by omega)
      have hcl : (nI j).toNatClampNeg = j := nI_clamp (by omega)
      simp only [hcl] at hK
      by_cases h0 : 0 ≤ cS μ 1 (32 + j)
      · simp only [if_pos h0] at hK
        simp only [gX1_spares_0, gX1_spares_1, gX1_spares_2, gX1_spares_5, gX1_spares_8, gX1_spares_9, gX1_spares_10, gX1_spares_11, gX1_spares_14, gX1_spares_17, gX1_spares_20, gX1_spares_21, gX1_spares_22, gX1_spares_23, gX1_spares_26, gX1_spares_27, gX1_spares_30, gX1_spares_33, gX1_spares_35, gX1_spares_36, gX1_spares_37, am_kill_int, am_kill_ref, am_kill_null, am_kill_F, am_kill_long, am_cat_n, am_cat_i, am_cat_r, am_cat_0, am_cat_l, am_nr_n, am_nr_i, am_nr_r, am_nr_0, am_nr_l, Option.toList_some, Option.toList_none, List.nil_append, List.cons_append, va_rf_s, va_rf_n, am_II, am_I_sR, am_I_sL, am_R_sI, am_RR, am_R_sL, am_L_sI, am_L_sR, am_LL, am_k_sI, am_k_sR, am_k_sL, am_n_sI, am_n_sR, am_n_sL, true_and, and_true, true_or, or_true, or_false, false_or, not_true_eq_false, not_false_eq_true, Nat.reduceLT, am_dS, am_dP, am_d1, Nat.reduceSub, Nat.reduceMul, ne_eq, Nat.reduceBEq, Nat.reduceAdd, Nat.reduceLeDiff, Nat.reduceEqDiff, and_self, and_false, false_and, if_true, if_false, am_nb, am_nb0, am_nb1, am_lc1, am_lc2, am_lc3, am_b0, am_b1, am_10, am_c8, am_c16, am_c24, am_c32, am_c40, am_c48, am_c56, am_c64, am_c72, Nat.add_zero, Bool.false_eq_true, Nat.zero_le, hcu, wX1_isNest hN h8 hk, wX1_in, l1L, e20L, am_leL, hx, hy, wX2_isNoticed hj8 hC.1.s1, h0]
        rw [← nI_0]
        refine qcL_spares hP hj h0 (4 - rhF (cS μ 1) j) 0 μ (by omega) Fr.refl (fun ν hF => ?_)
        obtain ⟨g1, g2, g3⟩ := jS_qc hF
        exact hK ν g1 g2 g3
      · simp only [if_neg h0] at hK
        simp only [gX1_spares_0, gX1_spares_1, gX1_spares_2, gX1_spares_5, gX1_spares_8, gX1_spares_9, gX1_spares_10, gX1_spares_11, gX1_spares_14, gX1_spares_17, gX1_spares_20, gX1_spares_21, gX1_spares_22, gX1_spares_23, gX1_spares_26, gX1_spares_27, gX1_spares_30, gX1_spares_33, gX1_spares_35, am_kill_int, am_kill_ref, am_kill_null, am_kill_F, am_kill_long, am_cat_n, am_cat_i, am_cat_r, am_cat_0, am_cat_l, am_nr_n, am_nr_i, am_nr_r, am_nr_0, am_nr_l, Option.toList_some, Option.toList_none, List.nil_append, List.cons_append, va_rf_s, va_rf_n, am_II, am_I_sR, am_I_sL, am_R_sI, am_RR, am_R_sL, am_L_sI, am_L_sR, am_LL, am_k_sI, am_k_sR, am_k_sL, am_n_sI, am_n_sR, am_n_sL, true_and, and_true, true_or, or_true, or_false, false_or, not_true_eq_false, not_false_eq_true, Nat.reduceLT, am_dS, am_dP, am_d1, Nat.reduceSub, Nat.reduceMul, ne_eq, Nat.reduceBEq, Nat.reduceAdd, Nat.reduceLeDiff, Nat.reduceEqDiff, and_self, and_false, false_and, if_true, if_false, am_nb, am_nb0, am_nb1, am_lc1, am_lc2, am_lc3, am_b0, am_b1, am_10, am_c8, am_c16, am_c24, am_c32, am_c40, am_c48, am_c56, am_c64, am_c72, Nat.add_zero, Bool.false_eq_true, Nat.zero_le, hcu, wX1_isNest hN h8 hk, wX1_in, l1L, e20L, am_leL, hx, hy, wX2_isNoticed hj8 hC.1.s1, h0]
        exact hK μ Fw.refl TC0 (fun _ => rfl)
    · simp only [hy, and_false, if_false] at hK
      simp only [gX1_spares_0, gX1_spares_1, gX1_spares_2, gX1_spares_5, gX1_spares_8, gX1_spares_9, gX1_spares_10, gX1_spares_11, gX1_spares_14, gX1_spares_17, gX1_spares_20, gX1_spares_21, am_kill_int, am_kill_ref, am_kill_null, am_kill_F, am_kill_long, am_cat_n, am_cat_i, am_cat_r, am_cat_0, am_cat_l, am_nr_n, am_nr_i, am_nr_r, am_nr_0, am_nr_l, Option.toList_some, Option.toList_none, List.nil_append, List.cons_append, va_rf_s, va_rf_n, am_II, am_I_sR, am_I_sL, am_R_sI, am_RR, am_R_sL, am_L_sI, am_L_sR, am_LL, am_k_sI, am_k_sR, am_k_sL, am_n_sI, am_n_sR, am_n_sL, true_and, and_true, true_or, or_true, or_false, false_or, not_true_eq_false, not_false_eq_true, Nat.reduceLT, am_dS, am_dP, am_d1, Nat.reduceSub, Nat.reduceMul, ne_eq, Nat.reduceBEq, Nat.reduceAdd, Nat.reduceLeDiff, Nat.reduceEqDiff, and_self, and_false, false_and, if_true, if_false, am_nb, am_nb0, am_nb1, am_lc1, am_lc2, am_lc3, am_b0, am_b1, am_10, am_c8, am_c16, am_c24, am_c32, am_c40, am_c48, am_c56, am_c64, am_c72, Nat.add_zero, Bool.false_eq_true, Nat.zero_le, hk, wX1_isNest hN h8 hk, wX1_in, l1L, e20L, am_leL, hx, hy]
      exact hK μ Fw.refl TC0 (fun _ => rfl)
  · simp only [hx, Bool.false_eq_true, false_and, if_false] at hK
    simp only [gX1_spares_0, gX1_spares_1, gX1_spares_2, gX1_spares_5, gX1_spares_8, gX1_spares_9, gX1_spares_10, gX1_spares_11, gX1_spares_14, gX1_spares_17, gX1_spares_20, gX1_spares_21, am_kill_int, am_kill_ref, am_kill_null, am_kill_F, am_kill_long, am_cat_n, am_cat_i, am_cat_r, am_cat_0, am_cat_l, am_nr_n, am_nr_i, am_nr_r, am_nr_0, am_nr_l, Option.toList_some, Option.toList_none, List.nil_append, List.cons_append, va_rf_s, va_rf_n, am_II, am_I_sR, am_I_sL, am_R_sI, am_RR, am_R_sL, am_L_sI, am_L_sR, am_LL, am_k_sI, am_k_sR, am_k_sL, am_n_sI, am_n_sR, am_n_sL, true_and, and_true, true_or, or_true, or_false, false_or, not_true_eq_false, not_false_eq_true, Nat.reduceLT, am_dS, am_dP, am_d1, Nat.reduceSub, Nat.reduceMul, ne_eq, Nat.reduceBEq, Nat.reduceAdd, Nat.reduceLeDiff, Nat.reduceEqDiff, and_self, and_false, false_and, if_true, if_false, am_nb, am_nb0, am_nb1, am_lc1, am_lc2, am_lc3, am_b0, am_b1, am_10, am_c8, am_c16, am_c24, am_c32, am_c40, am_c48, am_c56, am_c64, am_c72, Nat.add_zero, Bool.false_eq_true, Nat.zero_le, hk, wX1_isNest hN h8 hk, hx]
    exact hK μ Fw.refl TC0 (fun _ => rfl)
theorem q5L_spares (hP : Per N C ru c μ) (hy : 1 ≤ y ∧ y ≤ 20) (hjN : j < N) (h0 : 0 ≤ cS μ 1 (32 + j)) : ∀ (m k : Nat), k + m = 4 - rhF (cS μ 1) j → K (some (.int (wtF (cSp c (cS μ 1) j y) m k))) μ →
    am_Wp (d + 200) mX3_spares 43 [.ref 54, .int (nI j), .int y, .int (nI k)] [] μ K := by
  have hS := hP.1.2.1
  have hC := hS.1
  have hmu := hC.1
  unfold mL at hmu
  have hN := hC.2.1
  have h8 := hC.2.2.1
  have hc2 := hC.2.2.2
  have hj : j < 8 := by omega
  have hv : ∀ k, k ≤ 72 → vp_in (nI (k + j)) 83 := fun k q => vp_in_nI (by omega) (by omega)
  have hcl : ∀ k, k ≤ 72 → (nI (k + j)).toNatClampNeg = k + j := fun k q => nI_clamp (by omega)
  have hv0 : vp_in (nI j) 83 := vp_in_nI (by omega) (by omega)
  have hcj : (nI j).toNatClampNeg = j := nI_clamp (by omega)
  obtain ⟨r1, r2⟩ := hP.2.1.rh hjN
  have e3 : (3 : Int32) = nI 3 := rfl
  have e5 : am_I μ 55 (40 + j) = nI (rhF (cS μ 1) j) := by rw [← hP.2.1.r5 hjN]; exact r2
  have e4 : am_I μ 55 (32 + j) = cS μ 1 (32 + j) := (hP.2.1.r4 hjN).symm
  intro m
  induction m with
  | zero =>
    intro k hkm hK
    have hlt : nI 3 < nI (rhF (cS μ 1) j + k) := nI_lt (by omega) (by omega)
    rw [gX3_spares_43]
    simp only [gX3_spares_44, gX3_spares_47, gX3_spares_49, gX3_spares_50, gX3_spares_51, gX3_spares_52, gX3_spares_53, gX3_spares_54, gX3_spares_55, gX3_spares_88, gX3_spares_90, am_kill_int, am_kill_ref, am_kill_null, am_kill_F, am_kill_long, am_cat_n, am_cat_i, am_cat_r, am_cat_0, am_cat_l, am_nr_n, am_nr_i, am_nr_r, am_nr_0, am_nr_l, Option.toList_some, Option.toList_none, List.nil_append, List.cons_append, va_rf_s, va_rf_n, am_I_sR, am_I_sL, am_R_sI, am_R_sL, am_L_sI, am_L_sR, am_k_sI, am_k_sR, am_k_sL, am_n_sI, am_n_sR, am_n_sL, true_and, and_true, true_or, or_true, or_false, false_or, not_true_eq_false, not_false_eq_true, Nat.reduceLT, am_dS, am_dP, am_d1, Nat.reduceSub, Nat.reduceMul, ne_eq, Nat.reduceBEq, Nat.reduceAdd, Nat.reduceLeDiff, Nat.reduceEqDiff, and_self, and_false, false_and, if_true, if_false, am_nb, am_nb0, am_nb1, am_lc1, am_lc2, am_lc3, am_b0, am_b1, am_10, am_c8, am_c16, am_c24, am_c32, am_c40, am_c48, am_c56, am_c64, am_c72, Nat.add_zero, Bool.false_eq_true, Nat.zero_le, hmu, hv, hcl, e5, nI_add, e3, hlt]
    exact hK
  | succ m ih =>
    intro k hkm hK
    have hlt : ¬ nI 3 < nI (rhF (cS μ 1) j + k) := nI_nlt (by omega) (by omega)
    have hd := fun K => wX3_daysBy (d := d + 198) (K := K) (M := k) hC hj (by omega) r1 e5
    rw [e4] at hd
    have hq := sp_iff (dBF_r (ρ := rhF (cS μ 1) j) (hP.2.1.no hjN h0) k) hy hP.1.2.2.2
    unfold wtF at hK
    rw [gX3_spares_43]
    simp only [gX3_spares_44, gX3_spares_47, gX3_spares_49, gX3_spares_50, gX3_spares_51, gX3_spares_52, gX3_spares_53, gX3_spares_54, gX3_spares_55, gX3_spares_58, gX3_spares_60, gX3_spares_61, gX3_spares_62, gX3_spares_63, am_kill_int, am_kill_ref, am_kill_null, am_kill_F, am_kill_long, am_cat_n, am_cat_i, am_cat_r, am_cat_0, am_cat_l, am_nr_n, am_nr_i, am_nr_r, am_nr_0, am_nr_l, Option.toList_some, Option.toList_none, List.nil_append, List.cons_append, va_rf_s, va_rf_n, am_I_sR, am_I_sL, am_R_sI, am_R_sL, am_L_sI, am_L_sR, am_k_sI, am_k_sR, am_k_sL, am_n_sI, am_n_sR, am_n_sL, true_and, and_true, true_or, or_true, or_false, false_or, not_true_eq_false, not_false_eq_true, Nat.reduceLT, am_dS, am_dP, am_d1, Nat.reduceSub, Nat.reduceMul, ne_eq, Nat.reduceBEq, Nat.reduceAdd, Nat.reduceLeDiff, Nat.reduceEqDiff, and_self, and_false, false_and, if_true, if_false, am_nb, am_nb0, am_nb1, am_lc1, am_lc2, am_lc3, am_b0, am_b1, am_10, am_c8, am_c16, am_c24, am_c32, am_c40, am_c48, am_c56, am_c64, am_c72, Nat.add_zero, Bool.false_eq_true, Nat.zero_le, hmu, hv, hcl, e5, nI_add, e3, hlt]
    rw [hd]
    by_cases q : y ≤ maI 0 (c - dBF (rhF (cS μ 1) j) (cS μ 1 (32 + j)) k)
    · have hc : cSp c (cS μ 1) j y k = true := decide_eq_true q
      simp only [if_pos hc] at hK
      have q2 := Int32.not_le.mpr (hq.mp q)
      unfold miI at q2
      simp only [gX3_spares_66, gX3_spares_67, gX3_spares_68, gX3_spares_69, gX3_spares_70, gX3_spares_73, gX3_spares_74, gX3_spares_77, gX3_spares_80, gX3_spares_81, am_kill_int, am_kill_ref, am_kill_null, am_kill_F, am_kill_long, am_cat_n, am_cat_i, am_cat_r, am_cat_0, am_cat_l, am_nr_n, am_nr_i, am_nr_r, am_nr_0, am_nr_l, Option.toList_some, Option.toList_none, List.nil_append, List.cons_append, va_rf_s, va_rf_n, am_I_sR, am_I_sL, am_R_sI, am_R_sL, am_L_sI, am_L_sR, am_k_sI, am_k_sR, am_k_sL, am_n_sI, am_n_sR, am_n_sL, true_and, and_true, true_or, or_true, or_false, false_or, not_true_eq_false, not_false_eq_true, Nat.reduceLT, am_dS, am_dP, am_d1, Nat.reduceSub, Nat.reduceMul, ne_eq, Nat.reduceBEq, Nat.reduceAdd, Nat.reduceLeDiff, Nat.reduceEqDiff, and_self, and_false, false_and, if_true, if_false, am_nb, am_nb0, am_nb1, am_lc1, am_lc2, am_lc3, am_b0, am_b1, am_10, am_c8, am_c16, am_c24, am_c32, am_c40, am_c48, am_c56, am_c64, am_c72, Nat.add_zero, Bool.false_eq_true, Nat.zero_le, hmu, hc2, q2]
      exact hK
    · have hc : ¬ cSp c (cS μ 1) j y k = true := by unfold cSp; rw [decide_eq_false q]; decide
      simp only [if_neg hc] at hK
      have q2 := Int32.not_lt.mp (fun z => q (hq.mpr z))
      unfold miI at q2
      simp only [gX3_spares_66, gX3_spares_67, gX3_spares_68, gX3_spares_69, gX3_spares_70, gX3_spares_73, gX3_spares_74, gX3_spares_77, gX3_spares_80, gX3_spares_81, gX3_spares_82, gX3_spares_85, am_kill_int, am_kill_ref, am_kill_null, am_kill_F, am_kill_long, am_cat_n, am_cat_i, am_cat_r, am_cat_0, am_cat_l, am_nr_n, am_nr_i, am_nr_r, am_nr_0, am_nr_l, Option.toList_some, Option.toList_none, List.nil_append, List.cons_append, va_rf_s, va_rf_n, am_I_sR, am_I_sL, am_R_sI, am_R_sL, am_L_sI, am_L_sR, am_k_sI, am_k_sR, am_k_sL, am_n_sI, am_n_sR, am_n_sL, true_and, and_true, true_or, or_true, or_false, false_or, not_true_eq_false, not_false_eq_true, Nat.reduceLT, am_dS, am_dP, am_d1, Nat.reduceSub, Nat.reduceMul, ne_eq, Nat.reduceBEq, Nat.reduceAdd, Nat.reduceLeDiff, Nat.reduceEqDiff, and_self, and_false, false_and, if_true, if_false, am_nb, am_nb0, am_nb1, am_lc1, am_lc2, am_lc3, am_b0, am_b1, am_10, am_c8, am_c16, am_c24, am_c32, am_c40, am_c48, am_c56, am_c64, am_c72, Nat.add_zero, Bool.false_eq_true, Nat.zero_le, hmu, hc2, q2, nI_1]
      exact ih (k + 1) (by omega) hK
theorem q5_spares (hP : Per N C ru c μ) : Q5 mX3_spares [.ref 54, .int x, .int y, am_F] μ (vSp N c (cS μ 1) x y) none := by
  intro d K hK
  have hS := hP.1.2.1
  have hC := hS.1
  have hmu := hC.1
  unfold mL at hmu
  have hN := hC.2.1
  have h8 := hC.2.2.1
  unfold vSp at hK
  by_cases hx : isN x N = true
  · by_cases hy : 1 ≤ y ∧ y ≤ 20
    · simp only [if_pos (And.intro hx hy)] at hK
      obtain ⟨j, hjN, rfl⟩ := isN_of (by omega) hx
      have hj : j < 8 := by omega
      have hv : ∀ k, k ≤ 72 → vp_in (nI (k + j)) 83 := fun k q => vp_in_nI (by omega) (by omega)
      have hcl : ∀ k, k ≤ 72 → (nI (k + j)).toNatClampNeg = k + j := fun k q => nI_clamp (by omega)
      have hv0 : vp_in (nI j) 83 := vp_in_nI (by omega) (by omega)
      have hcj : (nI j).toNatClampNeg = j := nI_clamp (by omega)
      simp only [hcj] at hK
      have e4 : am_I μ 55 (32 + j) = cS μ 1 (32 + j) := (hP.2.1.r4 hjN).symm
      have hno := (hP.2.1.cg hjN).no
      rw [col4] at hno
      by_cases h0 : 0 ≤ cS μ 1 (32 + j)
      · simp only [if_pos h0] at hK
        have h1 : ¬ cS μ 1 (32 + j) = -1 := by rw [← hno]; exact h0
        simp only [gX3_spares_5, gX3_spares_6, gX3_spares_7, gX3_spares_10, gX3_spares_13, gX3_spares_14, gX3_spares_15, gX3_spares_17, gX3_spares_20, gX3_spares_23, gX3_spares_24, gX3_spares_25, gX3_spares_26, gX3_spares_29, gX3_spares_31, gX3_spares_32, gX3_spares_33, gX3_spares_34, gX3_spares_35, gX3_spares_38, gX3_spares_40, gX3_spares_41, gX3_spares_42, am_kill_int, am_kill_ref, am_kill_null, am_kill_F, am_kill_long, am_cat_n, am_cat_i, am_cat_r, am_cat_0, am_cat_l, am_nr_n, am_nr_i, am_nr_r, am_nr_0, am_nr_l, Option.toList_some, Option.toList_none, List.nil_append, List.cons_append, va_rf_s, va_rf_n, am_I_sR, am_I_sL, am_R_sI, am_R_sL, am_L_sI, am_L_sR, am_k_sI, am_k_sR, am_k_sL, am_n_sI, am_n_sR, am_n_sL, true_and, and_true, true_or, or_true, or_false, false_or, not_true_eq_false, not_false_eq_true, Nat.reduceLT, am_dS, am_dP, am_d1, Nat.reduceSub, Nat.reduceMul, ne_eq, Nat.reduceBEq, Nat.reduceAdd, Nat.reduceLeDiff, Nat.reduceEqDiff, and_self, and_false, false_and, if_true, if_false, am_nb, am_nb0, am_nb1, am_lc1, am_lc2, am_lc3, am_b0, am_b1, am_10, am_c8, am_c16, am_c24, am_c32, am_c40, am_c48, am_c56, am_c64, am_c72, Nat.add_zero, Bool.false_eq_true, Nat.zero_le, hmu, wX3_isNest hC, wX3_in, hx, hy, hv, hcl, e4, h1]
        rw [← nI_0]
        exact q5L_spares hP hy hjN h0 _ 0 (by omega) (hK μ Fw.refl hP.h17 TN0 (fun _ => rfl))
      · simp only [if_neg h0] at hK
        have h1 : cS μ 1 (32 + j) = -1 := by
          by_cases e : cS μ 1 (32 + j) = -1
          · exact e
          · rw [← hno] at e; exact absurd e h0
        simp only [gX3_spares_5, gX3_spares_6, gX3_spares_7, gX3_spares_10, gX3_spares_13, gX3_spares_14, gX3_spares_15, gX3_spares_17, gX3_spares_20, gX3_spares_23, gX3_spares_24, gX3_spares_25, gX3_spares_26, gX3_spares_29, gX3_spares_31, gX3_spares_32, gX3_spares_33, gX3_spares_34, gX3_spares_35, gX3_spares_38, gX3_spares_40, am_kill_int, am_kill_ref, am_kill_null, am_kill_F, am_kill_long, am_cat_n, am_cat_i, am_cat_r, am_cat_0, am_cat_l, am_nr_n, am_nr_i, am_nr_r, am_nr_0, am_nr_l, Option.toList_some, Option.toList_none, List.nil_append, List.cons_append, va_rf_s, va_rf_n, am_I_sR, am_I_sL, am_R_sI, am_R_sL, am_L_sI, am_L_sR, am_k_sI, am_k_sR, am_k_sL, am_n_sI, am_n_sR, am_n_sL, true_and, and_true, true_or, or_true, or_false, false_or, not_true_eq_false, not_false_eq_true, Nat.reduceLT, am_dS, am_dP, am_d1, Nat.reduceSub, Nat.reduceMul, ne_eq, Nat.reduceBEq, Nat.reduceAdd, Nat.reduceLeDiff, Nat.reduceEqDiff, and_self, and_false, false_and, if_true, if_false, am_nb, am_nb0, am_nb1, am_lc1, am_lc2, am_lc3, am_b0, am_b1, am_10, am_c8, am_c16, am_c24, am_c32, am_c40, am_c48, am_c56, am_c64, am_c72, Nat.add_zero, Bool.false_eq_true, Nat.zero_le, hmu, wX3_isNest hC, wX3_in, hx, hy, hv, hcl, e4, h1]
        exact hK μ Fw.refl hP.h17 TN0 (fun _ => rfl)
    · simp only [hy, and_false, if_false] at hK
      simp only [gX3_spares_5, gX3_spares_6, gX3_spares_7, gX3_spares_10, gX3_spares_13, gX3_spares_14, gX3_spares_15, gX3_spares_17, gX3_spares_20, gX3_spares_23, gX3_spares_24, am_kill_int, am_kill_ref, am_kill_null, am_kill_F, am_kill_long, am_cat_n, am_cat_i, am_cat_r, am_cat_0, am_cat_l, am_nr_n, am_nr_i, am_nr_r, am_nr_0, am_nr_l, Option.toList_some, Option.toList_none, List.nil_append, List.cons_append, va_rf_s, va_rf_n, am_I_sR, am_I_sL, am_R_sI, am_R_sL, am_L_sI, am_L_sR, am_k_sI, am_k_sR, am_k_sL, am_n_sI, am_n_sR, am_n_sL, true_and, and_true, true_or, or_true, or_false, false_or, not_true_eq_false, not_false_eq_true, Nat.reduceLT, am_dS, am_dP, am_d1, Nat.reduceSub, Nat.reduceMul, ne_eq, Nat.reduceBEq, Nat.reduceAdd, Nat.reduceLeDiff, Nat.reduceEqDiff, and_self, and_false, false_and, if_true, if_false, am_nb, am_nb0, am_nb1, am_lc1, am_lc2, am_lc3, am_b0, am_b1, am_10, am_c8, am_c16, am_c24, am_c32, am_c40, am_c48, am_c56, am_c64, am_c72, Nat.add_zero, Bool.false_eq_true, Nat.zero_le, hmu, wX3_isNest hC, wX3_in, hx, hy]
      exact hK μ Fw.refl hP.h17 TN0 (fun _ => rfl)
  · simp only [hx, Bool.false_eq_true, false_and, if_false] at hK
    simp only [gX3_spares_5, gX3_spares_6, gX3_spares_7, gX3_spares_10, gX3_spares_13, gX3_spares_14, gX3_spares_15, gX3_spares_17, gX3_spares_20, gX3_spares_23, gX3_spares_24, am_kill_int, am_kill_ref, am_kill_null, am_kill_F, am_kill_long, am_cat_n, am_cat_i, am_cat_r, am_cat_0, am_cat_l, am_nr_n, am_nr_i, am_nr_r, am_nr_0, am_nr_l, Option.toList_some, Option.toList_none, List.nil_append, List.cons_append, va_rf_s, va_rf_n, am_I_sR, am_I_sL, am_R_sI, am_R_sL, am_L_sI, am_L_sR, am_k_sI, am_k_sR, am_k_sL, am_n_sI, am_n_sR, am_n_sL, true_and, and_true, true_or, or_true, or_false, false_or, not_true_eq_false, not_false_eq_true, Nat.reduceLT, am_dS, am_dP, am_d1, Nat.reduceSub, Nat.reduceMul, ne_eq, Nat.reduceBEq, Nat.reduceAdd, Nat.reduceLeDiff, Nat.reduceEqDiff, and_self, and_false, false_and, if_true, if_false, am_nb, am_nb0, am_nb1, am_lc1, am_lc2, am_lc3, am_b0, am_b1, am_10, am_c8, am_c16, am_c24, am_c32, am_c40, am_c48, am_c56, am_c64, am_c72, Nat.add_zero, Bool.false_eq_true, Nat.zero_le, hmu, wX3_isNest hC, hx]
    exact hK μ Fw.refl hP.h17 TN0 (fun _ => rfl)
theorem op_spares (hI : Inv q μ) : OP q mX1_spares mX3_spares [.ref 0, .int x, .int y, am_F] [.ref 54, .int x, .int y, am_F] μ :=
  op_S (V := fun N ru c S => vSp N c S x y) (P := fun N ru c S => none) (fun hP => qc_spares hP) (fun d K μ h h' => by simp only [gX3_spares_0, gX3_spares_1, gX3_spares_2, am_kill_int, am_kill_ref, am_kill_null, am_kill_F, am_kill_long, am_cat_n, am_cat_i, am_cat_r, am_cat_0, am_cat_l, am_nr_n, am_nr_i, am_nr_r, am_nr_0, am_nr_l, Option.toList_some, Option.toList_none, List.nil_append, List.cons_append, va_rf_s, va_rf_n, am_I_sR, am_I_sL, am_R_sI, am_R_sL, am_L_sI, am_L_sR, am_k_sI, am_k_sR, am_k_sL, am_n_sI, am_n_sR, am_n_sL, true_and, and_true, true_or, or_true, or_false, false_or, not_true_eq_false, not_false_eq_true, Nat.reduceLT, am_dS, am_dP, am_d1, Nat.reduceSub, Nat.reduceMul, ne_eq, Nat.reduceBEq, Nat.reduceAdd, Nat.reduceLeDiff, Nat.reduceEqDiff, and_self, and_false, false_and, if_true, if_false, am_nb, am_nb0, am_nb1, am_lc1, am_lc2, am_lc3, am_b0, am_b1, am_10, am_c8, am_c16, am_c24, am_c32, am_c40, am_c48, am_c56, am_c64, am_c72, Nat.add_zero, Bool.false_eq_true, Nat.zero_le, h]; exact h') (fun hP => q5_spares hP) hI
end OLV
