/-! calls that ask: odd -/
set_option maxRecDepth 100000
section OAV
variable {d : Nat} {μ ν ξ : am_M} {K : Option Value → am_M → Prop} {x y z c w : Int32} {h N C j i k r n M b q : Nat} {v : Int32} {ru : Option PF} {p : Int64}
def vOdd (N : Nat) (ru : Option PF) (S : Nat → Int32) (x y : Int32) : Int32 := if isN x N = true ∧ isN y 10 = true then shI (oddS N ru (lieT S x.toNatClampNeg y) x.toNatClampNeg) else -1
theorem qc_odd (hP : Per N C ru c μ) : QC mX1_odd [.ref 0, .int x, .int y] μ (vOdd N ru (cS μ 1) x y) none := by
  intro d K hK
  have hC := hP.1.1
  have hcu := hC.1
  simp only [cL, spL, Nat.reduceAdd] at hcu
  have hN := hC.2.1
  have h8 := hC.2.2.1
  have hk := hC.1.c
  unfold vOdd at hK
  by_cases hx : isN x N = true
  · by_cases hy : isN y 10 = true
    · simp only [if_pos (And.intro hx hy)] at hK
      obtain ⟨j, hj, rfl⟩ := isN_of (by omega) hx
      have hj8 : j < 8 := by omega
      have hin : vp_in (nI j) 8 := vp_in_nI (by omega) (by omega)
      have hcl : (nI j).toNatClampNeg = j := nI_clamp (by omega)
      simp only [hcl] at hK
      simp only [gX1_odd_0, gX1_odd_1, gX1_odd_2, gX1_odd_5, gX1_odd_8, gX1_odd_9, gX1_odd_12, gX1_odd_15, gX1_odd_16, gX1_odd_17, gX1_odd_18, am_kill_int, am_kill_ref, am_kill_null, am_kill_F, am_kill_long, am_cat_n, am_cat_i, am_cat_r, am_cat_0, am_cat_l, am_nr_n, am_nr_i, am_nr_r, am_nr_0, am_nr_l, Option.toList_some, Option.toList_none, List.nil_append, List.cons_append, va_rf_s, va_rf_n, am_II, am_I_sR, am_I_sL, am_R_sI, am_RR, am_R_sL, am_L_sI, am_L_sR, am_LL, am_k_sI, am_k_sR, am_k_sL, am_n_sI, am_n_sR, am_n_sL, true_and, and_true, true_or, or_true, or_false, false_or, not_true_eq_false, not_false_eq_true, Nat.reduceLT, am_dS, am_dP, am_d1, Nat.reduceSub, Nat.reduceMul, ne_eq, Nat.reduceBEq, Nat.reduceAdd, Nat.reduceLeDiff, Nat.reduceEqDiff, and_self, and_false, false_and, if_true, if_false, am_nb, am_nb0, am_nb1, am_lc1, am_lc2, am_lc3, am_b0, am_b1, am_10, am_c8, am_c16, am_c24, am_c32, am_c40, am_c48, am_c56, am_c64, am_c72, Nat.add_zero, Bool.false_eq_true, Nat.zero_le, hk, wX1_isNest hN h8 hk, wX1_isColour, hx, hy]
      refine wX1_oddIf (d := d + 131) hC hj8 (fun ν h1 h2 => ?_)
      simp only [gX1_odd_21, gX1_odd_24, gX1_odd_27, gX1_odd_28, am_kill_int, am_kill_ref, am_kill_null, am_kill_F, am_kill_long, am_cat_n, am_cat_i, am_cat_r, am_cat_0, am_cat_l, am_nr_n, am_nr_i, am_nr_r, am_nr_0, am_nr_l, Option.toList_some, Option.toList_none, List.nil_append, List.cons_append, va_rf_s, va_rf_n, am_II, am_I_sR, am_I_sL, am_R_sI, am_RR, am_R_sL, am_L_sI, am_L_sR, am_LL, am_k_sI, am_k_sR, am_k_sL, am_n_sI, am_n_sR, am_n_sL, true_and, and_true, true_or, or_true, or_false, false_or, not_true_eq_false, not_false_eq_true, Nat.reduceLT, am_dS, am_dP, am_d1, Nat.reduceSub, Nat.reduceMul, ne_eq, Nat.reduceBEq, Nat.reduceAdd, Nat.reduceLeDiff, Nat.reduceEqDiff, and_self, and_false, false_and, if_true, if_false, am_nb, am_nb0, am_nb1, am_lc1, am_lc2, am_lc3, am_b0, am_b1, am_10, am_c8, am_c16, am_c24, am_c32, am_c40, am_c48, am_c56, am_c64, am_c72, Nat.add_zero, Bool.false_eq_true, Nat.zero_le, wX1_shown]
      obtain ⟨g1, g2, g3⟩ := jS_qc h1
      exact hK ν g1 g2 g3
    · simp only [hy, Bool.false_eq_true, and_false, if_false] at hK
      simp only [gX1_odd_0, gX1_odd_1, gX1_odd_2, gX1_odd_5, gX1_odd_8, gX1_odd_9, gX1_odd_12, gX1_odd_15, gX1_odd_16, gX1_odd_17, gX1_odd_18, gX1_odd_21, gX1_odd_24, gX1_odd_27, gX1_odd_28, am_kill_int, am_kill_ref, am_kill_null, am_kill_F, am_kill_long, am_cat_n, am_cat_i, am_cat_r, am_cat_0, am_cat_l, am_nr_n, am_nr_i, am_nr_r, am_nr_0, am_nr_l, Option.toList_some, Option.toList_none, List.nil_append, List.cons_append, va_rf_s, va_rf_n, am_II, am_I_sR, am_I_sL, am_R_sI, am_RR, am_R_sL, am_L_sI, am_L_sR, am_LL, am_k_sI, am_k_sR, am_k_sL, am_n_sI, am_n_sR, am_n_sL, true_and, and_true, true_or, or_true, or_false, false_or, not_true_eq_false, not_false_eq_true, Nat.reduceLT, am_dS, am_dP, am_d1, Nat.reduceSub, Nat.reduceMul, ne_eq, Nat.reduceBEq, Nat.reduceAdd, Nat.reduceLeDiff, Nat.reduceEqDiff, and_self, and_false, false_and, if_true, if_false, am_nb, am_nb0, am_nb1, am_lc1, am_lc2, am_lc3, am_b0, am_b1, am_10, am_c8, am_c16, am_c24, am_c32, am_c40, am_c48, am_c56, am_c64, am_c72, Nat.add_zero, Bool.false_eq_true, Nat.zero_le, hk, wX1_isNest hN h8 hk, wX1_isColour, hx, hy]
      exact hK μ Fw.refl TC0 (fun _ => rfl)
  · simp only [hx, Bool.false_eq_true, false_and, if_false] at hK
    simp only [gX1_odd_0, gX1_odd_1, gX1_odd_2, gX1_odd_5, gX1_odd_8, gX1_odd_9, gX1_odd_12, gX1_odd_15, gX1_odd_16, gX1_odd_17, gX1_odd_18, gX1_odd_21, gX1_odd_24, gX1_odd_27, gX1_odd_28, am_kill_int, am_kill_ref, am_kill_null, am_kill_F, am_kill_long, am_cat_n, am_cat_i, am_cat_r, am_cat_0, am_cat_l, am_nr_n, am_nr_i, am_nr_r, am_nr_0, am_nr_l, Option.toList_some, Option.toList_none, List.nil_append, List.cons_append, va_rf_s, va_rf_n, am_II, am_I_sR, am_I_sL, am_R_sI, am_RR, am_R_sL, am_L_sI, am_L_sR, am_LL, am_k_sI, am_k_sR, am_k_sL, am_n_sI, am_n_sR, am_n_sL, true_and, and_true, true_or, or_true, or_false, false_or, not_true_eq_false, not_false_eq_true, Nat.reduceLT, am_dS, am_dP, am_d1, Nat.reduceSub, Nat.reduceMul, ne_eq, Nat.reduceBEq, Nat.reduceAdd, Nat.reduceLeDiff, Nat.reduceEqDiff, and_self, and_false, false_and, if_true, if_false, am_nb, am_nb0, am_nb1, am_lc1, am_lc2, am_lc3, am_b0, am_b1, am_10, am_c8, am_c16, am_c24, am_c32, am_c40, am_c48, am_c56, am_c64, am_c72, Nat.add_zero, Bool.false_eq_true, Nat.zero_le, hk, wX1_isNest hN h8 hk, hx]
    exact hK μ Fw.refl TC0 (fun _ => rfl)
theorem q5_odd (hP : Per N C ru c μ) : Q5 mX3_odd [.ref 54, .int x, .int y] μ (vOdd N ru (cS μ 1) x y) none := by
  intro d K hK
  have hS := hP.1.2.1
  have hC := hS.1
  have hmu := hC.1
  unfold mL at hmu
  have hN := hC.2.1
  have h8 := hC.2.2.1
  unfold vOdd at hK
  by_cases hx : isN x N = true
  · by_cases hy : isN y 10 = true
    · simp only [if_pos (And.intro hx hy)] at hK
      obtain ⟨j, hj, rfl⟩ := isN_of (by omega) hx
      have hj8 : j < 8 := by omega
      have hin : vp_in (nI j) 8 := vp_in_nI (by omega) (by omega)
      have hcl : (nI j).toNatClampNeg = j := nI_clamp (by omega)
      simp only [hcl] at hK
      simp only [gX3_odd_5, gX3_odd_6, gX3_odd_7, gX3_odd_10, gX3_odd_13, gX3_odd_14, gX3_odd_17, gX3_odd_20, gX3_odd_21, gX3_odd_22, gX3_odd_25, gX3_odd_26, gX3_odd_27, am_kill_int, am_kill_ref, am_kill_null, am_kill_F, am_kill_long, am_cat_n, am_cat_i, am_cat_r, am_cat_0, am_cat_l, am_nr_n, am_nr_i, am_nr_r, am_nr_0, am_nr_l, Option.toList_some, Option.toList_none, List.nil_append, List.cons_append, va_rf_s, va_rf_n, am_I_sR, am_I_sL, am_R_sI, am_R_sL, am_L_sI, am_L_sR, am_k_sI, am_k_sR, am_k_sL, am_n_sI, am_n_sR, am_n_sL, true_and, and_true, true_or, or_true, or_false, false_or, not_true_eq_false, not_false_eq_true, Nat.reduceLT, am_dS, am_dP, am_d1, Nat.reduceSub, Nat.reduceMul, ne_eq, Nat.reduceBEq, Nat.reduceAdd, Nat.reduceLeDiff, Nat.reduceEqDiff, and_self, and_false, false_and, if_true, if_false, am_nb, am_nb0, am_nb1, am_lc1, am_lc2, am_lc3, am_b0, am_b1, am_10, am_c8, am_c16, am_c24, am_c32, am_c40, am_c48, am_c56, am_c64, am_c72, Nat.add_zero, Bool.false_eq_true, Nat.zero_le, hmu, wX3_isNest hC, wX3_isColour, hx, hy]
      refine wX3_oddLaid (d := d + 129) hS hj8 hmu.1.2.1 (fun ν h1 h2 => ?_)
      simp only [gX3_odd_30, gX3_odd_33, gX3_odd_36, gX3_odd_37, am_kill_int, am_kill_ref, am_kill_null, am_kill_F, am_kill_long, am_cat_n, am_cat_i, am_cat_r, am_cat_0, am_cat_l, am_nr_n, am_nr_i, am_nr_r, am_nr_0, am_nr_l, Option.toList_some, Option.toList_none, List.nil_append, List.cons_append, va_rf_s, va_rf_n, am_I_sR, am_I_sL, am_R_sI, am_R_sL, am_L_sI, am_L_sR, am_k_sI, am_k_sR, am_k_sL, am_n_sI, am_n_sR, am_n_sL, true_and, and_true, true_or, or_true, or_false, false_or, not_true_eq_false, not_false_eq_true, Nat.reduceLT, am_dS, am_dP, am_d1, Nat.reduceSub, Nat.reduceMul, ne_eq, Nat.reduceBEq, Nat.reduceAdd, Nat.reduceLeDiff, Nat.reduceEqDiff, and_self, and_false, false_and, if_true, if_false, am_nb, am_nb0, am_nb1, am_lc1, am_lc2, am_lc3, am_b0, am_b1, am_10, am_c8, am_c16, am_c24, am_c32, am_c40, am_c48, am_c56, am_c64, am_c72, Nat.add_zero, Bool.false_eq_true, Nat.zero_le, wX3_put]
      rw [← odd_L hS.2.2 h8 hP.2.1 hj]
      exact hK ν (jM_sM h1) h2 ⟨h1.1 54 6 (by unfold jM; omega), fun i => h1.L⟩ (fun i => h1.L)
    · simp only [hy, Bool.false_eq_true, and_false, if_false] at hK
      simp only [gX3_odd_5, gX3_odd_6, gX3_odd_7, gX3_odd_10, gX3_odd_13, gX3_odd_14, gX3_odd_17, gX3_odd_20, gX3_odd_21, gX3_odd_22, gX3_odd_25, gX3_odd_26, gX3_odd_27, gX3_odd_30, gX3_odd_33, gX3_odd_36, gX3_odd_37, am_kill_int, am_kill_ref, am_kill_null, am_kill_F, am_kill_long, am_cat_n, am_cat_i, am_cat_r, am_cat_0, am_cat_l, am_nr_n, am_nr_i, am_nr_r, am_nr_0, am_nr_l, Option.toList_some, Option.toList_none, List.nil_append, List.cons_append, va_rf_s, va_rf_n, am_I_sR, am_I_sL, am_R_sI, am_R_sL, am_L_sI, am_L_sR, am_k_sI, am_k_sR, am_k_sL, am_n_sI, am_n_sR, am_n_sL, true_and, and_true, true_or, or_true, or_false, false_or, not_true_eq_false, not_false_eq_true, Nat.reduceLT, am_dS, am_dP, am_d1, Nat.reduceSub, Nat.reduceMul, ne_eq, Nat.reduceBEq, Nat.reduceAdd, Nat.reduceLeDiff, Nat.reduceEqDiff, and_self, and_false, false_and, if_true, if_false, am_nb, am_nb0, am_nb1, am_lc1, am_lc2, am_lc3, am_b0, am_b1, am_10, am_c8, am_c16, am_c24, am_c32, am_c40, am_c48, am_c56, am_c64, am_c72, Nat.add_zero, Bool.false_eq_true, Nat.zero_le, hmu, wX3_isNest hC, wX3_isColour, hx, hy]
      exact hK μ Fw.refl hP.h17 TN0 (fun _ => rfl)
  · simp only [hx, Bool.false_eq_true, false_and, if_false] at hK
    simp only [gX3_odd_5, gX3_odd_6, gX3_odd_7, gX3_odd_10, gX3_odd_13, gX3_odd_14, gX3_odd_17, gX3_odd_20, gX3_odd_21, gX3_odd_22, gX3_odd_25, gX3_odd_26, gX3_odd_27, gX3_odd_30, gX3_odd_33, gX3_odd_36, gX3_odd_37, am_kill_int, am_kill_ref, am_kill_null, am_kill_F, am_kill_long, am_cat_n, am_cat_i, am_cat_r, am_cat_0, am_cat_l, am_nr_n, am_nr_i, am_nr_r, am_nr_0, am_nr_l, Option.toList_some, Option.toList_none, List.nil_append, List.cons_append, va_rf_s, va_rf_n, am_I_sR, am_I_sL, am_R_sI, am_R_sL, am_L_sI, am_L_sR, am_k_sI, am_k_sR, am_k_sL, am_n_sI, am_n_sR, am_n_sL, true_and, and_true, true_or, or_true, or_false, false_or, not_true_eq_false, not_false_eq_true, Nat.reduceLT, am_dS, am_dP, am_d1, Nat.reduceSub, Nat.reduceMul, ne_eq, Nat.reduceBEq, Nat.reduceAdd, Nat.reduceLeDiff, Nat.reduceEqDiff, and_self, and_false, false_and, if_true, if_false, am_nb, am_nb0, am_nb1, am_lc1, am_lc2, am_lc3, am_b0, am_b1, am_10, am_c8, am_c16, am_c24, am_c32, am_c40, am_c48, am_c56, am_c64, am_c72, Nat.add_zero, Bool.false_eq_true, Nat.zero_le, hmu, wX3_isNest hC, hx]
    exact hK μ Fw.refl hP.h17 TN0 (fun _ => rfl)
theorem op_odd (hI : Inv q μ) : OP q mX1_odd mX3_odd [.ref 0, .int x, .int y] [.ref 54, .int x, .int y] μ :=
  op_S (V := fun N ru _ S => vOdd N ru S x y) (P := fun _ _ _ _ => none) (fun hP => qc_odd hP) (fun d K μ h h' => by simp only [gX3_odd_0, gX3_odd_1, gX3_odd_2, am_kill_int, am_kill_ref, am_kill_null, am_kill_F, am_kill_long, am_cat_n, am_cat_i, am_cat_r, am_cat_0, am_cat_l, am_nr_n, am_nr_i, am_nr_r, am_nr_0, am_nr_l, Option.toList_some, Option.toList_none, List.nil_append, List.cons_append, va_rf_s, va_rf_n, am_I_sR, am_I_sL, am_R_sI, am_R_sL, am_L_sI, am_L_sR, am_k_sI, am_k_sR, am_k_sL, am_n_sI, am_n_sR, am_n_sL, true_and, and_true, true_or, or_true, or_false, false_or, not_true_eq_false, not_false_eq_true, Nat.reduceLT, am_dS, am_dP, am_d1, Nat.reduceSub, Nat.reduceMul, ne_eq, Nat.reduceBEq, Nat.reduceAdd, Nat.reduceLeDiff, Nat.reduceEqDiff, and_self, and_false, false_and, if_true, if_false, am_nb, am_nb0, am_nb1, am_lc1, am_lc2, am_lc3, am_b0, am_b1, am_10, am_c8, am_c16, am_c24, am_c32, am_c40, am_c48, am_c56, am_c64, am_c72, Nat.add_zero, Bool.false_eq_true, Nat.zero_le, h]; exact h') (fun hP => q5_odd hP) hI
end OAV
