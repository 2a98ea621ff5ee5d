/-! calls that ask: flies, where -/
set_option maxRecDepth 100000
section ODVV
variable {d : Nat} {μ ν ξ : am_M} {K : Option Value → am_M → Prop} {x y z c w : Int32} {h h' N C j i k r n M b q : Nat} {v : Int32} {ru : Option PF} {p : Int64} {o : Nat → Int32} {S : Nat → Int32}
def rFli (N : Nat) (ru : Option PF) (S : Nat → Int32) (j : Nat) (y : Int32) : Int32 × (Nat → Int32) := fliC N ru j 60 1 (lieT S j y)
def vFli (N : Nat) (ru : Option PF) (S : Nat → Int32) (x y : Int32) : Int32 := if isN x N = true ∧ isN y 10 = true then (if S (48 + x.toNatClampNeg) = 0 then (if (rFli N ru S x.toNatClampNeg y).1 < 0 then -2 else (rFli N ru S x.toNatClampNeg y).1) else -3) else -1
def pFli (N : Nat) (ru : Option PF) (S : Nat → Int32) (x y : Int32) : Option (List Int64) := if isN x N = true ∧ isN y 10 = true then (if S (48 + x.toNatClampNeg) = 0 then (if (rFli N ru S x.toNatClampNeg y).1 < 0 then none else some [((rFli N ru S x.toNatClampNeg y).2 82 - S 82).toInt64]) else none) else none
theorem isC_r (hy : isN y 10 = true) : 0 ≤ y ∧ y ≤ 9 := by
  unfold isN at hy
  rw [decide_eq_true_eq] at hy
  exact hy
theorem qc_flies (hP : Per N C ru c μ) : QC mX1_flies [.ref 0, .int x, .int y, am_F] μ (vFli N ru (cS μ 1) x y) (pFli N ru (cS μ 1) x y) := by
  intro d K hK
  have hC := hP.1.1
  have hcu := hC.1
  simp only [cL, spL, Nat.reduceAdd] at hcu
  have hN := hC.2.1
  have h8 := hC.2.2.1
  have hk := hC.1.c
  unfold vFli pFli at hK
  by_cases hx : isN x N = true
  · by_cases hy : isN y 10 = true
    · simp only [if_pos (And.intro hx hy)] at hK
      obtain ⟨j, hj, rfl⟩ := isN_of (by omega) hx
      have hj8 : j < 8 := by omega
      have hin : vp_in (nI j) 8 := vp_in_nI (by omega) (by omega)
      have hcl : (nI j).toNatClampNeg = j := nI_clamp (by omega)
      simp only [hcl] at hK
      have e6 : am_I μ 8 j = cS μ 1 (48 + j) := (cS_6 hj8).symm
      by_cases h0 : cS μ 1 (48 + j) = 0
      · simp only [if_pos h0] at hK
        simp only [gX1_flies_0, gX1_flies_1, gX1_flies_2, gX1_flies_5, gX1_flies_8, gX1_flies_9, gX1_flies_12, gX1_flies_15, gX1_flies_16, gX1_flies_17, gX1_flies_18, gX1_flies_21, gX1_flies_24, gX1_flies_25, gX1_flies_26, gX1_flies_29, gX1_flies_31, gX1_flies_32, gX1_flies_33, gX1_flies_36, gX1_flies_37, gX1_flies_40, am_kill_int, am_kill_ref, am_kill_null, am_kill_F, am_kill_long, am_cat_n, am_cat_i, am_cat_r, am_cat_0, am_cat_l, am_nr_n, am_nr_i, am_nr_r, am_nr_0, am_nr_l, Option.toList_some, Option.toList_none, List.nil_append, List.cons_append, va_rf_s, va_rf_n, am_II, am_I_sR, am_I_sL, am_R_sI, am_RR, am_R_sL, am_L_sI, am_L_sR, am_LL, am_k_sI, am_k_sR, am_k_sL, am_n_sI, am_n_sR, am_n_sL, true_and, and_true, true_or, or_true, or_false, false_or, not_true_eq_false, not_false_eq_true, Nat.reduceLT, am_dS, am_dP, am_d1, Nat.reduceSub, Nat.reduceMul, ne_eq, Nat.reduceBEq, Nat.reduceAdd, Nat.reduceLeDiff, Nat.reduceEqDiff, and_self, and_false, false_and, if_true, if_false, am_nb, am_nb0, am_nb1, am_lc1, am_lc2, am_lc3, am_b0, am_b1, am_10, am_c8, am_c16, am_c24, am_c32, am_c40, am_c48, am_c56, am_c64, am_c72, Nat.add_zero, Bool.false_eq_true, Nat.zero_le, hcu, wX1_isNest hN h8 hk, wX1_isColour, hx, hy, hin, hcl, e6, h0]
        refine wX2_becomes (d := d + 198) hC.1.s1 hC.1.s2 (by decide) (fun ν hF hT => ?_)
        have hF' : Fr (jS 12) μ ν := hF.le fun a b q => Or.inl q
        have hC1 := hC.js (by decide) (by decide) hF'
        have hcu1 := hC1.1
        simp only [cL, spL, Nat.reduceAdd] at hcu1
        simp only [gX1_flies_43, gX1_flies_44, gX1_flies_47, gX1_flies_48, gX1_flies_49, am_kill_int, am_kill_ref, am_kill_null, am_kill_F, am_kill_long, am_cat_n, am_cat_i, am_cat_r, am_cat_0, am_cat_l, am_nr_n, am_nr_i, am_nr_r, am_nr_0, am_nr_l, Option.toList_some, Option.toList_none, List.nil_append, List.cons_append, va_rf_s, va_rf_n, am_II, am_I_sR, am_I_sL, am_R_sI, am_RR, am_R_sL, am_L_sI, am_L_sR, am_LL, am_k_sI, am_k_sR, am_k_sL, am_n_sI, am_n_sR, am_n_sL, true_and, and_true, true_or, or_true, or_false, false_or, not_true_eq_false, not_false_eq_true, Nat.reduceLT, am_dS, am_dP, am_d1, Nat.reduceSub, Nat.reduceMul, ne_eq, Nat.reduceBEq, Nat.reduceAdd, Nat.reduceLeDiff, Nat.reduceEqDiff, and_self, and_false, false_and, if_true, if_false, am_nb, am_nb0, am_nb1, am_lc1, am_lc2, am_lc3, am_b0, am_b1, am_10, am_c8, am_c16, am_c24, am_c32, am_c40, am_c48, am_c56, am_c64, am_c72, Nat.add_zero, Bool.false_eq_true, Nat.zero_le, hcu1]
        refine wX2_liesK (d := d + 198) hj8 hC1.1.s2 (fun ν1 hF1 hT1 => ?_)
        have hF1' := hF'.trans (hF1.le fun a b q => (Or.inl q : jS 12 a b))
        have hC2 := hC.js (by decide) (by decide) hF1'
        simp only [gX1_flies_52, gX1_flies_53, gX1_flies_54, am_kill_int, am_kill_ref, am_kill_null, am_kill_F, am_kill_long, am_cat_n, am_cat_i, am_cat_r, am_cat_0, am_cat_l, am_nr_n, am_nr_i, am_nr_r, am_nr_0, am_nr_l, Option.toList_some, Option.toList_none, List.nil_append, List.cons_append, va_rf_s, va_rf_n, am_II, am_I_sR, am_I_sL, am_R_sI, am_RR, am_R_sL, am_L_sI, am_L_sR, am_LL, am_k_sI, am_k_sR, am_k_sL, am_n_sI, am_n_sR, am_n_sL, true_and, and_true, true_or, or_true, or_false, false_or, not_true_eq_false, not_false_eq_true, Nat.reduceLT, am_dS, am_dP, am_d1, Nat.reduceSub, Nat.reduceMul, ne_eq, Nat.reduceBEq, Nat.reduceAdd, Nat.reduceLeDiff, Nat.reduceEqDiff, and_self, and_false, false_and, if_true, if_false, am_nb, am_nb0, am_nb1, am_lc1, am_lc2, am_lc3, am_b0, am_b1, am_10, am_c8, am_c16, am_c24, am_c32, am_c40, am_c48, am_c56, am_c64, am_c72, Nat.add_zero, Bool.false_eq_true, Nat.zero_le, hC2.1.c]
        refine wX1_fliesIn (d := d + 130) hC2 hj8 (fun ν2 hF2 hT2 => ?_)
        have hF3 := hF1'.trans hF2
        have hC3 := hC.js (by decide) (by decide) hF3
        have hcu3 := hC3.1
        simp only [cL, spL, Nat.reduceAdd] at hcu3
        rw [hT1, hT] at hT2 ⊢
        obtain ⟨g1, g2, g3⟩ := jS_qc hF3
        by_cases hr : (rFli N ru (cS μ 1) j y).1 < 0
        · simp only [if_pos hr] at hK
          unfold rFli at hr
          simp only [gX1_flies_57, gX1_flies_58, gX1_flies_59, gX1_flies_62, gX1_flies_64, am_kill_int, am_kill_ref, am_kill_null, am_kill_F, am_kill_long, am_cat_n, am_cat_i, am_cat_r, am_cat_0, am_cat_l, am_nr_n, am_nr_i, am_nr_r, am_nr_0, am_nr_l, Option.toList_some, Option.toList_none, List.nil_append, List.cons_append, va_rf_s, va_rf_n, am_II, am_I_sR, am_I_sL, am_R_sI, am_RR, am_R_sL, am_L_sI, am_L_sR, am_LL, am_k_sI, am_k_sR, am_k_sL, am_n_sI, am_n_sR, am_n_sL, true_and, and_true, true_or, or_true, or_false, false_or, not_true_eq_false, not_false_eq_true, Nat.reduceLT, am_dS, am_dP, am_d1, Nat.reduceSub, Nat.reduceMul, ne_eq, Nat.reduceBEq, Nat.reduceAdd, Nat.reduceLeDiff, Nat.reduceEqDiff, and_self, and_false, false_and, if_true, if_false, am_nb, am_nb0, am_nb1, am_lc1, am_lc2, am_lc3, am_b0, am_b1, am_10, am_c8, am_c16, am_c24, am_c32, am_c40, am_c48, am_c56, am_c64, am_c72, Nat.add_zero, Bool.false_eq_true, Nat.zero_le, Int32.not_le.mpr hr]
          exact hK ν2 g1 g2 g3
        · simp only [if_neg hr] at hK
          have f1 : am_I ν2 12 12 = (rFli N ru (cS μ 1) j y).2 82 := by unfold rFli; rw [← hT2]; rfl
          have f2 : am_I ν2 1 12 = cS μ 1 82 := by rw [← jS_1 hF3]; rfl
          unfold rFli at hr
          simp only [gX1_flies_57, gX1_flies_58, gX1_flies_59, gX1_flies_62, gX1_flies_64, gX1_flies_65, gX1_flies_66, gX1_flies_67, gX1_flies_70, gX1_flies_71, gX1_flies_72, gX1_flies_75, gX1_flies_78, gX1_flies_79, gX1_flies_82, gX1_flies_85, gX1_flies_86, gX1_flies_87, gX1_flies_90, gX1_flies_91, am_kill_int, am_kill_ref, am_kill_null, am_kill_F, am_kill_long, am_cat_n, am_cat_i, am_cat_r, am_cat_0, am_cat_l, am_nr_n, am_nr_i, am_nr_r, am_nr_0, am_nr_l, Option.toList_some, Option.toList_none, List.nil_append, List.cons_append, va_rf_s, va_rf_n, am_II, am_I_sR, am_I_sL, am_R_sI, am_RR, am_R_sL, am_L_sI, am_L_sR, am_LL, am_k_sI, am_k_sR, am_k_sL, am_n_sI, am_n_sR, am_n_sL, true_and, and_true, true_or, or_true, or_false, false_or, not_true_eq_false, not_false_eq_true, Nat.reduceLT, am_dS, am_dP, am_d1, Nat.reduceSub, Nat.reduceMul, ne_eq, Nat.reduceBEq, Nat.reduceAdd, Nat.reduceLeDiff, Nat.reduceEqDiff, and_self, and_false, false_and, if_true, if_false, am_nb, am_nb0, am_nb1, am_lc1, am_lc2, am_lc3, am_b0, am_b1, am_10, am_c8, am_c16, am_c24, am_c32, am_c40, am_c48, am_c56, am_c64, am_c72, Nat.add_zero, Bool.false_eq_true, Nat.zero_le, Int32.not_lt.mp hr, hcu3, f1, f2, wX1_tells0]
          refine hK _ (((g1.I (by unfold sC; omega)).L (Or.inl rfl)).I (by unfold sC; omega)) (TC1 ?_ ?_) (fun i => ?_)
          · simp only [am_II, and_self, if_true]
          · simp only [am_L_sI, am_LL, and_self, if_true]
          · simp only [am_L_sI, am_LL, Nat.reduceEqDiff, false_and, if_false]; exact hF3.L
      · simp only [if_neg h0] at hK
        simp only [gX1_flies_0, gX1_flies_1, gX1_flies_2, gX1_flies_5, gX1_flies_8, gX1_flies_9, gX1_flies_12, gX1_flies_15, gX1_flies_16, gX1_flies_17, gX1_flies_18, gX1_flies_21, gX1_flies_24, gX1_flies_25, gX1_flies_26, gX1_flies_29, gX1_flies_31, am_kill_int, am_kill_ref, am_kill_null, am_kill_F, am_kill_long, am_cat_n, am_cat_i, am_cat_r, am_cat_0, am_cat_l, am_nr_n, am_nr_i, am_nr_r, am_nr_0, am_nr_l, Option.toList_some, Option.toList_none, List.nil_append, List.cons_append, va_rf_s, va_rf_n, am_II, am_I_sR, am_I_sL, am_R_sI, am_RR, am_R_sL, am_L_sI, am_L_sR, am_LL, am_k_sI, am_k_sR, am_k_sL, am_n_sI, am_n_sR, am_n_sL, true_and, and_true, true_or, or_true, or_false, false_or, not_true_eq_false, not_false_eq_true, Nat.reduceLT, am_dS, am_dP, am_d1, Nat.reduceSub, Nat.reduceMul, ne_eq, Nat.reduceBEq, Nat.reduceAdd, Nat.reduceLeDiff, Nat.reduceEqDiff, and_self, and_false, false_and, if_true, if_false, am_nb, am_nb0, am_nb1, am_lc1, am_lc2, am_lc3, am_b0, am_b1, am_10, am_c8, am_c16, am_c24, am_c32, am_c40, am_c48, am_c56, am_c64, am_c72, Nat.add_zero, Bool.false_eq_true, Nat.zero_le, hcu, wX1_isNest hN h8 hk, wX1_isColour, hx, hy, hin, hcl, e6, h0]
        exact hK μ Fw.refl TC0 (fun _ => rfl)
    · simp only [hy, Bool.false_eq_true, and_false, if_false] at hK
      simp only [gX1_flies_0, gX1_flies_1, gX1_flies_2, gX1_flies_5, gX1_flies_8, gX1_flies_9, gX1_flies_12, gX1_flies_15, gX1_flies_16, am_kill_int, am_kill_ref, am_kill_null, am_kill_F, am_kill_long, am_cat_n, am_cat_i, am_cat_r, am_cat_0, am_cat_l, am_nr_n, am_nr_i, am_nr_r, am_nr_0, am_nr_l, Option.toList_some, Option.toList_none, List.nil_append, List.cons_append, va_rf_s, va_rf_n, am_II, am_I_sR, am_I_sL, am_R_sI, am_RR, am_R_sL, am_L_sI, am_L_sR, am_LL, am_k_sI, am_k_sR, am_k_sL, am_n_sI, am_n_sR, am_n_sL, true_and, and_true, true_or, or_true, or_false, false_or, not_true_eq_false, not_false_eq_true, Nat.reduceLT, am_dS, am_dP, am_d1, Nat.reduceSub, Nat.reduceMul, ne_eq, Nat.reduceBEq, Nat.reduceAdd, Nat.reduceLeDiff, Nat.reduceEqDiff, and_self, and_false, false_and, if_true, if_false, am_nb, am_nb0, am_nb1, am_lc1, am_lc2, am_lc3, am_b0, am_b1, am_10, am_c8, am_c16, am_c24, am_c32, am_c40, am_c48, am_c56, am_c64, am_c72, Nat.add_zero, Bool.false_eq_true, Nat.zero_le, hk, wX1_isNest hN h8 hk, wX1_isColour, hx, hy]
      exact hK μ Fw.refl TC0 (fun _ => rfl)
  · simp only [hx, Bool.false_eq_true, false_and, if_false] at hK
    simp only [gX1_flies_0, gX1_flies_1, gX1_flies_2, gX1_flies_5, gX1_flies_8, gX1_flies_9, gX1_flies_12, gX1_flies_15, gX1_flies_16, am_kill_int, am_kill_ref, am_kill_null, am_kill_F, am_kill_long, am_cat_n, am_cat_i, am_cat_r, am_cat_0, am_cat_l, am_nr_n, am_nr_i, am_nr_r, am_nr_0, am_nr_l, Option.toList_some, Option.toList_none, List.nil_append, List.cons_append, va_rf_s, va_rf_n, am_II, am_I_sR, am_I_sL, am_R_sI, am_RR, am_R_sL, am_L_sI, am_L_sR, am_LL, am_k_sI, am_k_sR, am_k_sL, am_n_sI, am_n_sR, am_n_sL, true_and, and_true, true_or, or_true, or_false, false_or, not_true_eq_false, not_false_eq_true, Nat.reduceLT, am_dS, am_dP, am_d1, Nat.reduceSub, Nat.reduceMul, ne_eq, Nat.reduceBEq, Nat.reduceAdd, Nat.reduceLeDiff, Nat.reduceEqDiff, and_self, and_false, false_and, if_true, if_false, am_nb, am_nb0, am_nb1, am_lc1, am_lc2, am_lc3, am_b0, am_b1, am_10, am_c8, am_c16, am_c24, am_c32, am_c40, am_c48, am_c56, am_c64, am_c72, Nat.add_zero, Bool.false_eq_true, Nat.zero_le, hk, wX1_isNest hN h8 hk, hx]
    exact hK μ Fw.refl TC0 (fun _ => rfl)
theorem q5_flies (hP : Per N C ru c μ) : Q5 mX3_flies [.ref 54, .int x, .int y, am_F] μ (vFli N ru (cS μ 1) x y) (pFli N ru (cS μ 1) x y) := by
  intro d K hK
  have hS := hP.1.2.1
  have hC := hS.1
  have hmu := hC.1
  unfold mL at hmu
  have hN := hC.2.1
  have h8 := hC.2.2.1
  unfold vFli pFli at hK
  have z82 : (82 : Int32).toNatClampNeg = 82 := by decide
  have v82 : vp_in 82 83 := vp_in_nI (n := 82) (by decide) (by decide)
  by_cases hx : isN x N = true
  · by_cases hy : isN y 10 = true
    · simp only [if_pos (And.intro hx hy)] at hK
      obtain ⟨j, hj, rfl⟩ := isN_of (by omega) hx
      have hj8 : j < 8 := by omega
      have hin : vp_in (nI j) 8 := vp_in_nI (by omega) (by omega)
      have hcl : (nI j).toNatClampNeg = j := nI_clamp (by omega)
      simp only [hcl] at hK
      have e6 : am_I μ 55 (48 + j) = cS μ 1 (48 + j) := (hP.2.1.r6 hj).symm
      have hv : vp_in (nI (48 + j)) 83 := vp_in_nI (by omega) (by omega)
      have hc48 : (nI (48 + j)).toNatClampNeg = 48 + j := nI_clamp (by omega)
      by_cases h0 : cS μ 1 (48 + j) = 0
      · simp only [if_pos h0] at hK
        simp only [gX3_flies_5, gX3_flies_6, gX3_flies_7, gX3_flies_10, gX3_flies_13, gX3_flies_14, gX3_flies_17, gX3_flies_20, gX3_flies_21, gX3_flies_22, gX3_flies_23, gX3_flies_26, gX3_flies_28, gX3_flies_29, gX3_flies_30, gX3_flies_31, gX3_flies_34, gX3_flies_36, gX3_flies_37, gX3_flies_38, gX3_flies_41, gX3_flies_42, gX3_flies_45, gX3_flies_46, am_kill_int, am_kill_ref, am_kill_null, am_kill_F, am_kill_long, am_cat_n, am_cat_i, am_cat_r, am_cat_0, am_cat_l, am_nr_n, am_nr_i, am_nr_r, am_nr_0, am_nr_l, Option.toList_some, Option.toList_none, List.nil_append, List.cons_append, va_rf_s, va_rf_n, am_I_sR, am_I_sL, am_R_sI, am_R_sL, am_L_sI, am_L_sR, am_k_sI, am_k_sR, am_k_sL, am_n_sI, am_n_sR, am_n_sL, true_and, and_true, true_or, or_true, or_false, false_or, not_true_eq_false, not_false_eq_true, Nat.reduceLT, am_dS, am_dP, am_d1, Nat.reduceSub, Nat.reduceMul, ne_eq, Nat.reduceBEq, Nat.reduceAdd, Nat.reduceLeDiff, Nat.reduceEqDiff, and_self, and_false, false_and, if_true, if_false, am_nb, am_nb0, am_nb1, am_lc1, am_lc2, am_lc3, am_b0, am_b1, am_10, am_c8, am_c16, am_c24, am_c32, am_c40, am_c48, am_c56, am_c64, am_c72, Nat.add_zero, Bool.false_eq_true, Nat.zero_le, hmu, wX3_isNest hC, wX3_isColour, hx, hy, hv, hc48, e6, h0]
        refine wX3_lay00 hmu.1.2.1 hmu.1.2.2.2.2.2.2.2.2.2.2.1 (by decide) (fun ν hF hT => ?_)
        have hF' := spH_sM (by decide) hF
        have h17' : am_I ν 54 17 = 0 := (hF.1 54 17 (by decide)).trans hP.h17
        have hS1 := hS.sMm hF' h17'
        have hmν := hS1.1.1
        unfold mL at hmν
        have hsim := hP.2.1.row h8 hT
        simp only [gX3_flies_49, gX3_flies_50, gX3_flies_53, gX3_flies_54, gX3_flies_55, am_kill_int, am_kill_ref, am_kill_null, am_kill_F, am_kill_long, am_cat_n, am_cat_i, am_cat_r, am_cat_0, am_cat_l, am_nr_n, am_nr_i, am_nr_r, am_nr_0, am_nr_l, Option.toList_some, Option.toList_none, List.nil_append, List.cons_append, va_rf_s, va_rf_n, am_I_sR, am_I_sL, am_R_sI, am_R_sL, am_L_sI, am_L_sR, am_k_sI, am_k_sR, am_k_sL, am_n_sI, am_n_sR, am_n_sL, true_and, and_true, true_or, or_true, or_false, false_or, not_true_eq_false, not_false_eq_true, Nat.reduceLT, am_dS, am_dP, am_d1, Nat.reduceSub, Nat.reduceMul, ne_eq, Nat.reduceBEq, Nat.reduceAdd, Nat.reduceLeDiff, Nat.reduceEqDiff, and_self, and_false, false_and, if_true, if_false, am_nb, am_nb0, am_nb1, am_lc1, am_lc2, am_lc3, am_b0, am_b1, am_10, am_c8, am_c16, am_c24, am_c32, am_c40, am_c48, am_c56, am_c64, am_c72, Nat.add_zero, Bool.false_eq_true, Nat.zero_le, hmν]
        refine wX3_goLayK (d := d + 198) hj8 hmν.1.2.2.2.2.2.2.2.2.2.2.1 (fun ν1 hF1 hT1 => ?_)
        have hF1' := hF'.trans (spH_sM (by decide) hF1)
        have h171 : am_I ν1 54 17 = 0 := (hF1.1 54 17 (by decide)).trans h17'
        have hS2 := hS.sMm hF1' h171
        have hmν1 := hS2.1.1
        unfold mL at hmν1
        have hsim1 := hsim.lie (x := y) h8 hj (isC_r hy)
        rw [← hT1] at hsim1
        simp only [gX3_flies_58, gX3_flies_59, gX3_flies_60, gX3_flies_63, gX3_flies_64, am_kill_int, am_kill_ref, am_kill_null, am_kill_F, am_kill_long, am_cat_n, am_cat_i, am_cat_r, am_cat_0, am_cat_l, am_nr_n, am_nr_i, am_nr_r, am_nr_0, am_nr_l, Option.toList_some, Option.toList_none, List.nil_append, List.cons_append, va_rf_s, va_rf_n, am_I_sR, am_I_sL, am_R_sI, am_R_sL, am_L_sI, am_L_sR, am_k_sI, am_k_sR, am_k_sL, am_n_sI, am_n_sR, am_n_sL, true_and, and_true, true_or, or_true, or_false, false_or, not_true_eq_false, not_false_eq_true, Nat.reduceLT, am_dS, am_dP, am_d1, Nat.reduceSub, Nat.reduceMul, ne_eq, Nat.reduceBEq, Nat.reduceAdd, Nat.reduceLeDiff, Nat.reduceEqDiff, and_self, and_false, false_and, if_true, if_false, am_nb, am_nb0, am_nb1, am_lc1, am_lc2, am_lc3, am_b0, am_b1, am_10, am_c8, am_c16, am_c24, am_c32, am_c40, am_c48, am_c56, am_c64, am_c72, Nat.add_zero, Bool.false_eq_true, Nat.zero_le, hmν1]
        refine wX3_fliesIn (d := d + 126) hS2 (by decide) hmν1.1.2.2.2.2.2.2.2.2.2.2.1 hj8 (fun ν2 hF2 h172 hT2 => ?_)
        have hF3 := hF1'.trans (jH_sM (by decide) hF2)
        have hS3 := hS.sMm hF3 h172
        have hmν2 := hS3.1.1
        unfold mL at hmν2
        obtain ⟨hs2, hs3⟩ := Sim.fli hS.2.2 h8 hj 60 1 _ _ hsim1
        rw [← hT2] at hs2
        have r55 : am_I ν2 55 = am_I μ 55 := funext fun b => hF3.1 55 b (by unfold sM; omega)
        have hL57 : ∀ i, am_L ν2 57 i = am_L μ 57 i := fun i => by rw [hF2.L, hF1.L, hF.L]
        have hL53 : ∀ i, am_L ν2 53 i = am_L μ 53 i := fun i => by rw [hF2.L, hF1.L, hF.L]
        have h6 : am_I ν2 54 6 = am_I μ 54 6 := (hF2.1 54 6 (by unfold jH jM; omega)).trans ((hF1.1 54 6 (by decide)).trans (hF.1 54 6 (by decide)))
        rcases hs3 with ⟨e, q, hq1, hq2, hq3⟩ | ⟨e1, e2⟩
        · have hr : ¬ (rFli N ru (cS μ 1) j y).1 < 0 := by
            unfold rFli
            rw [hq1, ← nI_0]; exact nI_nlt (by omega) (by omega)
          simp only [if_neg hr] at hK
          unfold rFli at hr hK
          rw [← e]
          have f1 : am_I ν2 64 82 = (fliC N ru j 60 1 (lieT (cS μ 1) j y)).2 82 := hs2.2.2.2.symm
          have f2 : am_I ν2 55 82 = cS μ 1 82 := by rw [r55]; exact hP.2.1.2.2.2.symm
          simp only [gX3_flies_67, gX3_flies_68, gX3_flies_69, gX3_flies_72, gX3_flies_74, gX3_flies_75, gX3_flies_76, gX3_flies_77, gX3_flies_80, gX3_flies_81, gX3_flies_82, gX3_flies_85, gX3_flies_87, gX3_flies_88, gX3_flies_89, gX3_flies_92, gX3_flies_94, gX3_flies_95, gX3_flies_96, gX3_flies_97, gX3_flies_100, gX3_flies_101, am_kill_int, am_kill_ref, am_kill_null, am_kill_F, am_kill_long, am_cat_n, am_cat_i, am_cat_r, am_cat_0, am_cat_l, am_nr_n, am_nr_i, am_nr_r, am_nr_0, am_nr_l, Option.toList_some, Option.toList_none, List.nil_append, List.cons_append, va_rf_s, va_rf_n, am_II, am_I_sR, am_I_sL, am_R_sI, am_RR, am_R_sL, am_L_sI, am_L_sR, am_LL, am_k_sI, am_k_sR, am_k_sL, am_n_sI, am_n_sR, am_n_sL, true_and, and_true, true_or, or_true, or_false, false_or, not_true_eq_false, not_false_eq_true, Nat.reduceLT, am_dS, am_dP, am_d1, Nat.reduceSub, Nat.reduceMul, ne_eq, Nat.reduceBEq, Nat.reduceAdd, Nat.reduceLeDiff, Nat.reduceEqDiff, and_self, and_false, false_and, if_true, if_false, am_nb, am_nb0, am_nb1, am_lc1, am_lc2, am_lc3, am_b0, am_b1, am_10, am_c8, am_c16, am_c24, am_c32, am_c40, am_c48, am_c56, am_c64, am_c72, Nat.add_zero, Bool.false_eq_true, Nat.zero_le, Int32.not_lt.mp hr, hmν2, z82, v82, f1, f2, wX3_tell0]
          refine hK _ (((hF3.I (by unfold sM; omega)).L (Or.inr rfl)).I (by unfold sM; omega)) ?_ (TN1 ?_ ?_) (fun i => ?_)
          · simp only [am_II, am_I_sL, Nat.reduceEqDiff, and_false, if_false]; exact h172
          · simp only [am_II, and_self, if_true]
          · simp only [am_L_sI, am_LL, and_self, if_true]
          · simp only [am_L_sI, am_LL, Nat.reduceEqDiff, false_and, if_false]; exact hL53 i
        · have hr : (rFli N ru (cS μ 1) j y).1 < 0 := by
            unfold rFli
            rw [e1]; decide
          simp only [if_pos hr] at hK
          have m2 : ¬ (0 : Int32) ≤ -2 := by decide
          rw [e2]
          simp only [gX3_flies_67, gX3_flies_68, gX3_flies_69, gX3_flies_72, gX3_flies_74, am_kill_int, am_kill_ref, am_kill_null, am_kill_F, am_kill_long, am_cat_n, am_cat_i, am_cat_r, am_cat_0, am_cat_l, am_nr_n, am_nr_i, am_nr_r, am_nr_0, am_nr_l, Option.toList_some, Option.toList_none, List.nil_append, List.cons_append, va_rf_s, va_rf_n, am_I_sR, am_I_sL, am_R_sI, am_R_sL, am_L_sI, am_L_sR, am_k_sI, am_k_sR, am_k_sL, am_n_sI, am_n_sR, am_n_sL, true_and, and_true, true_or, or_true, or_false, false_or, not_true_eq_false, not_false_eq_true, Nat.reduceLT, am_dS, am_dP, am_d1, Nat.reduceSub, Nat.reduceMul, ne_eq, Nat.reduceBEq, Nat.reduceAdd, Nat.reduceLeDiff, Nat.reduceEqDiff, and_self, and_false, false_and, if_true, if_false, am_nb, am_nb0, am_nb1, am_lc1, am_lc2, am_lc3, am_b0, am_b1, am_10, am_c8, am_c16, am_c24, am_c32, am_c40, am_c48, am_c56, am_c64, am_c72, Nat.add_zero, Bool.false_eq_true, Nat.zero_le, m2]
          exact hK ν2 hF3 h172 ⟨h6, hL57⟩ hL53
      · simp only [if_neg h0] at hK
        simp only [gX3_flies_5, gX3_flies_6, gX3_flies_7, gX3_flies_10, gX3_flies_13, gX3_flies_14, gX3_flies_17, gX3_flies_20, gX3_flies_21, gX3_flies_22, gX3_flies_23, gX3_flies_26, gX3_flies_28, gX3_flies_29, gX3_flies_30, gX3_flies_31, gX3_flies_34, gX3_flies_36, am_kill_int, am_kill_ref, am_kill_null, am_kill_F, am_kill_long, am_cat_n, am_cat_i, am_cat_r, am_cat_0, am_cat_l, am_nr_n, am_nr_i, am_nr_r, am_nr_0, am_nr_l, Option.toList_some, Option.toList_none, List.nil_append, List.cons_append, va_rf_s, va_rf_n, am_I_sR, am_I_sL, am_R_sI, am_R_sL, am_L_sI, am_L_sR, am_k_sI, am_k_sR, am_k_sL, am_n_sI, am_n_sR, am_n_sL, true_and, and_true, true_or, or_true, or_false, false_or, not_true_eq_false, not_false_eq_true, Nat.reduceLT, am_dS, am_dP, am_d1, Nat.reduceSub, Nat.reduceMul, ne_eq, Nat.reduceBEq, Nat.reduceAdd, Nat.reduceLeDiff, Nat.reduceEqDiff, and_self, and_false, false_and, if_true, if_false, am_nb, am_nb0, am_nb1, am_lc1, am_lc2, am_lc3, am_b0, am_b1, am_10, am_c8, am_c16, am_c24, am_c32, am_c40, am_c48, am_c56, am_c64, am_c72, Nat.add_zero, Bool.false_eq_true, Nat.zero_le, hmu, wX3_isNest hC, wX3_isColour, hx, hy, hv, hc48, e6, h0]
        exact hK μ Fw.refl hP.h17 TN0 (fun _ => rfl)
    · simp only [hy, Bool.false_eq_true, and_false, if_false] at hK
      simp only [gX3_flies_5, gX3_flies_6, gX3_flies_7, gX3_flies_10, gX3_flies_13, gX3_flies_14, gX3_flies_17, gX3_flies_20, gX3_flies_21, am_kill_int, am_kill_ref, am_kill_null, am_kill_F, am_kill_long, am_cat_n, am_cat_i, am_cat_r, am_cat_0, am_cat_l, am_nr_n, am_nr_i, am_nr_r, am_nr_0, am_nr_l, Option.toList_some, Option.toList_none, List.nil_append, List.cons_append, va_rf_s, va_rf_n, am_I_sR, am_I_sL, am_R_sI, am_R_sL, am_L_sI, am_L_sR, am_k_sI, am_k_sR, am_k_sL, am_n_sI, am_n_sR, am_n_sL, true_and, and_true, true_or, or_true, or_false, false_or, not_true_eq_false, not_false_eq_true, Nat.reduceLT, am_dS, am_dP, am_d1, Nat.reduceSub, Nat.reduceMul, ne_eq, Nat.reduceBEq, Nat.reduceAdd, Nat.reduceLeDiff, Nat.reduceEqDiff, and_self, and_false, false_and, if_true, if_false, am_nb, am_nb0, am_nb1, am_lc1, am_lc2, am_lc3, am_b0, am_b1, am_10, am_c8, am_c16, am_c24, am_c32, am_c40, am_c48, am_c56, am_c64, am_c72, Nat.add_zero, Bool.false_eq_true, Nat.zero_le, hmu, wX3_isNest hC, wX3_isColour, hx, hy]
      exact hK μ Fw.refl hP.h17 TN0 (fun _ => rfl)
  · simp only [hx, Bool.false_eq_true, false_and, if_false] at hK
    simp only [gX3_flies_5, gX3_flies_6, gX3_flies_7, gX3_flies_10, gX3_flies_13, gX3_flies_14, gX3_flies_17, gX3_flies_20, gX3_flies_21, am_kill_int, am_kill_ref, am_kill_null, am_kill_F, am_kill_long, am_cat_n, am_cat_i, am_cat_r, am_cat_0, am_cat_l, am_nr_n, am_nr_i, am_nr_r, am_nr_0, am_nr_l, Option.toList_some, Option.toList_none, List.nil_append, List.cons_append, va_rf_s, va_rf_n, am_I_sR, am_I_sL, am_R_sI, am_R_sL, am_L_sI, am_L_sR, am_k_sI, am_k_sR, am_k_sL, am_n_sI, am_n_sR, am_n_sL, true_and, and_true, true_or, or_true, or_false, false_or, not_true_eq_false, not_false_eq_true, Nat.reduceLT, am_dS, am_dP, am_d1, Nat.reduceSub, Nat.reduceMul, ne_eq, Nat.reduceBEq, Nat.reduceAdd, Nat.reduceLeDiff, Nat.reduceEqDiff, and_self, and_false, false_and, if_true, if_false, am_nb, am_nb0, am_nb1, am_lc1, am_lc2, am_lc3, am_b0, am_b1, am_10, am_c8, am_c16, am_c24, am_c32, am_c40, am_c48, am_c56, am_c64, am_c72, Nat.add_zero, Bool.false_eq_true, Nat.zero_le, hmu, wX3_isNest hC, hx]
    exact hK μ Fw.refl hP.h17 TN0 (fun _ => rfl)
theorem op_flies (hI : Inv q μ) : OP q mX1_flies mX3_flies [.ref 0, .int x, .int y, am_F] [.ref 54, .int x, .int y, am_F] μ :=
  op_S (V := fun N ru _ S => vFli N ru S x y) (P := fun N ru _ S => pFli N ru S x y) (fun hP => qc_flies hP) (fun d K μ h h' => by simp only [gX3_flies_0, gX3_flies_1, gX3_flies_2, am_kill_int, am_kill_ref, am_kill_null, am_kill_F, am_kill_long, am_cat_n, am_cat_i, am_cat_r, am_cat_0, am_cat_l, am_nr_n, am_nr_i, am_nr_r, am_nr_0, am_nr_l, Option.toList_some, Option.toList_none, List.nil_append, List.cons_append, va_rf_s, va_rf_n, am_I_sR, am_I_sL, am_R_sI, am_R_sL, am_L_sI, am_L_sR, am_k_sI, am_k_sR, am_k_sL, am_n_sI, am_n_sR, am_n_sL, true_and, and_true, true_or, or_true, or_false, false_or, not_true_eq_false, not_false_eq_true, Nat.reduceLT, am_dS, am_dP, am_d1, Nat.reduceSub, Nat.reduceMul, ne_eq, Nat.reduceBEq, Nat.reduceAdd, Nat.reduceLeDiff, Nat.reduceEqDiff, and_self, and_false, false_and, if_true, if_false, am_nb, am_nb0, am_nb1, am_lc1, am_lc2, am_lc3, am_b0, am_b1, am_10, am_c8, am_c16, am_c24, am_c32, am_c40, am_c48, am_c56, am_c64, am_c72, Nat.add_zero, Bool.false_eq_true, Nat.zero_le, h]; exact h') (fun hP => q5_flies hP) hI
end ODVV
