/-! calls that write: again -/
set_option maxRecDepth 100000
section PTV
variable {d : Nat} {μ ν ξ : am_M} {K : Option Value → am_M → Prop} {x y z c : Int32} {h N C j i k r n M b q w u : Nat} {v : Int32} {ru : Option PF} {F G : Nat → Nat → Prop} {S a a' : Nat → Int32} {p : Int64}
theorem slR_k : slR μ (12 + j) = am_R μ 51 j := by
  unfold slR
  rw [if_neg (by omega), Nat.add_sub_cancel_left]
theorem nI_inj {a b : Nat} (ha : a < 100000) (hb : b < 100000) : (nI a = nI b) = (a = b) := propext ⟨fun e => by
  have h1 := nI_clamp (n := a) (by omega)
  rw [e, nI_clamp (by omega)] at h1
  exact h1.symm, fun e => by rw [e]⟩
theorem op_again (hI : Inv q μ) : OP q mX1_again mX3_again [.ref 0, .int x] [.ref 54, .int x, am_F] μ := by
  intro d
  have hI' := hI
  obtain ⟨⟨N, C, ru, c, hP⟩, hT, hR, b1, b2, b3⟩ := hI
  have hC := hP.1.1
  have hcu := hC.1
  simp only [cL, spL, Nat.reduceAdd] at hcu
  have hS := hP.1.2.1
  have hmu := hS.1.1
  unfold mL at hmu
  have h8 := hC.2.2.1
  obtain ⟨c1, c2, c3⟩ := hP.2.2.1
  have l1 : (1 : Int64) = (nI 2 - 1).toInt64 := by decide
  have i1 : (1 : Int32) = nI 2 - 1 := by decide
  by_cases hx : isN x 2 = true
  · have hx1 : 0 ≤ x ∧ x ≤ 1 := by unfold isN at hx; rw [decide_eq_true_eq] at hx; exact hx
    have hxL : (0 : Int32).toInt64 ≤ x.toInt64 ∧ x.toInt64 ≤ (1 : Int32).toInt64 := by rw [am_leL, am_leL]; exact hx1
    have l1' : (1 : Int64) = (1 : Int32).toInt64 := by decide
    obtain ⟨j, hj, rfl⟩ := isN_of (by omega) hx
    have hin : vp_in (nI j) 2 := vp_in_nI (by omega) (by omega)
    have hcl : (nI j).toNatClampNeg = j := nI_clamp (by omega)
    have zz : ∀ w : Int32, ¬ w = 0 → True := fun _ _ => trivial
    rcases hP.2.2.2.2.2.2.2.1 j hj with ⟨e1, e2⟩ | ⟨h, r, e1, e2, e3, e4, e5, e6⟩
    · rw [slR_k] at e1
      simp only [gX1_again_0, gX1_again_1, gX1_again_2, gX1_again_3, gX1_again_4, gX1_again_7, gX1_again_10, gX1_again_11, gX1_again_14, gX1_again_15, gX1_again_16, gX1_again_16n, gX1_again_19, gX1_again_20, gX1_again_23, gX1_again_24, gX1_again_25, gX1_again_26, gX1_again_29, gX1_again_32, gX1_again_33, am_kill_int, am_kill_ref, am_kill_null, am_kill_F, am_kill_long, am_cat_n, am_cat_i, am_cat_r, am_cat_0, am_cat_l, am_nr_n, am_nr_i, am_nr_r, am_nr_0, am_nr_l, Option.toList_some, Option.toList_none, List.nil_append, List.cons_append, va_rf_s, va_rf_n, am_II, am_I_sR, am_I_sL, am_R_sI, am_RR, am_R_sL, am_L_sI, am_L_sR, am_LL, am_k_sI, am_k_sR, am_k_sL, am_n_sI, am_n_sR, am_n_sL, true_and, and_true, true_or, or_true, or_false, false_or, not_true_eq_false, not_false_eq_true, Nat.reduceLT, am_dS, am_dP, am_d1, Nat.reduceSub, Nat.reduceMul, ne_eq, Nat.reduceBEq, Nat.reduceAdd, Nat.reduceLeDiff, Nat.reduceEqDiff, and_self, and_false, false_and, if_true, if_false, am_nb, am_nb0, am_nb1, am_lc1, am_lc2, am_lc3, am_b0, am_b1, am_10, am_c8, am_c16, am_c24, am_c32, am_c40, am_c48, am_c56, am_c64, am_c72, Nat.add_zero, Bool.false_eq_true, Nat.zero_le, hcu, wX1_in, am_l0, l1', hxL, hin, hcl, e1]
      refine ⟨_, rfl, ?_⟩
      simp only [gX3_again_0, gX3_again_1, gX3_again_2, gX3_again_5, gX3_again_6, gX3_again_7, gX3_again_8, gX3_again_11, gX3_again_14, gX3_again_15, gX3_again_18, gX3_again_19, gX3_again_20, gX3_again_23, gX3_again_24, gX3_again_27, gX3_again_28, gX3_again_29, gX3_again_30, gX3_again_33, gX3_again_36, gX3_again_37, am_kill_int, am_kill_ref, am_kill_null, am_kill_F, am_kill_long, am_cat_n, am_cat_i, am_cat_r, am_cat_0, am_cat_l, am_nr_n, am_nr_i, am_nr_r, am_nr_0, am_nr_l, Option.toList_some, Option.toList_none, List.nil_append, List.cons_append, va_rf_s, va_rf_n, am_II, am_I_sR, am_I_sL, am_R_sI, am_RR, am_R_sL, am_L_sI, am_L_sR, am_LL, am_k_sI, am_k_sR, am_k_sL, am_n_sI, am_n_sR, am_n_sL, true_and, and_true, true_or, or_true, or_false, false_or, not_true_eq_false, not_false_eq_true, Nat.reduceLT, am_dS, am_dP, am_d1, Nat.reduceSub, Nat.reduceMul, ne_eq, Nat.reduceBEq, Nat.reduceAdd, Nat.reduceLeDiff, Nat.reduceEqDiff, and_self, and_false, false_and, if_true, if_false, am_nb, am_nb0, am_nb1, am_lc1, am_lc2, am_lc3, am_b0, am_b1, am_10, am_c8, am_c16, am_c24, am_c32, am_c40, am_c48, am_c56, am_c64, am_c72, Nat.add_zero, Bool.false_eq_true, Nat.zero_le, hmu, wX3_in, hx1, hin, hcl, e2]
      exact hI'.thr
    · have e1' := e1
      rw [slR_k] at e1
      obtain ⟨h78, hn, hsp⟩ := hP.2.2.2.2.2.1.1 (12 + j) h (by omega) e1'
      have hq : (nI r = nI C) = (r = C) := nI_inj (by omega) (by omega)
      have o10 : ¬ (1 : Int32) = 0 := by decide
      by_cases f : r = C
      · simp only [gX1_again_0, gX1_again_1, gX1_again_2, gX1_again_3, gX1_again_4, gX1_again_7, gX1_again_10, gX1_again_11, gX1_again_14, gX1_again_15, gX1_again_16, gX1_again_16n, gX1_again_19, gX1_again_20, gX1_again_23, gX1_again_24, gX1_again_25, gX1_again_26, gX1_again_29, gX1_again_32, gX1_again_33, gX1_again_34, gX1_again_35, gX1_again_38, gX1_again_39, gX1_again_42, gX1_again_43, gX1_again_44, am_kill_int, am_kill_ref, am_kill_null, am_kill_F, am_kill_long, am_cat_n, am_cat_i, am_cat_r, am_cat_0, am_cat_l, am_nr_n, am_nr_i, am_nr_r, am_nr_0, am_nr_l, Option.toList_some, Option.toList_none, List.nil_append, List.cons_append, va_rf_s, va_rf_n, am_II, am_I_sR, am_I_sL, am_R_sI, am_RR, am_R_sL, am_L_sI, am_L_sR, am_LL, am_k_sI, am_k_sR, am_k_sL, am_n_sI, am_n_sR, am_n_sL, true_and, and_true, true_or, or_true, or_false, false_or, not_true_eq_false, not_false_eq_true, Nat.reduceLT, am_dS, am_dP, am_d1, Nat.reduceSub, Nat.reduceMul, ne_eq, Nat.reduceBEq, Nat.reduceAdd, Nat.reduceLeDiff, Nat.reduceEqDiff, and_self, and_false, false_and, if_true, if_false, am_nb, am_nb0, am_nb1, am_lc1, am_lc2, am_lc3, am_b0, am_b1, am_10, am_c8, am_c16, am_c24, am_c32, am_c40, am_c48, am_c56, am_c64, am_c72, Nat.add_zero, Bool.false_eq_true, Nat.zero_le, hcu, wX1_in, am_l0, l1', hxL, hin, hcl, e1, e3, c2, hq, f]
        refine wX2_becomes (d := d + 198) (h := h) (h' := 1) hsp hC.1.s1 (by omega) (fun ν hF hT1 => ?_)
        have hk0 : am_k ν 0 = (0, 0) := by rw [hF.2.2.2.1]; exact hC.1.c
        simp only [gX1_again_47, gX1_again_48, gX1_again_49, gX1_again_52, gX1_again_53, am_kill_int, am_kill_ref, am_kill_null, am_kill_F, am_kill_long, am_cat_n, am_cat_i, am_cat_r, am_cat_0, am_cat_l, am_nr_n, am_nr_i, am_nr_r, am_nr_0, am_nr_l, Option.toList_some, Option.toList_none, List.nil_append, List.cons_append, va_rf_s, va_rf_n, am_II, am_I_sR, am_I_sL, am_R_sI, am_RR, am_R_sL, am_L_sI, am_L_sR, am_LL, am_k_sI, am_k_sR, am_k_sL, am_n_sI, am_n_sR, am_n_sL, true_and, and_true, true_or, or_true, or_false, false_or, not_true_eq_false, not_false_eq_true, Nat.reduceLT, am_dS, am_dP, am_d1, Nat.reduceSub, Nat.reduceMul, ne_eq, Nat.reduceBEq, Nat.reduceAdd, Nat.reduceLeDiff, Nat.reduceEqDiff, and_self, and_false, false_and, if_true, if_false, am_nb, am_nb0, am_nb1, am_lc1, am_lc2, am_lc3, am_b0, am_b1, am_10, am_c8, am_c16, am_c24, am_c32, am_c40, am_c48, am_c56, am_c64, am_c72, Nat.add_zero, Bool.false_eq_true, Nat.zero_le, hk0]
        refine ⟨_, rfl, ?_⟩
        have hF0 : Fr fN μ (am_sI ν 0 21 0) := Fr.I (hF.le fun a b q => by unfold inSp at q; unfold fN; omega) (by unfold fN; omega)
        have hmν := hF0.mLk hS.1.1
        unfold mL at hmν
        have g1 : am_I (am_sI ν 0 21 0) 75 j = 1 := (hF0.1 75 j (by unfold fN; omega)).trans e2
        have g2 : am_I (am_sI ν 0 21 0) 76 j = nI r := (hF0.1 76 j (by unfold fN; omega)).trans e4
        have g3 : am_I (am_sI ν 0 21 0) 54 35 = nI C := (hF0.1 54 35 (by unfold fN; omega)).trans c3
        have hF1 : Fr fN (am_sI ν 0 21 0) (am_sI (am_sI ν 0 21 0) 54 7 0) := Fr.I Fr.refl (by unfold fN; omega)
        simp only [am_I_sI, Nat.reduceEqDiff, false_and, if_false] at g1 g2 g3
        simp only [gX3_again_0, gX3_again_1, gX3_again_2, gX3_again_5, gX3_again_6, gX3_again_7, gX3_again_8, gX3_again_11, gX3_again_14, gX3_again_15, gX3_again_18, gX3_again_19, gX3_again_20, gX3_again_23, gX3_again_24, gX3_again_27, gX3_again_28, gX3_again_29, gX3_again_30, gX3_again_33, gX3_again_36, gX3_again_37, gX3_again_38, gX3_again_39, am_kill_int, am_kill_ref, am_kill_null, am_kill_F, am_kill_long, am_cat_n, am_cat_i, am_cat_r, am_cat_0, am_cat_l, am_nr_n, am_nr_i, am_nr_r, am_nr_0, am_nr_l, Option.toList_some, Option.toList_none, List.nil_append, List.cons_append, va_rf_s, va_rf_n, am_II, am_I_sR, am_I_sL, am_R_sI, am_RR, am_R_sL, am_L_sI, am_L_sR, am_LL, am_k_sI, am_k_sR, am_k_sL, am_n_sI, am_n_sR, am_n_sL, true_and, and_true, true_or, or_true, or_false, false_or, not_true_eq_false, not_false_eq_true, Nat.reduceLT, am_dS, am_dP, am_d1, Nat.reduceSub, Nat.reduceMul, ne_eq, Nat.reduceBEq, Nat.reduceAdd, Nat.reduceLeDiff, Nat.reduceEqDiff, and_self, and_false, false_and, if_true, if_false, am_nb, am_nb0, am_nb1, am_lc1, am_lc2, am_lc3, am_b0, am_b1, am_10, am_c8, am_c16, am_c24, am_c32, am_c40, am_c48, am_c56, am_c64, am_c72, Nat.add_zero, Bool.false_eq_true, Nat.zero_le, hmν, wX3_in, hx1, hin, hcl, g1, g2, g3, hq, f]
        have e83 : (83 : Int32) = nI 83 := rfl
        refine am_for (N := 83) (fun k ls ξ => ls = [.ref 54, .int (nI j), .int (nI k)] ∧ Fr (fun a _ => a = 55) (am_sI (am_sI ν 0 21 0) 54 7 0) ξ ∧ ∀ i, i < k → am_I ξ 55 i = am_I μ 74 (83 * j + i)) ?_ ?_ 83 0 _ _ (by omega) ⟨rfl, Fr.refl, fun i hi => absurd hi (Nat.not_lt_zero i)⟩
        · rintro k ls ξ hk83 ⟨rfl, hF2, hr⟩ ih
          have hlt : ¬ nI 83 ≤ nI k := nI_ge hk83 (by omega)
          have hmξ := hF2.mLk (hF1.mLk (hF0.mLk hS.1.1))
          unfold mL at hmξ
          have hv : vp_in (nI k) 83 := vp_in_nI (by omega) (by omega)
          have hck : (nI k).toNatClampNeg = k := nI_clamp (by omega)
          have hv2 : vp_in (nI (83 * j + k)) 166 := vp_in_nI (by omega) (by omega)
          have hck2 : (nI (83 * j + k)).toNatClampNeg = 83 * j + k := nI_clamp (by omega)
          have r74 : am_I ξ 74 (83 * j + k) = am_I μ 74 (83 * j + k) := by
            rw [hF2.1 74 _ (fun e => absurd (show (74 : Nat) = 55 from e) (by decide)), hF1.1 74 _ (by unfold fN; omega), hF0.1 74 _ (by unfold fN; omega)]
          have e83m : nI 83 * nI j = nI (83 * j) := nI_mul
          rw [gX3_again_40]
          simp only [gX3_again_41, gX3_again_43, gX3_again_46, gX3_again_47, gX3_again_50, gX3_again_51, gX3_again_52, gX3_again_55, gX3_again_57, gX3_again_58, gX3_again_59, gX3_again_60, gX3_again_61, gX3_again_62, gX3_again_63, gX3_again_66, am_kill_int, am_kill_ref, am_kill_null, am_kill_F, am_kill_long, am_cat_n, am_cat_i, am_cat_r, am_cat_0, am_cat_l, am_nr_n, am_nr_i, am_nr_r, am_nr_0, am_nr_l, Option.toList_some, Option.toList_none, List.nil_append, List.cons_append, va_rf_s, va_rf_n, am_II, am_I_sR, am_I_sL, am_R_sI, am_RR, am_R_sL, am_L_sI, am_L_sR, am_LL, am_k_sI, am_k_sR, am_k_sL, am_n_sI, am_n_sR, am_n_sL, true_and, and_true, true_or, or_true, or_false, false_or, not_true_eq_false, not_false_eq_true, Nat.reduceLT, am_dS, am_dP, am_d1, Nat.reduceSub, Nat.reduceMul, ne_eq, Nat.reduceBEq, Nat.reduceAdd, Nat.reduceLeDiff, Nat.reduceEqDiff, and_self, and_false, false_and, if_true, if_false, am_nb, am_nb0, am_nb1, am_lc1, am_lc2, am_lc3, am_b0, am_b1, am_10, am_c8, am_c16, am_c24, am_c32, am_c40, am_c48, am_c56, am_c64, am_c72, Nat.add_zero, Bool.false_eq_true, Nat.zero_le, hmξ, e83, hlt, e83m, nI_add, hv, hck, hv2, hck2, r74, nI_1]
          refine ih _ _ ⟨rfl, Fr.I hF2 rfl, fun i hi => ?_⟩
          by_cases f : i = k
          · subst f; rw [am_I_sI, if_pos ⟨rfl, rfl⟩]
          · rw [am_I_sI, if_neg (by omega)]; exact hr i (by omega)
        · rintro ls ξ ⟨rfl, hF2, hr⟩
          have hmξ := hF2.mLk (hF1.mLk (hF0.mLk hS.1.1))
          unfold mL at hmξ
          have hFa : Fr fN μ (am_sI ξ 54 20 0) := Fr.I ((hF0.trans hF1).trans (hF2.le fun a b q => Or.inr (Or.inl q))) (by unfold fN; omega)
          have e21' : am_I (am_sI ξ 54 20 0) 0 21 = 0 := by
            rw [am_I_sI, if_neg (by omega), hF2.1 0 21 (by decide), am_I_sI, if_neg (by omega), am_I_sI, if_pos ⟨rfl, rfl⟩]
          have e20' : am_I (am_sI ξ 54 20 0) 54 20 = 0 := by rw [am_I_sI, if_pos ⟨rfl, rfl⟩]
          have hc1 : cS (am_sI ξ 54 20 0) 1 = cS μ h := by
            rw [cS_o (by omega), cS_Fr hF2 fun a b z1 z2 z3 => by omega, cS_o (by omega), cS_o (by omega)]; exact hT1
          rw [gX3_again_40]
          simp only [gX3_again_41, gX3_again_43, gX3_again_69, gX3_again_70, gX3_again_71, gX3_again_74, gX3_again_75, am_kill_int, am_kill_ref, am_kill_null, am_kill_F, am_kill_long, am_cat_n, am_cat_i, am_cat_r, am_cat_0, am_cat_l, am_nr_n, am_nr_i, am_nr_r, am_nr_0, am_nr_l, Option.toList_some, Option.toList_none, List.nil_append, List.cons_append, va_rf_s, va_rf_n, am_II, am_I_sR, am_I_sL, am_R_sI, am_RR, am_R_sL, am_L_sI, am_L_sR, am_LL, am_k_sI, am_k_sR, am_k_sL, am_n_sI, am_n_sR, am_n_sL, true_and, and_true, true_or, or_true, or_false, false_or, not_true_eq_false, not_false_eq_true, Nat.reduceLT, am_dS, am_dP, am_d1, Nat.reduceSub, Nat.reduceMul, ne_eq, Nat.reduceBEq, Nat.reduceAdd, Nat.reduceLeDiff, Nat.reduceEqDiff, and_self, and_false, false_and, if_true, if_false, am_nb, am_nb0, am_nb1, am_lc1, am_lc2, am_lc3, am_b0, am_b1, am_10, am_c8, am_c16, am_c24, am_c32, am_c40, am_c48, am_c56, am_c64, am_c72, Nat.add_zero, Bool.false_eq_true, Nat.zero_le, hmξ, e83, Int32.le_refl]
          refine inv_N hI' hP hFa ?_ (pU_cut (u := 0) hP hFa (fun k hk => absurd hk (Nat.not_lt_zero k)) (by omega) e21' e20') (by rw [hc1]; obtain ⟨f, z1, z2⟩ := hI'.2.2.2.2.2.2.2 (12 + j) h (by omega) e1'; exact ⟨f, by omega, z2⟩)
          rw [hc1]
          refine (e6 f).row h8 (fun i hi => ?_)
          rw [am_I_sI, if_neg (by omega)]
          exact hr i hi
      · simp only [gX1_again_0, gX1_again_1, gX1_again_2, gX1_again_3, gX1_again_4, gX1_again_7, gX1_again_10, gX1_again_11, gX1_again_14, gX1_again_15, gX1_again_16, gX1_again_16n, gX1_again_19, gX1_again_20, gX1_again_23, gX1_again_24, gX1_again_25, gX1_again_26, gX1_again_29, gX1_again_32, gX1_again_33, am_kill_int, am_kill_ref, am_kill_null, am_kill_F, am_kill_long, am_cat_n, am_cat_i, am_cat_r, am_cat_0, am_cat_l, am_nr_n, am_nr_i, am_nr_r, am_nr_0, am_nr_l, Option.toList_some, Option.toList_none, List.nil_append, List.cons_append, va_rf_s, va_rf_n, am_II, am_I_sR, am_I_sL, am_R_sI, am_RR, am_R_sL, am_L_sI, am_L_sR, am_LL, am_k_sI, am_k_sR, am_k_sL, am_n_sI, am_n_sR, am_n_sL, true_and, and_true, true_or, or_true, or_false, false_or, not_true_eq_false, not_false_eq_true, Nat.reduceLT, am_dS, am_dP, am_d1, Nat.reduceSub, Nat.reduceMul, ne_eq, Nat.reduceBEq, Nat.reduceAdd, Nat.reduceLeDiff, Nat.reduceEqDiff, and_self, and_false, false_and, if_true, if_false, am_nb, am_nb0, am_nb1, am_lc1, am_lc2, am_lc3, am_b0, am_b1, am_10, am_c8, am_c16, am_c24, am_c32, am_c40, am_c48, am_c56, am_c64, am_c72, Nat.add_zero, Bool.false_eq_true, Nat.zero_le, hcu, wX1_in, am_l0, l1', hxL, hin, hcl, e1, e3, c2, hq, f]
        refine ⟨_, rfl, ?_⟩
        simp only [gX3_again_0, gX3_again_1, gX3_again_2, gX3_again_5, gX3_again_6, gX3_again_7, gX3_again_8, gX3_again_11, gX3_again_14, gX3_again_15, gX3_again_18, gX3_again_19, gX3_again_20, gX3_again_23, gX3_again_24, gX3_again_27, gX3_again_28, gX3_again_29, gX3_again_30, gX3_again_33, gX3_again_36, gX3_again_37, am_kill_int, am_kill_ref, am_kill_null, am_kill_F, am_kill_long, am_cat_n, am_cat_i, am_cat_r, am_cat_0, am_cat_l, am_nr_n, am_nr_i, am_nr_r, am_nr_0, am_nr_l, Option.toList_some, Option.toList_none, List.nil_append, List.cons_append, va_rf_s, va_rf_n, am_II, am_I_sR, am_I_sL, am_R_sI, am_RR, am_R_sL, am_L_sI, am_L_sR, am_LL, am_k_sI, am_k_sR, am_k_sL, am_n_sI, am_n_sR, am_n_sL, true_and, and_true, true_or, or_true, or_false, false_or, not_true_eq_false, not_false_eq_true, Nat.reduceLT, am_dS, am_dP, am_d1, Nat.reduceSub, Nat.reduceMul, ne_eq, Nat.reduceBEq, Nat.reduceAdd, Nat.reduceLeDiff, Nat.reduceEqDiff, and_self, and_false, false_and, if_true, if_false, am_nb, am_nb0, am_nb1, am_lc1, am_lc2, am_lc3, am_b0, am_b1, am_10, am_c8, am_c16, am_c24, am_c32, am_c40, am_c48, am_c56, am_c64, am_c72, Nat.add_zero, Bool.false_eq_true, Nat.zero_le, hmu, wX3_in, hx1, hin, hcl, e2, e4, c3, hq, f]
        exact hI'.thr
  · simp only [gX1_again_0, gX1_again_1, gX1_again_2, gX1_again_3, gX1_again_4, gX1_again_7, gX1_again_10, gX1_again_11, gX1_again_14, gX1_again_15, gX1_again_16, gX1_again_16n, gX1_again_19, gX1_again_20, gX1_again_23, gX1_again_24, gX1_again_25, gX1_again_26, gX1_again_29, gX1_again_32, gX1_again_33, am_kill_int, am_kill_ref, am_kill_null, am_kill_F, am_kill_long, am_cat_n, am_cat_i, am_cat_r, am_cat_0, am_cat_l, am_nr_n, am_nr_i, am_nr_r, am_nr_0, am_nr_l, Option.toList_some, Option.toList_none, List.nil_append, List.cons_append, va_rf_s, va_rf_n, am_II, am_I_sR, am_I_sL, am_R_sI, am_RR, am_R_sL, am_L_sI, am_L_sR, am_LL, am_k_sI, am_k_sR, am_k_sL, am_n_sI, am_n_sR, am_n_sL, true_and, and_true, true_or, or_true, or_false, false_or, not_true_eq_false, not_false_eq_true, Nat.reduceLT, am_dS, am_dP, am_d1, Nat.reduceSub, Nat.reduceMul, ne_eq, Nat.reduceBEq, Nat.reduceAdd, Nat.reduceLeDiff, Nat.reduceEqDiff, and_self, and_false, false_and, if_true, if_false, am_nb, am_nb0, am_nb1, am_lc1, am_lc2, am_lc3, am_b0, am_b1, am_10, am_c8, am_c16, am_c24, am_c32, am_c40, am_c48, am_c56, am_c64, am_c72, Nat.add_zero, Bool.false_eq_true, Nat.zero_le, hcu, wX1_in, am_l0, l1, am_leL, am_isb, hx]
    refine ⟨_, rfl, ?_⟩
    have hx1 : ¬ (0 ≤ x ∧ x ≤ 1) := fun e => hx (by unfold isN; rw [decide_eq_true_eq]; exact e)
    simp only [gX3_again_0, gX3_again_1, gX3_again_2, gX3_again_5, gX3_again_6, gX3_again_7, gX3_again_8, gX3_again_11, gX3_again_14, gX3_again_15, gX3_again_18, gX3_again_19, gX3_again_20, gX3_again_23, gX3_again_24, gX3_again_27, gX3_again_28, gX3_again_29, gX3_again_30, gX3_again_33, gX3_again_36, gX3_again_37, am_kill_int, am_kill_ref, am_kill_null, am_kill_F, am_kill_long, am_cat_n, am_cat_i, am_cat_r, am_cat_0, am_cat_l, am_nr_n, am_nr_i, am_nr_r, am_nr_0, am_nr_l, Option.toList_some, Option.toList_none, List.nil_append, List.cons_append, va_rf_s, va_rf_n, am_II, am_I_sR, am_I_sL, am_R_sI, am_RR, am_R_sL, am_L_sI, am_L_sR, am_LL, am_k_sI, am_k_sR, am_k_sL, am_n_sI, am_n_sR, am_n_sL, true_and, and_true, true_or, or_true, or_false, false_or, not_true_eq_false, not_false_eq_true, Nat.reduceLT, am_dS, am_dP, am_d1, Nat.reduceSub, Nat.reduceMul, ne_eq, Nat.reduceBEq, Nat.reduceAdd, Nat.reduceLeDiff, Nat.reduceEqDiff, and_self, and_false, false_and, if_true, if_false, am_nb, am_nb0, am_nb1, am_lc1, am_lc2, am_lc3, am_b0, am_b1, am_10, am_c8, am_c16, am_c24, am_c32, am_c40, am_c48, am_c56, am_c64, am_c72, Nat.add_zero, Bool.false_eq_true, Nat.zero_le, hmu, wX3_in, hx1]
    exact hI'.thr
end PTV
