/-! the component: days, when a guest flies, how odd one would be -/
set_option maxRecDepth 100000
section RUNV
variable {d : Nat} {μ ν : am_M} {K : Option Value → am_M → Prop} {x y c : Int32} {h h' N j M : Nat} {v : Int32} {ru : Option ((Nat → Int32) → Int32)} {F : Nat → Nat → Prop}
def itS (g : (Nat → Int32) → (Nat → Int32)) : Nat → (Nat → Int32) → (Nat → Int32)
  | 0, T => T
  | n + 1, T => g (itS g n T)
theorem CC.js (hC : CC N ru c μ) (h0 : 0 < h) (h2 : h + 10 < 40) (hF : Fr (jS h) μ ν) : CC N ru c ν := hC.fr hF (fun a b q => by unfold jS inSp jO at q; omega)
theorem wX1_daysGo (hC : CC N ru c μ) (hs : spL h (am_k μ) (am_R μ)) (h0 : 0 < h) (h2 : h + 10 < 40) (hM : M ≤ 1000)
    (hK : ∀ ν, Fr (jS h) μ ν → cS ν h = itS (dayC N ru) M (cS μ h) → K none ν) :
    am_Wp (d + 69) mX1_daysGo 0 [.ref 0, .ref h, .int (nI M), am_F] [] μ K := by
  simp only [gX1_daysGo_0, gX1_daysGo_1, am_kill_int, am_kill_ref, am_kill_null, am_kill_F, am_kill_long, am_cat_n, am_cat_i, am_cat_r, am_cat_0, am_cat_l, am_nr_n, am_nr_i, am_nr_r, am_nr_0, am_nr_l, Option.toList_some, Option.toList_none, List.nil_append, List.cons_append, va_rf_s, va_rf_n, am_II, am_I_sR, am_I_sL, am_R_sI, am_RR, am_R_sL, am_L_sI, am_L_sR, am_LL, am_k_sI, am_k_sR, am_k_sL, am_n_sI, am_n_sR, am_n_sL, true_and, and_true, true_or, or_true, or_false, false_or, not_true_eq_false, not_false_eq_true, Nat.reduceLT, am_dS, am_dP, am_d1, Nat.reduceSub, Nat.reduceMul, ne_eq, Nat.reduceBEq, Nat.reduceAdd, Nat.reduceLeDiff, Nat.reduceEqDiff, and_self, and_false, false_and, if_true, if_false, am_nb, am_nb0, am_nb1, am_lc1, am_lc2, am_lc3, am_b0, am_b1, am_10, am_c8, am_c16, am_c24, am_c32, am_c40, am_c48, am_c56, am_c64, am_c72, Nat.add_zero, Bool.false_eq_true, Nat.zero_le]
  refine am_for (N := M) (fun j ls ν => ls = [.ref 0, .ref h, .int (nI M), .int (nI j)] ∧ Fr (jS h) μ ν ∧ cS ν h = itS (dayC N ru) j (cS μ h)) ?_ ?_ M 0 _ _ (by omega) ⟨rfl, Fr.refl, rfl⟩
  · rintro j ls ν hj ⟨rfl, hF, hT⟩ ih
    have hC1 := hC.js h0 h2 hF
    have hk := hC1.1.c
    have hlt : ¬ nI M ≤ nI j := nI_ge hj (by omega)
    rw [gX1_daysGo_2]
    simp only [gX1_daysGo_3, gX1_daysGo_4, gX1_daysGo_7, gX1_daysGo_8, gX1_daysGo_8n, gX1_daysGo_9, am_kill_int, am_kill_ref, am_kill_null, am_kill_F, am_kill_long, am_cat_n, am_cat_i, am_cat_r, am_cat_0, am_cat_l, am_nr_n, am_nr_i, am_nr_r, am_nr_0, am_nr_l, Option.toList_some, Option.toList_none, List.nil_append, List.cons_append, va_rf_s, va_rf_n, am_II, am_I_sR, am_I_sL, am_R_sI, am_RR, am_R_sL, am_L_sI, am_L_sR, am_LL, am_k_sI, am_k_sR, am_k_sL, am_n_sI, am_n_sR, am_n_sL, true_and, and_true, true_or, or_true, or_false, false_or, not_true_eq_false, not_false_eq_true, Nat.reduceLT, am_dS, am_dP, am_d1, Nat.reduceSub, Nat.reduceMul, ne_eq, Nat.reduceBEq, Nat.reduceAdd, Nat.reduceLeDiff, Nat.reduceEqDiff, and_self, and_false, false_and, if_true, if_false, am_nb, am_nb0, am_nb1, am_lc1, am_lc2, am_lc3, am_b0, am_b1, am_10, am_c8, am_c16, am_c24, am_c32, am_c40, am_c48, am_c56, am_c64, am_c72, Nat.add_zero, Bool.false_eq_true, Nat.zero_le, hk, hlt]
    refine wX1_dayGoes (d := d) hC1 (hF.spL h0 (by omega) hs) h0 h2 (fun ξ hF2 hT2 => ?_)
    simp only [gX1_daysGo_12, gX1_daysGo_15, am_kill_int, am_kill_ref, am_kill_null, am_kill_F, am_kill_long, am_cat_n, am_cat_i, am_cat_r, am_cat_0, am_cat_l, am_nr_n, am_nr_i, am_nr_r, am_nr_0, am_nr_l, Option.toList_some, Option.toList_none, List.nil_append, List.cons_append, va_rf_s, va_rf_n, am_II, am_I_sR, am_I_sL, am_R_sI, am_RR, am_R_sL, am_L_sI, am_L_sR, am_LL, am_k_sI, am_k_sR, am_k_sL, am_n_sI, am_n_sR, am_n_sL, true_and, and_true, true_or, or_true, or_false, false_or, not_true_eq_false, not_false_eq_true, Nat.reduceLT, am_dS, am_dP, am_d1, Nat.reduceSub, Nat.reduceMul, ne_eq, Nat.reduceBEq, Nat.reduceAdd, Nat.reduceLeDiff, Nat.reduceEqDiff, and_self, and_false, false_and, if_true, if_false, am_nb, am_nb0, am_nb1, am_lc1, am_lc2, am_lc3, am_b0, am_b1, am_10, am_c8, am_c16, am_c24, am_c32, am_c40, am_c48, am_c56, am_c64, am_c72, Nat.add_zero, Bool.false_eq_true, Nat.zero_le, nI_1]
    exact ih _ _ ⟨rfl, hF.trans hF2, by rw [hT2, hT]; rfl⟩
  · rintro ls ν ⟨rfl, hF, hT⟩
    rw [gX1_daysGo_2]
    simp only [gX1_daysGo_3, gX1_daysGo_4, gX1_daysGo_7, gX1_daysGo_8, gX1_daysGo_8n, gX1_daysGo_9, gX1_daysGo_12, gX1_daysGo_15, gX1_daysGo_18, am_kill_int, am_kill_ref, am_kill_null, am_kill_F, am_kill_long, am_cat_n, am_cat_i, am_cat_r, am_cat_0, am_cat_l, am_nr_n, am_nr_i, am_nr_r, am_nr_0, am_nr_l, Option.toList_some, Option.toList_none, List.nil_append, List.cons_append, va_rf_s, va_rf_n, am_II, am_I_sR, am_I_sL, am_R_sI, am_RR, am_R_sL, am_L_sI, am_L_sR, am_LL, am_k_sI, am_k_sR, am_k_sL, am_n_sI, am_n_sR, am_n_sL, true_and, and_true, true_or, or_true, or_false, false_or, not_true_eq_false, not_false_eq_true, Nat.reduceLT, am_dS, am_dP, am_d1, Nat.reduceSub, Nat.reduceMul, ne_eq, Nat.reduceBEq, Nat.reduceAdd, Nat.reduceLeDiff, Nat.reduceEqDiff, and_self, and_false, false_and, if_true, if_false, am_nb, am_nb0, am_nb1, am_lc1, am_lc2, am_lc3, am_b0, am_b1, am_10, am_c8, am_c16, am_c24, am_c32, am_c40, am_c48, am_c56, am_c64, am_c72, Nat.add_zero, Bool.false_eq_true, Nat.zero_le, Int32.le_refl]
    exact hK ν hF hT
def fliC (N : Nat) (ru : Option ((Nat → Int32) → Int32)) (n : Nat) : Nat → Nat → (Nat → Int32) → Int32 × (Nat → Int32)
  | 0, _, T => (-1, T)
  | m + 1, k, T => if dayC N ru T (48 + n) = 0 then (if T (48 + n) = 2 then nI k else -1, dayC N ru T) else fliC N ru n m (k + 1) (dayC N ru T)
theorem fliL (hj8 : j < 8) : ∀ (m k : Nat) (μ : am_M) (z : Value), k + m = 61 → CC N ru c μ → (∀ ν, Fr (jS 12) μ ν → cS ν 12 = (fliC N ru j m k (cS μ 12)).2 → K (some (.int (fliC N ru j m k (cS μ 12)).1)) ν) →
    am_Wp (d + 69) mX1_fliesIn 2 [.ref 0, .int (nI j), .int (nI k), z] [] μ K := by
  intro m
  have hin : vp_in (nI j) 8 := vp_in_nI (by omega) (by omega)
  have hcl : (nI j).toNatClampNeg = j := nI_clamp (by omega)
  have e60 : (60 : Int32) = nI 60 := by decide
  induction m with
  | zero =>
    intro k μ z hkm hC hK
    have hlt : nI 60 < nI k := nI_lt (by omega) (by omega)
    rw [gX1_fliesIn_2]
    simp only [gX1_fliesIn_3, gX1_fliesIn_5, gX1_fliesIn_63, gX1_fliesIn_64, am_kill_int, am_kill_ref, am_kill_null, am_kill_F, am_kill_long, am_cat_n, am_cat_i, am_cat_r, am_cat_0, am_cat_l, am_nr_n, am_nr_i, am_nr_r, am_nr_0, am_nr_l, Option.toList_some, Option.toList_none, List.nil_append, List.cons_append, va_rf_s, va_rf_n, am_II, am_I_sR, am_I_sL, am_R_sI, am_RR, am_R_sL, am_L_sI, am_L_sR, am_LL, am_k_sI, am_k_sR, am_k_sL, am_n_sI, am_n_sR, am_n_sL, true_and, and_true, true_or, or_true, or_false, false_or, not_true_eq_false, not_false_eq_true, Nat.reduceLT, am_dS, am_dP, am_d1, Nat.reduceSub, Nat.reduceMul, ne_eq, Nat.reduceBEq, Nat.reduceAdd, Nat.reduceLeDiff, Nat.reduceEqDiff, and_self, and_false, false_and, if_true, if_false, am_nb, am_nb0, am_nb1, am_lc1, am_lc2, am_lc3, am_b0, am_b1, am_10, am_c8, am_c16, am_c24, am_c32, am_c40, am_c48, am_c56, am_c64, am_c72, Nat.add_zero, Bool.false_eq_true, Nat.zero_le, e60, hlt]
    exact hK _ Fr.refl rfl
  | succ m ih =>
    intro k μ z hkm hC hK
    have hlt : ¬ nI 60 < nI k := nI_nlt (by omega) (by omega)
    have hcu := hC.1
    simp only [cL, spL, Nat.reduceAdd] at hcu
    have e1 : am_I μ 19 j = cS μ 12 (48 + j) := (cS_6 hj8).symm
    rw [gX1_fliesIn_2]
    by_cases hy : cS μ 12 (48 + j) = 2
    all_goals
      simp only [gX1_fliesIn_3, gX1_fliesIn_5, gX1_fliesIn_8, gX1_fliesIn_9, gX1_fliesIn_12, gX1_fliesIn_15, gX1_fliesIn_16, gX1_fliesIn_17, gX1_fliesIn_18, gX1_fliesIn_21, gX1_fliesIn_22, gX1_fliesIn_25, gX1_fliesIn_26, gX1_fliesIn_27, gX1_fliesIn_28, gX1_fliesIn_29, gX1_fliesIn_32, am_kill_int, am_kill_ref, am_kill_null, am_kill_F, am_kill_long, am_cat_n, am_cat_i, am_cat_r, am_cat_0, am_cat_l, am_nr_n, am_nr_i, am_nr_r, am_nr_0, am_nr_l, Option.toList_some, Option.toList_none, List.nil_append, List.cons_append, va_rf_s, va_rf_n, am_II, am_I_sR, am_I_sL, am_R_sI, am_RR, am_R_sL, am_L_sI, am_L_sR, am_LL, am_k_sI, am_k_sR, am_k_sL, am_n_sI, am_n_sR, am_n_sL, true_and, and_true, true_or, or_true, or_false, false_or, not_true_eq_false, not_false_eq_true, Nat.reduceLT, am_dS, am_dP, am_d1, Nat.reduceSub, Nat.reduceMul, ne_eq, Nat.reduceBEq, Nat.reduceAdd, Nat.reduceLeDiff, Nat.reduceEqDiff, and_self, and_false, false_and, if_true, if_false, am_nb, am_nb0, am_nb1, am_lc1, am_lc2, am_lc3, am_b0, am_b1, am_10, am_c8, am_c16, am_c24, am_c32, am_c40, am_c48, am_c56, am_c64, am_c72, Nat.add_zero, Bool.false_eq_true, Nat.zero_le, e60, hlt, hcu, hin, hcl, e1, hy]
      refine wX1_dayGoes (d := d) hC hC.1.s2 (by decide) (by decide) (fun ν hF hT => ?_)
      have hC1 := hC.js (by decide) (by decide) hF
      have hcu1 := hC1.1
      simp only [cL, spL, Nat.reduceAdd] at hcu1
      have e2 : am_I ν 19 j = dayC N ru (cS μ 12) (48 + j) := by rw [← hT]; exact (cS_6 hj8).symm
      by_cases hz : dayC N ru (cS μ 12) (48 + j) = 0
      · simp only [fliC, if_pos hz, hy, if_true, if_false] at hK
        simp only [gX1_fliesIn_35, gX1_fliesIn_36, gX1_fliesIn_39, gX1_fliesIn_42, gX1_fliesIn_43, gX1_fliesIn_44, gX1_fliesIn_47, gX1_fliesIn_48, gX1_fliesIn_51, gX1_fliesIn_52, gX1_fliesIn_55, gX1_fliesIn_56, am_kill_int, am_kill_ref, am_kill_null, am_kill_F, am_kill_long, am_cat_n, am_cat_i, am_cat_r, am_cat_0, am_cat_l, am_nr_n, am_nr_i, am_nr_r, am_nr_0, am_nr_l, Option.toList_some, Option.toList_none, List.nil_append, List.cons_append, va_rf_s, va_rf_n, am_II, am_I_sR, am_I_sL, am_R_sI, am_RR, am_R_sL, am_L_sI, am_L_sR, am_LL, am_k_sI, am_k_sR, am_k_sL, am_n_sI, am_n_sR, am_n_sL, true_and, and_true, true_or, or_true, or_false, false_or, not_true_eq_false, not_false_eq_true, Nat.reduceLT, am_dS, am_dP, am_d1, Nat.reduceSub, Nat.reduceMul, ne_eq, Nat.reduceBEq, Nat.reduceAdd, Nat.reduceLeDiff, Nat.reduceEqDiff, and_self, and_false, false_and, if_true, if_false, am_nb, am_nb0, am_nb1, am_lc1, am_lc2, am_lc3, am_b0, am_b1, am_10, am_c8, am_c16, am_c24, am_c32, am_c40, am_c48, am_c56, am_c64, am_c72, Nat.add_zero, Bool.false_eq_true, Nat.zero_le, hcu1, hin, hcl, e2, hz]
        exact hK _ hF hT
      · simp only [fliC, if_neg hz] at hK
        simp only [gX1_fliesIn_35, gX1_fliesIn_36, gX1_fliesIn_39, gX1_fliesIn_42, gX1_fliesIn_43, gX1_fliesIn_44, gX1_fliesIn_47, gX1_fliesIn_48, gX1_fliesIn_51, gX1_fliesIn_52, gX1_fliesIn_55, gX1_fliesIn_56, gX1_fliesIn_57, gX1_fliesIn_60, am_kill_int, am_kill_ref, am_kill_null, am_kill_F, am_kill_long, am_cat_n, am_cat_i, am_cat_r, am_cat_0, am_cat_l, am_nr_n, am_nr_i, am_nr_r, am_nr_0, am_nr_l, Option.toList_some, Option.toList_none, List.nil_append, List.cons_append, va_rf_s, va_rf_n, am_II, am_I_sR, am_I_sL, am_R_sI, am_RR, am_R_sL, am_L_sI, am_L_sR, am_LL, am_k_sI, am_k_sR, am_k_sL, am_n_sI, am_n_sR, am_n_sL, true_and, and_true, true_or, or_true, or_false, false_or, not_true_eq_false, not_false_eq_true, Nat.reduceLT, am_dS, am_dP, am_d1, Nat.reduceSub, Nat.reduceMul, ne_eq, Nat.reduceBEq, Nat.reduceAdd, Nat.reduceLeDiff, Nat.reduceEqDiff, and_self, and_false, false_and, if_true, if_false, am_nb, am_nb0, am_nb1, am_lc1, am_lc2, am_lc3, am_b0, am_b1, am_10, am_c8, am_c16, am_c24, am_c32, am_c40, am_c48, am_c56, am_c64, am_c72, Nat.add_zero, Bool.false_eq_true, Nat.zero_le, hcu1, hin, hcl, e2, hz, nI_1]
        exact ih (k + 1) ν _ (by omega) hC1 (fun ξ hF2 hT2 => by
          rw [hT] at hT2 ⊢
          exact hK _ (hF.trans hF2) hT2)
theorem wX1_fliesIn (hC : CC N ru c μ) (hj8 : j < 8) (hK : ∀ ν, Fr (jS 12) μ ν → cS ν 12 = (fliC N ru j 60 1 (cS μ 12)).2 → K (some (.int (fliC N ru j 60 1 (cS μ 12)).1)) ν) :
    am_Wp (d + 69) mX1_fliesIn 0 [.ref 0, .int (nI j), am_F, am_F] [] μ K := by
  simp only [gX1_fliesIn_0, gX1_fliesIn_1, am_kill_int, am_kill_ref, am_kill_null, am_kill_F, am_kill_long, am_cat_n, am_cat_i, am_cat_r, am_cat_0, am_cat_l, am_nr_n, am_nr_i, am_nr_r, am_nr_0, am_nr_l, Option.toList_some, Option.toList_none, List.nil_append, List.cons_append, va_rf_s, va_rf_n, am_II, am_I_sR, am_I_sL, am_R_sI, am_RR, am_R_sL, am_L_sI, am_L_sR, am_LL, am_k_sI, am_k_sR, am_k_sL, am_n_sI, am_n_sR, am_n_sL, true_and, and_true, true_or, or_true, or_false, false_or, not_true_eq_false, not_false_eq_true, Nat.reduceLT, am_dS, am_dP, am_d1, Nat.reduceSub, Nat.reduceMul, ne_eq, Nat.reduceBEq, Nat.reduceAdd, Nat.reduceLeDiff, Nat.reduceEqDiff, and_self, and_false, false_and, if_true, if_false, am_nb, am_nb0, am_nb1, am_lc1, am_lc2, am_lc3, am_b0, am_b1, am_10, am_c8, am_c16, am_c24, am_c32, am_c40, am_c48, am_c56, am_c64, am_c72, Nat.add_zero, Bool.false_eq_true, Nat.zero_le]
  exact fliL hj8 60 1 μ _ (by omega) hC hK
theorem wX1_turnedNow (hC : CC N ru c μ) (hK : ∀ ν, Fr (jS 12) μ ν → cS ν 12 = dayC N ru (cS μ 12) → K (some (.int (dayC N ru (cS μ 12) 82 - cS μ 1 82))) ν) :
    am_Wp (d + 69) mX1_turnedNow 0 [.ref 0] [] μ K := by
  have hcu := hC.1
  simp only [cL, spL, Nat.reduceAdd] at hcu
  simp only [gX1_turnedNow_0, gX1_turnedNow_1, gX1_turnedNow_2, gX1_turnedNow_5, am_kill_int, am_kill_ref, am_kill_null, am_kill_F, am_kill_long, am_cat_n, am_cat_i, am_cat_r, am_cat_0, am_cat_l, am_nr_n, am_nr_i, am_nr_r, am_nr_0, am_nr_l, Option.toList_some, Option.toList_none, List.nil_append, List.cons_append, va_rf_s, va_rf_n, am_II, am_I_sR, am_I_sL, am_R_sI, am_RR, am_R_sL, am_L_sI, am_L_sR, am_LL, am_k_sI, am_k_sR, am_k_sL, am_n_sI, am_n_sR, am_n_sL, true_and, and_true, true_or, or_true, or_false, false_or, not_true_eq_false, not_false_eq_true, Nat.reduceLT, am_dS, am_dP, am_d1, Nat.reduceSub, Nat.reduceMul, ne_eq, Nat.reduceBEq, Nat.reduceAdd, Nat.reduceLeDiff, Nat.reduceEqDiff, and_self, and_false, false_and, if_true, if_false, am_nb, am_nb0, am_nb1, am_lc1, am_lc2, am_lc3, am_b0, am_b1, am_10, am_c8, am_c16, am_c24, am_c32, am_c40, am_c48, am_c56, am_c64, am_c72, Nat.add_zero, Bool.false_eq_true, Nat.zero_le, hcu]
  refine wX1_dayGoes (d := d) hC hC.1.s2 (by decide) (by decide) (fun ν hF hT => ?_)
  have hC1 := hC.js (by decide) (by decide) hF
  have hcu1 := hC1.1
  simp only [cL, spL, Nat.reduceAdd] at hcu1
  have hS : cS ν 1 = cS μ 1 := cS_Fr hF (fun a b q r s => by unfold jS inSp jO at s; omega)
  simp only [gX1_turnedNow_8, gX1_turnedNow_9, gX1_turnedNow_12, gX1_turnedNow_15, gX1_turnedNow_16, gX1_turnedNow_19, gX1_turnedNow_22, gX1_turnedNow_23, am_kill_int, am_kill_ref, am_kill_null, am_kill_F, am_kill_long, am_cat_n, am_cat_i, am_cat_r, am_cat_0, am_cat_l, am_nr_n, am_nr_i, am_nr_r, am_nr_0, am_nr_l, Option.toList_some, Option.toList_none, List.nil_append, List.cons_append, va_rf_s, va_rf_n, am_II, am_I_sR, am_I_sL, am_R_sI, am_RR, am_R_sL, am_L_sI, am_L_sR, am_LL, am_k_sI, am_k_sR, am_k_sL, am_n_sI, am_n_sR, am_n_sL, true_and, and_true, true_or, or_true, or_false, false_or, not_true_eq_false, not_false_eq_true, Nat.reduceLT, am_dS, am_dP, am_d1, Nat.reduceSub, Nat.reduceMul, ne_eq, Nat.reduceBEq, Nat.reduceAdd, Nat.reduceLeDiff, Nat.reduceEqDiff, and_self, and_false, false_and, if_true, if_false, am_nb, am_nb0, am_nb1, am_lc1, am_lc2, am_lc3, am_b0, am_b1, am_10, am_c8, am_c16, am_c24, am_c32, am_c40, am_c48, am_c56, am_c64, am_c72, Nat.add_zero, Bool.false_eq_true, Nat.zero_le, hcu1]
  rw [← cS_t (h := 12), ← cS_t (h := 1), hT, hS]
  exact hK _ hF hT
theorem wX1_flownIn (hC : CC N ru c μ) (hM : M ≤ 1000) (hK : ∀ ν, Fr (jS 12) μ ν → cS ν 12 = itS (dayC N ru) M (cS μ 1) → K (some (.int (itS (dayC N ru) M (cS μ 1) 81 - cS μ 1 81))) ν) :
    am_Wp (d + 70) mX1_flownIn 0 [.ref 0, .int (nI M)] [] μ K := by
  have hcu := hC.1
  simp only [cL, spL, Nat.reduceAdd] at hcu
  simp only [gX1_flownIn_0, gX1_flownIn_1, gX1_flownIn_4, gX1_flownIn_5, gX1_flownIn_8, am_kill_int, am_kill_ref, am_kill_null, am_kill_F, am_kill_long, am_cat_n, am_cat_i, am_cat_r, am_cat_0, am_cat_l, am_nr_n, am_nr_i, am_nr_r, am_nr_0, am_nr_l, Option.toList_some, Option.toList_none, List.nil_append, List.cons_append, va_rf_s, va_rf_n, am_II, am_I_sR, am_I_sL, am_R_sI, am_RR, am_R_sL, am_L_sI, am_L_sR, am_LL, am_k_sI, am_k_sR, am_k_sL, am_n_sI, am_n_sR, am_n_sL, true_and, and_true, true_or, or_true, or_false, false_or, not_true_eq_false, not_false_eq_true, Nat.reduceLT, am_dS, am_dP, am_d1, Nat.reduceSub, Nat.reduceMul, ne_eq, Nat.reduceBEq, Nat.reduceAdd, Nat.reduceLeDiff, Nat.reduceEqDiff, and_self, and_false, false_and, if_true, if_false, am_nb, am_nb0, am_nb1, am_lc1, am_lc2, am_lc3, am_b0, am_b1, am_10, am_c8, am_c16, am_c24, am_c32, am_c40, am_c48, am_c56, am_c64, am_c72, Nat.add_zero, Bool.false_eq_true, Nat.zero_le, hcu]
  refine wX2_becomes (d := d + 68) hC.1.s1 hC.1.s2 (by decide) (fun ν hF hT => ?_)
  have hF' : Fr (jS 12) μ ν := hF.le fun a b q => Or.inl q
  have hC1 := hC.js (by decide) (by decide) hF'
  have hcu1 := hC1.1
  simp only [cL, spL, Nat.reduceAdd] at hcu1
  simp only [gX1_flownIn_11, gX1_flownIn_12, gX1_flownIn_13, gX1_flownIn_16, gX1_flownIn_17, am_kill_int, am_kill_ref, am_kill_null, am_kill_F, am_kill_long, am_cat_n, am_cat_i, am_cat_r, am_cat_0, am_cat_l, am_nr_n, am_nr_i, am_nr_r, am_nr_0, am_nr_l, Option.toList_some, Option.toList_none, List.nil_append, List.cons_append, va_rf_s, va_rf_n, am_II, am_I_sR, am_I_sL, am_R_sI, am_RR, am_R_sL, am_L_sI, am_L_sR, am_LL, am_k_sI, am_k_sR, am_k_sL, am_n_sI, am_n_sR, am_n_sL, true_and, and_true, true_or, or_true, or_false, false_or, not_true_eq_false, not_false_eq_true, Nat.reduceLT, am_dS, am_dP, am_d1, Nat.reduceSub, Nat.reduceMul, ne_eq, Nat.reduceBEq, Nat.reduceAdd, Nat.reduceLeDiff, Nat.reduceEqDiff, and_self, and_false, false_and, if_true, if_false, am_nb, am_nb0, am_nb1, am_lc1, am_lc2, am_lc3, am_b0, am_b1, am_10, am_c8, am_c16, am_c24, am_c32, am_c40, am_c48, am_c56, am_c64, am_c72, Nat.add_zero, Bool.false_eq_true, Nat.zero_le, hcu1]
  refine wX1_daysGo (d := d) hC1 hC1.1.s2 (by decide) (by decide) hM (fun ξ hF2 hT2 => ?_)
  have hC2 := hC1.js (by decide) (by decide) hF2
  have hcu2 := hC2.1
  simp only [cL, spL, Nat.reduceAdd] at hcu2
  have hS : cS ξ 1 = cS μ 1 := (cS_Fr hF2 (fun a b q r s => by unfold jS inSp jO at s; omega)).trans (cS_Fr hF' (fun a b q r s => by unfold jS inSp jO at s; omega))
  simp only [gX1_flownIn_20, gX1_flownIn_21, gX1_flownIn_24, gX1_flownIn_27, gX1_flownIn_28, gX1_flownIn_31, gX1_flownIn_34, gX1_flownIn_35, am_kill_int, am_kill_ref, am_kill_null, am_kill_F, am_kill_long, am_cat_n, am_cat_i, am_cat_r, am_cat_0, am_cat_l, am_nr_n, am_nr_i, am_nr_r, am_nr_0, am_nr_l, Option.toList_some, Option.toList_none, List.nil_append, List.cons_append, va_rf_s, va_rf_n, am_II, am_I_sR, am_I_sL, am_R_sI, am_RR, am_R_sL, am_L_sI, am_L_sR, am_LL, am_k_sI, am_k_sR, am_k_sL, am_n_sI, am_n_sR, am_n_sL, true_and, and_true, true_or, or_true, or_false, false_or, not_true_eq_false, not_false_eq_true, Nat.reduceLT, am_dS, am_dP, am_d1, Nat.reduceSub, Nat.reduceMul, ne_eq, Nat.reduceBEq, Nat.reduceAdd, Nat.reduceLeDiff, Nat.reduceEqDiff, and_self, and_false, false_and, if_true, if_false, am_nb, am_nb0, am_nb1, am_lc1, am_lc2, am_lc3, am_b0, am_b1, am_10, am_c8, am_c16, am_c24, am_c32, am_c40, am_c48, am_c56, am_c64, am_c72, Nat.add_zero, Bool.false_eq_true, Nat.zero_le, hcu2]
  rw [← cS_f (h := 12), ← cS_f (h := 1), hT2, hT, hS]
  exact hK _ (hF'.trans hF2) (by rw [hT2, hT])
theorem wX1_oddIf (hC : CC N ru c μ) (hj8 : j < 8) (hK : ∀ ν, Fr (jS 12) μ ν → cS ν 12 = lieT (cS μ 1) j x → K (some (.int (oddS N ru (lieT (cS μ 1) j x) j))) ν) :
    am_Wp (d + 68) mX1_oddIf 0 [.ref 0, .int (nI j), .int x] [] μ K := by
  have hcu := hC.1
  simp only [cL, spL, Nat.reduceAdd] at hcu
  simp only [gX1_oddIf_0, gX1_oddIf_1, gX1_oddIf_4, gX1_oddIf_5, gX1_oddIf_8, am_kill_int, am_kill_ref, am_kill_null, am_kill_F, am_kill_long, am_cat_n, am_cat_i, am_cat_r, am_cat_0, am_cat_l, am_nr_n, am_nr_i, am_nr_r, am_nr_0, am_nr_l, Option.toList_some, Option.toList_none, List.nil_append, List.cons_append, va_rf_s, va_rf_n, am_II, am_I_sR, am_I_sL, am_R_sI, am_RR, am_R_sL, am_L_sI, am_L_sR, am_LL, am_k_sI, am_k_sR, am_k_sL, am_n_sI, am_n_sR, am_n_sL, true_and, and_true, true_or, or_true, or_false, false_or, not_true_eq_false, not_false_eq_true, Nat.reduceLT, am_dS, am_dP, am_d1, Nat.reduceSub, Nat.reduceMul, ne_eq, Nat.reduceBEq, Nat.reduceAdd, Nat.reduceLeDiff, Nat.reduceEqDiff, and_self, and_false, false_and, if_true, if_false, am_nb, am_nb0, am_nb1, am_lc1, am_lc2, am_lc3, am_b0, am_b1, am_10, am_c8, am_c16, am_c24, am_c32, am_c40, am_c48, am_c56, am_c64, am_c72, Nat.add_zero, Bool.false_eq_true, Nat.zero_le, hcu]
  refine wX2_becomes (d := d + 66) hC.1.s1 hC.1.s2 (by decide) (fun ν hF hT => ?_)
  have hF' : Fr (jS 12) μ ν := hF.le fun a b q => Or.inl q
  have hC1 := hC.js (by decide) (by decide) hF'
  have hs1 := hC1.1.s2
  have hcu1 := hC1.1
  simp only [cL, spL, Nat.reduceAdd] at hcu1
  simp only [gX1_oddIf_11, gX1_oddIf_12, gX1_oddIf_15, gX1_oddIf_16, gX1_oddIf_17, gX1_oddIf_20, gX1_oddIf_21, gX1_oddIf_22, gX1_oddIf_25, gX1_oddIf_26, gX1_oddIf_29, am_kill_int, am_kill_ref, am_kill_null, am_kill_F, am_kill_long, am_cat_n, am_cat_i, am_cat_r, am_cat_0, am_cat_l, am_nr_n, am_nr_i, am_nr_r, am_nr_0, am_nr_l, Option.toList_some, Option.toList_none, List.nil_append, List.cons_append, va_rf_s, va_rf_n, am_I_sR, am_I_sL, am_R_sI, am_R_sL, am_L_sI, am_L_sR, am_k_sI, am_k_sR, am_k_sL, am_n_sI, am_n_sR, am_n_sL, true_and, and_true, true_or, or_true, or_false, false_or, not_true_eq_false, not_false_eq_true, Nat.reduceLT, am_dS, am_dP, am_d1, Nat.reduceSub, Nat.reduceMul, ne_eq, Nat.reduceBEq, Nat.reduceAdd, Nat.reduceLeDiff, Nat.reduceEqDiff, and_self, and_false, false_and, if_true, if_false, am_nb, am_nb0, am_nb1, am_lc1, am_lc2, am_lc3, am_b0, am_b1, am_10, am_c8, am_c16, am_c24, am_c32, am_c40, am_c48, am_c56, am_c64, am_c72, Nat.add_zero, Bool.false_eq_true, Nat.zero_le, hcu1, wX2_lies hj8 hs1]
  have hF2 : Fr (jS 12) ν _ := Fr_lies (h := 12) (j := j) (x := x) (y := maI 0 (am_I ν (12 + 4) j - 1)) (F := jS 12) (μ := ν) (fun k q b => Or.inl ⟨by omega, by omega⟩)
  have hC2 := hC1.js (by decide) (by decide) hF2
  refine wX1_oddOf (d := d) hC2 hC2.1.s2 (by decide) (by decide) hj8 (fun ξ hF3 => ?_)
  have e := cS_lies (μ := ν) (h := 12) (x := x) hj8
  rw [hT] at e
  rw [e]
  simp only [gX1_oddIf_26, gX1_oddIf_29, am_kill_int, am_kill_ref, am_kill_null, am_kill_F, am_kill_long, am_cat_n, am_cat_i, am_cat_r, am_cat_0, am_cat_l, am_nr_n, am_nr_i, am_nr_r, am_nr_0, am_nr_l, Option.toList_some, Option.toList_none, List.nil_append, List.cons_append, va_rf_s, va_rf_n, am_II, am_I_sR, am_I_sL, am_R_sI, am_RR, am_R_sL, am_L_sI, am_L_sR, am_LL, am_k_sI, am_k_sR, am_k_sL, am_n_sI, am_n_sR, am_n_sL, true_and, and_true, true_or, or_true, or_false, false_or, not_true_eq_false, not_false_eq_true, Nat.reduceLT, am_dS, am_dP, am_d1, Nat.reduceSub, Nat.reduceMul, ne_eq, Nat.reduceBEq, Nat.reduceAdd, Nat.reduceLeDiff, Nat.reduceEqDiff, and_self, and_false, false_and, if_true, if_false, am_nb, am_nb0, am_nb1, am_lc1, am_lc2, am_lc3, am_b0, am_b1, am_10, am_c8, am_c16, am_c24, am_c32, am_c40, am_c48, am_c56, am_c64, am_c72, Nat.add_zero, Bool.false_eq_true, Nat.zero_le]
  exact hK _ ((hF'.trans hF2).trans (hF3.le fun a b q => Or.inr (Or.inr q))) (by rw [cS_Fr hF3 (fun a b q r s => by unfold jA at s; omega), e])
end RUNV
