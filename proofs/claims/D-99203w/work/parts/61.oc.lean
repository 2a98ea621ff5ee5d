/-! the model: days on a copy; calls that ask: later, flies -/
set_option maxRecDepth 100000
section OCV
variable {d : Nat} {μ ν ξ : am_M} {K : Option Value → am_M → Prop} {x y z c w : Int32} {h h' N C j i k r n M b q : Nat} {v : Int32} {ru : Option PF} {p : Int64} {o : Nat → Int32} {S : Nat → Int32}
theorem wX3_goDays (hS : MS N ru c μ) (hh : 62 < h) (hk : am_k μ h = (10, 83)) (hM : M ≤ 1000) (hK : ∀ ν, Fr (jH h) μ ν → am_I ν 54 17 = 0 → am_I ν h = itS (dayM N ru) M (am_I μ h) → K none ν) :
    am_Wp (d + 73) mX3_goDays 0 [.ref 54, .ref h, .int (nI M), am_F] [] μ K := by
  simp only [gX3_goDays_0, gX3_goDays_1, am_kill_int, am_kill_ref, am_kill_null, am_kill_F, am_kill_long, am_cat_n, am_cat_i, am_cat_r, am_cat_0, am_cat_l, am_nr_n, am_nr_i, am_nr_r, am_nr_0, am_nr_l, Option.toList_some, Option.toList_none, List.nil_append, List.cons_append, va_rf_s, va_rf_n, am_I_sR, am_I_sL, am_R_sI, am_R_sL, am_L_sI, am_L_sR, am_k_sI, am_k_sR, am_k_sL, am_n_sI, am_n_sR, am_n_sL, true_and, and_true, true_or, or_true, or_false, false_or, not_true_eq_false, not_false_eq_true, Nat.reduceLT, am_dS, am_dP, am_d1, Nat.reduceSub, Nat.reduceMul, ne_eq, Nat.reduceBEq, Nat.reduceAdd, Nat.reduceLeDiff, Nat.reduceEqDiff, and_self, and_false, false_and, if_true, if_false, am_nb, am_nb0, am_nb1, am_lc1, am_lc2, am_lc3, am_b0, am_b1, am_10, am_c8, am_c16, am_c24, am_c32, am_c40, am_c48, am_c56, am_c64, am_c72, Nat.add_zero, Bool.false_eq_true, Nat.zero_le]
  refine am_for (N := M) (fun j ls ν => ls = [.ref 54, .ref h, .int (nI M), .int (nI j)] ∧ Fr (jH h) μ ν ∧ am_I ν 54 17 = 0 ∧ am_I ν h = itS (dayM N ru) j (am_I μ h)) ?_ ?_ M 0 _ _ (by omega) ⟨rfl, Fr.refl, hS.2.1.1.1, rfl⟩
  · rintro j ls ν hj ⟨rfl, hF, h17, hT⟩ ih
    have hS1 := hS.jh hh hF h17
    have hlt : ¬ nI M ≤ nI j := nI_ge hj (by omega)
    have hm := hS1.1.1.1.1
    rw [gX3_goDays_2]
    simp only [gX3_goDays_3, gX3_goDays_4, gX3_goDays_7, gX3_goDays_8, gX3_goDays_8n, gX3_goDays_9, am_kill_int, am_kill_ref, am_kill_null, am_kill_F, am_kill_long, am_cat_n, am_cat_i, am_cat_r, am_cat_0, am_cat_l, am_nr_n, am_nr_i, am_nr_r, am_nr_0, am_nr_l, Option.toList_some, Option.toList_none, List.nil_append, List.cons_append, va_rf_s, va_rf_n, am_I_sR, am_I_sL, am_R_sI, am_R_sL, am_L_sI, am_L_sR, am_k_sI, am_k_sR, am_k_sL, am_n_sI, am_n_sR, am_n_sL, true_and, and_true, true_or, or_true, or_false, false_or, not_true_eq_false, not_false_eq_true, Nat.reduceLT, am_dS, am_dP, am_d1, Nat.reduceSub, Nat.reduceMul, ne_eq, Nat.reduceBEq, Nat.reduceAdd, Nat.reduceLeDiff, Nat.reduceEqDiff, and_self, and_false, false_and, if_true, if_false, am_nb, am_nb0, am_nb1, am_lc1, am_lc2, am_lc3, am_b0, am_b1, am_10, am_c8, am_c16, am_c24, am_c32, am_c40, am_c48, am_c56, am_c64, am_c72, Nat.add_zero, Bool.false_eq_true, Nat.zero_le, hm, hlt]
    refine wX3_goDay (d := d) hS1 (by rw [hF.2.2.2.1]; exact hk) (fun ξ hF2 h172 hT2 => ?_)
    simp only [gX3_goDays_12, gX3_goDays_15, am_kill_int, am_kill_ref, am_kill_null, am_kill_F, am_kill_long, am_cat_n, am_cat_i, am_cat_r, am_cat_0, am_cat_l, am_nr_n, am_nr_i, am_nr_r, am_nr_0, am_nr_l, Option.toList_some, Option.toList_none, List.nil_append, List.cons_append, va_rf_s, va_rf_n, am_I_sR, am_I_sL, am_R_sI, am_R_sL, am_L_sI, am_L_sR, am_k_sI, am_k_sR, am_k_sL, am_n_sI, am_n_sR, am_n_sL, true_and, and_true, true_or, or_true, or_false, false_or, not_true_eq_false, not_false_eq_true, Nat.reduceLT, am_dS, am_dP, am_d1, Nat.reduceSub, Nat.reduceMul, ne_eq, Nat.reduceBEq, Nat.reduceAdd, Nat.reduceLeDiff, Nat.reduceEqDiff, and_self, and_false, false_and, if_true, if_false, am_nb, am_nb0, am_nb1, am_lc1, am_lc2, am_lc3, am_b0, am_b1, am_10, am_c8, am_c16, am_c24, am_c32, am_c40, am_c48, am_c56, am_c64, am_c72, Nat.add_zero, Bool.false_eq_true, Nat.zero_le, nI_1]
    exact ih _ _ ⟨rfl, hF.trans hF2, h172, by rw [hT2, hT]; rfl⟩
  · rintro ls ν ⟨rfl, hF, h17, hT⟩
    rw [gX3_goDays_2]
    simp only [gX3_goDays_3, gX3_goDays_4, gX3_goDays_7, gX3_goDays_8, gX3_goDays_8n, gX3_goDays_9, gX3_goDays_12, gX3_goDays_15, gX3_goDays_18, am_kill_int, am_kill_ref, am_kill_null, am_kill_F, am_kill_long, am_cat_n, am_cat_i, am_cat_r, am_cat_0, am_cat_l, am_nr_n, am_nr_i, am_nr_r, am_nr_0, am_nr_l, Option.toList_some, Option.toList_none, List.nil_append, List.cons_append, va_rf_s, va_rf_n, am_I_sR, am_I_sL, am_R_sI, am_R_sL, am_L_sI, am_L_sR, am_k_sI, am_k_sR, am_k_sL, am_n_sI, am_n_sR, am_n_sL, true_and, and_true, true_or, or_true, or_false, false_or, not_true_eq_false, not_false_eq_true, Nat.reduceLT, am_dS, am_dP, am_d1, Nat.reduceSub, Nat.reduceMul, ne_eq, Nat.reduceBEq, Nat.reduceAdd, Nat.reduceLeDiff, Nat.reduceEqDiff, and_self, and_false, false_and, if_true, if_false, am_nb, am_nb0, am_nb1, am_lc1, am_lc2, am_lc3, am_b0, am_b1, am_10, am_c8, am_c16, am_c24, am_c32, am_c40, am_c48, am_c56, am_c64, am_c72, Nat.add_zero, Bool.false_eq_true, Nat.zero_le, Int32.le_refl]
    exact hK ν hF h17 hT
theorem fliML (hh : 62 < h) (hj8 : j < 8) : ∀ (m k : Nat) (μ : am_M) (z : Value), k + m = 61 → MS N ru c μ → am_k μ h = (10, 83) → (∀ ν, Fr (jH h) μ ν → am_I ν 54 17 = 0 → am_I ν h = (fliM N ru j m k (am_I μ h)).2 → K (some (.int (fliM N ru j m k (am_I μ h)).1)) ν) →
    am_Wp (d + 73) mX3_fliesIn 2 [.ref 54, .ref h, .int (nI j), .int (nI k), z] [] μ K := by
  intro m
  have hv : vp_in (nI (48 + j)) 83 := vp_in_nI (by omega) (by omega)
  have hcl : (nI (48 + j)).toNatClampNeg = 48 + j := nI_clamp (by omega)
  have e60 : (60 : Int32) = nI 60 := by decide
  induction m with
  | zero =>
    intro k μ z hkm hS hk hK
    have hlt : nI 60 < nI k := nI_lt (by omega) (by omega)
    rw [gX3_fliesIn_2]
    simp only [gX3_fliesIn_3, gX3_fliesIn_5, gX3_fliesIn_49, gX3_fliesIn_51, am_kill_int, am_kill_ref, am_kill_null, am_kill_F, am_kill_long, am_cat_n, am_cat_i, am_cat_r, am_cat_0, am_cat_l, am_nr_n, am_nr_i, am_nr_r, am_nr_0, am_nr_l, Option.toList_some, Option.toList_none, List.nil_append, List.cons_append, va_rf_s, va_rf_n, am_I_sR, am_I_sL, am_R_sI, am_R_sL, am_L_sI, am_L_sR, am_k_sI, am_k_sR, am_k_sL, am_n_sI, am_n_sR, am_n_sL, true_and, and_true, true_or, or_true, or_false, false_or, not_true_eq_false, not_false_eq_true, Nat.reduceLT, am_dS, am_dP, am_d1, Nat.reduceSub, Nat.reduceMul, ne_eq, Nat.reduceBEq, Nat.reduceAdd, Nat.reduceLeDiff, Nat.reduceEqDiff, and_self, and_false, false_and, if_true, if_false, am_nb, am_nb0, am_nb1, am_lc1, am_lc2, am_lc3, am_b0, am_b1, am_10, am_c8, am_c16, am_c24, am_c32, am_c40, am_c48, am_c56, am_c64, am_c72, Nat.add_zero, Bool.false_eq_true, Nat.zero_le, e60, hlt]
    exact hK _ Fr.refl hS.2.1.1.1 rfl
  | succ m ih =>
    intro k μ z hkm hS hk hK
    have hlt : ¬ nI 60 < nI k := nI_nlt (by omega) (by omega)
    have hm := hS.1.1.1.1
    rw [gX3_fliesIn_2]
    simp only [gX3_fliesIn_3, gX3_fliesIn_5, gX3_fliesIn_8, gX3_fliesIn_8n, gX3_fliesIn_9, gX3_fliesIn_11, gX3_fliesIn_12, gX3_fliesIn_13, gX3_fliesIn_14, gX3_fliesIn_16, gX3_fliesIn_17, gX3_fliesIn_17n, gX3_fliesIn_18, am_kill_int, am_kill_ref, am_kill_null, am_kill_F, am_kill_long, am_cat_n, am_cat_i, am_cat_r, am_cat_0, am_cat_l, am_nr_n, am_nr_i, am_nr_r, am_nr_0, am_nr_l, Option.toList_some, Option.toList_none, List.nil_append, List.cons_append, va_rf_s, va_rf_n, am_I_sR, am_I_sL, am_R_sI, am_R_sL, am_L_sI, am_L_sR, am_k_sI, am_k_sR, am_k_sL, am_n_sI, am_n_sR, am_n_sL, true_and, and_true, true_or, or_true, or_false, false_or, not_true_eq_false, not_false_eq_true, Nat.reduceLT, am_dS, am_dP, am_d1, Nat.reduceSub, Nat.reduceMul, ne_eq, Nat.reduceBEq, Nat.reduceAdd, Nat.reduceLeDiff, Nat.reduceEqDiff, and_self, and_false, false_and, if_true, if_false, am_nb, am_nb0, am_nb1, am_lc1, am_lc2, am_lc3, am_b0, am_b1, am_10, am_c8, am_c16, am_c24, am_c32, am_c40, am_c48, am_c56, am_c64, am_c72, Nat.add_zero, Bool.false_eq_true, Nat.zero_le, e60, hlt, hm, hk, hv, hcl]
    refine wX3_goDay (d := d) hS hk (fun ν hF h17 hT => ?_)
    have hkν : am_k ν h = (10, 83) := by rw [hF.2.2.2.1]; exact hk
    unfold fliM at hK
    have e2 : am_I ν h (48 + j) = dayM N ru (am_I μ h) (48 + j) := by rw [hT]
    by_cases hz : dayM N ru (am_I μ h) (48 + j) = 0
    · simp only [if_pos hz] at hK
      by_cases hy : am_I μ h (48 + j) = 2
      · simp only [if_pos hy] at hK
        simp only [gX3_fliesIn_21, gX3_fliesIn_21n, gX3_fliesIn_22, gX3_fliesIn_24, gX3_fliesIn_25, gX3_fliesIn_26, gX3_fliesIn_27, gX3_fliesIn_30, gX3_fliesIn_32, gX3_fliesIn_33, gX3_fliesIn_36, gX3_fliesIn_37, gX3_fliesIn_40, gX3_fliesIn_42, am_kill_int, am_kill_ref, am_kill_null, am_kill_F, am_kill_long, am_cat_n, am_cat_i, am_cat_r, am_cat_0, am_cat_l, am_nr_n, am_nr_i, am_nr_r, am_nr_0, am_nr_l, Option.toList_some, Option.toList_none, List.nil_append, List.cons_append, va_rf_s, va_rf_n, am_I_sR, am_I_sL, am_R_sI, am_R_sL, am_L_sI, am_L_sR, am_k_sI, am_k_sR, am_k_sL, am_n_sI, am_n_sR, am_n_sL, true_and, and_true, true_or, or_true, or_false, false_or, not_true_eq_false, not_false_eq_true, Nat.reduceLT, am_dS, am_dP, am_d1, Nat.reduceSub, Nat.reduceMul, ne_eq, Nat.reduceBEq, Nat.reduceAdd, Nat.reduceLeDiff, Nat.reduceEqDiff, and_self, and_false, false_and, if_true, if_false, am_nb, am_nb0, am_nb1, am_lc1, am_lc2, am_lc3, am_b0, am_b1, am_10, am_c8, am_c16, am_c24, am_c32, am_c40, am_c48, am_c56, am_c64, am_c72, Nat.add_zero, Bool.false_eq_true, Nat.zero_le, hkν, hv, hcl, e2, hz, hy]
        exact hK _ hF h17 hT
      · simp only [if_neg hy] at hK
        simp only [gX3_fliesIn_21, gX3_fliesIn_21n, gX3_fliesIn_22, gX3_fliesIn_24, gX3_fliesIn_25, gX3_fliesIn_26, gX3_fliesIn_27, gX3_fliesIn_30, gX3_fliesIn_32, gX3_fliesIn_33, gX3_fliesIn_36, gX3_fliesIn_37, gX3_fliesIn_40, gX3_fliesIn_42, am_kill_int, am_kill_ref, am_kill_null, am_kill_F, am_kill_long, am_cat_n, am_cat_i, am_cat_r, am_cat_0, am_cat_l, am_nr_n, am_nr_i, am_nr_r, am_nr_0, am_nr_l, Option.toList_some, Option.toList_none, List.nil_append, List.cons_append, va_rf_s, va_rf_n, am_I_sR, am_I_sL, am_R_sI, am_R_sL, am_L_sI, am_L_sR, am_k_sI, am_k_sR, am_k_sL, am_n_sI, am_n_sR, am_n_sL, true_and, and_true, true_or, or_true, or_false, false_or, not_true_eq_false, not_false_eq_true, Nat.reduceLT, am_dS, am_dP, am_d1, Nat.reduceSub, Nat.reduceMul, ne_eq, Nat.reduceBEq, Nat.reduceAdd, Nat.reduceLeDiff, Nat.reduceEqDiff, and_self, and_false, false_and, if_true, if_false, am_nb, am_nb0, am_nb1, am_lc1, am_lc2, am_lc3, am_b0, am_b1, am_10, am_c8, am_c16, am_c24, am_c32, am_c40, am_c48, am_c56, am_c64, am_c72, Nat.add_zero, Bool.false_eq_true, Nat.zero_le, hkν, hv, hcl, e2, hz, hy]
        exact hK _ hF h17 hT
    · simp only [if_neg hz] at hK
      simp only [gX3_fliesIn_21, gX3_fliesIn_21n, gX3_fliesIn_22, gX3_fliesIn_24, gX3_fliesIn_25, gX3_fliesIn_26, gX3_fliesIn_27, gX3_fliesIn_30, gX3_fliesIn_32, gX3_fliesIn_33, gX3_fliesIn_36, gX3_fliesIn_37, gX3_fliesIn_40, gX3_fliesIn_42, gX3_fliesIn_43, gX3_fliesIn_46, am_kill_int, am_kill_ref, am_kill_null, am_kill_F, am_kill_long, am_cat_n, am_cat_i, am_cat_r, am_cat_0, am_cat_l, am_nr_n, am_nr_i, am_nr_r, am_nr_0, am_nr_l, Option.toList_some, Option.toList_none, List.nil_append, List.cons_append, va_rf_s, va_rf_n, am_I_sR, am_I_sL, am_R_sI, am_R_sL, am_L_sI, am_L_sR, am_k_sI, am_k_sR, am_k_sL, am_n_sI, am_n_sR, am_n_sL, true_and, and_true, true_or, or_true, or_false, false_or, not_true_eq_false, not_false_eq_true, Nat.reduceLT, am_dS, am_dP, am_d1, Nat.reduceSub, Nat.reduceMul, ne_eq, Nat.reduceBEq, Nat.reduceAdd, Nat.reduceLeDiff, Nat.reduceEqDiff, and_self, and_false, false_and, if_true, if_false, am_nb, am_nb0, am_nb1, am_lc1, am_lc2, am_lc3, am_b0, am_b1, am_10, am_c8, am_c16, am_c24, am_c32, am_c40, am_c48, am_c56, am_c64, am_c72, Nat.add_zero, Bool.false_eq_true, Nat.zero_le, hkν, hv, hcl, e2, hz, nI_1]
      exact ih (k + 1) ν _ (by omega) (hS.jh hh hF h17) hkν (fun ξ hF2 h172 hT2 => by
        rw [hT] at hT2 ⊢
        exact hK _ (hF.trans hF2) h172 hT2)
theorem wX3_fliesIn (hS : MS N ru c μ) (hh : 62 < h) (hk : am_k μ h = (10, 83)) (hj8 : j < 8) (hK : ∀ ν, Fr (jH h) μ ν → am_I ν 54 17 = 0 → am_I ν h = (fliM N ru j 60 1 (am_I μ h)).2 → K (some (.int (fliM N ru j 60 1 (am_I μ h)).1)) ν) :
    am_Wp (d + 73) mX3_fliesIn 0 [.ref 54, .ref h, .int (nI j), am_F, am_F] [] μ K := by
  simp only [gX3_fliesIn_0, gX3_fliesIn_1, am_kill_int, am_kill_ref, am_kill_null, am_kill_F, am_kill_long, am_cat_n, am_cat_i, am_cat_r, am_cat_0, am_cat_l, am_nr_n, am_nr_i, am_nr_r, am_nr_0, am_nr_l, Option.toList_some, Option.toList_none, List.nil_append, List.cons_append, va_rf_s, va_rf_n, am_I_sR, am_I_sL, am_R_sI, am_R_sL, am_L_sI, am_L_sR, am_k_sI, am_k_sR, am_k_sL, am_n_sI, am_n_sR, am_n_sL, true_and, and_true, true_or, or_true, or_false, false_or, not_true_eq_false, not_false_eq_true, Nat.reduceLT, am_dS, am_dP, am_d1, Nat.reduceSub, Nat.reduceMul, ne_eq, Nat.reduceBEq, Nat.reduceAdd, Nat.reduceLeDiff, Nat.reduceEqDiff, and_self, and_false, false_and, if_true, if_false, am_nb, am_nb0, am_nb1, am_lc1, am_lc2, am_lc3, am_b0, am_b1, am_10, am_c8, am_c16, am_c24, am_c32, am_c40, am_c48, am_c56, am_c64, am_c72, Nat.add_zero, Bool.false_eq_true, Nat.zero_le]
  exact fliML hh hj8 60 1 μ _ (by omega) hS hk hK
/-- a row copied to another -/
theorem wX3_lay00 (hk : am_k μ h = (10, 83)) (hk' : am_k μ h' = (10, 83)) (hne : h ≠ h') (hK : ∀ ν, Fr (fun a _ => a = h') μ ν → (∀ i, i < 83 → am_I ν h' i = am_I μ h i) → K none ν) :
    am_Wp d mX3_lay0 0 [.ref h, .ref h', .int 0, am_F] [] μ K := by
  rw [← nI_0]
  refine wX3_lay0 (L := 83) hk hk' (by omega) (by decide) hne (fun ν h1 h2 => hK ν (h1.le fun a b q => q.1) fun i hi => ?_)
  have := h2 i hi
  rwa [Nat.zero_add] at this
theorem wX3_goLayK (hj : j < 8) (hk : am_k μ h = (10, 83)) (hK : ∀ ν, Fr (fun a _ => a = h) μ ν → am_I ν h = layM (am_I μ h) j x → K none ν) : am_Wp (d + 1) mX3_goLay 0 [.ref h, .int (nI j), .int x] [] μ K := by
  rw [wX3_goLay hj hk]
  refine hK _ (Fr.I (Fr.I (Fr.I (Fr.I (Fr.I Fr.refl rfl) rfl) rfl) rfl) rfl) ?_
  rw [am_row, am_row, am_row, am_row, am_row]
  rfl
theorem wX2_liesK (hj : j < 8) (hs : spL h (am_k μ) (am_R μ)) (hK : ∀ ν, Fr (fun a _ => inSp h a) μ ν → cS ν h = lieT (cS μ h) j x → K none ν) : am_Wp (d + 1) mX2_lies 0 [.ref h, .int (nI j), .int x] [] μ K := by
  rw [wX2_lies hj hs]
  exact hK _ (Fr_lies (F := fun a _ => inSp h a) fun k q b => ⟨by omega, by omega⟩) (cS_lies hj)
theorem spH_sM (hh : 63 ≤ h ∧ h ≤ 71) (hf : Fr (fun a _ => a = h) μ ν) : Fw sM μ ν := hf.toW.le fun a b q => by unfold sM; omega
theorem MS.sMm (hS : MS N ru c μ) (hf : Fw sM μ ν) (h17 : am_I ν 54 17 = 0) : MS N ru c ν := hS.fw hf (fun a b q e => by unfold sM at q; omega) h17
def vLat (N : Nat) (ru : Option PF) (S : Nat → Int32) (x : Int32) : Int32 := if isN x 100 = true then itS (dayC N ru) x.toNatClampNeg S 81 - S 81 else -1
def pLat (N : Nat) (ru : Option PF) (S : Nat → Int32) (x : Int32) : Option (List Int64) := if isN x 100 = true then some [(itS (dayC N ru) x.toNatClampNeg S 82 - S 82).toInt64, (orB (gF 1 (itS (dayC N ru) x.toNatClampNeg S)) N).toInt64] else none
theorem e99L : (99 : Int64) = (nI 100 - 1).toInt64 := by decide
theorem e99I : (99 : Int32) = nI 100 - 1 := by decide
theorem qc_later (hP : Per N C ru c μ) : QC mX1_later [.ref 0, .int x] μ (vLat N ru (cS μ 1) x) (pLat N ru (cS μ 1) x) := by
  intro d K hK
  have hC := hP.1.1
  have hcu := hC.1
  simp only [cL, spL, Nat.reduceAdd] at hcu
  have hN := hC.2.1
  have h8 := hC.2.2.1
  have hk := hC.1.c
  unfold vLat pLat at hK
  by_cases hx : isN x 100 = true
  · simp only [if_pos hx] at hK
    obtain ⟨m, hm, rfl⟩ := isN_of (by omega) hx
    have hcl : (nI m).toNatClampNeg = m := nI_clamp (by omega)
    simp only [hcl] at hK
    simp only [gX1_later_0, gX1_later_1, gX1_later_2, gX1_later_3, gX1_later_6, gX1_later_9, gX1_later_12, gX1_later_13, gX1_later_14, gX1_later_15, gX1_later_18, gX1_later_19, gX1_later_22, am_kill_int, am_kill_ref, am_kill_null, am_kill_F, am_kill_long, am_cat_n, am_cat_i, am_cat_r, am_cat_0, am_cat_l, am_nr_n, am_nr_i, am_nr_r, am_nr_0, am_nr_l, Option.toList_some, Option.toList_none, List.nil_append, List.cons_append, va_rf_s, va_rf_n, am_II, am_I_sR, am_I_sL, am_R_sI, am_RR, am_R_sL, am_L_sI, am_L_sR, am_LL, am_k_sI, am_k_sR, am_k_sL, am_n_sI, am_n_sR, am_n_sL, true_and, and_true, true_or, or_true, or_false, false_or, not_true_eq_false, not_false_eq_true, Nat.reduceLT, am_dS, am_dP, am_d1, Nat.reduceSub, Nat.reduceMul, ne_eq, Nat.reduceBEq, Nat.reduceAdd, Nat.reduceLeDiff, Nat.reduceEqDiff, and_self, and_false, false_and, if_true, if_false, am_nb, am_nb0, am_nb1, am_lc1, am_lc2, am_lc3, am_b0, am_b1, am_10, am_c8, am_c16, am_c24, am_c32, am_c40, am_c48, am_c56, am_c64, am_c72, Nat.add_zero, Bool.false_eq_true, Nat.zero_le, hcu, wX1_in, am_l0, e99L, am_leL, am_isb, hx]
    refine wX2_becomes (d := d + 198) hC.1.s1 hC.1.s2 (by decide) (fun ν hF hT => ?_)
    have hF' : Fr (jS 12) μ ν := hF.le fun a b q => Or.inl q
    have hC1 := hC.js (by decide) (by decide) hF'
    have hcu1 := hC1.1
    simp only [cL, spL, Nat.reduceAdd] at hcu1
    simp only [gX1_later_25, gX1_later_26, gX1_later_27, gX1_later_30, gX1_later_31, am_kill_int, am_kill_ref, am_kill_null, am_kill_F, am_kill_long, am_cat_n, am_cat_i, am_cat_r, am_cat_0, am_cat_l, am_nr_n, am_nr_i, am_nr_r, am_nr_0, am_nr_l, Option.toList_some, Option.toList_none, List.nil_append, List.cons_append, va_rf_s, va_rf_n, am_II, am_I_sR, am_I_sL, am_R_sI, am_RR, am_R_sL, am_L_sI, am_L_sR, am_LL, am_k_sI, am_k_sR, am_k_sL, am_n_sI, am_n_sR, am_n_sL, true_and, and_true, true_or, or_true, or_false, false_or, not_true_eq_false, not_false_eq_true, Nat.reduceLT, am_dS, am_dP, am_d1, Nat.reduceSub, Nat.reduceMul, ne_eq, Nat.reduceBEq, Nat.reduceAdd, Nat.reduceLeDiff, Nat.reduceEqDiff, and_self, and_false, false_and, if_true, if_false, am_nb, am_nb0, am_nb1, am_lc1, am_lc2, am_lc3, am_b0, am_b1, am_10, am_c8, am_c16, am_c24, am_c32, am_c40, am_c48, am_c56, am_c64, am_c72, Nat.add_zero, Bool.false_eq_true, Nat.zero_le, hcu1]
    refine wX1_daysGo (d := d + 130) hC1 hC1.1.s2 (by decide) (by decide) (M := m) (by omega) (fun ξ hF2 hT2 => ?_)
    have hC2 := hC1.js (by decide) (by decide) hF2
    have hcu2 := hC2.1
    simp only [cL, spL, Nat.reduceAdd] at hcu2
    have hF3 := hF'.trans hF2
    rw [hT] at hT2
    have g1 : am_I ξ 12 12 = itS (dayC N ru) m (cS μ 1) 82 := by rw [← hT2]; rfl
    have g2 : am_I ξ 1 12 = cS μ 1 82 := by rw [← jS_1 hF3]; rfl
    have g3 : am_I ξ 12 11 = itS (dayC N ru) m (cS μ 1) 81 := by rw [← hT2]; rfl
    have g4 : am_I ξ 1 11 = cS μ 1 81 := by rw [← jS_1 hF3]; rfl
    have gg := wX1_guests (d := d + 199) (μ := am_sI (am_sL (am_sI ξ 0 40 0) 53 0 (itS (dayC N ru) m (cS μ 1) 82 - cS μ 1 82).toInt64) 0 40 1) (N := N) (h := 12) (fr := 1) (K := fun r1 μ1 => am_nr r1 ∧ am_Wp (d + 200) mX1_later 69 [.ref 0, .int (nI m)] (r1.toList ++ [.ref 0]) μ1 K) (by rw [am_I_sI, if_neg (by omega), am_I_sL, am_I_sI, if_neg (by omega)]; exact hC2.2.1) h8 hC2.1.c hC2.1.s2
    rw [cS_o (by omega), cS_sL, cS_o (by omega), hT2] at gg
    simp only [gX1_later_34, gX1_later_35, gX1_later_36, gX1_later_39, gX1_later_40, gX1_later_41, gX1_later_44, gX1_later_47, gX1_later_48, gX1_later_51, gX1_later_54, gX1_later_55, gX1_later_56, gX1_later_59, gX1_later_60, gX1_later_61, gX1_later_62, gX1_later_65, gX1_later_66, am_kill_int, am_kill_ref, am_kill_null, am_kill_F, am_kill_long, am_cat_n, am_cat_i, am_cat_r, am_cat_0, am_cat_l, am_nr_n, am_nr_i, am_nr_r, am_nr_0, am_nr_l, Option.toList_some, Option.toList_none, List.nil_append, List.cons_append, va_rf_s, va_rf_n, am_II, am_I_sR, am_I_sL, am_R_sI, am_RR, am_R_sL, am_L_sI, am_L_sR, am_LL, am_k_sI, am_k_sR, am_k_sL, am_n_sI, am_n_sR, am_n_sL, true_and, and_true, true_or, or_true, or_false, false_or, not_true_eq_false, not_false_eq_true, Nat.reduceLT, am_dS, am_dP, am_d1, Nat.reduceSub, Nat.reduceMul, ne_eq, Nat.reduceBEq, Nat.reduceAdd, Nat.reduceLeDiff, Nat.reduceEqDiff, and_self, and_false, false_and, if_true, if_false, am_nb, am_nb0, am_nb1, am_lc1, am_lc2, am_lc3, am_b0, am_b1, am_10, am_c8, am_c16, am_c24, am_c32, am_c40, am_c48, am_c56, am_c64, am_c72, Nat.add_zero, Bool.false_eq_true, Nat.zero_le, hcu2, g1, g2, wX1_tells0]
    rw [gg]
    simp only [gX1_later_69, gX1_later_70, gX1_later_73, gX1_later_74, gX1_later_77, gX1_later_80, gX1_later_81, gX1_later_84, gX1_later_87, gX1_later_88, am_kill_int, am_kill_ref, am_kill_null, am_kill_F, am_kill_long, am_cat_n, am_cat_i, am_cat_r, am_cat_0, am_cat_l, am_nr_n, am_nr_i, am_nr_r, am_nr_0, am_nr_l, Option.toList_some, Option.toList_none, List.nil_append, List.cons_append, va_rf_s, va_rf_n, am_II, am_I_sR, am_I_sL, am_R_sI, am_RR, am_R_sL, am_L_sI, am_L_sR, am_LL, am_k_sI, am_k_sR, am_k_sL, am_n_sI, am_n_sR, am_n_sL, true_and, and_true, true_or, or_true, or_false, false_or, not_true_eq_false, not_false_eq_true, Nat.reduceLT, am_dS, am_dP, am_d1, Nat.reduceSub, Nat.reduceMul, ne_eq, Nat.reduceBEq, Nat.reduceAdd, Nat.reduceLeDiff, Nat.reduceEqDiff, and_self, and_false, false_and, if_true, if_false, am_nb, am_nb0, am_nb1, am_lc1, am_lc2, am_lc3, am_b0, am_b1, am_10, am_c8, am_c16, am_c24, am_c32, am_c40, am_c48, am_c56, am_c64, am_c72, Nat.add_zero, Bool.false_eq_true, Nat.zero_le, hcu2, g3, g4, wX1_tells1]
    have g := (jS_qc hF3).1
    refine hK _ (((((g.I (by unfold sC; omega)).L (Or.inl rfl)).I (by unfold sC; omega)).L (Or.inl rfl)).I (by unfold sC; omega)) (TC2 ?_ ?_ ?_) (fun i => ?_)
    · simp only [am_II, and_self, if_true]
    · simp only [am_L_sI, am_LL, and_self, if_true, Nat.reduceEqDiff, and_false, if_false]
    · simp only [am_L_sI, am_LL, and_self, if_true]
    · simp only [am_L_sI, am_LL, Nat.reduceEqDiff, false_and, if_false]; exact hF3.L
  · simp only [hx, Bool.false_eq_true, if_false] at hK
    simp only [gX1_later_0, gX1_later_1, gX1_later_2, gX1_later_3, gX1_later_6, gX1_later_9, gX1_later_12, gX1_later_13, am_kill_int, am_kill_ref, am_kill_null, am_kill_F, am_kill_long, am_cat_n, am_cat_i, am_cat_r, am_cat_0, am_cat_l, am_nr_n, am_nr_i, am_nr_r, am_nr_0, am_nr_l, Option.toList_some, Option.toList_none, List.nil_append, List.cons_append, va_rf_s, va_rf_n, am_II, am_I_sR, am_I_sL, am_R_sI, am_RR, am_R_sL, am_L_sI, am_L_sR, am_LL, am_k_sI, am_k_sR, am_k_sL, am_n_sI, am_n_sR, am_n_sL, true_and, and_true, true_or, or_true, or_false, false_or, not_true_eq_false, not_false_eq_true, Nat.reduceLT, am_dS, am_dP, am_d1, Nat.reduceSub, Nat.reduceMul, ne_eq, Nat.reduceBEq, Nat.reduceAdd, Nat.reduceLeDiff, Nat.reduceEqDiff, and_self, and_false, false_and, if_true, if_false, am_nb, am_nb0, am_nb1, am_lc1, am_lc2, am_lc3, am_b0, am_b1, am_10, am_c8, am_c16, am_c24, am_c32, am_c40, am_c48, am_c56, am_c64, am_c72, Nat.add_zero, Bool.false_eq_true, Nat.zero_le, hk, wX1_in, am_l0, e99L, am_leL, am_isb, hx]
    exact hK μ Fw.refl TC0 (fun _ => rfl)
theorem q5_later (hP : Per N C ru c μ) : Q5 mX3_later [.ref 54, .int x] μ (vLat N ru (cS μ 1) x) (pLat N ru (cS μ 1) x) := by
  intro d K hK
  have hS := hP.1.2.1
  have hC := hS.1
  have hmu := hC.1
  unfold mL at hmu
  have hN := hC.2.1
  have h8 := hC.2.2.1
  unfold vLat pLat at hK
  have z82 : (82 : Int32).toNatClampNeg = 82 := by decide
  have z81 : (81 : Int32).toNatClampNeg = 81 := by decide
  have v82 : vp_in 82 83 := vp_in_nI (n := 82) (by decide) (by decide)
  have v81 : vp_in 81 83 := vp_in_nI (n := 81) (by decide) (by decide)
  by_cases hx : isN x 100 = true
  · simp only [if_pos hx] at hK
    obtain ⟨m, hm, rfl⟩ := isN_of (by omega) hx
    have hcl : (nI m).toNatClampNeg = m := nI_clamp (by omega)
    simp only [hcl] at hK
    simp only [gX3_later_5, gX3_later_6, gX3_later_7, gX3_later_9, gX3_later_12, gX3_later_15, gX3_later_16, gX3_later_17, gX3_later_18, gX3_later_21, gX3_later_22, gX3_later_25, gX3_later_26, am_kill_int, am_kill_ref, am_kill_null, am_kill_F, am_kill_long, am_cat_n, am_cat_i, am_cat_r, am_cat_0, am_cat_l, am_nr_n, am_nr_i, am_nr_r, am_nr_0, am_nr_l, Option.toList_some, Option.toList_none, List.nil_append, List.cons_append, va_rf_s, va_rf_n, am_I_sR, am_I_sL, am_R_sI, am_R_sL, am_L_sI, am_L_sR, am_k_sI, am_k_sR, am_k_sL, am_n_sI, am_n_sR, am_n_sL, true_and, and_true, true_or, or_true, or_false, false_or, not_true_eq_false, not_false_eq_true, Nat.reduceLT, am_dS, am_dP, am_d1, Nat.reduceSub, Nat.reduceMul, ne_eq, Nat.reduceBEq, Nat.reduceAdd, Nat.reduceLeDiff, Nat.reduceEqDiff, and_self, and_false, false_and, if_true, if_false, am_nb, am_nb0, am_nb1, am_lc1, am_lc2, am_lc3, am_b0, am_b1, am_10, am_c8, am_c16, am_c24, am_c32, am_c40, am_c48, am_c56, am_c64, am_c72, Nat.add_zero, Bool.false_eq_true, Nat.zero_le, hmu, wX3_in, e99I, am_isb, hx]
    refine wX3_lay00 hmu.1.2.1 hmu.1.2.2.2.2.2.2.2.2.2.2.1 (by decide) (fun ν hF hT => ?_)
    have hF' := spH_sM (by decide) hF
    have h17' : am_I ν 54 17 = 0 := (hF.1 54 17 (by decide)).trans hP.h17
    have hS1 := hS.sMm hF' h17'
    have hmν := hS1.1.1
    unfold mL at hmν
    have hsim := hP.2.1.row h8 hT
    simp only [gX3_later_29, gX3_later_30, gX3_later_31, gX3_later_34, gX3_later_35, am_kill_int, am_kill_ref, am_kill_null, am_kill_F, am_kill_long, am_cat_n, am_cat_i, am_cat_r, am_cat_0, am_cat_l, am_nr_n, am_nr_i, am_nr_r, am_nr_0, am_nr_l, Option.toList_some, Option.toList_none, List.nil_append, List.cons_append, va_rf_s, va_rf_n, am_I_sR, am_I_sL, am_R_sI, am_R_sL, am_L_sI, am_L_sR, am_k_sI, am_k_sR, am_k_sL, am_n_sI, am_n_sR, am_n_sL, true_and, and_true, true_or, or_true, or_false, false_or, not_true_eq_false, not_false_eq_true, Nat.reduceLT, am_dS, am_dP, am_d1, Nat.reduceSub, Nat.reduceMul, ne_eq, Nat.reduceBEq, Nat.reduceAdd, Nat.reduceLeDiff, Nat.reduceEqDiff, and_self, and_false, false_and, if_true, if_false, am_nb, am_nb0, am_nb1, am_lc1, am_lc2, am_lc3, am_b0, am_b1, am_10, am_c8, am_c16, am_c24, am_c32, am_c40, am_c48, am_c56, am_c64, am_c72, Nat.add_zero, Bool.false_eq_true, Nat.zero_le, hmν]
    refine wX3_goDays (d := d + 126) hS1 (by decide) hmν.1.2.2.2.2.2.2.2.2.2.2.1 (M := m) (by omega) (fun ξ hF2 h17 hT2 => ?_)
    have hF3 := hF'.trans (jH_sM (by decide) hF2)
    have hS2 := hS.sMm hF3 h17
    have hmξ := hS2.1.1
    unfold mL at hmξ
    have hsim2 := hsim.days hS.2.2 h8 m
    rw [← hT2] at hsim2
    have hsim0 := hP.2.1
    have r55 : am_I ξ 55 = am_I μ 55 := funext fun b => hF3.1 55 b (by unfold sM; omega)
    have g1 : am_I ξ 64 82 = itS (dayC N ru) m (cS μ 1) 82 := hsim2.2.2.2.symm
    have g2 : am_I ξ 55 82 = cS μ 1 82 := by rw [r55]; exact hsim0.2.2.2.symm
    have g3 : am_I ξ 64 81 = itS (dayC N ru) m (cS μ 1) 81 := hsim2.2.2.1.symm
    have g4 : am_I ξ 55 81 = cS μ 1 81 := by rw [r55]; exact hsim0.2.2.1.symm
    have hF4 : Fw sM ξ (am_sI (am_sL (am_sI ξ 54 6 0) 57 0 (itS (dayC N ru) m (cS μ 1) 82 - cS μ 1 82).toInt64) 54 6 1) := ((Fw.refl.I (by unfold sM; omega)).L (Or.inr rfl)).I (by unfold sM; omega)
    have hS3 := hS2.sMm hF4 (by rw [am_I_sI, if_neg (by omega), am_I_sL, am_I_sI, if_neg (by omega)]; exact h17)
    have gg := wX3_guests (d := d + 199) (K := fun r1 μ1 => am_nr r1 ∧ am_Wp (d + 200) mX3_later 72 [.ref 54, .int (nI m)] (r1.toList ++ [.ref 54]) μ1 K) hS3.1 (h := 64) hmξ.1.2.2.2.2.2.2.2.2.2.2.1
    rw [am_row_o (by decide), am_I_sL, am_row_o (by decide), ← hsim2.gFM] at gg
    simp only [gX3_later_38, gX3_later_39, gX3_later_40, gX3_later_43, gX3_later_44, gX3_later_45, gX3_later_48, gX3_later_50, gX3_later_51, gX3_later_52, gX3_later_55, gX3_later_57, gX3_later_58, gX3_later_59, gX3_later_60, gX3_later_63, gX3_later_64, gX3_later_65, gX3_later_66, gX3_later_69, am_kill_int, am_kill_ref, am_kill_null, am_kill_F, am_kill_long, am_cat_n, am_cat_i, am_cat_r, am_cat_0, am_cat_l, am_nr_n, am_nr_i, am_nr_r, am_nr_0, am_nr_l, Option.toList_some, Option.toList_none, List.nil_append, List.cons_append, va_rf_s, va_rf_n, am_II, am_I_sR, am_I_sL, am_R_sI, am_RR, am_R_sL, am_L_sI, am_L_sR, am_LL, am_k_sI, am_k_sR, am_k_sL, am_n_sI, am_n_sR, am_n_sL, true_and, and_true, true_or, or_true, or_false, false_or, not_true_eq_false, not_false_eq_true, Nat.reduceLT, am_dS, am_dP, am_d1, Nat.reduceSub, Nat.reduceMul, ne_eq, Nat.reduceBEq, Nat.reduceAdd, Nat.reduceLeDiff, Nat.reduceEqDiff, and_self, and_false, false_and, if_true, if_false, am_nb, am_nb0, am_nb1, am_lc1, am_lc2, am_lc3, am_b0, am_b1, am_10, am_c8, am_c16, am_c24, am_c32, am_c40, am_c48, am_c56, am_c64, am_c72, Nat.add_zero, Bool.false_eq_true, Nat.zero_le, hmξ, z82, v82, g1, g2, wX3_tell0]
    rw [gg]
    simp only [gX3_later_72, gX3_later_73, gX3_later_76, gX3_later_77, gX3_later_80, gX3_later_82, gX3_later_83, gX3_later_84, gX3_later_87, gX3_later_89, gX3_later_90, gX3_later_91, am_kill_int, am_kill_ref, am_kill_null, am_kill_F, am_kill_long, am_cat_n, am_cat_i, am_cat_r, am_cat_0, am_cat_l, am_nr_n, am_nr_i, am_nr_r, am_nr_0, am_nr_l, Option.toList_some, Option.toList_none, List.nil_append, List.cons_append, va_rf_s, va_rf_n, am_II, am_I_sR, am_I_sL, am_R_sI, am_RR, am_R_sL, am_L_sI, am_L_sR, am_LL, am_k_sI, am_k_sR, am_k_sL, am_n_sI, am_n_sR, am_n_sL, true_and, and_true, true_or, or_true, or_false, false_or, not_true_eq_false, not_false_eq_true, Nat.reduceLT, am_dS, am_dP, am_d1, Nat.reduceSub, Nat.reduceMul, ne_eq, Nat.reduceBEq, Nat.reduceAdd, Nat.reduceLeDiff, Nat.reduceEqDiff, and_self, and_false, false_and, if_true, if_false, am_nb, am_nb0, am_nb1, am_lc1, am_lc2, am_lc3, am_b0, am_b1, am_10, am_c8, am_c16, am_c24, am_c32, am_c40, am_c48, am_c56, am_c64, am_c72, Nat.add_zero, Bool.false_eq_true, Nat.zero_le, hmξ, z81, v81, g3, g4, wX3_tell1]
    refine hK _ (((((hF3.I (by unfold sM; omega)).L (Or.inr rfl)).I (by unfold sM; omega)).L (Or.inr rfl)).I (by unfold sM; omega)) ?_ (TN2 ?_ ?_ ?_) (fun i => ?_)
    · simp only [am_II, am_I_sL, Nat.reduceEqDiff, and_false, if_false]; exact h17
    · simp only [am_II, and_self, if_true]
    · simp only [am_L_sI, am_LL, and_self, if_true, Nat.reduceEqDiff, and_false, if_false]
    · simp only [am_L_sI, am_LL, and_self, if_true]
    · simp only [am_L_sI, am_LL, Nat.reduceEqDiff, false_and, if_false]; rw [hF2.L, hF.L]
  · simp only [hx, Bool.false_eq_true, if_false] at hK
    simp only [gX3_later_5, gX3_later_6, gX3_later_7, gX3_later_9, gX3_later_12, gX3_later_15, gX3_later_16, am_kill_int, am_kill_ref, am_kill_null, am_kill_F, am_kill_long, am_cat_n, am_cat_i, am_cat_r, am_cat_0, am_cat_l, am_nr_n, am_nr_i, am_nr_r, am_nr_0, am_nr_l, Option.toList_some, Option.toList_none, List.nil_append, List.cons_append, va_rf_s, va_rf_n, am_I_sR, am_I_sL, am_R_sI, am_R_sL, am_L_sI, am_L_sR, am_k_sI, am_k_sR, am_k_sL, am_n_sI, am_n_sR, am_n_sL, true_and, and_true, true_or, or_true, or_false, false_or, not_true_eq_false, not_false_eq_true, Nat.reduceLT, am_dS, am_dP, am_d1, Nat.reduceSub, Nat.reduceMul, ne_eq, Nat.reduceBEq, Nat.reduceAdd, Nat.reduceLeDiff, Nat.reduceEqDiff, and_self, and_false, false_and, if_true, if_false, am_nb, am_nb0, am_nb1, am_lc1, am_lc2, am_lc3, am_b0, am_b1, am_10, am_c8, am_c16, am_c24, am_c32, am_c40, am_c48, am_c56, am_c64, am_c72, Nat.add_zero, Bool.false_eq_true, Nat.zero_le, hmu, wX3_in, e99I, am_isb, hx]
    exact hK μ Fw.refl hP.h17 TN0 (fun _ => rfl)
theorem op_later (hI : Inv q μ) : OP q mX1_later mX3_later [.ref 0, .int x] [.ref 54, .int x] μ :=
  op_S (V := fun N ru _ S => vLat N ru S x) (P := fun N ru _ S => pLat N ru S x) (fun hP => qc_later hP) (fun d K μ h h' => by simp only [gX3_later_0, gX3_later_1, gX3_later_2, am_kill_int, am_kill_ref, am_kill_null, am_kill_F, am_kill_long, am_cat_n, am_cat_i, am_cat_r, am_cat_0, am_cat_l, am_nr_n, am_nr_i, am_nr_r, am_nr_0, am_nr_l, Option.toList_some, Option.toList_none, List.nil_append, List.cons_append, va_rf_s, va_rf_n, am_I_sR, am_I_sL, am_R_sI, am_R_sL, am_L_sI, am_L_sR, am_k_sI, am_k_sR, am_k_sL, am_n_sI, am_n_sR, am_n_sL, true_and, and_true, true_or, or_true, or_false, false_or, not_true_eq_false, not_false_eq_true, Nat.reduceLT, am_dS, am_dP, am_d1, Nat.reduceSub, Nat.reduceMul, ne_eq, Nat.reduceBEq, Nat.reduceAdd, Nat.reduceLeDiff, Nat.reduceEqDiff, and_self, and_false, false_and, if_true, if_false, am_nb, am_nb0, am_nb1, am_lc1, am_lc2, am_lc3, am_b0, am_b1, am_10, am_c8, am_c16, am_c24, am_c32, am_c40, am_c48, am_c56, am_c64, am_c72, Nat.add_zero, Bool.false_eq_true, Nat.zero_le, h]; exact h') (fun hP => q5_later hP) hI
end OCV
