/-! the model's days -/
set_option maxRecDepth 100000
section MDV
variable {d : Nat} {μ ν ξ : am_M} {K : Option Value → am_M → Prop} {x y z c w co ag ow mn : Int32} {h N j i k r n M : Nat} {v : Int32} {ru : Option PF} {F : Nat → Nat → Prop} {o : Nat → Bool}
/-- what the model's methods rest on -/
def MS (N : Nat) (ru : Option PF) (c : Int32) (μ : am_M) : Prop := MC N c μ ∧ ruM μ ru ∧ ru8 ru
/-- what a model's method may write, besides: its reader and the asked -/
def jH (h a b : Nat) : Prop := a = h ∨ jM a b
theorem MS.fr (hC : MS N ru c μ) (hf : Fr F μ ν) (hF : ∀ a b, F a b → ¬ (a = 59 ∨ a = 60 ∨ a = 54 ∧ (b = 1 ∨ b = 2 ∨ b = 16))) (h17 : am_I ν 54 17 = 0) : MS N ru c ν :=
  ⟨hC.1.fr hf (fun a b q => by have := hF a b q; omega), hf.ruM (fun a b q => by have := hF a b q; omega) h17 hC.2.1, hC.2.2⟩
theorem MS.jm (hC : MS N ru c μ) (hf : Fr jM μ ν) (h17 : am_I ν 54 17 = 0) : MS N ru c ν := hC.fr hf (fun a b q => by unfold jM at q; omega) h17
theorem MS.jh (hC : MS N ru c μ) (hh : 62 < h) (hf : Fr (jH h) μ ν) (h17 : am_I ν 54 17 = 0) : MS N ru c ν := hC.fr hf (fun a b q => by unfold jH jM at q; omega) h17
theorem jM_row (hf : Fr jM μ ν) (h1 : h ≠ 61) (h2 : h ≠ 54) : am_I ν h = am_I μ h := funext fun b => hf.1 h b (fun q => by unfold jM at q; omega)
theorem MC.ne (hC : MC N c μ) (hk : am_k μ h = (10, 83)) : h ≠ 54 ∧ h ≠ 61 ∧ h ≠ 59 ∧ h ≠ 60 := by
  have hmu := hC.1
  unfold mL at hmu
  refine ⟨fun e => ?_, fun e => ?_, fun e => ?_, fun e => ?_⟩
  · rw [e, hmu.1.1] at hk; cases hk
  · rw [e, hmu.1.2.2.2.2.2.2.2.1] at hk; cases hk
  · rw [e, hmu.1.2.2.2.2.2.1] at hk; cases hk
  · rw [e, hmu.1.2.2.2.2.2.2.1] at hk; cases hk
theorem wX3_oddNow (hS : MS N ru c μ) (hj : j < 8) (hk : am_k μ h = (10, 83)) (hK : ∀ ν, Fr jM μ ν → am_I ν 54 17 = 0 → K (some (.int (oddW N ru (am_I μ h) j))) ν) :
    am_Wp (d + 70) mX3_oddNow 0 [.ref 54, .ref h, .int (nI j)] [] μ K := by
  have hC := hS.1
  have hC' := hS.1
  have hne := hC.ne hk
  obtain ⟨hm, hN, h8, hcl0⟩ := hC
  have hmu := hm
  unfold mL at hmu
  have hv : ∀ k, k ≤ 72 → vp_in (nI (k + j)) 83 := fun k q => vp_in_nI (by omega) (by omega)
  have hcl : ∀ k, k ≤ 72 → (nI (k + j)).toNatClampNeg = k + j := fun k q => nI_clamp (by omega)
  have hv0 : vp_in (nI j) 83 := vp_in_nI (by omega) (by omega)
  have hcj : (nI j).toNatClampNeg = j := nI_clamp (by omega)
  simp only [gX3_oddNow_0, gX3_oddNow_1, gX3_oddNow_1n, gX3_oddNow_2, gX3_oddNow_3, gX3_oddNow_3n, gX3_oddNow_4, gX3_oddNow_6, gX3_oddNow_7, gX3_oddNow_8, gX3_oddNow_9, gX3_oddNow_9n, gX3_oddNow_10, gX3_oddNow_12, gX3_oddNow_13, gX3_oddNow_14, gX3_oddNow_15, gX3_oddNow_15n, gX3_oddNow_16, gX3_oddNow_18, gX3_oddNow_19, gX3_oddNow_20, gX3_oddNow_21, gX3_oddNow_22, gX3_oddNow_22n, gX3_oddNow_23, gX3_oddNow_26, gX3_oddNow_29, am_kill_int, am_kill_ref, am_kill_null, am_kill_F, am_kill_long, am_cat_n, am_cat_i, am_cat_r, am_cat_0, am_cat_l, am_nr_n, am_nr_i, am_nr_r, am_nr_0, am_nr_l, Option.toList_some, Option.toList_none, List.nil_append, List.cons_append, va_rf_s, va_rf_n, am_II, am_I_sR, am_I_sL, am_R_sI, am_RR, am_R_sL, am_L_sI, am_L_sR, am_LL, am_k_sI, am_k_sR, am_k_sL, am_n_sI, am_n_sR, am_n_sL, true_and, and_true, true_or, or_true, or_false, false_or, not_true_eq_false, not_false_eq_true, Nat.reduceLT, am_dS, am_dP, am_d1, Nat.reduceSub, Nat.reduceMul, ne_eq, Nat.reduceBEq, Nat.reduceAdd, Nat.reduceLeDiff, Nat.reduceEqDiff, and_self, and_false, false_and, if_true, if_false, am_nb, am_nb0, am_nb1, am_lc1, am_lc2, am_lc3, am_b0, am_b1, am_10, am_c8, am_c16, am_c24, am_c32, am_c40, am_c48, am_c56, am_c64, am_c72, Nat.add_zero, Bool.false_eq_true, Nat.zero_le, hmu, hk, hv, hcl, hv0, hcj, wX3_guests hC' hk, wJ10_bitCount]
  refine wX3_oddOf (d := d) hC' hS.2.1 hS.2.2 hj hk hne.2.1 (fun ν h1 h2 => ?_)
  simp only [gX3_oddNow_32, am_kill_int, am_kill_ref, am_kill_null, am_kill_F, am_kill_long, am_cat_n, am_cat_i, am_cat_r, am_cat_0, am_cat_l, am_nr_n, am_nr_i, am_nr_r, am_nr_0, am_nr_l, Option.toList_some, Option.toList_none, List.nil_append, List.cons_append, va_rf_s, va_rf_n, am_II, am_I_sR, am_I_sL, am_R_sI, am_RR, am_R_sL, am_L_sI, am_L_sR, am_LL, am_k_sI, am_k_sR, am_k_sL, am_n_sI, am_n_sR, am_n_sL, true_and, and_true, true_or, or_true, or_false, false_or, not_true_eq_false, not_false_eq_true, Nat.reduceLT, am_dS, am_dP, am_d1, Nat.reduceSub, Nat.reduceMul, ne_eq, Nat.reduceBEq, Nat.reduceAdd, Nat.reduceLeDiff, Nat.reduceEqDiff, and_self, and_false, false_and, if_true, if_false, am_nb, am_nb0, am_nb1, am_lc1, am_lc2, am_lc3, am_b0, am_b1, am_10, am_c8, am_c16, am_c24, am_c32, am_c40, am_c48, am_c56, am_c64, am_c72, Nat.add_zero, Bool.false_eq_true, Nat.zero_le]
  exact hK ν h1 h2
theorem wX3_oddLaid (hS : MS N ru c μ) (hj : j < 8) (hk : am_k μ h = (10, 83)) (hK : ∀ ν, Fr jM μ ν → am_I ν 54 17 = 0 → K (some (.int (oddL N ru (am_I μ h) j x))) ν) :
    am_Wp (d + 70) mX3_oddLaid 0 [.ref 54, .ref h, .int (nI j), .int x] [] μ K := by
  have hC := hS.1
  have hC' := hS.1
  have hne := hC.ne hk
  obtain ⟨hm, hN, h8, hcl0⟩ := hC
  have hmu := hm
  unfold mL at hmu
  have hv : ∀ k, k ≤ 72 → vp_in (nI (k + j)) 83 := fun k q => vp_in_nI (by omega) (by omega)
  have hcl : ∀ k, k ≤ 72 → (nI (k + j)).toNatClampNeg = k + j := fun k q => nI_clamp (by omega)
  have hv0 : vp_in (nI j) 83 := vp_in_nI (by omega) (by omega)
  have hcj : (nI j).toNatClampNeg = j := nI_clamp (by omega)
  simp only [gX3_oddLaid_0, gX3_oddLaid_1, gX3_oddLaid_1n, gX3_oddLaid_2, gX3_oddLaid_3, gX3_oddLaid_4, gX3_oddLaid_5, gX3_oddLaid_6, gX3_oddLaid_6n, gX3_oddLaid_7, gX3_oddLaid_9, gX3_oddLaid_10, gX3_oddLaid_11, gX3_oddLaid_12, gX3_oddLaid_13, gX3_oddLaid_14, gX3_oddLaid_17, gX3_oddLaid_18, gX3_oddLaid_18n, gX3_oddLaid_19, gX3_oddLaid_22, gX3_oddLaid_23, gX3_oddLaid_24, gX3_oddLaid_25, gX3_oddLaid_26, gX3_oddLaid_29, am_kill_int, am_kill_ref, am_kill_null, am_kill_F, am_kill_long, am_cat_n, am_cat_i, am_cat_r, am_cat_0, am_cat_l, am_nr_n, am_nr_i, am_nr_r, am_nr_0, am_nr_l, Option.toList_some, Option.toList_none, List.nil_append, List.cons_append, va_rf_s, va_rf_n, am_II, am_I_sR, am_I_sL, am_R_sI, am_RR, am_R_sL, am_L_sI, am_L_sR, am_LL, am_k_sI, am_k_sR, am_k_sL, am_n_sI, am_n_sR, am_n_sL, true_and, and_true, true_or, or_true, or_false, false_or, not_true_eq_false, not_false_eq_true, Nat.reduceLT, am_dS, am_dP, am_d1, Nat.reduceSub, Nat.reduceMul, ne_eq, Nat.reduceBEq, Nat.reduceAdd, Nat.reduceLeDiff, Nat.reduceEqDiff, and_self, and_false, false_and, if_true, if_false, am_nb, am_nb0, am_nb1, am_lc1, am_lc2, am_lc3, am_b0, am_b1, am_10, am_c8, am_c16, am_c24, am_c32, am_c40, am_c48, am_c56, am_c64, am_c72, Nat.add_zero, Bool.false_eq_true, Nat.zero_le, hmu, hk, hv, hcl, hv0, hcj, wX3_guests hC' hk, wJ10_bitCount]
  refine wX3_oddOf (d := d) hC' hS.2.1 hS.2.2 hj hk hne.2.1 (fun ν h1 h2 => ?_)
  simp only [gX3_oddLaid_32, am_kill_int, am_kill_ref, am_kill_null, am_kill_F, am_kill_long, am_cat_n, am_cat_i, am_cat_r, am_cat_0, am_cat_l, am_nr_n, am_nr_i, am_nr_r, am_nr_0, am_nr_l, Option.toList_some, Option.toList_none, List.nil_append, List.cons_append, va_rf_s, va_rf_n, am_II, am_I_sR, am_I_sL, am_R_sI, am_RR, am_R_sL, am_L_sI, am_L_sR, am_LL, am_k_sI, am_k_sR, am_k_sL, am_n_sI, am_n_sR, am_n_sL, true_and, and_true, true_or, or_true, or_false, false_or, not_true_eq_false, not_false_eq_true, Nat.reduceLT, am_dS, am_dP, am_d1, Nat.reduceSub, Nat.reduceMul, ne_eq, Nat.reduceBEq, Nat.reduceAdd, Nat.reduceLeDiff, Nat.reduceEqDiff, and_self, and_false, false_and, if_true, if_false, am_nb, am_nb0, am_nb1, am_lc1, am_lc2, am_lc3, am_b0, am_b1, am_10, am_c8, am_c16, am_c24, am_c32, am_c40, am_c48, am_c56, am_c64, am_c72, Nat.add_zero, Bool.false_eq_true, Nat.zero_le]
  exact hK ν h1 h2
theorem wX3_oddTinted (hS : MS N ru c μ) (hj : j < 8) (hK : ∀ ν, Fr jM μ ν → am_I ν 54 17 = 0 → K (some (.int (oddT N ru (am_I μ 55) j x))) ν) :
    am_Wp (d + 70) mX3_oddTinted 0 [.ref 54, .int (nI j), .int x] [] μ K := by
  have hC := hS.1
  have hC' := hS.1
  have hk := hC.1.1.2.1
  obtain ⟨hm, hN, h8, hcl0⟩ := hC
  have hmu := hm
  unfold mL at hmu
  have hv : ∀ k, k ≤ 72 → vp_in (nI (k + j)) 83 := fun k q => vp_in_nI (by omega) (by omega)
  have hcl : ∀ k, k ≤ 72 → (nI (k + j)).toNatClampNeg = k + j := fun k q => nI_clamp (by omega)
  have hv0 : vp_in (nI j) 83 := vp_in_nI (by omega) (by omega)
  have hcj : (nI j).toNatClampNeg = j := nI_clamp (by omega)
  simp only [gX3_oddTinted_0, gX3_oddTinted_1, gX3_oddTinted_2, gX3_oddTinted_5, gX3_oddTinted_6, gX3_oddTinted_7, gX3_oddTinted_8, gX3_oddTinted_11, gX3_oddTinted_13, gX3_oddTinted_14, gX3_oddTinted_15, gX3_oddTinted_16, gX3_oddTinted_17, gX3_oddTinted_20, gX3_oddTinted_22, gX3_oddTinted_23, gX3_oddTinted_24, gX3_oddTinted_25, gX3_oddTinted_26, gX3_oddTinted_27, gX3_oddTinted_30, gX3_oddTinted_33, gX3_oddTinted_36, am_kill_int, am_kill_ref, am_kill_null, am_kill_F, am_kill_long, am_cat_n, am_cat_i, am_cat_r, am_cat_0, am_cat_l, am_nr_n, am_nr_i, am_nr_r, am_nr_0, am_nr_l, Option.toList_some, Option.toList_none, List.nil_append, List.cons_append, va_rf_s, va_rf_n, am_II, am_I_sR, am_I_sL, am_R_sI, am_RR, am_R_sL, am_L_sI, am_L_sR, am_LL, am_k_sI, am_k_sR, am_k_sL, am_n_sI, am_n_sR, am_n_sL, true_and, and_true, true_or, or_true, or_false, false_or, not_true_eq_false, not_false_eq_true, Nat.reduceLT, am_dS, am_dP, am_d1, Nat.reduceSub, Nat.reduceMul, ne_eq, Nat.reduceBEq, Nat.reduceAdd, Nat.reduceLeDiff, Nat.reduceEqDiff, and_self, and_false, false_and, if_true, if_false, am_nb, am_nb0, am_nb1, am_lc1, am_lc2, am_lc3, am_b0, am_b1, am_10, am_c8, am_c16, am_c24, am_c32, am_c40, am_c48, am_c56, am_c64, am_c72, Nat.add_zero, Bool.false_eq_true, Nat.zero_le, hmu, hv, hcl, hv0, hcj, wX3_guests hC' hk, wJ10_bitCount]
  refine wX3_oddOf (d := d) hC' hS.2.1 hS.2.2 hj hk (by decide) (fun ν h1 h2 => ?_)
  simp only [gX3_oddTinted_39, am_kill_int, am_kill_ref, am_kill_null, am_kill_F, am_kill_long, am_cat_n, am_cat_i, am_cat_r, am_cat_0, am_cat_l, am_nr_n, am_nr_i, am_nr_r, am_nr_0, am_nr_l, Option.toList_some, Option.toList_none, List.nil_append, List.cons_append, va_rf_s, va_rf_n, am_II, am_I_sR, am_I_sL, am_R_sI, am_RR, am_R_sL, am_L_sI, am_L_sR, am_LL, am_k_sI, am_k_sR, am_k_sL, am_n_sI, am_n_sR, am_n_sL, true_and, and_true, true_or, or_true, or_false, false_or, not_true_eq_false, not_false_eq_true, Nat.reduceLT, am_dS, am_dP, am_d1, Nat.reduceSub, Nat.reduceMul, ne_eq, Nat.reduceBEq, Nat.reduceAdd, Nat.reduceLeDiff, Nat.reduceEqDiff, and_self, and_false, false_and, if_true, if_false, am_nb, am_nb0, am_nb1, am_lc1, am_lc2, am_lc3, am_b0, am_b1, am_10, am_c8, am_c16, am_c24, am_c32, am_c40, am_c48, am_c56, am_c64, am_c72, Nat.add_zero, Bool.false_eq_true, Nat.zero_le]
  exact hK ν h1 h2
theorem wX3_outs (hS : MS N ru c μ) (hk : am_k μ h = (10, 83)) (hK : ∀ ν, Fr jM μ ν → am_I ν 54 17 = 0 → K (some (.int (orB (ouM N ru (am_I μ h)) N))) ν) :
    am_Wp (d + 71) mX3_outs 0 [.ref 54, .ref h, am_F, am_F] [] μ K := by
  have hne := hS.1.ne hk
  have h8 := hS.1.2.2.1
  simp only [gX3_outs_0, gX3_outs_1, gX3_outs_2, gX3_outs_3, am_kill_int, am_kill_ref, am_kill_null, am_kill_F, am_kill_long, am_cat_n, am_cat_i, am_cat_r, am_cat_0, am_cat_l, am_nr_n, am_nr_i, am_nr_r, am_nr_0, am_nr_l, Option.toList_some, Option.toList_none, List.nil_append, List.cons_append, va_rf_s, va_rf_n, am_II, am_I_sR, am_I_sL, am_R_sI, am_RR, am_R_sL, am_L_sI, am_L_sR, am_LL, am_k_sI, am_k_sR, am_k_sL, am_n_sI, am_n_sR, am_n_sL, true_and, and_true, true_or, or_true, or_false, false_or, not_true_eq_false, not_false_eq_true, Nat.reduceLT, am_dS, am_dP, am_d1, Nat.reduceSub, Nat.reduceMul, ne_eq, Nat.reduceBEq, Nat.reduceAdd, Nat.reduceLeDiff, Nat.reduceEqDiff, and_self, and_false, false_and, if_true, if_false, am_nb, am_nb0, am_nb1, am_lc1, am_lc2, am_lc3, am_b0, am_b1, am_10, am_c8, am_c16, am_c24, am_c32, am_c40, am_c48, am_c56, am_c64, am_c72, Nat.add_zero, Bool.false_eq_true, Nat.zero_le]
  refine am_for (N := N) (fun j ls ν => ls = [.ref 54, .ref h, .int (orB (ouM N ru (am_I μ h)) j), .int (nI j)] ∧ Fr jM μ ν ∧ am_I ν 54 17 = 0) ?_ ?_ N 0 _ _ (by omega) ⟨rfl, Fr.refl, hS.2.1.1.1⟩
  · rintro j ls ν hjN ⟨rfl, hF, h17⟩ ih
    have hS1 := hS.jm hF h17
    have hrow := jM_row hF hne.2.1 hne.1
    have hkν : am_k ν h = (10, 83) := by rw [hF.2.2.2.1]; exact hk
    have hmu := hS1.1.1
    unfold mL at hmu
    have hN := hS1.1.2.1
    have hj : j < 8 := by omega
    have hlt : ¬ nI N ≤ nI j := nI_ge hjN (by omega)
    have hv : ∀ k, k ≤ 72 → vp_in (nI (k + j)) 83 := fun k q => vp_in_nI (by omega) (by omega)
    have hcl : ∀ k, k ≤ 72 → (nI (k + j)).toNatClampNeg = k + j := fun k q => nI_clamp (by omega)
    have hv0 : vp_in (nI j) 83 := vp_in_nI (by omega) (by omega)
    have hcj : (nI j).toNatClampNeg = j := nI_clamp (by omega)
    rw [gX3_outs_4]
    by_cases h1 : am_I μ h (48 + j) = 1
    · simp only [gX3_outs_5, gX3_outs_6, gX3_outs_9, gX3_outs_12, gX3_outs_13, gX3_outs_13n, gX3_outs_14, gX3_outs_16, gX3_outs_17, gX3_outs_18, gX3_outs_19, gX3_outs_20, gX3_outs_23, gX3_outs_24, gX3_outs_24n, gX3_outs_25, gX3_outs_26, am_kill_int, am_kill_ref, am_kill_null, am_kill_F, am_kill_long, am_cat_n, am_cat_i, am_cat_r, am_cat_0, am_cat_l, am_nr_n, am_nr_i, am_nr_r, am_nr_0, am_nr_l, Option.toList_some, Option.toList_none, List.nil_append, List.cons_append, va_rf_s, va_rf_n, am_II, am_I_sR, am_I_sL, am_R_sI, am_RR, am_R_sL, am_L_sI, am_L_sR, am_LL, am_k_sI, am_k_sR, am_k_sL, am_n_sI, am_n_sR, am_n_sL, true_and, and_true, true_or, or_true, or_false, false_or, not_true_eq_false, not_false_eq_true, Nat.reduceLT, am_dS, am_dP, am_d1, Nat.reduceSub, Nat.reduceMul, ne_eq, Nat.reduceBEq, Nat.reduceAdd, Nat.reduceLeDiff, Nat.reduceEqDiff, and_self, and_false, false_and, if_true, if_false, am_nb, am_nb0, am_nb1, am_lc1, am_lc2, am_lc3, am_b0, am_b1, am_10, am_c8, am_c16, am_c24, am_c32, am_c40, am_c48, am_c56, am_c64, am_c72, Nat.add_zero, Bool.false_eq_true, Nat.zero_le, hN, hmu, hkν, hv, hlt, hcl, hrow, h1]
      refine wX3_oddNow (d := d) hS1 hj hkν (fun ξ hF2 h172 => ?_)
      rw [hrow]
      by_cases h2 : 5 < oddW N ru (am_I μ h) j
      · have hp : ouM N ru (am_I μ h) j = true := by unfold ouM; rw [decide_eq_true h1, decide_eq_true h2]; rfl
        simp only [gX3_outs_29, gX3_outs_30, gX3_outs_33, gX3_outs_34, gX3_outs_35, gX3_outs_36, gX3_outs_39, gX3_outs_40, gX3_outs_41, gX3_outs_42, gX3_outs_45, am_kill_int, am_kill_ref, am_kill_null, am_kill_F, am_kill_long, am_cat_n, am_cat_i, am_cat_r, am_cat_0, am_cat_l, am_nr_n, am_nr_i, am_nr_r, am_nr_0, am_nr_l, Option.toList_some, Option.toList_none, List.nil_append, List.cons_append, va_rf_s, va_rf_n, am_II, am_I_sR, am_I_sL, am_R_sI, am_RR, am_R_sL, am_L_sI, am_L_sR, am_LL, am_k_sI, am_k_sR, am_k_sL, am_n_sI, am_n_sR, am_n_sL, true_and, and_true, true_or, or_true, or_false, false_or, not_true_eq_false, not_false_eq_true, Nat.reduceLT, am_dS, am_dP, am_d1, Nat.reduceSub, Nat.reduceMul, ne_eq, Nat.reduceBEq, Nat.reduceAdd, Nat.reduceLeDiff, Nat.reduceEqDiff, and_self, and_false, false_and, if_true, if_false, am_nb, am_nb0, am_nb1, am_lc1, am_lc2, am_lc3, am_b0, am_b1, am_10, am_c8, am_c16, am_c24, am_c32, am_c40, am_c48, am_c56, am_c64, am_c72, Nat.add_zero, Bool.false_eq_true, Nat.zero_le, Int32.not_le.mpr h2, orB_t hp, nI_1]
        exact ih _ _ ⟨rfl, hF.trans hF2, h172⟩
      · have hp : ouM N ru (am_I μ h) j = false := by unfold ouM; rw [decide_eq_false h2, Bool.and_false]
        simp only [gX3_outs_29, gX3_outs_30, gX3_outs_33, gX3_outs_34, gX3_outs_35, gX3_outs_36, gX3_outs_39, gX3_outs_40, gX3_outs_41, gX3_outs_42, gX3_outs_45, am_kill_int, am_kill_ref, am_kill_null, am_kill_F, am_kill_long, am_cat_n, am_cat_i, am_cat_r, am_cat_0, am_cat_l, am_nr_n, am_nr_i, am_nr_r, am_nr_0, am_nr_l, Option.toList_some, Option.toList_none, List.nil_append, List.cons_append, va_rf_s, va_rf_n, am_II, am_I_sR, am_I_sL, am_R_sI, am_RR, am_R_sL, am_L_sI, am_L_sR, am_LL, am_k_sI, am_k_sR, am_k_sL, am_n_sI, am_n_sR, am_n_sL, true_and, and_true, true_or, or_true, or_false, false_or, not_true_eq_false, not_false_eq_true, Nat.reduceLT, am_dS, am_dP, am_d1, Nat.reduceSub, Nat.reduceMul, ne_eq, Nat.reduceBEq, Nat.reduceAdd, Nat.reduceLeDiff, Nat.reduceEqDiff, and_self, and_false, false_and, if_true, if_false, am_nb, am_nb0, am_nb1, am_lc1, am_lc2, am_lc3, am_b0, am_b1, am_10, am_c8, am_c16, am_c24, am_c32, am_c40, am_c48, am_c56, am_c64, am_c72, Nat.add_zero, Bool.false_eq_true, Nat.zero_le, Int32.not_lt.mp h2, orB_f hp, nI_1]
        exact ih _ _ ⟨rfl, hF.trans hF2, h172⟩
    · have hp : ouM N ru (am_I μ h) j = false := by unfold ouM; rw [decide_eq_false h1, Bool.false_and]
      simp only [gX3_outs_5, gX3_outs_6, gX3_outs_9, gX3_outs_12, gX3_outs_13, gX3_outs_13n, gX3_outs_14, gX3_outs_16, gX3_outs_17, gX3_outs_18, gX3_outs_19, gX3_outs_20, gX3_outs_23, gX3_outs_39, gX3_outs_40, gX3_outs_41, gX3_outs_42, gX3_outs_45, am_kill_int, am_kill_ref, am_kill_null, am_kill_F, am_kill_long, am_cat_n, am_cat_i, am_cat_r, am_cat_0, am_cat_l, am_nr_n, am_nr_i, am_nr_r, am_nr_0, am_nr_l, Option.toList_some, Option.toList_none, List.nil_append, List.cons_append, va_rf_s, va_rf_n, am_II, am_I_sR, am_I_sL, am_R_sI, am_RR, am_R_sL, am_L_sI, am_L_sR, am_LL, am_k_sI, am_k_sR, am_k_sL, am_n_sI, am_n_sR, am_n_sL, true_and, and_true, true_or, or_true, or_false, false_or, not_true_eq_false, not_false_eq_true, Nat.reduceLT, am_dS, am_dP, am_d1, Nat.reduceSub, Nat.reduceMul, ne_eq, Nat.reduceBEq, Nat.reduceAdd, Nat.reduceLeDiff, Nat.reduceEqDiff, and_self, and_false, false_and, if_true, if_false, am_nb, am_nb0, am_nb1, am_lc1, am_lc2, am_lc3, am_b0, am_b1, am_10, am_c8, am_c16, am_c24, am_c32, am_c40, am_c48, am_c56, am_c64, am_c72, Nat.add_zero, Bool.false_eq_true, Nat.zero_le, hN, hmu, hkν, hv, hlt, hcl, hrow, h1, orB_f hp, nI_1]
      exact ih _ _ ⟨rfl, hF, h17⟩
  · rintro ls ν ⟨rfl, hF, h17⟩
    have hS1 := hS.jm hF h17
    have hmu := hS1.1.1
    unfold mL at hmu
    have hN := hS1.1.2.1
    rw [gX3_outs_4]
    simp only [gX3_outs_5, gX3_outs_6, gX3_outs_9, gX3_outs_48, gX3_outs_49, am_kill_int, am_kill_ref, am_kill_null, am_kill_F, am_kill_long, am_cat_n, am_cat_i, am_cat_r, am_cat_0, am_cat_l, am_nr_n, am_nr_i, am_nr_r, am_nr_0, am_nr_l, Option.toList_some, Option.toList_none, List.nil_append, List.cons_append, va_rf_s, va_rf_n, am_II, am_I_sR, am_I_sL, am_R_sI, am_RR, am_R_sL, am_L_sI, am_L_sR, am_LL, am_k_sI, am_k_sR, am_k_sL, am_n_sI, am_n_sR, am_n_sL, true_and, and_true, true_or, or_true, or_false, false_or, not_true_eq_false, not_false_eq_true, Nat.reduceLT, am_dS, am_dP, am_d1, Nat.reduceSub, Nat.reduceMul, ne_eq, Nat.reduceBEq, Nat.reduceAdd, Nat.reduceLeDiff, Nat.reduceEqDiff, and_self, and_false, false_and, if_true, if_false, am_nb, am_nb0, am_nb1, am_lc1, am_lc2, am_lc3, am_b0, am_b1, am_10, am_c8, am_c16, am_c24, am_c32, am_c40, am_c48, am_c56, am_c64, am_c72, Nat.add_zero, Bool.false_eq_true, Nat.zero_le, hN, hmu, Int32.le_refl]
    exact hK ν hF h17
theorem dayA (hk : am_k μ h = (10, 83)) (h8 : N ≤ 8) (hjN : j < N) (hK : ∀ ν, Fr (fun a _ => a = h) μ ν → am_I ν h = guM o j (am_I μ h) → am_Wp (d + 1) mX3_goDay 158 [.ref 54, .ref h, .int (orB o N), .int (nI j)] [] ν K) :
    am_Wp (d + 1) mX3_goDay 16 [.ref 54, .ref h, .int (orB o N), .int (nI j)] [] μ K := by
  have hj : j < 8 := by omega
  have hv : ∀ k, k ≤ 72 → vp_in (nI (k + j)) 83 := fun k q => vp_in_nI (by omega) (by omega)
  have hcl : ∀ k, k ≤ 72 → (nI (k + j)).toNatClampNeg = k + j := fun k q => nI_clamp (by omega)
  have hv0 : vp_in (nI j) 83 := vp_in_nI (by omega) (by omega)
  have hcj : (nI j).toNatClampNeg = j := nI_clamp (by omega)
  have z81 : (81 : Int32).toNatClampNeg = 81 := by decide
  have z82 : (82 : Int32).toNatClampNeg = 82 := by decide
  have v81 : vp_in 81 83 := vp_in_nI (n := 81) (by decide) (by decide)
  have v82 : vp_in 82 83 := vp_in_nI (n := 82) (by decide) (by decide)
  have e1 : (81 = 48 + j) = False := eq_false (by omega)
  have e2 : (81 = 72 + j) = False := eq_false (by omega)
  have e3 : (82 = 48 + j) = False := eq_false (by omega)
  have e4 : (33 = j) = False := eq_false (by omega)
  have e5 : (34 = j) = False := eq_false (by omega)
  have e6 : (9 = j) = False := eq_false (by omega)
  have e7 : (j = 33) = False := eq_false (by omega)
  have e8 : (j = 34) = False := eq_false (by omega)
  have e9 : (j = 9) = False := eq_false (by omega)
  unfold guM fedM agM at hK
  by_cases h2 : am_I μ h (48 + j) = 2
  · simp only [if_pos h2] at hK
    by_cases hf : 30 ≤ miI 99 (am_I μ h (72 + j) + am_I μ h (8 + j))
    · simp only [if_pos hf] at hK
      have hf' := Int32.not_lt.mpr hf
      unfold miI at hf'
      simp only [gX3_goDay_16, gX3_goDay_16n, gX3_goDay_17, gX3_goDay_19, gX3_goDay_20, gX3_goDay_21, gX3_goDay_22, gX3_goDay_23, gX3_goDay_26, gX3_goDay_26n, gX3_goDay_27, gX3_goDay_29, gX3_goDay_30, gX3_goDay_31, gX3_goDay_33, gX3_goDay_33n, gX3_goDay_34, gX3_goDay_36, gX3_goDay_37, gX3_goDay_38, gX3_goDay_39, gX3_goDay_39n, gX3_goDay_40, gX3_goDay_42, gX3_goDay_43, gX3_goDay_44, gX3_goDay_45, gX3_goDay_46, gX3_goDay_49, gX3_goDay_50, gX3_goDay_50n, gX3_goDay_51, gX3_goDay_53, gX3_goDay_54, gX3_goDay_55, gX3_goDay_56, gX3_goDay_58, gX3_goDay_61, gX3_goDay_61n, gX3_goDay_62, gX3_goDay_64, gX3_goDay_65, gX3_goDay_66, gX3_goDay_67, gX3_goDay_68, gX3_goDay_68n, gX3_goDay_69, gX3_goDay_71, gX3_goDay_72, gX3_goDay_73, gX3_goDay_74, gX3_goDay_75, gX3_goDay_76, am_kill_int, am_kill_ref, am_kill_null, am_kill_F, am_kill_long, am_cat_n, am_cat_i, am_cat_r, am_cat_0, am_cat_l, am_nr_n, am_nr_i, am_nr_r, am_nr_0, am_nr_l, Option.toList_some, Option.toList_none, List.nil_append, List.cons_append, va_rf_s, va_rf_n, am_II, am_I_sR, am_I_sL, am_R_sI, am_RR, am_R_sL, am_L_sI, am_L_sR, am_LL, am_k_sI, am_k_sR, am_k_sL, am_n_sI, am_n_sR, am_n_sL, true_and, and_true, true_or, or_true, or_false, false_or, not_true_eq_false, not_false_eq_true, Nat.reduceLT, am_dS, am_dP, am_d1, Nat.reduceSub, Nat.reduceMul, ne_eq, Nat.reduceBEq, Nat.reduceAdd, Nat.reduceLeDiff, Nat.reduceEqDiff, and_self, and_false, false_and, if_true, if_false, am_nb, am_nb0, am_nb1, am_lc1, am_lc2, am_lc3, am_b0, am_b1, am_10, am_c8, am_c16, am_c24, am_c32, am_c40, am_c48, am_c56, am_c64, am_c72, Nat.add_zero, Bool.false_eq_true, Nat.zero_le, hk, hv, hcl, h2, hf', z81, v81, e1, e2, e4, e6, e7, e9]
      refine hK _ (Fr.I (Fr.I (Fr.I Fr.refl rfl) rfl) rfl) ?_
      rw [am_row, am_row, am_row]
      unfold miI
      rfl
    · simp only [if_neg hf] at hK
      have hf' := Int32.not_le.mp hf
      unfold miI at hf'
      simp only [gX3_goDay_16, gX3_goDay_16n, gX3_goDay_17, gX3_goDay_19, gX3_goDay_20, gX3_goDay_21, gX3_goDay_22, gX3_goDay_23, gX3_goDay_26, gX3_goDay_26n, gX3_goDay_27, gX3_goDay_29, gX3_goDay_30, gX3_goDay_31, gX3_goDay_33, gX3_goDay_33n, gX3_goDay_34, gX3_goDay_36, gX3_goDay_37, gX3_goDay_38, gX3_goDay_39, gX3_goDay_39n, gX3_goDay_40, gX3_goDay_42, gX3_goDay_43, gX3_goDay_44, gX3_goDay_45, gX3_goDay_46, gX3_goDay_49, gX3_goDay_50, gX3_goDay_50n, gX3_goDay_51, gX3_goDay_53, gX3_goDay_54, gX3_goDay_55, gX3_goDay_56, gX3_goDay_58, gX3_goDay_61, gX3_goDay_61n, gX3_goDay_62, gX3_goDay_64, gX3_goDay_65, gX3_goDay_66, gX3_goDay_67, gX3_goDay_68, gX3_goDay_68n, gX3_goDay_69, gX3_goDay_71, gX3_goDay_72, gX3_goDay_73, gX3_goDay_74, gX3_goDay_75, gX3_goDay_76, am_kill_int, am_kill_ref, am_kill_null, am_kill_F, am_kill_long, am_cat_n, am_cat_i, am_cat_r, am_cat_0, am_cat_l, am_nr_n, am_nr_i, am_nr_r, am_nr_0, am_nr_l, Option.toList_some, Option.toList_none, List.nil_append, List.cons_append, va_rf_s, va_rf_n, am_II, am_I_sR, am_I_sL, am_R_sI, am_RR, am_R_sL, am_L_sI, am_L_sR, am_LL, am_k_sI, am_k_sR, am_k_sL, am_n_sI, am_n_sR, am_n_sL, true_and, and_true, true_or, or_true, or_false, false_or, not_true_eq_false, not_false_eq_true, Nat.reduceLT, am_dS, am_dP, am_d1, Nat.reduceSub, Nat.reduceMul, ne_eq, Nat.reduceBEq, Nat.reduceAdd, Nat.reduceLeDiff, Nat.reduceEqDiff, and_self, and_false, false_and, if_true, if_false, am_nb, am_nb0, am_nb1, am_lc1, am_lc2, am_lc3, am_b0, am_b1, am_10, am_c8, am_c16, am_c24, am_c32, am_c40, am_c48, am_c56, am_c64, am_c72, Nat.add_zero, Bool.false_eq_true, Nat.zero_le, hk, hv, hcl, h2, hf']
      refine hK _ (Fr.I Fr.refl rfl) ?_
      rw [am_row]
      unfold miI
      rfl
  · simp only [if_neg h2] at hK
    by_cases ho : o j = true
    · simp only [if_pos ho] at hK
      simp only [gX3_goDay_16, gX3_goDay_16n, gX3_goDay_17, gX3_goDay_19, gX3_goDay_20, gX3_goDay_21, gX3_goDay_22, gX3_goDay_23, gX3_goDay_79, gX3_goDay_80, gX3_goDay_81, gX3_goDay_84, gX3_goDay_87, gX3_goDay_87n, gX3_goDay_88, gX3_goDay_90, gX3_goDay_91, gX3_goDay_92, gX3_goDay_93, gX3_goDay_94, gX3_goDay_94n, gX3_goDay_95, gX3_goDay_97, gX3_goDay_98, gX3_goDay_99, gX3_goDay_100, gX3_goDay_101, gX3_goDay_102, am_kill_int, am_kill_ref, am_kill_null, am_kill_F, am_kill_long, am_cat_n, am_cat_i, am_cat_r, am_cat_0, am_cat_l, am_nr_n, am_nr_i, am_nr_r, am_nr_0, am_nr_l, Option.toList_some, Option.toList_none, List.nil_append, List.cons_append, va_rf_s, va_rf_n, am_II, am_I_sR, am_I_sL, am_R_sI, am_RR, am_R_sL, am_L_sI, am_L_sR, am_LL, am_k_sI, am_k_sR, am_k_sL, am_n_sI, am_n_sR, am_n_sL, true_and, and_true, true_or, or_true, or_false, false_or, not_true_eq_false, not_false_eq_true, Nat.reduceLT, am_dS, am_dP, am_d1, Nat.reduceSub, Nat.reduceMul, ne_eq, Nat.reduceBEq, Nat.reduceAdd, Nat.reduceLeDiff, Nat.reduceEqDiff, and_self, and_false, false_and, if_true, if_false, am_nb, am_nb0, am_nb1, am_lc1, am_lc2, am_lc3, am_b0, am_b1, am_10, am_c8, am_c16, am_c24, am_c32, am_c40, am_c48, am_c56, am_c64, am_c72, Nat.add_zero, Bool.false_eq_true, Nat.zero_le, hk, hv, hcl, h2, wX3_has, orB_has h8 hjN, ho, z82, v82, e3, e5, e8]
      refine hK _ (Fr.I (Fr.I Fr.refl rfl) rfl) ?_
      rw [am_row, am_row]
    · simp only [if_neg ho] at hK
      by_cases h1 : am_I μ h (48 + j) = 1
      · simp only [if_pos h1] at hK
        have h12 : ¬ (1 : Int32) = 2 := by decide
        by_cases hf : 3 ≤ miI 99 (am_I μ h (64 + j) + 1)
        · simp only [if_pos hf] at hK
          have hf' := Int32.not_lt.mpr hf
          unfold miI at hf'
          simp only [gX3_goDay_16, gX3_goDay_16n, gX3_goDay_17, gX3_goDay_19, gX3_goDay_20, gX3_goDay_21, gX3_goDay_22, gX3_goDay_23, gX3_goDay_79, gX3_goDay_80, gX3_goDay_81, gX3_goDay_84, gX3_goDay_105, gX3_goDay_105n, gX3_goDay_106, gX3_goDay_108, gX3_goDay_109, gX3_goDay_110, gX3_goDay_111, gX3_goDay_112, gX3_goDay_115, gX3_goDay_115n, gX3_goDay_116, gX3_goDay_118, gX3_goDay_119, gX3_goDay_120, gX3_goDay_122, gX3_goDay_122n, gX3_goDay_123, gX3_goDay_125, gX3_goDay_126, gX3_goDay_127, gX3_goDay_128, gX3_goDay_129, gX3_goDay_130, gX3_goDay_133, gX3_goDay_134, gX3_goDay_134n, gX3_goDay_135, gX3_goDay_137, gX3_goDay_138, gX3_goDay_139, gX3_goDay_140, gX3_goDay_141, gX3_goDay_144, gX3_goDay_144n, gX3_goDay_145, gX3_goDay_147, gX3_goDay_148, gX3_goDay_149, gX3_goDay_150, gX3_goDay_151, gX3_goDay_151n, gX3_goDay_152, gX3_goDay_154, gX3_goDay_155, gX3_goDay_156, gX3_goDay_157, am_kill_int, am_kill_ref, am_kill_null, am_kill_F, am_kill_long, am_cat_n, am_cat_i, am_cat_r, am_cat_0, am_cat_l, am_nr_n, am_nr_i, am_nr_r, am_nr_0, am_nr_l, Option.toList_some, Option.toList_none, List.nil_append, List.cons_append, va_rf_s, va_rf_n, am_II, am_I_sR, am_I_sL, am_R_sI, am_RR, am_R_sL, am_L_sI, am_L_sR, am_LL, am_k_sI, am_k_sR, am_k_sL, am_n_sI, am_n_sR, am_n_sL, true_and, and_true, true_or, or_true, or_false, false_or, not_true_eq_false, not_false_eq_true, Nat.reduceLT, am_dS, am_dP, am_d1, Nat.reduceSub, Nat.reduceMul, ne_eq, Nat.reduceBEq, Nat.reduceAdd, Nat.reduceLeDiff, Nat.reduceEqDiff, and_self, and_false, false_and, if_true, if_false, am_nb, am_nb0, am_nb1, am_lc1, am_lc2, am_lc3, am_b0, am_b1, am_10, am_c8, am_c16, am_c24, am_c32, am_c40, am_c48, am_c56, am_c64, am_c72, Nat.add_zero, Bool.false_eq_true, Nat.zero_le, hk, hv, hcl, h1, h12, wX3_has, orB_has h8 hjN, ho, hf']
          refine hK _ (Fr.I (Fr.I (Fr.I Fr.refl rfl) rfl) rfl) ?_
          rw [am_row, am_row, am_row]
          unfold miI
          rfl
        · simp only [if_neg hf] at hK
          have hf' := Int32.not_le.mp hf
          unfold miI at hf'
          simp only [gX3_goDay_16, gX3_goDay_16n, gX3_goDay_17, gX3_goDay_19, gX3_goDay_20, gX3_goDay_21, gX3_goDay_22, gX3_goDay_23, gX3_goDay_79, gX3_goDay_80, gX3_goDay_81, gX3_goDay_84, gX3_goDay_105, gX3_goDay_105n, gX3_goDay_106, gX3_goDay_108, gX3_goDay_109, gX3_goDay_110, gX3_goDay_111, gX3_goDay_112, gX3_goDay_115, gX3_goDay_115n, gX3_goDay_116, gX3_goDay_118, gX3_goDay_119, gX3_goDay_120, gX3_goDay_122, gX3_goDay_122n, gX3_goDay_123, gX3_goDay_125, gX3_goDay_126, gX3_goDay_127, gX3_goDay_128, gX3_goDay_129, gX3_goDay_130, gX3_goDay_133, gX3_goDay_134, gX3_goDay_134n, gX3_goDay_135, gX3_goDay_137, gX3_goDay_138, gX3_goDay_139, gX3_goDay_140, gX3_goDay_141, gX3_goDay_144, gX3_goDay_144n, gX3_goDay_145, gX3_goDay_147, gX3_goDay_148, gX3_goDay_149, gX3_goDay_150, gX3_goDay_151, gX3_goDay_151n, gX3_goDay_152, gX3_goDay_154, gX3_goDay_155, gX3_goDay_156, gX3_goDay_157, am_kill_int, am_kill_ref, am_kill_null, am_kill_F, am_kill_long, am_cat_n, am_cat_i, am_cat_r, am_cat_0, am_cat_l, am_nr_n, am_nr_i, am_nr_r, am_nr_0, am_nr_l, Option.toList_some, Option.toList_none, List.nil_append, List.cons_append, va_rf_s, va_rf_n, am_II, am_I_sR, am_I_sL, am_R_sI, am_RR, am_R_sL, am_L_sI, am_L_sR, am_LL, am_k_sI, am_k_sR, am_k_sL, am_n_sI, am_n_sR, am_n_sL, true_and, and_true, true_or, or_true, or_false, false_or, not_true_eq_false, not_false_eq_true, Nat.reduceLT, am_dS, am_dP, am_d1, Nat.reduceSub, Nat.reduceMul, ne_eq, Nat.reduceBEq, Nat.reduceAdd, Nat.reduceLeDiff, Nat.reduceEqDiff, and_self, and_false, false_and, if_true, if_false, am_nb, am_nb0, am_nb1, am_lc1, am_lc2, am_lc3, am_b0, am_b1, am_10, am_c8, am_c16, am_c24, am_c32, am_c40, am_c48, am_c56, am_c64, am_c72, Nat.add_zero, Bool.false_eq_true, Nat.zero_le, hk, hv, hcl, h1, h12, wX3_has, orB_has h8 hjN, ho, hf']
          refine hK _ (Fr.I Fr.refl rfl) ?_
          rw [am_row]
          unfold miI
          rfl
      · simp only [if_neg h1] at hK
        simp only [gX3_goDay_16, gX3_goDay_16n, gX3_goDay_17, gX3_goDay_19, gX3_goDay_20, gX3_goDay_21, gX3_goDay_22, gX3_goDay_23, gX3_goDay_79, gX3_goDay_80, gX3_goDay_81, gX3_goDay_84, gX3_goDay_105, gX3_goDay_105n, gX3_goDay_106, gX3_goDay_108, gX3_goDay_109, gX3_goDay_110, gX3_goDay_111, gX3_goDay_112, gX3_goDay_115, gX3_goDay_115n, gX3_goDay_116, gX3_goDay_118, gX3_goDay_119, gX3_goDay_120, gX3_goDay_122, gX3_goDay_122n, gX3_goDay_123, gX3_goDay_125, gX3_goDay_126, gX3_goDay_127, gX3_goDay_128, gX3_goDay_129, gX3_goDay_130, gX3_goDay_133, gX3_goDay_134, gX3_goDay_134n, gX3_goDay_135, gX3_goDay_137, gX3_goDay_138, gX3_goDay_139, gX3_goDay_140, gX3_goDay_141, gX3_goDay_144, gX3_goDay_144n, gX3_goDay_145, gX3_goDay_147, gX3_goDay_148, gX3_goDay_149, gX3_goDay_150, gX3_goDay_151, gX3_goDay_151n, gX3_goDay_152, gX3_goDay_154, gX3_goDay_155, gX3_goDay_156, gX3_goDay_157, am_kill_int, am_kill_ref, am_kill_null, am_kill_F, am_kill_long, am_cat_n, am_cat_i, am_cat_r, am_cat_0, am_cat_l, am_nr_n, am_nr_i, am_nr_r, am_nr_0, am_nr_l, Option.toList_some, Option.toList_none, List.nil_append, List.cons_append, va_rf_s, va_rf_n, am_II, am_I_sR, am_I_sL, am_R_sI, am_RR, am_R_sL, am_L_sI, am_L_sR, am_LL, am_k_sI, am_k_sR, am_k_sL, am_n_sI, am_n_sR, am_n_sL, true_and, and_true, true_or, or_true, or_false, false_or, not_true_eq_false, not_false_eq_true, Nat.reduceLT, am_dS, am_dP, am_d1, Nat.reduceSub, Nat.reduceMul, ne_eq, Nat.reduceBEq, Nat.reduceAdd, Nat.reduceLeDiff, Nat.reduceEqDiff, and_self, and_false, false_and, if_true, if_false, am_nb, am_nb0, am_nb1, am_lc1, am_lc2, am_lc3, am_b0, am_b1, am_10, am_c8, am_c16, am_c24, am_c32, am_c40, am_c48, am_c56, am_c64, am_c72, Nat.add_zero, Bool.false_eq_true, Nat.zero_le, hk, hv, hcl, h1, h2, wX3_has, orB_has h8 hjN, ho]
        exact hK _ Fr.refl rfl
theorem dayB (hk : am_k μ h = (10, 83)) (hj : j < 8) (hK : ∀ ν, Fr (fun a _ => a = h) μ ν → am_I ν h = noM (am_I μ h) j → am_Wp (d + 1) mX3_goDay 8 [.ref 54, .ref h, .int x, .int (nI (j + 1))] [] ν K) :
    am_Wp (d + 1) mX3_goDay 158 [.ref 54, .ref h, .int x, .int (nI j)] [] μ K := by
  have hv : ∀ k, k ≤ 72 → vp_in (nI (k + j)) 83 := fun k q => vp_in_nI (by omega) (by omega)
  have hcl : ∀ k, k ≤ 72 → (nI (k + j)).toNatClampNeg = k + j := fun k q => nI_clamp (by omega)
  have hv0 : vp_in (nI j) 83 := vp_in_nI (by omega) (by omega)
  have hcj : (nI j).toNatClampNeg = j := nI_clamp (by omega)
  unfold noM at hK
  by_cases h1 : am_I μ h (32 + j) = -1
  · simp only [if_pos h1] at hK
    simp only [gX3_goDay_158, gX3_goDay_158n, gX3_goDay_159, gX3_goDay_161, gX3_goDay_162, gX3_goDay_163, gX3_goDay_164, gX3_goDay_165, gX3_goDay_168, gX3_goDay_168n, gX3_goDay_169, gX3_goDay_171, gX3_goDay_172, gX3_goDay_173, gX3_goDay_175, gX3_goDay_175n, gX3_goDay_176, gX3_goDay_178, gX3_goDay_179, gX3_goDay_180, gX3_goDay_181, gX3_goDay_182, gX3_goDay_183, gX3_goDay_186, gX3_goDay_187, gX3_goDay_190, am_kill_int, am_kill_ref, am_kill_null, am_kill_F, am_kill_long, am_cat_n, am_cat_i, am_cat_r, am_cat_0, am_cat_l, am_nr_n, am_nr_i, am_nr_r, am_nr_0, am_nr_l, Option.toList_some, Option.toList_none, List.nil_append, List.cons_append, va_rf_s, va_rf_n, am_II, am_I_sR, am_I_sL, am_R_sI, am_RR, am_R_sL, am_L_sI, am_L_sR, am_LL, am_k_sI, am_k_sR, am_k_sL, am_n_sI, am_n_sR, am_n_sL, true_and, and_true, true_or, or_true, or_false, false_or, not_true_eq_false, not_false_eq_true, Nat.reduceLT, am_dS, am_dP, am_d1, Nat.reduceSub, Nat.reduceMul, ne_eq, Nat.reduceBEq, Nat.reduceAdd, Nat.reduceLeDiff, Nat.reduceEqDiff, and_self, and_false, false_and, if_true, if_false, am_nb, am_nb0, am_nb1, am_lc1, am_lc2, am_lc3, am_b0, am_b1, am_10, am_c8, am_c16, am_c24, am_c32, am_c40, am_c48, am_c56, am_c64, am_c72, Nat.add_zero, Bool.false_eq_true, Nat.zero_le, hk, hv, hcl, h1, nI_1]
    exact hK _ Fr.refl rfl
  · simp only [if_neg h1] at hK
    simp only [gX3_goDay_158, gX3_goDay_158n, gX3_goDay_159, gX3_goDay_161, gX3_goDay_162, gX3_goDay_163, gX3_goDay_164, gX3_goDay_165, gX3_goDay_168, gX3_goDay_168n, gX3_goDay_169, gX3_goDay_171, gX3_goDay_172, gX3_goDay_173, gX3_goDay_175, gX3_goDay_175n, gX3_goDay_176, gX3_goDay_178, gX3_goDay_179, gX3_goDay_180, gX3_goDay_181, gX3_goDay_182, gX3_goDay_183, gX3_goDay_186, gX3_goDay_187, gX3_goDay_190, am_kill_int, am_kill_ref, am_kill_null, am_kill_F, am_kill_long, am_cat_n, am_cat_i, am_cat_r, am_cat_0, am_cat_l, am_nr_n, am_nr_i, am_nr_r, am_nr_0, am_nr_l, Option.toList_some, Option.toList_none, List.nil_append, List.cons_append, va_rf_s, va_rf_n, am_II, am_I_sR, am_I_sL, am_R_sI, am_RR, am_R_sL, am_L_sI, am_L_sR, am_LL, am_k_sI, am_k_sR, am_k_sL, am_n_sI, am_n_sR, am_n_sL, true_and, and_true, true_or, or_true, or_false, false_or, not_true_eq_false, not_false_eq_true, Nat.reduceLT, am_dS, am_dP, am_d1, Nat.reduceSub, Nat.reduceMul, ne_eq, Nat.reduceBEq, Nat.reduceAdd, Nat.reduceLeDiff, Nat.reduceEqDiff, and_self, and_false, false_and, if_true, if_false, am_nb, am_nb0, am_nb1, am_lc1, am_lc2, am_lc3, am_b0, am_b1, am_10, am_c8, am_c16, am_c24, am_c32, am_c40, am_c48, am_c56, am_c64, am_c72, Nat.add_zero, Bool.false_eq_true, Nat.zero_le, hk, hv, hcl, h1, nI_1]
    refine hK _ (Fr.I Fr.refl rfl) ?_
    rw [am_row]
    unfold miI
    rfl
theorem wX3_goDay (hS : MS N ru c μ) (hk : am_k μ h = (10, 83)) (hK : ∀ ν, Fr (jH h) μ ν → am_I ν 54 17 = 0 → am_I ν h = dayM N ru (am_I μ h) → K none ν) :
    am_Wp (d + 72) mX3_goDay 0 [.ref 54, .ref h, am_F, am_F] [] μ K := by
  have hne := hS.1.ne hk
  have h8 := hS.1.2.2.1
  have hmu := hS.1.1
  unfold mL at hmu
  simp only [gX3_goDay_0, gX3_goDay_1, gX3_goDay_1n, gX3_goDay_2, am_kill_int, am_kill_ref, am_kill_null, am_kill_F, am_kill_long, am_cat_n, am_cat_i, am_cat_r, am_cat_0, am_cat_l, am_nr_n, am_nr_i, am_nr_r, am_nr_0, am_nr_l, Option.toList_some, Option.toList_none, List.nil_append, List.cons_append, va_rf_s, va_rf_n, am_II, am_I_sR, am_I_sL, am_R_sI, am_RR, am_R_sL, am_L_sI, am_L_sR, am_LL, am_k_sI, am_k_sR, am_k_sL, am_n_sI, am_n_sR, am_n_sL, true_and, and_true, true_or, or_true, or_false, false_or, not_true_eq_false, not_false_eq_true, Nat.reduceLT, am_dS, am_dP, am_d1, Nat.reduceSub, Nat.reduceMul, ne_eq, Nat.reduceBEq, Nat.reduceAdd, Nat.reduceLeDiff, Nat.reduceEqDiff, and_self, and_false, false_and, if_true, if_false, am_nb, am_nb0, am_nb1, am_lc1, am_lc2, am_lc3, am_b0, am_b1, am_10, am_c8, am_c16, am_c24, am_c32, am_c40, am_c48, am_c56, am_c64, am_c72, Nat.add_zero, Bool.false_eq_true, Nat.zero_le, hmu]
  refine wX3_outs (d := d) hS hk (fun ν0 hF0 h170 => ?_)
  have hrow0 := jM_row hF0 hne.2.1 hne.1
  simp only [gX3_goDay_5, gX3_goDay_6, gX3_goDay_7, am_kill_int, am_kill_ref, am_kill_null, am_kill_F, am_kill_long, am_cat_n, am_cat_i, am_cat_r, am_cat_0, am_cat_l, am_nr_n, am_nr_i, am_nr_r, am_nr_0, am_nr_l, Option.toList_some, Option.toList_none, List.nil_append, List.cons_append, va_rf_s, va_rf_n, am_II, am_I_sR, am_I_sL, am_R_sI, am_RR, am_R_sL, am_L_sI, am_L_sR, am_LL, am_k_sI, am_k_sR, am_k_sL, am_n_sI, am_n_sR, am_n_sL, true_and, and_true, true_or, or_true, or_false, false_or, not_true_eq_false, not_false_eq_true, Nat.reduceLT, am_dS, am_dP, am_d1, Nat.reduceSub, Nat.reduceMul, ne_eq, Nat.reduceBEq, Nat.reduceAdd, Nat.reduceLeDiff, Nat.reduceEqDiff, and_self, and_false, false_and, if_true, if_false, am_nb, am_nb0, am_nb1, am_lc1, am_lc2, am_lc3, am_b0, am_b1, am_10, am_c8, am_c16, am_c24, am_c32, am_c40, am_c48, am_c56, am_c64, am_c72, Nat.add_zero, Bool.false_eq_true, Nat.zero_le]
  refine am_for (N := N) (fun j ls ν => ls = [.ref 54, .ref h, .int (orB (ouM N ru (am_I μ h)) N), .int (nI j)] ∧ Fr (jH h) μ ν ∧ am_I ν 54 17 = 0 ∧ am_I ν h = foS (steM (ouM N ru (am_I μ h))) j (am_I μ h)) ?_ ?_ N 0 _ _ (by omega) ⟨rfl, hF0.le fun a b q => Or.inr q, h170, hrow0⟩
  · rintro j ls ν hjN ⟨rfl, hF, h17, hT⟩ ih
    have hkν : am_k ν h = (10, 83) := by rw [hF.2.2.2.1]; exact hk
    have hmν : am_k ν 54 = (2, 0) := by rw [hF.2.2.2.1]; exact hmu.1.1
    have hN : am_I ν 54 1 = nI N := by rw [hF.1 54 1 (fun q => by unfold jH jM at q; omega)]; exact hS.1.2.1
    have hlt : ¬ nI N ≤ nI j := nI_ge hjN (by omega)
    rw [gX3_goDay_8]
    simp only [gX3_goDay_9, gX3_goDay_10, gX3_goDay_13, am_kill_int, am_kill_ref, am_kill_null, am_kill_F, am_kill_long, am_cat_n, am_cat_i, am_cat_r, am_cat_0, am_cat_l, am_nr_n, am_nr_i, am_nr_r, am_nr_0, am_nr_l, Option.toList_some, Option.toList_none, List.nil_append, List.cons_append, va_rf_s, va_rf_n, am_II, am_I_sR, am_I_sL, am_R_sI, am_RR, am_R_sL, am_L_sI, am_L_sR, am_LL, am_k_sI, am_k_sR, am_k_sL, am_n_sI, am_n_sR, am_n_sL, true_and, and_true, true_or, or_true, or_false, false_or, not_true_eq_false, not_false_eq_true, Nat.reduceLT, am_dS, am_dP, am_d1, Nat.reduceSub, Nat.reduceMul, ne_eq, Nat.reduceBEq, Nat.reduceAdd, Nat.reduceLeDiff, Nat.reduceEqDiff, and_self, and_false, false_and, if_true, if_false, am_nb, am_nb0, am_nb1, am_lc1, am_lc2, am_lc3, am_b0, am_b1, am_10, am_c8, am_c16, am_c24, am_c32, am_c40, am_c48, am_c56, am_c64, am_c72, Nat.add_zero, Bool.false_eq_true, Nat.zero_le, hN, hmν, hlt]
    refine dayA (d := d + 71) hkν h8 hjN (fun ν1 hF1 hT1 => ?_)
    refine dayB (d := d + 71) (by rw [hF1.2.2.2.1]; exact hkν) (by omega) (fun ν2 hF2 hT2 => ?_)
    refine ih _ _ ⟨rfl, (hF.trans (hF1.le fun a b q => Or.inl q)).trans (hF2.le fun a b q => Or.inl q), ?_, ?_⟩
    · rw [hF2.1 54 17 (fun q => hne.1 q.symm), hF1.1 54 17 (fun q => hne.1 q.symm)]; exact h17
    · rw [hT2, hT1, hT]; rfl
  · rintro ls ν ⟨rfl, hF, h17, hT⟩
    have hkν : am_k ν h = (10, 83) := by rw [hF.2.2.2.1]; exact hk
    have hmν : am_k ν 54 = (2, 0) := by rw [hF.2.2.2.1]; exact hmu.1.1
    have hN : am_I ν 54 1 = nI N := by rw [hF.1 54 1 (fun q => by unfold jH jM at q; omega)]; exact hS.1.2.1
    have z80 : (80 : Int32).toNatClampNeg = 80 := by decide
    have v80 : vp_in 80 83 := vp_in_nI (n := 80) (by decide) (by decide)
    rw [gX3_goDay_8]
    simp only [gX3_goDay_9, gX3_goDay_10, gX3_goDay_13, gX3_goDay_193, gX3_goDay_193n, gX3_goDay_194, gX3_goDay_196, gX3_goDay_197, gX3_goDay_198, gX3_goDay_199, gX3_goDay_200, gX3_goDay_201, am_kill_int, am_kill_ref, am_kill_null, am_kill_F, am_kill_long, am_cat_n, am_cat_i, am_cat_r, am_cat_0, am_cat_l, am_nr_n, am_nr_i, am_nr_r, am_nr_0, am_nr_l, Option.toList_some, Option.toList_none, List.nil_append, List.cons_append, va_rf_s, va_rf_n, am_II, am_I_sR, am_I_sL, am_R_sI, am_RR, am_R_sL, am_L_sI, am_L_sR, am_LL, am_k_sI, am_k_sR, am_k_sL, am_n_sI, am_n_sR, am_n_sL, true_and, and_true, true_or, or_true, or_false, false_or, not_true_eq_false, not_false_eq_true, Nat.reduceLT, am_dS, am_dP, am_d1, Nat.reduceSub, Nat.reduceMul, ne_eq, Nat.reduceBEq, Nat.reduceAdd, Nat.reduceLeDiff, Nat.reduceEqDiff, and_self, and_false, false_and, if_true, if_false, am_nb, am_nb0, am_nb1, am_lc1, am_lc2, am_lc3, am_b0, am_b1, am_10, am_c8, am_c16, am_c24, am_c32, am_c40, am_c48, am_c56, am_c64, am_c72, Nat.add_zero, Bool.false_eq_true, Nat.zero_le, hN, hmν, hkν, Int32.le_refl, z80, v80]
    refine hK _ (hF.I (Or.inl rfl)) ?_ ?_
    · rw [am_I_sI, if_neg (fun q => hne.1 q.1.symm)]; exact h17
    · rw [am_row, hT]; rfl
end MDV
