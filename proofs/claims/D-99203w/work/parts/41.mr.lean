/-! the model: copies of rows, exchanges -/
set_option maxRecDepth 100000
section MR
variable {d : Nat} {μ ν : am_M} {K : Option Value → am_M → Prop} {x y z c : Int32} {h h' N j i k : Nat} {v : Int32} {p1 : Int64}
theorem am_m8 {k : Nat} : (8 : Int32) * nI k = nI (8 * k) := by
  rw [show (8 : Int32) = nI 8 by decide]; exact (Int32.ofNat_mul 8 k).symm
theorem am_row : am_I (am_sI μ h k v) h = spU (am_I μ h) k v := by
  funext b
  unfold spU
  rw [am_I_sI]
  by_cases e : b = k
  · rw [if_pos ⟨rfl, e⟩, if_pos e]
  · rw [if_neg (fun q => e q.2), if_neg e]
theorem am_row_o {a : Nat} (e : a ≠ h) : am_I (am_sI μ h k v) a = am_I μ a := by
  funext b
  rw [am_I_sI, if_neg (fun q => e q.1)]
theorem wX3_lay0 {L : Nat} (hk : am_k μ h = (10, 83)) (hk' : am_k μ h' = (10, L)) (hL : k + 83 ≤ L) (hL2 : L ≤ 1000) (hne : h ≠ h') (hK : ∀ ν, Fr (fun a b => a = h' ∧ k ≤ b ∧ b < k + 83) μ ν → (∀ i, i < 83 → am_I ν h' (k + i) = am_I μ h i) → K none ν) :
    am_Wp d mX3_lay0 0 [.ref h, .ref h', .int (nI k), am_F] [] μ K := by
  simp only [gX3_lay0_0, gX3_lay0_1, am_kill_int, am_kill_ref, am_kill_null, am_kill_F, am_kill_long, am_cat_n, am_cat_i, am_cat_r, am_cat_0, am_cat_l, am_nr_n, am_nr_i, am_nr_r, am_nr_0, am_nr_l, Option.toList_some, Option.toList_none, List.nil_append, List.cons_append, va_rf_s, va_rf_n, am_II, am_I_sR, am_I_sL, am_R_sI, am_RR, am_R_sL, am_L_sI, am_L_sR, am_LL, am_k_sI, am_k_sR, am_k_sL, am_n_sI, am_n_sR, am_n_sL, true_and, and_true, true_or, or_true, or_false, false_or, not_true_eq_false, not_false_eq_true, Nat.reduceLT, am_dS, am_dP, am_d1, Nat.reduceSub, Nat.reduceMul, ne_eq, Nat.reduceBEq, Nat.reduceAdd, Nat.reduceLeDiff, Nat.reduceEqDiff, and_self, and_false, false_and, if_true, if_false, am_nb, am_nb0, am_nb1, am_lc1, am_lc2, am_lc3, am_b0, am_b1, am_10, am_c8, am_c16, am_c24, am_c32, am_c40, am_c48, am_c56, am_c64, am_c72, Nat.add_zero, Bool.false_eq_true, Nat.zero_le]
  have e83 : (83 : Int32) = nI 83 := by decide
  refine am_for (N := 83) (fun j ls ν => ls = [.ref h, .ref h', .int (nI k), .int (nI j)] ∧ Fr (fun a b => a = h' ∧ k ≤ b ∧ b < k + 83) μ ν ∧ ∀ i, i < j → am_I ν h' (k + i) = am_I μ h i) ?_ ?_ 83 0 _ _ (by omega) ⟨rfl, Fr.refl, fun i q => by omega⟩
  · rintro j ls ν hj ⟨rfl, hF, hT⟩ ih
    have hlt : ¬ nI 83 ≤ nI j := nI_ge hj (by omega)
    have hv : vp_in (nI j) 83 := vp_in_nI (by omega) (by omega)
    have hv' : vp_in (nI (k + j)) L := vp_in_nI (by omega) (by omega)
    have hcl : (nI j).toNatClampNeg = j := nI_clamp (by omega)
    have hcl' : (nI (k + j)).toNatClampNeg = k + j := nI_clamp (by omega)
    have hkν : am_k ν h = (10, 83) := by rw [hF.2.2.2.1]; exact hk
    have hkν' : am_k ν h' = (10, L) := by rw [hF.2.2.2.1]; exact hk'
    rw [gX3_lay0_2]
    simp only [gX3_lay0_0, gX3_lay0_1, gX3_lay0_3, gX3_lay0_5, gX3_lay0_8, gX3_lay0_8n, gX3_lay0_9, gX3_lay0_10, gX3_lay0_11, gX3_lay0_12, gX3_lay0_12n, gX3_lay0_13, gX3_lay0_14, gX3_lay0_15, gX3_lay0_16, gX3_lay0_19, gX3_lay0_22, am_kill_int, am_kill_ref, am_kill_null, am_kill_F, am_kill_long, am_cat_n, am_cat_i, am_cat_r, am_cat_0, am_cat_l, am_nr_n, am_nr_i, am_nr_r, am_nr_0, am_nr_l, Option.toList_some, Option.toList_none, List.nil_append, List.cons_append, va_rf_s, va_rf_n, am_II, am_I_sR, am_I_sL, am_R_sI, am_RR, am_R_sL, am_L_sI, am_L_sR, am_LL, am_k_sI, am_k_sR, am_k_sL, am_n_sI, am_n_sR, am_n_sL, true_and, and_true, true_or, or_true, or_false, false_or, not_true_eq_false, not_false_eq_true, Nat.reduceLT, am_dS, am_dP, am_d1, Nat.reduceSub, Nat.reduceMul, ne_eq, Nat.reduceBEq, Nat.reduceAdd, Nat.reduceLeDiff, Nat.reduceEqDiff, and_self, and_false, false_and, if_true, if_false, am_nb, am_nb0, am_nb1, am_lc1, am_lc2, am_lc3, am_b0, am_b1, am_10, am_c8, am_c16, am_c24, am_c32, am_c40, am_c48, am_c56, am_c64, am_c72, Nat.add_zero, Bool.false_eq_true, Nat.zero_le, e83, hlt, nI_add, hkν, hkν', hv, hv', hcl, hcl', nI_1]
    refine ih _ _ ⟨rfl, hF.I ⟨rfl, by omega, by omega⟩, fun i hi => ?_⟩
    rw [am_I_sI]
    by_cases e : i = j
    · rw [if_pos ⟨rfl, by omega⟩, hF.1 h j (fun q => hne q.1), e]
    · rw [if_neg (by omega)]
      exact hT i (by omega)
  · rintro ls ν ⟨rfl, hF, hT⟩
    rw [gX3_lay0_2]
    simp only [gX3_lay0_0, gX3_lay0_1, gX3_lay0_3, gX3_lay0_5, gX3_lay0_8, gX3_lay0_8n, gX3_lay0_9, gX3_lay0_10, gX3_lay0_11, gX3_lay0_12, gX3_lay0_12n, gX3_lay0_13, gX3_lay0_14, gX3_lay0_15, gX3_lay0_16, gX3_lay0_19, gX3_lay0_22, am_kill_int, am_kill_ref, am_kill_null, am_kill_F, am_kill_long, am_cat_n, am_cat_i, am_cat_r, am_cat_0, am_cat_l, am_nr_n, am_nr_i, am_nr_r, am_nr_0, am_nr_l, Option.toList_some, Option.toList_none, List.nil_append, List.cons_append, va_rf_s, va_rf_n, am_II, am_I_sR, am_I_sL, am_R_sI, am_RR, am_R_sL, am_L_sI, am_L_sR, am_LL, am_k_sI, am_k_sR, am_k_sL, am_n_sI, am_n_sR, am_n_sL, true_and, and_true, true_or, or_true, or_false, false_or, not_true_eq_false, not_false_eq_true, Nat.reduceLT, am_dS, am_dP, am_d1, Nat.reduceSub, Nat.reduceMul, ne_eq, Nat.reduceBEq, Nat.reduceAdd, Nat.reduceLeDiff, Nat.reduceEqDiff, and_self, and_false, false_and, if_true, if_false, am_nb, am_nb0, am_nb1, am_lc1, am_lc2, am_lc3, am_b0, am_b1, am_10, am_c8, am_c16, am_c24, am_c32, am_c40, am_c48, am_c56, am_c64, am_c72, Nat.add_zero, Bool.false_eq_true, Nat.zero_le, e83, Int32.le_refl]
    exact hK ν hF hT
def exM (S : Nat → Int32) (i j : Nat) : Nat → Nat → Int32
  | 0 => S
  | k + 1 => swT (exM S i j k) (8 * k) i j
theorem exM_4 {S : Nat → Int32} : exM S i j 4 = excT S i j := rfl
theorem wX3_goExchange (hi : i < 8) (hj : j < 8) (hk : am_k μ h = (10, 83)) (hK : ∀ ν, Fr (fun a _ => a = h) μ ν → am_I ν h = excT (am_I μ h) i j → K none ν) :
    am_Wp d mX3_goExchange 0 [.ref h, .int (nI i), .int (nI j), am_F, am_F] [] μ K := by
  simp only [gX3_goExchange_0, gX3_goExchange_1, am_kill_int, am_kill_ref, am_kill_null, am_kill_F, am_kill_long, am_cat_n, am_cat_i, am_cat_r, am_cat_0, am_cat_l, am_nr_n, am_nr_i, am_nr_r, am_nr_0, am_nr_l, Option.toList_some, Option.toList_none, List.nil_append, List.cons_append, va_rf_s, va_rf_n, am_II, am_I_sR, am_I_sL, am_R_sI, am_RR, am_R_sL, am_L_sI, am_L_sR, am_LL, am_k_sI, am_k_sR, am_k_sL, am_n_sI, am_n_sR, am_n_sL, true_and, and_true, true_or, or_true, or_false, false_or, not_true_eq_false, not_false_eq_true, Nat.reduceLT, am_dS, am_dP, am_d1, Nat.reduceSub, Nat.reduceMul, ne_eq, Nat.reduceBEq, Nat.reduceAdd, Nat.reduceLeDiff, Nat.reduceEqDiff, and_self, and_false, false_and, if_true, if_false, am_nb, am_nb0, am_nb1, am_lc1, am_lc2, am_lc3, am_b0, am_b1, am_10, am_c8, am_c16, am_c24, am_c32, am_c40, am_c48, am_c56, am_c64, am_c72, Nat.add_zero, Bool.false_eq_true, Nat.zero_le]
  have e4 : (4 : Int32) = nI 4 := by decide
  refine am_for (N := 4) (fun k ls ν => (∃ z, ls = [.ref h, .int (nI i), .int (nI j), .int (nI k), z]) ∧ Fr (fun a _ => a = h) μ ν ∧ am_I ν h = exM (am_I μ h) i j k) ?_ ?_ 4 0 _ _ (by omega) ⟨⟨_, rfl⟩, Fr.refl, rfl⟩
  · rintro k ls ν hk4 ⟨⟨z, rfl⟩, hF, hT⟩ ih
    have hlt : ¬ nI 4 ≤ nI k := nI_ge hk4 (by omega)
    have hv : vp_in (nI (8 * k + i)) 83 := vp_in_nI (by omega) (by omega)
    have hv' : vp_in (nI (8 * k + j)) 83 := vp_in_nI (by omega) (by omega)
    have hcl : (nI (8 * k + i)).toNatClampNeg = 8 * k + i := nI_clamp (by omega)
    have hcl' : (nI (8 * k + j)).toNatClampNeg = 8 * k + j := nI_clamp (by omega)
    have hkν : am_k ν h = (10, 83) := by rw [hF.2.2.2.1]; exact hk
    rw [gX3_goExchange_2]
    simp only [gX3_goExchange_0, gX3_goExchange_1, gX3_goExchange_3, gX3_goExchange_4, gX3_goExchange_7, gX3_goExchange_7n, gX3_goExchange_8, gX3_goExchange_10, gX3_goExchange_11, gX3_goExchange_12, gX3_goExchange_13, gX3_goExchange_14, gX3_goExchange_15, gX3_goExchange_17, gX3_goExchange_17n, gX3_goExchange_18, gX3_goExchange_20, gX3_goExchange_21, gX3_goExchange_22, gX3_goExchange_23, gX3_goExchange_24, gX3_goExchange_24n, gX3_goExchange_25, gX3_goExchange_27, gX3_goExchange_28, gX3_goExchange_29, gX3_goExchange_30, gX3_goExchange_31, gX3_goExchange_32, gX3_goExchange_33, gX3_goExchange_33n, gX3_goExchange_34, gX3_goExchange_36, gX3_goExchange_37, gX3_goExchange_38, gX3_goExchange_39, gX3_goExchange_40, gX3_goExchange_42, gX3_goExchange_43, gX3_goExchange_46, gX3_goExchange_49, am_kill_int, am_kill_ref, am_kill_null, am_kill_F, am_kill_long, am_cat_n, am_cat_i, am_cat_r, am_cat_0, am_cat_l, am_nr_n, am_nr_i, am_nr_r, am_nr_0, am_nr_l, Option.toList_some, Option.toList_none, List.nil_append, List.cons_append, va_rf_s, va_rf_n, am_I_sR, am_I_sL, am_R_sI, am_R_sL, am_L_sI, am_L_sR, am_k_sI, am_k_sR, am_k_sL, am_n_sI, am_n_sR, am_n_sL, true_and, and_true, true_or, or_true, or_false, false_or, not_true_eq_false, not_false_eq_true, Nat.reduceLT, am_dS, am_dP, am_d1, Nat.reduceSub, Nat.reduceMul, ne_eq, Nat.reduceBEq, Nat.reduceAdd, Nat.reduceLeDiff, Nat.reduceEqDiff, and_self, and_false, false_and, if_true, if_false, am_nb, am_nb0, am_nb1, am_lc1, am_lc2, am_lc3, am_b0, am_b1, am_10, am_c8, am_c16, am_c24, am_c32, am_c40, am_c48, am_c56, am_c64, am_c72, Nat.add_zero, Bool.false_eq_true, Nat.zero_le, e4, hlt, am_m8, nI_add, hkν, hv, hv', hcl, hcl', nI_1]
    refine ih _ _ ⟨⟨_, rfl⟩, (hF.I rfl).I rfl, ?_⟩
    rw [am_row, am_row, hT]
    rfl
  · rintro ls ν ⟨⟨z, rfl⟩, hF, hT⟩
    rw [gX3_goExchange_2]
    simp only [gX3_goExchange_0, gX3_goExchange_1, gX3_goExchange_3, gX3_goExchange_4, gX3_goExchange_7, gX3_goExchange_7n, gX3_goExchange_8, gX3_goExchange_10, gX3_goExchange_11, gX3_goExchange_12, gX3_goExchange_13, gX3_goExchange_14, gX3_goExchange_15, gX3_goExchange_17, gX3_goExchange_17n, gX3_goExchange_18, gX3_goExchange_20, gX3_goExchange_21, gX3_goExchange_22, gX3_goExchange_23, gX3_goExchange_24, gX3_goExchange_24n, gX3_goExchange_25, gX3_goExchange_27, gX3_goExchange_28, gX3_goExchange_29, gX3_goExchange_30, gX3_goExchange_31, gX3_goExchange_32, gX3_goExchange_33, gX3_goExchange_33n, gX3_goExchange_34, gX3_goExchange_36, gX3_goExchange_37, gX3_goExchange_38, gX3_goExchange_39, gX3_goExchange_40, gX3_goExchange_42, gX3_goExchange_43, gX3_goExchange_46, gX3_goExchange_49, am_kill_int, am_kill_ref, am_kill_null, am_kill_F, am_kill_long, am_cat_n, am_cat_i, am_cat_r, am_cat_0, am_cat_l, am_nr_n, am_nr_i, am_nr_r, am_nr_0, am_nr_l, Option.toList_some, Option.toList_none, List.nil_append, List.cons_append, va_rf_s, va_rf_n, am_II, am_I_sR, am_I_sL, am_R_sI, am_RR, am_R_sL, am_L_sI, am_L_sR, am_LL, am_k_sI, am_k_sR, am_k_sL, am_n_sI, am_n_sR, am_n_sL, true_and, and_true, true_or, or_true, or_false, false_or, not_true_eq_false, not_false_eq_true, Nat.reduceLT, am_dS, am_dP, am_d1, Nat.reduceSub, Nat.reduceMul, ne_eq, Nat.reduceBEq, Nat.reduceAdd, Nat.reduceLeDiff, Nat.reduceEqDiff, and_self, and_false, false_and, if_true, if_false, am_nb, am_nb0, am_nb1, am_lc1, am_lc2, am_lc3, am_b0, am_b1, am_10, am_c8, am_c16, am_c24, am_c32, am_c40, am_c48, am_c56, am_c64, am_c72, Nat.add_zero, Bool.false_eq_true, Nat.zero_le, e4, Int32.le_refl]
    exact hK ν hF hT
end MR
