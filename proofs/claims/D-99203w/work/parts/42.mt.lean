/-! the model reads: signs of a text -/
set_option maxRecDepth 100000
section MT
variable {d : Nat} {μ ν : am_M} {K : Option Value → am_M → Prop} {x y z c w : Int32} {h N j i k r L a ln tp : Nat} {v : Int32}
def TM (r L a ln tp : Nat) (w : Int32) (μ : am_M) : Prop := mL (am_k μ) (am_R μ) ∧ am_R μ 54 8 = some r ∧ am_k μ r = (11, L) ∧ am_I μ 54 11 = nI a ∧ am_I μ 54 9 = nI ln ∧ am_I μ 54 10 = nI tp ∧ am_I μ 54 12 = w ∧ (a ≤ 1000 ∧ ln ≤ 1000 ∧ tp ≤ 1000 ∧ L ≤ 1000) ∧ (ln ≤ L ∨ tp ≤ L) ∧ ∀ i, i < L → ∃ n : Nat, n < 256 ∧ am_I μ r i = nI n - 128
theorem byt : ∀ n : Fin 256, (nI n.val - 128) &&& 255 ≤ 127 → nI n.val - 128 = (nI n.val - 128) &&& 255 := by decide +kernel
def chM (T : Nat → Int32) (ln tp a : Nat) : Int32 := if a < ln ∧ a < tp then T a &&& 255 else -1
theorem wX3_here (hT : TM r L a ln tp w μ) : am_Wp d mX3_here 0 [.ref 54] [] μ K ↔ K (some (.int (chM (am_I μ r) ln tp a))) μ := by
  obtain ⟨hm, hr, hk, ha, hl, ht, hw, ⟨b1, b2, b3, b4⟩, hL, hB⟩ := hT
  have hmu := hm
  unfold mL at hmu
  have e1 : (nI ln ≤ nI a) = (ln ≤ a) := propext (nI_leI (by omega) (by omega))
  have e2 : (nI tp ≤ nI a) = (tp ≤ a) := propext (nI_leI (by omega) (by omega))
  by_cases h1 : ln ≤ a
  · have h1' : ¬ (a < ln ∧ a < tp) := by omega
    simp only [gX3_here_0, gX3_here_1, gX3_here_4, gX3_here_5, gX3_here_8, gX3_here_11, gX3_here_12, gX3_here_15, gX3_here_16, gX3_here_19, gX3_here_22, gX3_here_23, gX3_here_26, gX3_here_27, gX3_here_30, gX3_here_31, gX3_here_34, gX3_here_35, gX3_here_38, gX3_here_39, am_kill_int, am_kill_ref, am_kill_null, am_kill_F, am_kill_long, am_cat_n, am_cat_i, am_cat_r, am_cat_0, am_cat_l, am_nr_n, am_nr_i, am_nr_r, am_nr_0, am_nr_l, Option.toList_some, Option.toList_none, List.nil_append, List.cons_append, va_rf_s, va_rf_n, am_II, am_I_sR, am_I_sL, am_R_sI, am_RR, am_R_sL, am_L_sI, am_L_sR, am_LL, am_k_sI, am_k_sR, am_k_sL, am_n_sI, am_n_sR, am_n_sL, true_and, and_true, true_or, or_true, or_false, false_or, not_true_eq_false, not_false_eq_true, Nat.reduceLT, am_dS, am_dP, am_d1, Nat.reduceSub, Nat.reduceMul, ne_eq, Nat.reduceBEq, Nat.reduceAdd, Nat.reduceLeDiff, Nat.reduceEqDiff, and_self, and_false, false_and, if_true, if_false, am_nb, am_nb0, am_nb1, am_lc1, am_lc2, am_lc3, am_b0, am_b1, am_10, am_c8, am_c16, am_c24, am_c32, am_c40, am_c48, am_c56, am_c64, am_c72, Nat.add_zero, Bool.false_eq_true, Nat.zero_le, hmu, hr, hk, ha, hl, ht, e1, h1, chM, if_neg h1']
  · by_cases h2 : tp ≤ a
    · have h1' : ¬ (a < ln ∧ a < tp) := by omega
      simp only [gX3_here_0, gX3_here_1, gX3_here_4, gX3_here_5, gX3_here_8, gX3_here_11, gX3_here_12, gX3_here_15, gX3_here_16, gX3_here_19, gX3_here_22, gX3_here_23, gX3_here_26, gX3_here_27, gX3_here_30, gX3_here_31, gX3_here_34, gX3_here_35, gX3_here_38, gX3_here_39, am_kill_int, am_kill_ref, am_kill_null, am_kill_F, am_kill_long, am_cat_n, am_cat_i, am_cat_r, am_cat_0, am_cat_l, am_nr_n, am_nr_i, am_nr_r, am_nr_0, am_nr_l, Option.toList_some, Option.toList_none, List.nil_append, List.cons_append, va_rf_s, va_rf_n, am_II, am_I_sR, am_I_sL, am_R_sI, am_RR, am_R_sL, am_L_sI, am_L_sR, am_LL, am_k_sI, am_k_sR, am_k_sL, am_n_sI, am_n_sR, am_n_sL, true_and, and_true, true_or, or_true, or_false, false_or, not_true_eq_false, not_false_eq_true, Nat.reduceLT, am_dS, am_dP, am_d1, Nat.reduceSub, Nat.reduceMul, ne_eq, Nat.reduceBEq, Nat.reduceAdd, Nat.reduceLeDiff, Nat.reduceEqDiff, and_self, and_false, false_and, if_true, if_false, am_nb, am_nb0, am_nb1, am_lc1, am_lc2, am_lc3, am_b0, am_b1, am_10, am_c8, am_c16, am_c24, am_c32, am_c40, am_c48, am_c56, am_c64, am_c72, Nat.add_zero, Bool.false_eq_true, Nat.zero_le, hmu, hr, hk, ha, hl, ht, e1, e2, h1, h2, chM, if_neg h1']
    · have h1' : a < ln ∧ a < tp := by omega
      have hv : vp_in (nI a) L := vp_in_nI (by omega) (by omega)
      have hcl : (nI a).toNatClampNeg = a := nI_clamp (by omega)
      simp only [gX3_here_0, gX3_here_1, gX3_here_4, gX3_here_5, gX3_here_8, gX3_here_11, gX3_here_12, gX3_here_15, gX3_here_16, gX3_here_19, gX3_here_22, gX3_here_23, gX3_here_26, gX3_here_27, gX3_here_30, gX3_here_31, gX3_here_34, gX3_here_35, gX3_here_38, gX3_here_39, am_kill_int, am_kill_ref, am_kill_null, am_kill_F, am_kill_long, am_cat_n, am_cat_i, am_cat_r, am_cat_0, am_cat_l, am_nr_n, am_nr_i, am_nr_r, am_nr_0, am_nr_l, Option.toList_some, Option.toList_none, List.nil_append, List.cons_append, va_rf_s, va_rf_n, am_II, am_I_sR, am_I_sL, am_R_sI, am_RR, am_R_sL, am_L_sI, am_L_sR, am_LL, am_k_sI, am_k_sR, am_k_sL, am_n_sI, am_n_sR, am_n_sL, true_and, and_true, true_or, or_true, or_false, false_or, not_true_eq_false, not_false_eq_true, Nat.reduceLT, am_dS, am_dP, am_d1, Nat.reduceSub, Nat.reduceMul, ne_eq, Nat.reduceBEq, Nat.reduceAdd, Nat.reduceLeDiff, Nat.reduceEqDiff, and_self, and_false, false_and, if_true, if_false, am_nb, am_nb0, am_nb1, am_lc1, am_lc2, am_lc3, am_b0, am_b1, am_10, am_c8, am_c16, am_c24, am_c32, am_c40, am_c48, am_c56, am_c64, am_c72, Nat.add_zero, Bool.false_eq_true, Nat.zero_le, hmu, hr, hk, ha, hl, ht, e1, e2, h1, h2, hv, hcl, chM, if_pos h1']
theorem wX3_fine (hT : TM r L a ln tp w μ) : am_Wp d mX3_fine 0 [.ref 54] [] μ K ↔ K (some (.int (if w = -1 then 1 else 0))) μ := by
  obtain ⟨hm, hr, hk, ha, hl, ht, hw, _, hL, hB⟩ := hT
  have hmu := hm
  unfold mL at hmu
  by_cases h1 : w = -1
  · simp only [gX3_fine_0, gX3_fine_1, gX3_fine_4, gX3_fine_5, gX3_fine_8, gX3_fine_9, gX3_fine_12, gX3_fine_13, am_kill_int, am_kill_ref, am_kill_null, am_kill_F, am_kill_long, am_cat_n, am_cat_i, am_cat_r, am_cat_0, am_cat_l, am_nr_n, am_nr_i, am_nr_r, am_nr_0, am_nr_l, Option.toList_some, Option.toList_none, List.nil_append, List.cons_append, va_rf_s, va_rf_n, am_II, am_I_sR, am_I_sL, am_R_sI, am_RR, am_R_sL, am_L_sI, am_L_sR, am_LL, am_k_sI, am_k_sR, am_k_sL, am_n_sI, am_n_sR, am_n_sL, true_and, and_true, true_or, or_true, or_false, false_or, not_true_eq_false, not_false_eq_true, Nat.reduceLT, am_dS, am_dP, am_d1, Nat.reduceSub, Nat.reduceMul, ne_eq, Nat.reduceBEq, Nat.reduceAdd, Nat.reduceLeDiff, Nat.reduceEqDiff, and_self, and_false, false_and, if_true, if_false, am_nb, am_nb0, am_nb1, am_lc1, am_lc2, am_lc3, am_b0, am_b1, am_10, am_c8, am_c16, am_c24, am_c32, am_c40, am_c48, am_c56, am_c64, am_c72, Nat.add_zero, Bool.false_eq_true, Nat.zero_le, hmu, hw, h1]
  · simp only [gX3_fine_0, gX3_fine_1, gX3_fine_4, gX3_fine_5, gX3_fine_8, gX3_fine_9, gX3_fine_12, gX3_fine_13, am_kill_int, am_kill_ref, am_kill_null, am_kill_F, am_kill_long, am_cat_n, am_cat_i, am_cat_r, am_cat_0, am_cat_l, am_nr_n, am_nr_i, am_nr_r, am_nr_0, am_nr_l, Option.toList_some, Option.toList_none, List.nil_append, List.cons_append, va_rf_s, va_rf_n, am_II, am_I_sR, am_I_sL, am_R_sI, am_RR, am_R_sL, am_L_sI, am_L_sR, am_LL, am_k_sI, am_k_sR, am_k_sL, am_n_sI, am_n_sR, am_n_sL, true_and, and_true, true_or, or_true, or_false, false_or, not_true_eq_false, not_false_eq_true, Nat.reduceLT, am_dS, am_dP, am_d1, Nat.reduceSub, Nat.reduceMul, ne_eq, Nat.reduceBEq, Nat.reduceAdd, Nat.reduceLeDiff, Nat.reduceEqDiff, and_self, and_false, false_and, if_true, if_false, am_nb, am_nb0, am_nb1, am_lc1, am_lc2, am_lc3, am_b0, am_b1, am_10, am_c8, am_c16, am_c24, am_c32, am_c40, am_c48, am_c56, am_c64, am_c72, Nat.add_zero, Bool.false_eq_true, Nat.zero_le, hmu, hw, h1]
theorem wX3_fault (hT : TM r L a ln tp w μ) : am_Wp (d + 1) mX3_fault 0 [.ref 54, .int x] [] μ K ↔ K none (if w = -1 then am_sI μ 54 12 x else μ) := by
  have hT' := hT
  obtain ⟨hm, hr, hk, ha, hl, ht, hw, _, hL, hB⟩ := hT
  have hmu := hm
  unfold mL at hmu
  by_cases h1 : w = -1
  · simp only [gX3_fault_0, gX3_fault_1, gX3_fault_4, gX3_fault_7, gX3_fault_8, gX3_fault_9, gX3_fault_12, am_kill_int, am_kill_ref, am_kill_null, am_kill_F, am_kill_long, am_cat_n, am_cat_i, am_cat_r, am_cat_0, am_cat_l, am_nr_n, am_nr_i, am_nr_r, am_nr_0, am_nr_l, Option.toList_some, Option.toList_none, List.nil_append, List.cons_append, va_rf_s, va_rf_n, am_II, am_I_sR, am_I_sL, am_R_sI, am_RR, am_R_sL, am_L_sI, am_L_sR, am_LL, am_k_sI, am_k_sR, am_k_sL, am_n_sI, am_n_sR, am_n_sL, true_and, and_true, true_or, or_true, or_false, false_or, not_true_eq_false, not_false_eq_true, Nat.reduceLT, am_dS, am_dP, am_d1, Nat.reduceSub, Nat.reduceMul, ne_eq, Nat.reduceBEq, Nat.reduceAdd, Nat.reduceLeDiff, Nat.reduceEqDiff, and_self, and_false, false_and, if_true, if_false, am_nb, am_nb0, am_nb1, am_lc1, am_lc2, am_lc3, am_b0, am_b1, am_10, am_c8, am_c16, am_c24, am_c32, am_c40, am_c48, am_c56, am_c64, am_c72, Nat.add_zero, Bool.false_eq_true, Nat.zero_le, wX3_fine hT', hmu, hw, h1]
  · simp only [gX3_fault_0, gX3_fault_1, gX3_fault_4, gX3_fault_7, gX3_fault_8, gX3_fault_9, gX3_fault_12, am_kill_int, am_kill_ref, am_kill_null, am_kill_F, am_kill_long, am_cat_n, am_cat_i, am_cat_r, am_cat_0, am_cat_l, am_nr_n, am_nr_i, am_nr_r, am_nr_0, am_nr_l, Option.toList_some, Option.toList_none, List.nil_append, List.cons_append, va_rf_s, va_rf_n, am_II, am_I_sR, am_I_sL, am_R_sI, am_RR, am_R_sL, am_L_sI, am_L_sR, am_LL, am_k_sI, am_k_sR, am_k_sL, am_n_sI, am_n_sR, am_n_sL, true_and, and_true, true_or, or_true, or_false, false_or, not_true_eq_false, not_false_eq_true, Nat.reduceLT, am_dS, am_dP, am_d1, Nat.reduceSub, Nat.reduceMul, ne_eq, Nat.reduceBEq, Nat.reduceAdd, Nat.reduceLeDiff, Nat.reduceEqDiff, and_self, and_false, false_and, if_true, if_false, am_nb, am_nb0, am_nb1, am_lc1, am_lc2, am_lc3, am_b0, am_b1, am_10, am_c8, am_c16, am_c24, am_c32, am_c40, am_c48, am_c56, am_c64, am_c72, Nat.add_zero, Bool.false_eq_true, Nat.zero_le, wX3_fine hT', hmu, hw, h1]
theorem wX3_passes (hT : TM r L a ln tp w μ) : am_Wp (d + 1) mX3_passes 0 [.ref 54, .int x] [] μ K ↔ (if w = -1 ∧ chM (am_I μ r) ln tp a = x then K (some (.int 1)) (am_sI μ 54 11 (nI (a + 1))) else K (some (.int 0)) μ) := by
  have hT' := hT
  obtain ⟨hm, hr, hk, ha, hl, ht, hw, _, hL, hB⟩ := hT
  have hmu := hm
  unfold mL at hmu
  by_cases h1 : w = -1
  · by_cases h2 : chM (am_I μ r) ln tp a = x
    · simp only [gX3_passes_0, gX3_passes_1, gX3_passes_4, gX3_passes_7, gX3_passes_8, gX3_passes_11, gX3_passes_12, gX3_passes_15, gX3_passes_16, gX3_passes_17, gX3_passes_18, gX3_passes_19, gX3_passes_22, gX3_passes_23, gX3_passes_24, gX3_passes_27, gX3_passes_28, am_kill_int, am_kill_ref, am_kill_null, am_kill_F, am_kill_long, am_cat_n, am_cat_i, am_cat_r, am_cat_0, am_cat_l, am_nr_n, am_nr_i, am_nr_r, am_nr_0, am_nr_l, Option.toList_some, Option.toList_none, List.nil_append, List.cons_append, va_rf_s, va_rf_n, am_II, am_I_sR, am_I_sL, am_R_sI, am_RR, am_R_sL, am_L_sI, am_L_sR, am_LL, am_k_sI, am_k_sR, am_k_sL, am_n_sI, am_n_sR, am_n_sL, true_and, and_true, true_or, or_true, or_false, false_or, not_true_eq_false, not_false_eq_true, Nat.reduceLT, am_dS, am_dP, am_d1, Nat.reduceSub, Nat.reduceMul, ne_eq, Nat.reduceBEq, Nat.reduceAdd, Nat.reduceLeDiff, Nat.reduceEqDiff, and_self, and_false, false_and, if_true, if_false, am_nb, am_nb0, am_nb1, am_lc1, am_lc2, am_lc3, am_b0, am_b1, am_10, am_c8, am_c16, am_c24, am_c32, am_c40, am_c48, am_c56, am_c64, am_c72, Nat.add_zero, Bool.false_eq_true, Nat.zero_le, wX3_fine hT', wX3_here hT', hmu, ha, h1, h2, nI_1]
    · simp only [gX3_passes_0, gX3_passes_1, gX3_passes_4, gX3_passes_7, gX3_passes_8, gX3_passes_11, gX3_passes_12, gX3_passes_15, gX3_passes_16, gX3_passes_17, gX3_passes_18, gX3_passes_19, gX3_passes_22, gX3_passes_23, gX3_passes_24, gX3_passes_27, gX3_passes_28, am_kill_int, am_kill_ref, am_kill_null, am_kill_F, am_kill_long, am_cat_n, am_cat_i, am_cat_r, am_cat_0, am_cat_l, am_nr_n, am_nr_i, am_nr_r, am_nr_0, am_nr_l, Option.toList_some, Option.toList_none, List.nil_append, List.cons_append, va_rf_s, va_rf_n, am_II, am_I_sR, am_I_sL, am_R_sI, am_RR, am_R_sL, am_L_sI, am_L_sR, am_LL, am_k_sI, am_k_sR, am_k_sL, am_n_sI, am_n_sR, am_n_sL, true_and, and_true, true_or, or_true, or_false, false_or, not_true_eq_false, not_false_eq_true, Nat.reduceLT, am_dS, am_dP, am_d1, Nat.reduceSub, Nat.reduceMul, ne_eq, Nat.reduceBEq, Nat.reduceAdd, Nat.reduceLeDiff, Nat.reduceEqDiff, and_self, and_false, false_and, if_true, if_false, am_nb, am_nb0, am_nb1, am_lc1, am_lc2, am_lc3, am_b0, am_b1, am_10, am_c8, am_c16, am_c24, am_c32, am_c40, am_c48, am_c56, am_c64, am_c72, Nat.add_zero, Bool.false_eq_true, Nat.zero_le, wX3_fine hT', wX3_here hT', hmu, ha, h1, h2, nI_1]
  · simp only [gX3_passes_0, gX3_passes_1, gX3_passes_4, gX3_passes_7, gX3_passes_8, gX3_passes_11, gX3_passes_12, gX3_passes_15, gX3_passes_16, gX3_passes_17, gX3_passes_18, gX3_passes_19, gX3_passes_22, gX3_passes_23, gX3_passes_24, gX3_passes_27, gX3_passes_28, am_kill_int, am_kill_ref, am_kill_null, am_kill_F, am_kill_long, am_cat_n, am_cat_i, am_cat_r, am_cat_0, am_cat_l, am_nr_n, am_nr_i, am_nr_r, am_nr_0, am_nr_l, Option.toList_some, Option.toList_none, List.nil_append, List.cons_append, va_rf_s, va_rf_n, am_II, am_I_sR, am_I_sL, am_R_sI, am_RR, am_R_sL, am_L_sI, am_L_sR, am_LL, am_k_sI, am_k_sR, am_k_sL, am_n_sI, am_n_sR, am_n_sL, true_and, and_true, true_or, or_true, or_false, false_or, not_true_eq_false, not_false_eq_true, Nat.reduceLT, am_dS, am_dP, am_d1, Nat.reduceSub, Nat.reduceMul, ne_eq, Nat.reduceBEq, Nat.reduceAdd, Nat.reduceLeDiff, Nat.reduceEqDiff, and_self, and_false, false_and, if_true, if_false, am_nb, am_nb0, am_nb1, am_lc1, am_lc2, am_lc3, am_b0, am_b1, am_10, am_c8, am_c16, am_c24, am_c32, am_c40, am_c48, am_c56, am_c64, am_c72, Nat.add_zero, Bool.false_eq_true, Nat.zero_le, wX3_fine hT', hmu, h1]
theorem TM.ne (hT : TM r L a ln tp w μ) : r ≠ 54 := fun e => by
  obtain ⟨hm, hr, hk, _⟩ := hT
  rw [e, hm.1.1] at hk
  cases hk
theorem TM.fault (hT : TM r L a ln tp w μ) : TM r L a ln tp x (am_sI μ 54 12 x) := by
  have hne := hT.ne
  obtain ⟨hm, hr, hk, ha, hl, ht, hw, b, hL, hB⟩ := hT
  exact ⟨hm, hr, hk, by rw [am_I_sI, if_neg (by omega)]; exact ha, by rw [am_I_sI, if_neg (by omega)]; exact hl, by rw [am_I_sI, if_neg (by omega)]; exact ht, by rw [am_I_sI, if_pos ⟨rfl, rfl⟩], b, hL, by rw [am_row_o hne]; exact hB⟩
theorem TM.go (hT : TM r L a ln tp w μ) (ha : k ≤ 1000) : TM r L k ln tp w (am_sI μ 54 11 (nI k)) := by
  have hne := hT.ne
  obtain ⟨hm, hr, hk, _, hl, ht, hw, b, hL, hB⟩ := hT
  exact ⟨hm, hr, hk, by rw [am_I_sI, if_pos ⟨rfl, rfl⟩], by rw [am_I_sI, if_neg (by omega)]; exact hl, by rw [am_I_sI, if_neg (by omega)]; exact ht, by rw [am_I_sI, if_neg (by omega)]; exact hw, ⟨ha, b.2⟩, hL, by rw [am_row_o hne]; exact hB⟩
/-- one sign of some: what comes, and the memory -/
theorem wX3_oneOf (hT : TM r L a ln tp w μ) (hx : 0 ≤ x) (hy : x + y - 1 ≤ 127) : am_Wp (d + 2) mX3_oneOf 0 [.ref 54, .int x, .int y] [] μ K ↔
    (if w = -1 then (if x ≤ chM (am_I μ r) ln tp a ∧ chM (am_I μ r) ln tp a ≤ x + y - 1 then K (some (.int (chM (am_I μ r) ln tp a - x))) (am_sI μ 54 11 (nI (a + 1))) else K (some (.int 0)) (am_sI μ 54 12 (nI a))) else K (some (.int 0)) μ) := by
  have hT' := hT
  obtain ⟨hm, hr, hk, ha, hl, ht, hw, ⟨b1, b2, b3, b4⟩, hL, hB⟩ := hT
  have hmu := hm
  unfold mL at hmu
  by_cases h1 : w = -1
  · by_cases h2 : x ≤ chM (am_I μ r) ln tp a ∧ chM (am_I μ r) ln tp a ≤ x + y - 1
    · have hb : a < ln ∧ a < tp := by
        by_cases hb : a < ln ∧ a < tp
        · exact hb
        · have h3 := h2.1
          unfold chM at h3
          rw [if_neg hb] at h3
          exact absurd (Int32.le_trans hx h3) (by decide)
      have hbb : am_I μ r a = chM (am_I μ r) ln tp a := by
        have h5 := Int32.le_trans h2.2 hy
        obtain ⟨n, hn, e⟩ := hB a (by omega)
        unfold chM at h5 ⊢
        rw [if_pos hb] at h5 ⊢
        rw [e] at h5 ⊢
        exact byt ⟨n, hn⟩ h5
      have hr54 : (r = 54) = False := eq_false (fun e => by rw [e, hmu.1.1] at hk; cases hk)
      have hv : vp_in (nI a) L := vp_in_nI (by omega) (by omega)
      have hcl : (nI a).toNatClampNeg = a := nI_clamp (by omega)
      simp only [gX3_oneOf_0, gX3_oneOf_1, gX3_oneOf_4, gX3_oneOf_7, gX3_oneOf_8, gX3_oneOf_9, gX3_oneOf_10, gX3_oneOf_13, gX3_oneOf_14, gX3_oneOf_15, gX3_oneOf_16, gX3_oneOf_17, gX3_oneOf_18, gX3_oneOf_19, gX3_oneOf_22, gX3_oneOf_25, gX3_oneOf_26, gX3_oneOf_27, gX3_oneOf_30, gX3_oneOf_33, gX3_oneOf_34, gX3_oneOf_35, gX3_oneOf_36, gX3_oneOf_37, gX3_oneOf_40, gX3_oneOf_41, gX3_oneOf_42, gX3_oneOf_45, gX3_oneOf_46, gX3_oneOf_49, gX3_oneOf_50, gX3_oneOf_53, gX3_oneOf_54, gX3_oneOf_55, gX3_oneOf_56, gX3_oneOf_57, gX3_oneOf_58, am_kill_int, am_kill_ref, am_kill_null, am_kill_F, am_kill_long, am_cat_n, am_cat_i, am_cat_r, am_cat_0, am_cat_l, am_nr_n, am_nr_i, am_nr_r, am_nr_0, am_nr_l, Option.toList_some, Option.toList_none, List.nil_append, List.cons_append, va_rf_s, va_rf_n, am_II, am_I_sR, am_I_sL, am_R_sI, am_RR, am_R_sL, am_L_sI, am_L_sR, am_LL, am_k_sI, am_k_sR, am_k_sL, am_n_sI, am_n_sR, am_n_sL, true_and, and_true, true_or, or_true, or_false, false_or, not_true_eq_false, not_false_eq_true, Nat.reduceLT, am_dS, am_dP, am_d1, Nat.reduceSub, Nat.reduceMul, ne_eq, Nat.reduceBEq, Nat.reduceAdd, Nat.reduceLeDiff, Nat.reduceEqDiff, and_self, and_false, false_and, if_true, if_false, am_nb, am_nb0, am_nb1, am_lc1, am_lc2, am_lc3, am_b0, am_b1, am_10, am_c8, am_c16, am_c24, am_c32, am_c40, am_c48, am_c56, am_c64, am_c72, Nat.add_zero, Bool.false_eq_true, Nat.zero_le, wX3_fine hT', wX3_here hT', wX3_in, hmu, hr, hk, ha, h1, h2, nI_1, nI_pred, hv, hcl, hr54, hbb]
    · simp only [gX3_oneOf_0, gX3_oneOf_1, gX3_oneOf_4, gX3_oneOf_7, gX3_oneOf_8, gX3_oneOf_9, gX3_oneOf_10, gX3_oneOf_13, gX3_oneOf_14, gX3_oneOf_15, gX3_oneOf_16, gX3_oneOf_17, gX3_oneOf_18, gX3_oneOf_19, gX3_oneOf_22, gX3_oneOf_25, gX3_oneOf_26, gX3_oneOf_27, gX3_oneOf_30, gX3_oneOf_33, gX3_oneOf_34, gX3_oneOf_35, gX3_oneOf_36, gX3_oneOf_37, gX3_oneOf_40, gX3_oneOf_41, gX3_oneOf_42, gX3_oneOf_45, gX3_oneOf_46, gX3_oneOf_49, gX3_oneOf_50, gX3_oneOf_53, gX3_oneOf_54, gX3_oneOf_55, gX3_oneOf_56, gX3_oneOf_57, gX3_oneOf_58, am_kill_int, am_kill_ref, am_kill_null, am_kill_F, am_kill_long, am_cat_n, am_cat_i, am_cat_r, am_cat_0, am_cat_l, am_nr_n, am_nr_i, am_nr_r, am_nr_0, am_nr_l, Option.toList_some, Option.toList_none, List.nil_append, List.cons_append, va_rf_s, va_rf_n, am_II, am_I_sR, am_I_sL, am_R_sI, am_RR, am_R_sL, am_L_sI, am_L_sR, am_LL, am_k_sI, am_k_sR, am_k_sL, am_n_sI, am_n_sR, am_n_sL, true_and, and_true, true_or, or_true, or_false, false_or, not_true_eq_false, not_false_eq_true, Nat.reduceLT, am_dS, am_dP, am_d1, Nat.reduceSub, Nat.reduceMul, ne_eq, Nat.reduceBEq, Nat.reduceAdd, Nat.reduceLeDiff, Nat.reduceEqDiff, and_self, and_false, false_and, if_true, if_false, am_nb, am_nb0, am_nb1, am_lc1, am_lc2, am_lc3, am_b0, am_b1, am_10, am_c8, am_c16, am_c24, am_c32, am_c40, am_c48, am_c56, am_c64, am_c72, Nat.add_zero, Bool.false_eq_true, Nat.zero_le, wX3_fine hT', wX3_here hT', wX3_in, wX3_fault hT', hmu, hr, hk, ha, h1, h2]
  · simp only [gX3_oneOf_0, gX3_oneOf_1, gX3_oneOf_4, gX3_oneOf_7, gX3_oneOf_8, gX3_oneOf_9, gX3_oneOf_10, gX3_oneOf_13, gX3_oneOf_14, gX3_oneOf_15, gX3_oneOf_16, gX3_oneOf_17, gX3_oneOf_18, gX3_oneOf_19, gX3_oneOf_22, gX3_oneOf_25, gX3_oneOf_26, gX3_oneOf_27, gX3_oneOf_30, gX3_oneOf_33, gX3_oneOf_34, gX3_oneOf_35, gX3_oneOf_36, gX3_oneOf_37, gX3_oneOf_40, gX3_oneOf_41, gX3_oneOf_42, gX3_oneOf_45, gX3_oneOf_46, gX3_oneOf_49, gX3_oneOf_50, gX3_oneOf_53, gX3_oneOf_54, gX3_oneOf_55, gX3_oneOf_56, gX3_oneOf_57, gX3_oneOf_58, am_kill_int, am_kill_ref, am_kill_null, am_kill_F, am_kill_long, am_cat_n, am_cat_i, am_cat_r, am_cat_0, am_cat_l, am_nr_n, am_nr_i, am_nr_r, am_nr_0, am_nr_l, Option.toList_some, Option.toList_none, List.nil_append, List.cons_append, va_rf_s, va_rf_n, am_II, am_I_sR, am_I_sL, am_R_sI, am_RR, am_R_sL, am_L_sI, am_L_sR, am_LL, am_k_sI, am_k_sR, am_k_sL, am_n_sI, am_n_sR, am_n_sL, true_and, and_true, true_or, or_true, or_false, false_or, not_true_eq_false, not_false_eq_true, Nat.reduceLT, am_dS, am_dP, am_d1, Nat.reduceSub, Nat.reduceMul, ne_eq, Nat.reduceBEq, Nat.reduceAdd, Nat.reduceLeDiff, Nat.reduceEqDiff, and_self, and_false, false_and, if_true, if_false, am_nb, am_nb0, am_nb1, am_lc1, am_lc2, am_lc3, am_b0, am_b1, am_10, am_c8, am_c16, am_c24, am_c32, am_c40, am_c48, am_c56, am_c64, am_c72, Nat.add_zero, Bool.false_eq_true, Nat.zero_le, wX3_fine hT', hmu, h1]
def dgB (x : Int32) : Bool := decide (48 ≤ x ∧ x ≤ 57)
def nuF (ch : Nat → Int32) : Nat → Nat → Int32 → Int32 × Nat
  | 0, a, v => (v, a)
  | m + 1, a, v => if dgB (ch a) = true then nuF ch m (a + 1) (10 * v + (ch a - 48)) else (v, a)
theorem am_sI_sI {h k : Nat} {x y : Int32} : am_sI (am_sI μ h k x) h k y = am_sI μ h k y := by
  have e : am_u (am_u μ.1 h k x) h k y = am_u μ.1 h k y := by
    funext a b
    unfold am_u
    split <;> rfl
  show (am_u (am_u μ.1 h k x) h k y, μ.2) = (am_u μ.1 h k y, μ.2)
  rw [e]
theorem am_sI_self {h k : Nat} {x : Int32} (q : am_I μ h k = x) : am_sI μ h k x = μ := by
  have e : am_u μ.1 h k x = μ.1 := by
    funext a b
    unfold am_u
    split
    · rename_i c; rw [c.1, c.2]; exact q.symm
    · rfl
  show (am_u μ.1 h k x, μ.2) = μ
  rw [e]
theorem chM_lt {T : Nat → Int32} (h : 0 ≤ chM T ln tp a) : a < ln ∧ a < tp := by
  by_cases hb : a < ln ∧ a < tp
  · exact hb
  · unfold chM at h
    rw [if_neg hb] at h
    exact absurd h (by decide)
theorem dgB_0 {x : Int32} (h : dgB x = true) : 0 ≤ x := by
  unfold dgB at h
  exact Int32.le_trans (by decide) (of_decide_eq_true h).1
theorem nuL {D : Nat} (hD : D ≤ 10) : ∀ (m k a : Nat) (v : Int32) (μ : am_M), k + m = D → 1 ≤ k → TM r L a ln tp (-1) μ →
    (am_Wp (d + 3) mX3_number 11 [.ref 54, .int (nI D), .int v, .int (nI k)] [] μ K ↔ K (some (.int (nuF (chM (am_I μ r) ln tp) m a v).1)) (am_sI μ 54 11 (nI (nuF (chM (am_I μ r) ln tp) m a v).2))) := by
  intro m
  induction m with
  | zero =>
    intro k a v μ hk h1 hT
    have hle : nI D ≤ nI k := nI_le (by omega) (by omega)
    rw [gX3_number_11]
    simp only [gX3_number_0, gX3_number_1, gX3_number_3, gX3_number_8, gX3_number_9, gX3_number_10, gX3_number_12, gX3_number_13, gX3_number_16, gX3_number_20, gX3_number_23, gX3_number_27, gX3_number_29, gX3_number_34, gX3_number_37, gX3_number_39, gX3_number_40, gX3_number_41, gX3_number_42, gX3_number_44, gX3_number_49, gX3_number_50, gX3_number_51, gX3_number_54, gX3_number_57, gX3_number_58, am_kill_int, am_kill_ref, am_kill_null, am_kill_F, am_kill_long, am_cat_n, am_cat_i, am_cat_r, am_cat_0, am_cat_l, am_nr_n, am_nr_i, am_nr_r, am_nr_0, am_nr_l, Option.toList_some, Option.toList_none, List.nil_append, List.cons_append, va_rf_s, va_rf_n, am_II, am_I_sR, am_I_sL, am_R_sI, am_RR, am_R_sL, am_L_sI, am_L_sR, am_LL, am_k_sI, am_k_sR, am_k_sL, am_n_sI, am_n_sR, am_n_sL, true_and, and_true, true_or, or_true, or_false, false_or, not_true_eq_false, not_false_eq_true, Nat.reduceLT, am_dS, am_dP, am_d1, Nat.reduceSub, Nat.reduceMul, ne_eq, Nat.reduceBEq, Nat.reduceAdd, Nat.reduceLeDiff, Nat.reduceEqDiff, and_self, and_false, false_and, if_true, if_false, am_nb, am_nb0, am_nb1, am_lc1, am_lc2, am_lc3, am_b0, am_b1, am_10, am_c8, am_c16, am_c24, am_c32, am_c40, am_c48, am_c56, am_c64, am_c72, Nat.add_zero, Bool.false_eq_true, Nat.zero_le, hle, nuF, am_sI_self hT.2.2.2.1]
  | succ m ih =>
    intro k a v μ hk h1 hT
    have hle : ¬ nI D ≤ nI k := nI_ge (by omega) (by omega)
    have hmu := hT.1
    unfold mL at hmu
    rw [gX3_number_11]
    by_cases hc : dgB (chM (am_I μ r) ln tp a) = true
    · have hc' := hc
      unfold dgB at hc'
      rw [decide_eq_true_eq] at hc'
      have hc2 : 48 ≤ chM (am_I μ r) ln tp a ∧ chM (am_I μ r) ln tp a ≤ 48 + 10 - 1 := hc'
      have hb := chM_lt (dgB_0 hc)
      have hT2 := hT.go (k := a + 1) (by have := hT.2.2.2.2.2.2.2.1; omega)
      have e := ih (k + 1) (a + 1) (10 * v + (chM (am_I μ r) ln tp a - 48)) _ (by omega) (by omega) hT2
      rw [am_row_o hT.ne, am_sI_sI] at e
      have o48 : ((0 : Int32) ≤ 48) := by decide
      have o57 : ((48 : Int32) + 10 - 1 ≤ 127) := by decide
      simp only [gX3_number_0, gX3_number_1, gX3_number_3, gX3_number_5, gX3_number_8, gX3_number_9, gX3_number_10, gX3_number_12, gX3_number_13, gX3_number_16, gX3_number_17, gX3_number_20, gX3_number_23, gX3_number_24, gX3_number_27, gX3_number_29, gX3_number_31, gX3_number_34, gX3_number_37, gX3_number_39, gX3_number_40, gX3_number_41, gX3_number_42, gX3_number_44, gX3_number_46, gX3_number_49, gX3_number_50, gX3_number_51, gX3_number_54, gX3_number_57, gX3_number_58, am_kill_int, am_kill_ref, am_kill_null, am_kill_F, am_kill_long, am_cat_n, am_cat_i, am_cat_r, am_cat_0, am_cat_l, am_nr_n, am_nr_i, am_nr_r, am_nr_0, am_nr_l, Option.toList_some, Option.toList_none, List.nil_append, List.cons_append, va_rf_s, va_rf_n, am_II, am_I_sR, am_I_sL, am_R_sI, am_RR, am_R_sL, am_L_sI, am_L_sR, am_LL, am_k_sI, am_k_sR, am_k_sL, am_n_sI, am_n_sR, am_n_sL, true_and, and_true, true_or, or_true, or_false, false_or, not_true_eq_false, not_false_eq_true, Nat.reduceLT, am_dS, am_dP, am_d1, Nat.reduceSub, Nat.reduceMul, ne_eq, Nat.reduceBEq, Nat.reduceAdd, Nat.reduceLeDiff, Nat.reduceEqDiff, and_self, and_false, false_and, if_true, if_false, am_nb, am_nb0, am_nb1, am_lc1, am_lc2, am_lc3, am_b0, am_b1, am_10, am_c8, am_c16, am_c24, am_c32, am_c40, am_c48, am_c56, am_c64, am_c72, Nat.add_zero, Bool.false_eq_true, Nat.zero_le, hle, wX3_fine hT, wX3_here hT, wX3_in, wX3_oneOf hT o48 o57, hc', hc2, hmu, nI_1, e, nuF, hc]
    · have hc' := hc
      unfold dgB at hc'
      rw [decide_eq_true_eq] at hc'
      simp only [gX3_number_0, gX3_number_1, gX3_number_3, gX3_number_5, gX3_number_8, gX3_number_9, gX3_number_10, gX3_number_12, gX3_number_13, gX3_number_16, gX3_number_17, gX3_number_20, gX3_number_23, gX3_number_24, gX3_number_27, gX3_number_29, gX3_number_31, gX3_number_34, gX3_number_37, gX3_number_39, gX3_number_40, gX3_number_41, gX3_number_42, gX3_number_44, gX3_number_46, gX3_number_49, gX3_number_50, gX3_number_51, gX3_number_54, gX3_number_57, gX3_number_58, am_kill_int, am_kill_ref, am_kill_null, am_kill_F, am_kill_long, am_cat_n, am_cat_i, am_cat_r, am_cat_0, am_cat_l, am_nr_n, am_nr_i, am_nr_r, am_nr_0, am_nr_l, Option.toList_some, Option.toList_none, List.nil_append, List.cons_append, va_rf_s, va_rf_n, am_II, am_I_sR, am_I_sL, am_R_sI, am_RR, am_R_sL, am_L_sI, am_L_sR, am_LL, am_k_sI, am_k_sR, am_k_sL, am_n_sI, am_n_sR, am_n_sL, true_and, and_true, true_or, or_true, or_false, false_or, not_true_eq_false, not_false_eq_true, Nat.reduceLT, am_dS, am_dP, am_d1, Nat.reduceSub, Nat.reduceMul, ne_eq, Nat.reduceBEq, Nat.reduceAdd, Nat.reduceLeDiff, Nat.reduceEqDiff, and_self, and_false, false_and, if_true, if_false, am_nb, am_nb0, am_nb1, am_lc1, am_lc2, am_lc3, am_b0, am_b1, am_10, am_c8, am_c16, am_c24, am_c32, am_c40, am_c48, am_c56, am_c64, am_c72, Nat.add_zero, Bool.false_eq_true, Nat.zero_le, hle, wX3_fine hT, wX3_here hT, wX3_in, hc', hmu, nuF, hc, am_sI_self hT.2.2.2.1]
theorem nuX {D k : Nat} (hw : ¬ w = -1) (hT : TM r L a ln tp w μ) : am_Wp (d + 3) mX3_number 11 [.ref 54, .int (nI D), .int v, .int (nI k)] [] μ K ↔ K (some (.int v)) μ := by
  have hmu := hT.1
  unfold mL at hmu
  rw [gX3_number_11]
  by_cases hle : nI D ≤ nI k
  · simp only [gX3_number_0, gX3_number_1, gX3_number_3, gX3_number_8, gX3_number_9, gX3_number_10, gX3_number_12, gX3_number_13, gX3_number_16, gX3_number_20, gX3_number_23, gX3_number_27, gX3_number_29, gX3_number_34, gX3_number_37, gX3_number_39, gX3_number_40, gX3_number_41, gX3_number_42, gX3_number_44, gX3_number_49, gX3_number_50, gX3_number_51, gX3_number_54, gX3_number_57, gX3_number_58, am_kill_int, am_kill_ref, am_kill_null, am_kill_F, am_kill_long, am_cat_n, am_cat_i, am_cat_r, am_cat_0, am_cat_l, am_nr_n, am_nr_i, am_nr_r, am_nr_0, am_nr_l, Option.toList_some, Option.toList_none, List.nil_append, List.cons_append, va_rf_s, va_rf_n, am_II, am_I_sR, am_I_sL, am_R_sI, am_RR, am_R_sL, am_L_sI, am_L_sR, am_LL, am_k_sI, am_k_sR, am_k_sL, am_n_sI, am_n_sR, am_n_sL, true_and, and_true, true_or, or_true, or_false, false_or, not_true_eq_false, not_false_eq_true, Nat.reduceLT, am_dS, am_dP, am_d1, Nat.reduceSub, Nat.reduceMul, ne_eq, Nat.reduceBEq, Nat.reduceAdd, Nat.reduceLeDiff, Nat.reduceEqDiff, and_self, and_false, false_and, if_true, if_false, am_nb, am_nb0, am_nb1, am_lc1, am_lc2, am_lc3, am_b0, am_b1, am_10, am_c8, am_c16, am_c24, am_c32, am_c40, am_c48, am_c56, am_c64, am_c72, Nat.add_zero, Bool.false_eq_true, Nat.zero_le, hle]
  · simp only [gX3_number_0, gX3_number_1, gX3_number_3, gX3_number_5, gX3_number_8, gX3_number_9, gX3_number_10, gX3_number_12, gX3_number_13, gX3_number_16, gX3_number_17, gX3_number_20, gX3_number_23, gX3_number_24, gX3_number_27, gX3_number_29, gX3_number_31, gX3_number_34, gX3_number_37, gX3_number_39, gX3_number_40, gX3_number_41, gX3_number_42, gX3_number_44, gX3_number_46, gX3_number_49, gX3_number_50, gX3_number_51, gX3_number_54, gX3_number_57, gX3_number_58, am_kill_int, am_kill_ref, am_kill_null, am_kill_F, am_kill_long, am_cat_n, am_cat_i, am_cat_r, am_cat_0, am_cat_l, am_nr_n, am_nr_i, am_nr_r, am_nr_0, am_nr_l, Option.toList_some, Option.toList_none, List.nil_append, List.cons_append, va_rf_s, va_rf_n, am_II, am_I_sR, am_I_sL, am_R_sI, am_RR, am_R_sL, am_L_sI, am_L_sR, am_LL, am_k_sI, am_k_sR, am_k_sL, am_n_sI, am_n_sR, am_n_sL, true_and, and_true, true_or, or_true, or_false, false_or, not_true_eq_false, not_false_eq_true, Nat.reduceLT, am_dS, am_dP, am_d1, Nat.reduceSub, Nat.reduceMul, ne_eq, Nat.reduceBEq, Nat.reduceAdd, Nat.reduceLeDiff, Nat.reduceEqDiff, and_self, and_false, false_and, if_true, if_false, am_nb, am_nb0, am_nb1, am_lc1, am_lc2, am_lc3, am_b0, am_b1, am_10, am_c8, am_c16, am_c24, am_c32, am_c40, am_c48, am_c56, am_c64, am_c72, Nat.add_zero, Bool.false_eq_true, Nat.zero_le, hle, wX3_fine hT, hw, hmu]
theorem nI_m1 {a : Nat} (ha : a ≤ 1000) : ¬ nI a = -1 := fun e => by
  have h1 := nI_toInt (n := a) (by omega)
  rw [e] at h1
  have h2 : (-1 : Int32).toInt = -1 := by decide
  omega
/-- a number of at most D digits -/
theorem wX3_number {D : Nat} (hD : D ≤ 10) (hD1 : 1 ≤ D) (hT : TM r L a ln tp w μ) :
    (am_Wp (d + 3) mX3_number 0 [.ref 54, .int (nI D), am_F, am_F] [] μ K ↔ (if w = -1 then (if dgB (chM (am_I μ r) ln tp a) = true then
      K (some (.int (nuF (chM (am_I μ r) ln tp) (D - 1) (a + 1) (chM (am_I μ r) ln tp a - 48)).1)) (am_sI μ 54 11 (nI (nuF (chM (am_I μ r) ln tp) (D - 1) (a + 1) (chM (am_I μ r) ln tp a - 48)).2))
      else K (some (.int 0)) (am_sI μ 54 12 (nI a))) else K (some (.int 0)) μ)) := by
  have hmu := hT.1
  unfold mL at hmu
  have o48 : ((0 : Int32) ≤ 48) := by decide
  have o57 : ((48 : Int32) + 10 - 1 ≤ 127) := by decide
  have n1 : (1 : Int32) = nI 1 := by decide
  by_cases hw : w = -1
  · subst hw
    by_cases hc : dgB (chM (am_I μ r) ln tp a) = true
    · have hc' := hc
      unfold dgB at hc'
      rw [decide_eq_true_eq] at hc'
      have hc2 : 48 ≤ chM (am_I μ r) ln tp a ∧ chM (am_I μ r) ln tp a ≤ 48 + 10 - 1 := hc'
      have hb := chM_lt (dgB_0 hc)
      have hT2 := hT.go (k := a + 1) (by have := hT.2.2.2.2.2.2.2.1; omega)
      have e := nuL (K := K) (d := d) hD (D - 1) 1 (a + 1) (chM (am_I μ r) ln tp a - 48) _ (by omega) (by omega) hT2
      rw [am_row_o hT.ne, am_sI_sI] at e
      simp only [gX3_number_0, gX3_number_1, gX3_number_3, gX3_number_5, gX3_number_8, gX3_number_9, gX3_number_10, am_kill_int, am_kill_ref, am_kill_null, am_kill_F, am_kill_long, am_cat_n, am_cat_i, am_cat_r, am_cat_0, am_cat_l, am_nr_n, am_nr_i, am_nr_r, am_nr_0, am_nr_l, Option.toList_some, Option.toList_none, List.nil_append, List.cons_append, va_rf_s, va_rf_n, am_II, am_I_sR, am_I_sL, am_R_sI, am_RR, am_R_sL, am_L_sI, am_L_sR, am_LL, am_k_sI, am_k_sR, am_k_sL, am_n_sI, am_n_sR, am_n_sL, true_and, and_true, true_or, or_true, or_false, false_or, not_true_eq_false, not_false_eq_true, Nat.reduceLT, am_dS, am_dP, am_d1, Nat.reduceSub, Nat.reduceMul, ne_eq, Nat.reduceBEq, Nat.reduceAdd, Nat.reduceLeDiff, Nat.reduceEqDiff, and_self, and_false, false_and, if_true, if_false, am_nb, am_nb0, am_nb1, am_lc1, am_lc2, am_lc3, am_b0, am_b1, am_10, am_c8, am_c16, am_c24, am_c32, am_c40, am_c48, am_c56, am_c64, am_c72, Nat.add_zero, Bool.false_eq_true, Nat.zero_le, hmu, wX3_oneOf hT o48 o57, hc2, hc]
      exact e
    · have hc' := hc
      unfold dgB at hc'
      rw [decide_eq_true_eq] at hc'
      have hc2 : ¬ (48 ≤ chM (am_I μ r) ln tp a ∧ chM (am_I μ r) ln tp a ≤ 48 + 10 - 1) := hc'
      simp only [gX3_number_0, gX3_number_1, gX3_number_3, gX3_number_5, gX3_number_8, gX3_number_9, gX3_number_10, am_kill_int, am_kill_ref, am_kill_null, am_kill_F, am_kill_long, am_cat_n, am_cat_i, am_cat_r, am_cat_0, am_cat_l, am_nr_n, am_nr_i, am_nr_r, am_nr_0, am_nr_l, Option.toList_some, Option.toList_none, List.nil_append, List.cons_append, va_rf_s, va_rf_n, am_II, am_I_sR, am_I_sL, am_R_sI, am_RR, am_R_sL, am_L_sI, am_L_sR, am_LL, am_k_sI, am_k_sR, am_k_sL, am_n_sI, am_n_sR, am_n_sL, true_and, and_true, true_or, or_true, or_false, false_or, not_true_eq_false, not_false_eq_true, Nat.reduceLT, am_dS, am_dP, am_d1, Nat.reduceSub, Nat.reduceMul, ne_eq, Nat.reduceBEq, Nat.reduceAdd, Nat.reduceLeDiff, Nat.reduceEqDiff, and_self, and_false, false_and, if_true, if_false, am_nb, am_nb0, am_nb1, am_lc1, am_lc2, am_lc3, am_b0, am_b1, am_10, am_c8, am_c16, am_c24, am_c32, am_c40, am_c48, am_c56, am_c64, am_c72, Nat.add_zero, Bool.false_eq_true, Nat.zero_le, hmu, wX3_oneOf hT o48 o57, hc2, hc]
      exact nuX (k := 1) (nI_m1 hT.2.2.2.2.2.2.2.1.1) hT.fault
  · simp only [gX3_number_0, gX3_number_1, gX3_number_3, gX3_number_5, gX3_number_8, gX3_number_9, gX3_number_10, am_kill_int, am_kill_ref, am_kill_null, am_kill_F, am_kill_long, am_cat_n, am_cat_i, am_cat_r, am_cat_0, am_cat_l, am_nr_n, am_nr_i, am_nr_r, am_nr_0, am_nr_l, Option.toList_some, Option.toList_none, List.nil_append, List.cons_append, va_rf_s, va_rf_n, am_II, am_I_sR, am_I_sL, am_R_sI, am_RR, am_R_sL, am_L_sI, am_L_sR, am_LL, am_k_sI, am_k_sR, am_k_sL, am_n_sI, am_n_sR, am_n_sL, true_and, and_true, true_or, or_true, or_false, false_or, not_true_eq_false, not_false_eq_true, Nat.reduceLT, am_dS, am_dP, am_d1, Nat.reduceSub, Nat.reduceMul, ne_eq, Nat.reduceBEq, Nat.reduceAdd, Nat.reduceLeDiff, Nat.reduceEqDiff, and_self, and_false, false_and, if_true, if_false, am_nb, am_nb0, am_nb1, am_lc1, am_lc2, am_lc3, am_b0, am_b1, am_10, am_c8, am_c16, am_c24, am_c32, am_c40, am_c48, am_c56, am_c64, am_c72, Nat.add_zero, Bool.false_eq_true, Nat.zero_le, hmu, wX3_oneOf hT o48 o57, hw]
    exact nuX (k := 1) hw hT
/-- the reader set to a text's start -/
def bgM (r : Nat) (x y : Int32) (μ : am_M) : am_M := am_sI (am_sI (am_sI (am_sI (am_sR μ 54 8 (some r)) 54 9 x) 54 10 y) 54 11 0) 54 12 (-1)
theorem wX3_begin (hk : am_k μ 54 = (2, 0)) (hr : r < am_B) : am_Wp d mX3_begin 0 [.ref 54, .ref r, .int x, .int y] [] μ K ↔ K none (bgM r x y μ) := by
  simp only [gX3_begin_0, gX3_begin_1, gX3_begin_1n, gX3_begin_2, gX3_begin_2n, gX3_begin_5, gX3_begin_6, gX3_begin_7, gX3_begin_10, gX3_begin_11, gX3_begin_12, gX3_begin_15, gX3_begin_16, gX3_begin_17, gX3_begin_20, gX3_begin_21, gX3_begin_22, gX3_begin_25, am_kill_int, am_kill_ref, am_kill_null, am_kill_F, am_kill_long, am_cat_n, am_cat_i, am_cat_r, am_cat_0, am_cat_l, am_nr_n, am_nr_i, am_nr_r, am_nr_0, am_nr_l, Option.toList_some, Option.toList_none, List.nil_append, List.cons_append, va_rf_s, va_rf_n, am_II, am_I_sR, am_I_sL, am_R_sI, am_RR, am_R_sL, am_L_sI, am_L_sR, am_LL, am_k_sI, am_k_sR, am_k_sL, am_n_sI, am_n_sR, am_n_sL, true_and, and_true, true_or, or_true, or_false, false_or, not_true_eq_false, not_false_eq_true, Nat.reduceLT, am_dS, am_dP, am_d1, Nat.reduceSub, Nat.reduceMul, ne_eq, Nat.reduceBEq, Nat.reduceAdd, Nat.reduceLeDiff, Nat.reduceEqDiff, and_self, and_false, false_and, if_true, if_false, am_nb, am_nb0, am_nb1, am_lc1, am_lc2, am_lc3, am_b0, am_b1, am_10, am_c8, am_c16, am_c24, am_c32, am_c40, am_c48, am_c56, am_c64, am_c72, Nat.add_zero, Bool.false_eq_true, Nat.zero_le, hk, hr, bgM]
theorem wX3_beginText (hm : mL (am_k μ) (am_R μ)) : am_Wp (d + 1) mX3_beginText 0 [.ref 54, .int y] [] μ K ↔ K none (am_sI (bgM 56 (am_I μ 54 4) y μ) 54 4 0) := by
  have hmu := hm
  unfold mL at hmu
  have hk : am_k (bgM 56 (am_I μ 54 4) y μ) = am_k μ := id rfl
  simp only [gX3_beginText_0, gX3_beginText_1, gX3_beginText_2, gX3_beginText_5, gX3_beginText_6, gX3_beginText_9, gX3_beginText_10, gX3_beginText_13, gX3_beginText_14, gX3_beginText_15, gX3_beginText_18, am_kill_int, am_kill_ref, am_kill_null, am_kill_F, am_kill_long, am_cat_n, am_cat_i, am_cat_r, am_cat_0, am_cat_l, am_nr_n, am_nr_i, am_nr_r, am_nr_0, am_nr_l, Option.toList_some, Option.toList_none, List.nil_append, List.cons_append, va_rf_s, va_rf_n, am_II, am_I_sR, am_I_sL, am_R_sI, am_RR, am_R_sL, am_L_sI, am_L_sR, am_LL, am_k_sI, am_k_sR, am_k_sL, am_n_sI, am_n_sR, am_n_sL, true_and, and_true, true_or, or_true, or_false, false_or, not_true_eq_false, not_false_eq_true, Nat.reduceLT, am_dS, am_dP, am_d1, Nat.reduceSub, Nat.reduceMul, ne_eq, Nat.reduceBEq, Nat.reduceAdd, Nat.reduceLeDiff, Nat.reduceEqDiff, and_self, and_false, false_and, if_true, if_false, am_nb, am_nb0, am_nb1, am_lc1, am_lc2, am_lc3, am_b0, am_b1, am_10, am_c8, am_c16, am_c24, am_c32, am_c40, am_c48, am_c56, am_c64, am_c72, Nat.add_zero, Bool.false_eq_true, Nat.zero_le, hmu, wX3_begin (μ := μ) (r := 56) hmu.1.1 (by decide), hk]
theorem mL_8 {k : Nat → Nat × Nat} {R : Nat → Nat → Option Nat} {o : Option Nat} : mL k (fun a b => if a = 54 ∧ b = 8 then o else R a b) = mL k R := by
  unfold mL
  simp only [Nat.reduceEqDiff, and_false, if_false]
theorem bgM_TM {n m : Nat} (hm : mL (am_k μ) (am_R μ)) (hk : am_k μ r = (11, L)) (hn : n ≤ 1000) (hm2 : m ≤ 1000) (hL : L ≤ 1000) (hnm : n ≤ L ∨ m ≤ L) (hB : ∀ i, i < L → ∃ q : Nat, q < 256 ∧ am_I μ r i = nI q - 128) : TM r L 0 n m (-1) (bgM r (nI n) (nI m) μ) := by
  have hne : r ≠ 54 := fun e => by rw [e, hm.1.1] at hk; cases hk
  refine ⟨?_, rfl, hk, rfl, rfl, rfl, rfl, ⟨by omega, hn, hm2, hL⟩, hnm, ?_⟩
  · show mL (am_k μ) (fun a b => if a = 54 ∧ b = 8 then some r else am_R μ a b)
    rw [mL_8]; exact hm
  · intro i hi
    obtain ⟨q, h1, h2⟩ := hB i hi
    refine ⟨q, h1, ?_⟩
    unfold bgM
    rw [am_row_o hne, am_row_o hne, am_row_o hne, am_row_o hne]
    exact h2
theorem wX3_wasRight (hT : TM r L a ln tp w μ) : am_Wp (d + 2) mX3_wasRight 0 [.ref 54] [] μ K ↔
    K (some (.int (if w = -1 ∧ ¬ a < ln then 1 else 0))) (if w = -1 ∧ a < ln then am_sI μ 54 12 (nI a) else μ) := by
  have hmu := hT.1
  unfold mL at hmu
  obtain ⟨b1, b2, _⟩ := hT.2.2.2.2.2.2.2.1
  have ha := hT.2.2.2.1
  have hl := hT.2.2.2.2.1
  have e1 : (nI ln ≤ nI a) = (ln ≤ a) := propext (nI_leI (by omega) (by omega))
  by_cases h1 : a < ln
  · have h2 : ¬ ln ≤ a := by omega
    by_cases h3 : w = -1
    · have hm1 := nI_m1 b1
      simp only [gX3_wasRight_0, gX3_wasRight_1, gX3_wasRight_4, gX3_wasRight_5, gX3_wasRight_8, gX3_wasRight_11, gX3_wasRight_12, gX3_wasRight_13, gX3_wasRight_16, gX3_wasRight_19, gX3_wasRight_20, gX3_wasRight_23, am_kill_int, am_kill_ref, am_kill_null, am_kill_F, am_kill_long, am_cat_n, am_cat_i, am_cat_r, am_cat_0, am_cat_l, am_nr_n, am_nr_i, am_nr_r, am_nr_0, am_nr_l, Option.toList_some, Option.toList_none, List.nil_append, List.cons_append, va_rf_s, va_rf_n, am_II, am_I_sR, am_I_sL, am_R_sI, am_RR, am_R_sL, am_L_sI, am_L_sR, am_LL, am_k_sI, am_k_sR, am_k_sL, am_n_sI, am_n_sR, am_n_sL, true_and, and_true, true_or, or_true, or_false, false_or, not_true_eq_false, not_false_eq_true, Nat.reduceLT, am_dS, am_dP, am_d1, Nat.reduceSub, Nat.reduceMul, ne_eq, Nat.reduceBEq, Nat.reduceAdd, Nat.reduceLeDiff, Nat.reduceEqDiff, and_self, and_false, false_and, if_true, if_false, am_nb, am_nb0, am_nb1, am_lc1, am_lc2, am_lc3, am_b0, am_b1, am_10, am_c8, am_c16, am_c24, am_c32, am_c40, am_c48, am_c56, am_c64, am_c72, Nat.add_zero, Bool.false_eq_true, Nat.zero_le, hmu, ha, hl, e1, h1, h2, h3, wX3_fault hT, wX3_fine (hT.fault (x := nI a)), hm1]
    · simp only [gX3_wasRight_0, gX3_wasRight_1, gX3_wasRight_4, gX3_wasRight_5, gX3_wasRight_8, gX3_wasRight_11, gX3_wasRight_12, gX3_wasRight_13, gX3_wasRight_16, gX3_wasRight_19, gX3_wasRight_20, gX3_wasRight_23, am_kill_int, am_kill_ref, am_kill_null, am_kill_F, am_kill_long, am_cat_n, am_cat_i, am_cat_r, am_cat_0, am_cat_l, am_nr_n, am_nr_i, am_nr_r, am_nr_0, am_nr_l, Option.toList_some, Option.toList_none, List.nil_append, List.cons_append, va_rf_s, va_rf_n, am_II, am_I_sR, am_I_sL, am_R_sI, am_RR, am_R_sL, am_L_sI, am_L_sR, am_LL, am_k_sI, am_k_sR, am_k_sL, am_n_sI, am_n_sR, am_n_sL, true_and, and_true, true_or, or_true, or_false, false_or, not_true_eq_false, not_false_eq_true, Nat.reduceLT, am_dS, am_dP, am_d1, Nat.reduceSub, Nat.reduceMul, ne_eq, Nat.reduceBEq, Nat.reduceAdd, Nat.reduceLeDiff, Nat.reduceEqDiff, and_self, and_false, false_and, if_true, if_false, am_nb, am_nb0, am_nb1, am_lc1, am_lc2, am_lc3, am_b0, am_b1, am_10, am_c8, am_c16, am_c24, am_c32, am_c40, am_c48, am_c56, am_c64, am_c72, Nat.add_zero, Bool.false_eq_true, Nat.zero_le, hmu, ha, hl, e1, h1, h2, h3, wX3_fault hT, wX3_fine hT]
  · have h2 : ln ≤ a := by omega
    by_cases h3 : w = -1
    · simp only [gX3_wasRight_0, gX3_wasRight_1, gX3_wasRight_4, gX3_wasRight_5, gX3_wasRight_8, gX3_wasRight_11, gX3_wasRight_12, gX3_wasRight_13, gX3_wasRight_16, gX3_wasRight_19, gX3_wasRight_20, gX3_wasRight_23, am_kill_int, am_kill_ref, am_kill_null, am_kill_F, am_kill_long, am_cat_n, am_cat_i, am_cat_r, am_cat_0, am_cat_l, am_nr_n, am_nr_i, am_nr_r, am_nr_0, am_nr_l, Option.toList_some, Option.toList_none, List.nil_append, List.cons_append, va_rf_s, va_rf_n, am_II, am_I_sR, am_I_sL, am_R_sI, am_RR, am_R_sL, am_L_sI, am_L_sR, am_LL, am_k_sI, am_k_sR, am_k_sL, am_n_sI, am_n_sR, am_n_sL, true_and, and_true, true_or, or_true, or_false, false_or, not_true_eq_false, not_false_eq_true, Nat.reduceLT, am_dS, am_dP, am_d1, Nat.reduceSub, Nat.reduceMul, ne_eq, Nat.reduceBEq, Nat.reduceAdd, Nat.reduceLeDiff, Nat.reduceEqDiff, and_self, and_false, false_and, if_true, if_false, am_nb, am_nb0, am_nb1, am_lc1, am_lc2, am_lc3, am_b0, am_b1, am_10, am_c8, am_c16, am_c24, am_c32, am_c40, am_c48, am_c56, am_c64, am_c72, Nat.add_zero, Bool.false_eq_true, Nat.zero_le, hmu, ha, hl, e1, h1, h2, h3, wX3_fine hT]
    · simp only [gX3_wasRight_0, gX3_wasRight_1, gX3_wasRight_4, gX3_wasRight_5, gX3_wasRight_8, gX3_wasRight_11, gX3_wasRight_12, gX3_wasRight_13, gX3_wasRight_16, gX3_wasRight_19, gX3_wasRight_20, gX3_wasRight_23, am_kill_int, am_kill_ref, am_kill_null, am_kill_F, am_kill_long, am_cat_n, am_cat_i, am_cat_r, am_cat_0, am_cat_l, am_nr_n, am_nr_i, am_nr_r, am_nr_0, am_nr_l, Option.toList_some, Option.toList_none, List.nil_append, List.cons_append, va_rf_s, va_rf_n, am_II, am_I_sR, am_I_sL, am_R_sI, am_RR, am_R_sL, am_L_sI, am_L_sR, am_LL, am_k_sI, am_k_sR, am_k_sL, am_n_sI, am_n_sR, am_n_sL, true_and, and_true, true_or, or_true, or_false, false_or, not_true_eq_false, not_false_eq_true, Nat.reduceLT, am_dS, am_dP, am_d1, Nat.reduceSub, Nat.reduceMul, ne_eq, Nat.reduceBEq, Nat.reduceAdd, Nat.reduceLeDiff, Nat.reduceEqDiff, and_self, and_false, false_and, if_true, if_false, am_nb, am_nb0, am_nb1, am_lc1, am_lc2, am_lc3, am_b0, am_b1, am_10, am_c8, am_c16, am_c24, am_c32, am_c40, am_c48, am_c56, am_c64, am_c72, Nat.add_zero, Bool.false_eq_true, Nat.zero_le, hmu, ha, hl, e1, h1, h2, h3, wX3_fine hT]
end MT
