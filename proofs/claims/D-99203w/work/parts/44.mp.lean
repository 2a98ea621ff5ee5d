/-! the model reads and evaluates a rule: by the pure parser -/
set_option maxRecDepth 100000
section MP
variable {d : Nat} {μ ν : am_M} {K : Option Value → am_M → Prop} {x y z c w : Int32} {h N j i k r L a ln tp dp n m : Nat} {v : Int32}
def envM (μ : am_M) (i : Nat) : Int32 := if am_I μ 54 17 = 0 then 0 else am_I μ 61 i
theorem envM_at : envM (am_sI μ 54 11 x) = envM μ := rfl
/-- what a reader's answer means -/
def okM (K : Option Value → am_M → Prop) (μ : am_M) (p : PR) : Prop := match p with
  | .inl p => ∀ v : Int32, K (some (.int v)) (am_sI (am_sI μ 54 11 (nI p)) 54 12 (nI p))
  | .inr (f, b) => K (some (.int (f (envM μ)))) (am_sI μ 54 11 (nI b))
theorem okM_at {p : PR} : okM K (am_sI μ 54 11 x) p = okM K μ p := by
  unfold okM
  cases p with
  | inl p => simp only [am_sI_sI]
  | inr q => simp only [am_sI_sI, envM_at]
theorem wX3_need (hT : TM r L a ln tp w μ) : am_Wp (d + 2) mX3_need 0 [.ref 54, .int x] [] μ K ↔ (if w = -1 then (if chM (am_I μ r) ln tp a = x then K none (am_sI μ 54 11 (nI (a + 1))) else K none (am_sI μ 54 12 (nI a))) else K none μ) := by
  have hmu := hT.1
  unfold mL at hmu
  have ha := hT.2.2.2.1
  by_cases h1 : w = -1
  · by_cases h2 : chM (am_I μ r) ln tp a = x
    · simp only [gX3_need_0, gX3_need_1, gX3_need_2, gX3_need_5, gX3_need_8, gX3_need_9, gX3_need_10, gX3_need_13, gX3_need_16, am_kill_int, am_kill_ref, am_kill_null, am_kill_F, am_kill_long, am_cat_n, am_cat_i, am_cat_r, am_cat_0, am_cat_l, am_nr_n, am_nr_i, am_nr_r, am_nr_0, am_nr_l, Option.toList_some, Option.toList_none, List.nil_append, List.cons_append, va_rf_s, va_rf_n, am_II, am_I_sR, am_I_sL, am_R_sI, am_RR, am_R_sL, am_L_sI, am_L_sR, am_LL, am_k_sI, am_k_sR, am_k_sL, am_n_sI, am_n_sR, am_n_sL, true_and, and_true, true_or, or_true, or_false, false_or, not_true_eq_false, not_false_eq_true, Nat.reduceLT, am_dS, am_dP, am_d1, Nat.reduceSub, Nat.reduceMul, ne_eq, Nat.reduceBEq, Nat.reduceAdd, Nat.reduceLeDiff, Nat.reduceEqDiff, and_self, and_false, false_and, if_true, if_false, am_nb, am_nb0, am_nb1, am_lc1, am_lc2, am_lc3, am_b0, am_b1, am_10, am_c8, am_c16, am_c24, am_c32, am_c40, am_c48, am_c56, am_c64, am_c72, Nat.add_zero, Bool.false_eq_true, Nat.zero_le, wX3_passes hT, wX3_fault hT, hmu, ha, h1, h2]
    · simp only [gX3_need_0, gX3_need_1, gX3_need_2, gX3_need_5, gX3_need_8, gX3_need_9, gX3_need_10, gX3_need_13, gX3_need_16, am_kill_int, am_kill_ref, am_kill_null, am_kill_F, am_kill_long, am_cat_n, am_cat_i, am_cat_r, am_cat_0, am_cat_l, am_nr_n, am_nr_i, am_nr_r, am_nr_0, am_nr_l, Option.toList_some, Option.toList_none, List.nil_append, List.cons_append, va_rf_s, va_rf_n, am_II, am_I_sR, am_I_sL, am_R_sI, am_RR, am_R_sL, am_L_sI, am_L_sR, am_LL, am_k_sI, am_k_sR, am_k_sL, am_n_sI, am_n_sR, am_n_sL, true_and, and_true, true_or, or_true, or_false, false_or, not_true_eq_false, not_false_eq_true, Nat.reduceLT, am_dS, am_dP, am_d1, Nat.reduceSub, Nat.reduceMul, ne_eq, Nat.reduceBEq, Nat.reduceAdd, Nat.reduceLeDiff, Nat.reduceEqDiff, and_self, and_false, false_and, if_true, if_false, am_nb, am_nb0, am_nb1, am_lc1, am_lc2, am_lc3, am_b0, am_b1, am_10, am_c8, am_c16, am_c24, am_c32, am_c40, am_c48, am_c56, am_c64, am_c72, Nat.add_zero, Bool.false_eq_true, Nat.zero_le, wX3_passes hT, wX3_fault hT, hmu, ha, h1, h2]
  · simp only [gX3_need_0, gX3_need_1, gX3_need_2, gX3_need_5, gX3_need_8, gX3_need_9, gX3_need_10, gX3_need_13, gX3_need_16, am_kill_int, am_kill_ref, am_kill_null, am_kill_F, am_kill_long, am_cat_n, am_cat_i, am_cat_r, am_cat_0, am_cat_l, am_nr_n, am_nr_i, am_nr_r, am_nr_0, am_nr_l, Option.toList_some, Option.toList_none, List.nil_append, List.cons_append, va_rf_s, va_rf_n, am_II, am_I_sR, am_I_sL, am_R_sI, am_RR, am_R_sL, am_L_sI, am_L_sR, am_LL, am_k_sI, am_k_sR, am_k_sL, am_n_sI, am_n_sR, am_n_sL, true_and, and_true, true_or, or_true, or_false, false_or, not_true_eq_false, not_false_eq_true, Nat.reduceLT, am_dS, am_dP, am_d1, Nat.reduceSub, Nat.reduceMul, ne_eq, Nat.reduceBEq, Nat.reduceAdd, Nat.reduceLeDiff, Nat.reduceEqDiff, and_self, and_false, false_and, if_true, if_false, am_nb, am_nb0, am_nb1, am_lc1, am_lc2, am_lc3, am_b0, am_b1, am_10, am_c8, am_c16, am_c24, am_c32, am_c40, am_c48, am_c56, am_c64, am_c72, Nat.add_zero, Bool.false_eq_true, Nat.zero_le, wX3_passes hT, wX3_fault hT, hmu, ha, h1]
/-- behind a fault -/
theorem wX3_thingX (hw : ¬ w = -1) (hT : TM r L a ln tp w μ) : am_Wp (d + 2) mX3_thing 0 [.ref 54, .int (nI dp), am_F, am_F] [] μ K ↔ K (some (.int 0)) μ := by
  have hmu := hT.1
  unfold mL at hmu
  simp only [gX3_thing_0, gX3_thing_1, gX3_thing_3, gX3_thing_6, gX3_thing_9, gX3_thing_10, gX3_thing_11, gX3_thing_14, gX3_thing_15, gX3_thing_16, gX3_thing_17, gX3_thing_20, gX3_thing_23, gX3_thing_24, am_kill_int, am_kill_ref, am_kill_null, am_kill_F, am_kill_long, am_cat_n, am_cat_i, am_cat_r, am_cat_0, am_cat_l, am_nr_n, am_nr_i, am_nr_r, am_nr_0, am_nr_l, Option.toList_some, Option.toList_none, List.nil_append, List.cons_append, va_rf_s, va_rf_n, am_II, am_I_sR, am_I_sL, am_R_sI, am_RR, am_R_sL, am_L_sI, am_L_sR, am_LL, am_k_sI, am_k_sR, am_k_sL, am_n_sI, am_n_sR, am_n_sL, true_and, and_true, true_or, or_true, or_false, false_or, not_true_eq_false, not_false_eq_true, Nat.reduceLT, am_dS, am_dP, am_d1, Nat.reduceSub, Nat.reduceMul, ne_eq, Nat.reduceBEq, Nat.reduceAdd, Nat.reduceLeDiff, Nat.reduceEqDiff, and_self, and_false, false_and, if_true, if_false, am_nb, am_nb0, am_nb1, am_lc1, am_lc2, am_lc3, am_b0, am_b1, am_10, am_c8, am_c16, am_c24, am_c32, am_c40, am_c48, am_c56, am_c64, am_c72, Nat.add_zero, Bool.false_eq_true, Nat.zero_le, wX3_passes hT, wX3_fine hT, hmu, hw]
theorem wX3_productX (hw : ¬ w = -1) (hT : TM r L a ln tp w μ) : am_Wp (d + 3) mX3_product 0 [.ref 54, .int (nI dp), am_F, am_F, am_F] [] μ K ↔ K (some (.int 0)) μ := by
  have hmu := hT.1
  unfold mL at hmu
  simp only [gX3_product_0, gX3_product_1, gX3_product_2, gX3_product_5, gX3_product_6, gX3_product_7, gX3_product_10, gX3_product_80, gX3_product_83, gX3_product_84, gX3_product_86, gX3_product_87, gX3_product_88, gX3_product_91, gX3_product_92, am_kill_int, am_kill_ref, am_kill_null, am_kill_F, am_kill_long, am_cat_n, am_cat_i, am_cat_r, am_cat_0, am_cat_l, am_nr_n, am_nr_i, am_nr_r, am_nr_0, am_nr_l, Option.toList_some, Option.toList_none, List.nil_append, List.cons_append, va_rf_s, va_rf_n, am_II, am_I_sR, am_I_sL, am_R_sI, am_RR, am_R_sL, am_L_sI, am_L_sR, am_LL, am_k_sI, am_k_sR, am_k_sL, am_n_sI, am_n_sR, am_n_sL, true_and, and_true, true_or, or_true, or_false, false_or, not_true_eq_false, not_false_eq_true, Nat.reduceLT, am_dS, am_dP, am_d1, Nat.reduceSub, Nat.reduceMul, ne_eq, Nat.reduceBEq, Nat.reduceAdd, Nat.reduceLeDiff, Nat.reduceEqDiff, and_self, and_false, false_and, if_true, if_false, am_nb, am_nb0, am_nb1, am_lc1, am_lc2, am_lc3, am_b0, am_b1, am_10, am_c8, am_c16, am_c24, am_c32, am_c40, am_c48, am_c56, am_c64, am_c72, Nat.add_zero, Bool.false_eq_true, Nat.zero_le, wX3_thingX hw hT, wX3_fine hT, hmu, hw]
theorem wX3_sumX (hw : ¬ w = -1) (hT : TM r L a ln tp w μ) : am_Wp (d + 4) mX3_sum 0 [.ref 54, .int (nI dp), am_F, am_F, am_F] [] μ K ↔ K (some (.int 0)) μ := by
  have hmu := hT.1
  unfold mL at hmu
  simp only [gX3_sum_0, gX3_sum_1, gX3_sum_2, gX3_sum_5, gX3_sum_6, gX3_sum_7, gX3_sum_10, gX3_sum_82, gX3_sum_83, am_kill_int, am_kill_ref, am_kill_null, am_kill_F, am_kill_long, am_cat_n, am_cat_i, am_cat_r, am_cat_0, am_cat_l, am_nr_n, am_nr_i, am_nr_r, am_nr_0, am_nr_l, Option.toList_some, Option.toList_none, List.nil_append, List.cons_append, va_rf_s, va_rf_n, am_II, am_I_sR, am_I_sL, am_R_sI, am_RR, am_R_sL, am_L_sI, am_L_sR, am_LL, am_k_sI, am_k_sR, am_k_sL, am_n_sI, am_n_sR, am_n_sL, true_and, and_true, true_or, or_true, or_false, false_or, not_true_eq_false, not_false_eq_true, Nat.reduceLT, am_dS, am_dP, am_d1, Nat.reduceSub, Nat.reduceMul, ne_eq, Nat.reduceBEq, Nat.reduceAdd, Nat.reduceLeDiff, Nat.reduceEqDiff, and_self, and_false, false_and, if_true, if_false, am_nb, am_nb0, am_nb1, am_lc1, am_lc2, am_lc3, am_b0, am_b1, am_10, am_c8, am_c16, am_c24, am_c32, am_c40, am_c48, am_c56, am_c64, am_c72, Nat.add_zero, Bool.false_eq_true, Nat.zero_le, wX3_productX hw hT, wX3_fine hT, hmu, hw]
theorem wX3_heldX (hw : ¬ w = -1) (hT : TM r L a ln tp w μ) : am_Wp (d + 5) mX3_held 0 [.ref 54, .int (nI dp), am_F] [] μ K ↔ K (some (.int 0)) μ := by
  have hmu := hT.1
  unfold mL at hmu
  simp only [gX3_held_0, gX3_held_1, gX3_held_2, gX3_held_5, gX3_held_6, gX3_held_7, gX3_held_9, gX3_held_12, gX3_held_15, gX3_held_16, gX3_held_17, gX3_held_18, gX3_held_21, gX3_held_24, gX3_held_25, gX3_held_28, gX3_held_29, gX3_held_30, gX3_held_31, gX3_held_33, gX3_held_36, gX3_held_39, gX3_held_40, gX3_held_41, gX3_held_42, gX3_held_45, gX3_held_48, gX3_held_49, gX3_held_52, gX3_held_53, gX3_held_54, gX3_held_55, gX3_held_57, gX3_held_60, gX3_held_63, gX3_held_64, gX3_held_65, gX3_held_66, gX3_held_69, gX3_held_72, gX3_held_73, gX3_held_76, gX3_held_77, gX3_held_78, gX3_held_79, am_kill_int, am_kill_ref, am_kill_null, am_kill_F, am_kill_long, am_cat_n, am_cat_i, am_cat_r, am_cat_0, am_cat_l, am_nr_n, am_nr_i, am_nr_r, am_nr_0, am_nr_l, Option.toList_some, Option.toList_none, List.nil_append, List.cons_append, va_rf_s, va_rf_n, am_II, am_I_sR, am_I_sL, am_R_sI, am_RR, am_R_sL, am_L_sI, am_L_sR, am_LL, am_k_sI, am_k_sR, am_k_sL, am_n_sI, am_n_sR, am_n_sL, true_and, and_true, true_or, or_true, or_false, false_or, not_true_eq_false, not_false_eq_true, Nat.reduceLT, am_dS, am_dP, am_d1, Nat.reduceSub, Nat.reduceMul, ne_eq, Nat.reduceBEq, Nat.reduceAdd, Nat.reduceLeDiff, Nat.reduceEqDiff, and_self, and_false, false_and, if_true, if_false, am_nb, am_nb0, am_nb1, am_lc1, am_lc2, am_lc3, am_b0, am_b1, am_10, am_c8, am_c16, am_c24, am_c32, am_c40, am_c48, am_c56, am_c64, am_c72, Nat.add_zero, Bool.false_eq_true, Nat.zero_le, wX3_sumX hw hT, wX3_passes hT, hmu, hw]
def spA (mi : am_MI) (ls : Nat → List Value) (m n r L ln tp : Nat) (T : Nat → Int32) : Prop := ∀ (d a dp : Nat) (μ : am_M) (K : Option Value → am_M → Prop), dp ≤ 4 → am_I μ r = T → TM r L a ln tp (-1) μ → ((min ln tp - a) + 4 * (4 - dp) + (3 - m) + 1 ≤ n ∧ a ≤ min ln tp) → okM K μ (pP (chM T ln tp) n m a dp) → am_Wp (d + n + 5) mi 0 (.ref 54 :: .int (nI dp) :: ls dp) [] μ K
theorem isLt_M (h : isLt x = true) : ltM x = nI (ltr x) ∧ ltr x < 8 := by
  unfold isLt at h
  rw [decide_eq_true_eq] at h
  rcases h with h | h | h | h | h | h | h | h <;> subst h <;> decide
theorem isLt_N (h : ¬ isLt x = true) : ltM x = -1 := by
  unfold isLt at h
  rw [decide_eq_true_eq] at h
  have h1 : ¬ x = 97 := fun q => h (by simp only [q, true_or])
  have h2 : ¬ x = 99 := fun q => h (by simp only [q, true_or, or_true])
  have h3 : ¬ x = 100 := fun q => h (by simp only [q, true_or, or_true])
  have h4 : ¬ x = 107 := fun q => h (by simp only [q, true_or, or_true])
  have h5 : ¬ x = 110 := fun q => h (by simp only [q, true_or, or_true])
  have h6 : ¬ x = 111 := fun q => h (by simp only [q, true_or, or_true])
  have h7 : ¬ x = 115 := fun q => h (by simp only [q, true_or, or_true])
  have h8 : ¬ x = 120 := fun q => h (by simp only [q, or_true])
  unfold ltM
  simp only [h1, h2, h3, h4, h5, h6, h7, h8, if_false]
theorem okM_inl {p : Nat} : okM K μ (.inl p) = ∀ v : Int32, K (some (.int v)) (am_sI (am_sI μ 54 11 (nI p)) 54 12 (nI p)) := rfl
theorem okM_inr {f : PF} {b : Nat} : okM K μ (.inr (f, b)) = K (some (.int (f (envM μ)))) (am_sI μ 54 11 (nI b)) := rfl
theorem TM.ch (hT : TM r L a ln tp w μ) : am_I (am_sI μ 54 11 x) r = am_I μ r := am_row_o hT.ne
theorem thing_step {T : Nat → Int32} (HH : spA mX3_held (fun _ => [am_F]) 0 n r L ln tp T) (TT : spA mX3_thing (fun _ => [am_F, am_F]) 3 n r L ln tp T) : spA mX3_thing (fun _ => [am_F, am_F]) 3 (n + 1) r L ln tp T := by
  intro d a dp μ K hdp hR hT hn hK
  have hmu := hT.1
  unfold mL at hmu
  have ha := hT.2.2.2.1
  have hb := hT.2.2.2.2.2.2.2.1
  have hd : d + (n + 1) + 4 = d + n + 5 := by omega
  have hw : ¬ (¬ (-1 : Int32) = -1) := fun q => q rfl
  subst hR
  simp only [pP, if_true, pT] at hK
  by_cases c1 : chM (am_I μ r) ln tp a = 45
  · have hlt := chM_lt (T := am_I μ r) (ln := ln) (tp := tp) (a := a) (by rw [c1]; decide)
    simp only [c1, if_true] at hK
    have hT2 := hT.go (k := a + 1) (by omega)
    rw [gX3_thing_0]
    simp only [gX3_thing_1, gX3_thing_3, gX3_thing_6, gX3_thing_9, gX3_thing_10, gX3_thing_11, am_kill_int, am_kill_ref, am_kill_null, am_kill_F, am_kill_long, am_cat_n, am_cat_i, am_cat_r, am_cat_0, am_cat_l, am_nr_n, am_nr_i, am_nr_r, am_nr_0, am_nr_l, Option.toList_some, Option.toList_none, List.nil_append, List.cons_append, va_rf_s, va_rf_n, am_II, am_I_sR, am_I_sL, am_R_sI, am_RR, am_R_sL, am_L_sI, am_L_sR, am_LL, am_k_sI, am_k_sR, am_k_sL, am_n_sI, am_n_sR, am_n_sL, true_and, and_true, true_or, or_true, or_false, false_or, not_true_eq_false, not_false_eq_true, Nat.reduceLT, am_dS, am_dP, am_d1, Nat.reduceSub, Nat.reduceMul, ne_eq, Nat.reduceBEq, Nat.reduceAdd, Nat.reduceLeDiff, Nat.reduceEqDiff, and_self, and_false, false_and, if_true, if_false, am_nb, am_nb0, am_nb1, am_lc1, am_lc2, am_lc3, am_b0, am_b1, am_10, am_c8, am_c16, am_c24, am_c32, am_c40, am_c48, am_c56, am_c64, am_c72, Nat.add_zero, Bool.false_eq_true, Nat.zero_le, wX3_passes hT, hmu, c1, hd]
    refine TT d (a + 1) dp _ _ hdp hT.ch hT2 (by omega) ?_
    rw [okM_at]
    cases hp : pP (chM (am_I μ r) ln tp) n 3 (a + 1) dp with
    | inl p =>
      rw [hp] at hK
      rw [okM_inl] at hK ⊢
      intro v
      simp only [gX3_thing_14, gX3_thing_15, am_kill_int, am_kill_ref, am_kill_null, am_kill_F, am_kill_long, am_cat_n, am_cat_i, am_cat_r, am_cat_0, am_cat_l, am_nr_n, am_nr_i, am_nr_r, am_nr_0, am_nr_l, Option.toList_some, Option.toList_none, List.nil_append, List.cons_append, va_rf_s, va_rf_n, am_II, am_I_sR, am_I_sL, am_R_sI, am_RR, am_R_sL, am_L_sI, am_L_sR, am_LL, am_k_sI, am_k_sR, am_k_sL, am_n_sI, am_n_sR, am_n_sL, true_and, and_true, true_or, or_true, or_false, false_or, not_true_eq_false, not_false_eq_true, Nat.reduceLT, am_dS, am_dP, am_d1, Nat.reduceSub, Nat.reduceMul, ne_eq, Nat.reduceBEq, Nat.reduceAdd, Nat.reduceLeDiff, Nat.reduceEqDiff, and_self, and_false, false_and, if_true, if_false, am_nb, am_nb0, am_nb1, am_lc1, am_lc2, am_lc3, am_b0, am_b1, am_10, am_c8, am_c16, am_c24, am_c32, am_c40, am_c48, am_c56, am_c64, am_c72, Nat.add_zero, Bool.false_eq_true, Nat.zero_le]
      exact hK _
    | inr q =>
      rw [hp] at hK
      simp only [okM_inr] at hK
      rw [show q = (q.1, q.2) from rfl, okM_inr]
      simp only [gX3_thing_14, gX3_thing_15, am_kill_int, am_kill_ref, am_kill_null, am_kill_F, am_kill_long, am_cat_n, am_cat_i, am_cat_r, am_cat_0, am_cat_l, am_nr_n, am_nr_i, am_nr_r, am_nr_0, am_nr_l, Option.toList_some, Option.toList_none, List.nil_append, List.cons_append, va_rf_s, va_rf_n, am_II, am_I_sR, am_I_sL, am_R_sI, am_RR, am_R_sL, am_L_sI, am_L_sR, am_LL, am_k_sI, am_k_sR, am_k_sL, am_n_sI, am_n_sR, am_n_sL, true_and, and_true, true_or, or_true, or_false, false_or, not_true_eq_false, not_false_eq_true, Nat.reduceLT, am_dS, am_dP, am_d1, Nat.reduceSub, Nat.reduceMul, ne_eq, Nat.reduceBEq, Nat.reduceAdd, Nat.reduceLeDiff, Nat.reduceEqDiff, and_self, and_false, false_and, if_true, if_false, am_nb, am_nb0, am_nb1, am_lc1, am_lc2, am_lc3, am_b0, am_b1, am_10, am_c8, am_c16, am_c24, am_c32, am_c40, am_c48, am_c56, am_c64, am_c72, Nat.add_zero, Bool.false_eq_true, Nat.zero_le]
      exact hK
  · simp only [c1, if_false] at hK
    rw [gX3_thing_0]
    by_cases c2 : dgB (chM (am_I μ r) ln tp a) = true
    · have c2' := c2
      unfold dgB at c2'
      rw [decide_eq_true_eq] at c2'
      have c40 : ¬ chM (am_I μ r) ln tp a = 40 := fun q => by rw [q] at c2'; revert c2'; decide
      simp only [c2, if_true] at hK
      rw [okM_inr] at hK
      have e3 : (3 : Int32) = nI 3 := by decide
      simp only [gX3_thing_1, gX3_thing_3, gX3_thing_6, gX3_thing_9, gX3_thing_10, gX3_thing_11, gX3_thing_14, gX3_thing_15, gX3_thing_16, gX3_thing_17, gX3_thing_20, gX3_thing_23, gX3_thing_24, gX3_thing_25, gX3_thing_26, gX3_thing_29, gX3_thing_30, gX3_thing_31, gX3_thing_33, gX3_thing_36, gX3_thing_37, gX3_thing_38, gX3_thing_41, gX3_thing_42, gX3_thing_43, gX3_thing_46, gX3_thing_47, gX3_thing_48, gX3_thing_51, gX3_thing_52, gX3_thing_53, gX3_thing_54, gX3_thing_55, gX3_thing_58, gX3_thing_59, gX3_thing_60, gX3_thing_62, gX3_thing_65, gX3_thing_66, gX3_thing_67, gX3_thing_68, gX3_thing_70, gX3_thing_72, gX3_thing_75, gX3_thing_78, gX3_thing_79, gX3_thing_80, gX3_thing_83, am_kill_int, am_kill_ref, am_kill_null, am_kill_F, am_kill_long, am_cat_n, am_cat_i, am_cat_r, am_cat_0, am_cat_l, am_nr_n, am_nr_i, am_nr_r, am_nr_0, am_nr_l, Option.toList_some, Option.toList_none, List.nil_append, List.cons_append, va_rf_s, va_rf_n, am_II, am_I_sR, am_I_sL, am_R_sI, am_RR, am_R_sL, am_L_sI, am_L_sR, am_LL, am_k_sI, am_k_sR, am_k_sL, am_n_sI, am_n_sR, am_n_sL, true_and, and_true, true_or, or_true, or_false, false_or, not_true_eq_false, not_false_eq_true, Nat.reduceLT, am_dS, am_dP, am_d1, Nat.reduceSub, Nat.reduceMul, ne_eq, Nat.reduceBEq, Nat.reduceAdd, Nat.reduceLeDiff, Nat.reduceEqDiff, and_self, and_false, false_and, if_true, if_false, am_nb, am_nb0, am_nb1, am_lc1, am_lc2, am_lc3, am_b0, am_b1, am_10, am_c8, am_c16, am_c24, am_c32, am_c40, am_c48, am_c56, am_c64, am_c72, Nat.add_zero, Bool.false_eq_true, Nat.zero_le, wX3_passes hT, wX3_fine hT, wX3_here hT, wX3_in, hmu, c1, c2', c40, hd]
      rw [e3, show d + n + 5 = (d + n + 2) + 3 by omega, wX3_number (by decide) (by decide) hT]
      simp only [if_true, c2, gX3_thing_83, am_kill_int, am_kill_ref, am_kill_null, am_kill_F, am_kill_long, am_cat_n, am_cat_i, am_cat_r, am_cat_0, am_cat_l, am_nr_n, am_nr_i, am_nr_r, am_nr_0, am_nr_l, Option.toList_some, Option.toList_none, List.nil_append, List.cons_append, va_rf_s, va_rf_n, am_II, am_I_sR, am_I_sL, am_R_sI, am_RR, am_R_sL, am_L_sI, am_L_sR, am_LL, am_k_sI, am_k_sR, am_k_sL, am_n_sI, am_n_sR, am_n_sL, true_and, and_true, true_or, or_true, or_false, false_or, not_true_eq_false, not_false_eq_true, Nat.reduceLT, am_dS, am_dP, am_d1, Nat.reduceSub, Nat.reduceMul, ne_eq, Nat.reduceBEq, Nat.reduceAdd, Nat.reduceLeDiff, Nat.reduceEqDiff, and_self, and_false, false_and, if_true, if_false, am_nb, am_nb0, am_nb1, am_lc1, am_lc2, am_lc3, am_b0, am_b1, am_10, am_c8, am_c16, am_c24, am_c32, am_c40, am_c48, am_c56, am_c64, am_c72, Nat.add_zero, Bool.false_eq_true, Nat.zero_le]
      exact hK
    · have c2' := c2
      unfold dgB at c2'
      rw [decide_eq_true_eq] at c2'
      simp only [c2, Bool.false_eq_true, if_false] at hK
      by_cases c3 : isLt (chM (am_I μ r) ln tp a) = true
      · obtain ⟨l1, l2⟩ := isLt_M c3
        have c40 : ¬ chM (am_I μ r) ln tp a = 40 := fun q => by rw [q] at c3; revert c3; decide
        simp only [c3, if_true] at hK
        rw [okM_inr] at hK
        have hv : vp_in (nI (ltr (chM (am_I μ r) ln tp a))) 8 := vp_in_nI l2 (by omega)
        have hcl : (nI (ltr (chM (am_I μ r) ln tp a))).toNatClampNeg = ltr (chM (am_I μ r) ln tp a) := nI_clamp (by omega)
        have hm1 := nI_m1 (a := ltr (chM (am_I μ r) ln tp a)) (by omega)
        unfold envM at hK
        by_cases hq : am_I μ 54 17 = 0
        · simp only [hq, if_true] at hK
          simp only [gX3_thing_1, gX3_thing_3, gX3_thing_6, gX3_thing_9, gX3_thing_10, gX3_thing_11, gX3_thing_14, gX3_thing_15, gX3_thing_16, gX3_thing_17, gX3_thing_20, gX3_thing_23, gX3_thing_24, gX3_thing_25, gX3_thing_26, gX3_thing_29, gX3_thing_30, gX3_thing_31, gX3_thing_33, gX3_thing_36, gX3_thing_37, gX3_thing_38, gX3_thing_41, gX3_thing_42, gX3_thing_43, gX3_thing_46, gX3_thing_47, gX3_thing_48, gX3_thing_51, gX3_thing_52, gX3_thing_53, gX3_thing_54, gX3_thing_55, gX3_thing_58, gX3_thing_59, gX3_thing_60, gX3_thing_62, gX3_thing_65, gX3_thing_66, gX3_thing_67, gX3_thing_68, gX3_thing_70, gX3_thing_72, gX3_thing_75, gX3_thing_78, gX3_thing_79, gX3_thing_80, gX3_thing_83, gX3_thing_84, gX3_thing_85, gX3_thing_88, gX3_thing_89, gX3_thing_92, gX3_thing_93, gX3_thing_94, gX3_thing_97, gX3_thing_100, gX3_thing_101, gX3_thing_102, gX3_thing_103, gX3_thing_104, gX3_thing_107, gX3_thing_108, gX3_thing_109, gX3_thing_112, gX3_thing_113, gX3_thing_116, gX3_thing_119, gX3_thing_120, gX3_thing_123, gX3_thing_124, gX3_thing_127, gX3_thing_128, gX3_thing_131, gX3_thing_132, am_kill_int, am_kill_ref, am_kill_null, am_kill_F, am_kill_long, am_cat_n, am_cat_i, am_cat_r, am_cat_0, am_cat_l, am_nr_n, am_nr_i, am_nr_r, am_nr_0, am_nr_l, Option.toList_some, Option.toList_none, List.nil_append, List.cons_append, va_rf_s, va_rf_n, am_II, am_I_sR, am_I_sL, am_R_sI, am_RR, am_R_sL, am_L_sI, am_L_sR, am_LL, am_k_sI, am_k_sR, am_k_sL, am_n_sI, am_n_sR, am_n_sL, true_and, and_true, true_or, or_true, or_false, false_or, not_true_eq_false, not_false_eq_true, Nat.reduceLT, am_dS, am_dP, am_d1, Nat.reduceSub, Nat.reduceMul, ne_eq, Nat.reduceBEq, Nat.reduceAdd, Nat.reduceLeDiff, Nat.reduceEqDiff, and_self, and_false, false_and, if_true, if_false, am_nb, am_nb0, am_nb1, am_lc1, am_lc2, am_lc3, am_b0, am_b1, am_10, am_c8, am_c16, am_c24, am_c32, am_c40, am_c48, am_c56, am_c64, am_c72, Nat.add_zero, Bool.false_eq_true, Nat.zero_le, wX3_passes hT, wX3_fine hT, wX3_here hT, wX3_in, wX3_letterOf, hmu, c1, c2', c40, l1, hm1, hq, ha, nI_1]
          exact hK
        · simp only [hq, if_false] at hK
          simp only [gX3_thing_1, gX3_thing_3, gX3_thing_6, gX3_thing_9, gX3_thing_10, gX3_thing_11, gX3_thing_14, gX3_thing_15, gX3_thing_16, gX3_thing_17, gX3_thing_20, gX3_thing_23, gX3_thing_24, gX3_thing_25, gX3_thing_26, gX3_thing_29, gX3_thing_30, gX3_thing_31, gX3_thing_33, gX3_thing_36, gX3_thing_37, gX3_thing_38, gX3_thing_41, gX3_thing_42, gX3_thing_43, gX3_thing_46, gX3_thing_47, gX3_thing_48, gX3_thing_51, gX3_thing_52, gX3_thing_53, gX3_thing_54, gX3_thing_55, gX3_thing_58, gX3_thing_59, gX3_thing_60, gX3_thing_62, gX3_thing_65, gX3_thing_66, gX3_thing_67, gX3_thing_68, gX3_thing_70, gX3_thing_72, gX3_thing_75, gX3_thing_78, gX3_thing_79, gX3_thing_80, gX3_thing_83, gX3_thing_84, gX3_thing_85, gX3_thing_88, gX3_thing_89, gX3_thing_92, gX3_thing_93, gX3_thing_94, gX3_thing_97, gX3_thing_100, gX3_thing_101, gX3_thing_102, gX3_thing_103, gX3_thing_104, gX3_thing_107, gX3_thing_108, gX3_thing_109, gX3_thing_112, gX3_thing_113, gX3_thing_116, gX3_thing_119, gX3_thing_120, gX3_thing_123, gX3_thing_124, gX3_thing_127, gX3_thing_128, gX3_thing_131, gX3_thing_132, am_kill_int, am_kill_ref, am_kill_null, am_kill_F, am_kill_long, am_cat_n, am_cat_i, am_cat_r, am_cat_0, am_cat_l, am_nr_n, am_nr_i, am_nr_r, am_nr_0, am_nr_l, Option.toList_some, Option.toList_none, List.nil_append, List.cons_append, va_rf_s, va_rf_n, am_II, am_I_sR, am_I_sL, am_R_sI, am_RR, am_R_sL, am_L_sI, am_L_sR, am_LL, am_k_sI, am_k_sR, am_k_sL, am_n_sI, am_n_sR, am_n_sL, true_and, and_true, true_or, or_true, or_false, false_or, not_true_eq_false, not_false_eq_true, Nat.reduceLT, am_dS, am_dP, am_d1, Nat.reduceSub, Nat.reduceMul, ne_eq, Nat.reduceBEq, Nat.reduceAdd, Nat.reduceLeDiff, Nat.reduceEqDiff, and_self, and_false, false_and, if_true, if_false, am_nb, am_nb0, am_nb1, am_lc1, am_lc2, am_lc3, am_b0, am_b1, am_10, am_c8, am_c16, am_c24, am_c32, am_c40, am_c48, am_c56, am_c64, am_c72, Nat.add_zero, Bool.false_eq_true, Nat.zero_le, wX3_passes hT, wX3_fine hT, wX3_here hT, wX3_in, wX3_letterOf, hmu, c1, c2', c40, l1, hm1, hq, ha, nI_1, hv, hcl]
          exact hK
      · have l1 := isLt_N c3
        simp only [c3, Bool.false_eq_true, if_false] at hK
        by_cases c4 : chM (am_I μ r) ln tp a = 40
        · by_cases c5 : dp < 4
          · have c5' : ¬ nI 4 ≤ nI dp := nI_ge c5 (by omega)
            have e4 : (4 : Int32) = nI 4 := by decide
            have hlt := chM_lt (T := am_I μ r) (ln := ln) (tp := tp) (a := a) (by rw [c4]; decide)
            simp only [c4, c5, and_self, if_true] at hK
            have hT2 := hT.go (k := a + 1) (by omega)
            simp only [gX3_thing_1, gX3_thing_3, gX3_thing_6, gX3_thing_9, gX3_thing_10, gX3_thing_11, gX3_thing_14, gX3_thing_15, gX3_thing_16, gX3_thing_17, gX3_thing_20, gX3_thing_23, gX3_thing_24, gX3_thing_25, gX3_thing_26, gX3_thing_29, gX3_thing_30, gX3_thing_31, gX3_thing_33, gX3_thing_36, gX3_thing_37, gX3_thing_38, gX3_thing_41, gX3_thing_42, gX3_thing_43, gX3_thing_46, gX3_thing_47, gX3_thing_48, gX3_thing_51, gX3_thing_52, gX3_thing_53, gX3_thing_54, gX3_thing_55, am_kill_int, am_kill_ref, am_kill_null, am_kill_F, am_kill_long, am_cat_n, am_cat_i, am_cat_r, am_cat_0, am_cat_l, am_nr_n, am_nr_i, am_nr_r, am_nr_0, am_nr_l, Option.toList_some, Option.toList_none, List.nil_append, List.cons_append, va_rf_s, va_rf_n, am_II, am_I_sR, am_I_sL, am_R_sI, am_RR, am_R_sL, am_L_sI, am_L_sR, am_LL, am_k_sI, am_k_sR, am_k_sL, am_n_sI, am_n_sR, am_n_sL, true_and, and_true, true_or, or_true, or_false, false_or, not_true_eq_false, not_false_eq_true, Nat.reduceLT, am_dS, am_dP, am_d1, Nat.reduceSub, Nat.reduceMul, ne_eq, Nat.reduceBEq, Nat.reduceAdd, Nat.reduceLeDiff, Nat.reduceEqDiff, and_self, and_false, false_and, if_true, if_false, am_nb, am_nb0, am_nb1, am_lc1, am_lc2, am_lc3, am_b0, am_b1, am_10, am_c8, am_c16, am_c24, am_c32, am_c40, am_c48, am_c56, am_c64, am_c72, Nat.add_zero, Bool.false_eq_true, Nat.zero_le, wX3_passes hT, wX3_fine hT, wX3_here hT, hmu, c1, c4, e4, c5', ha, nI_1, hd]
            refine HH d (a + 1) (dp + 1) _ _ (by omega) hT.ch hT2 (by omega) ?_
            rw [okM_at]
            cases hp : pP (chM (am_I μ r) ln tp) n 0 (a + 1) (dp + 1) with
            | inl p =>
              rw [hp] at hK
              rw [okM_inl] at hK ⊢
              intro v
              have hp2 := pP_le (ch := chM (am_I μ r) ln tp) (e := min ln tp) (fun i q => by have := chM_lt q; omega) n 0 (a + 1) (dp + 1) (by omega)
              rw [hp] at hp2
              have hp3 : p ≤ min ln tp := hp2
              have hT3 := (hT.go (k := p) (by omega)).fault (x := nI p)
              have hm1 := nI_m1 (a := p) (by omega)
              simp only [gX3_thing_58, gX3_thing_59, gX3_thing_60, gX3_thing_62, gX3_thing_65, gX3_thing_66, am_kill_int, am_kill_ref, am_kill_null, am_kill_F, am_kill_long, am_cat_n, am_cat_i, am_cat_r, am_cat_0, am_cat_l, am_nr_n, am_nr_i, am_nr_r, am_nr_0, am_nr_l, Option.toList_some, Option.toList_none, List.nil_append, List.cons_append, va_rf_s, va_rf_n, am_I_sR, am_I_sL, am_R_sI, am_R_sL, am_L_sI, am_L_sR, am_k_sI, am_k_sR, am_k_sL, am_n_sI, am_n_sR, am_n_sL, true_and, and_true, true_or, or_true, or_false, false_or, not_true_eq_false, not_false_eq_true, Nat.reduceLT, am_dS, am_dP, am_d1, Nat.reduceSub, Nat.reduceMul, ne_eq, Nat.reduceBEq, Nat.reduceAdd, Nat.reduceLeDiff, Nat.reduceEqDiff, and_self, and_false, false_and, if_true, if_false, am_nb, am_nb0, am_nb1, am_lc1, am_lc2, am_lc3, am_b0, am_b1, am_10, am_c8, am_c16, am_c24, am_c32, am_c40, am_c48, am_c56, am_c64, am_c72, Nat.add_zero, Bool.false_eq_true, Nat.zero_le, wX3_need hT3, hm1, hmu]
              exact hK v
            | inr q =>
              rw [hp] at hK
              rw [show q = (q.1, q.2) from rfl, okM_inr]
              have hp2 := pP_le (ch := chM (am_I μ r) ln tp) (e := min ln tp) (fun i q => by have := chM_lt q; omega) n 0 (a + 1) (dp + 1) (by omega)
              rw [hp] at hp2
              have hp3 : q.2 ≤ min ln tp := hp2
              have hT3 := hT.go (k := q.2) (by omega)
              by_cases c6 : chM (am_I μ r) ln tp q.2 = 41
              · simp only [c6, if_true, okM_inr] at hK
                simp only [gX3_thing_58, gX3_thing_59, gX3_thing_60, gX3_thing_62, gX3_thing_65, gX3_thing_66, am_kill_int, am_kill_ref, am_kill_null, am_kill_F, am_kill_long, am_cat_n, am_cat_i, am_cat_r, am_cat_0, am_cat_l, am_nr_n, am_nr_i, am_nr_r, am_nr_0, am_nr_l, Option.toList_some, Option.toList_none, List.nil_append, List.cons_append, va_rf_s, va_rf_n, am_I_sR, am_I_sL, am_R_sI, am_R_sL, am_L_sI, am_L_sR, am_k_sI, am_k_sR, am_k_sL, am_n_sI, am_n_sR, am_n_sL, true_and, and_true, true_or, or_true, or_false, false_or, not_true_eq_false, not_false_eq_true, Nat.reduceLT, am_dS, am_dP, am_d1, Nat.reduceSub, Nat.reduceMul, ne_eq, Nat.reduceBEq, Nat.reduceAdd, Nat.reduceLeDiff, Nat.reduceEqDiff, and_self, and_false, false_and, if_true, if_false, am_nb, am_nb0, am_nb1, am_lc1, am_lc2, am_lc3, am_b0, am_b1, am_10, am_c8, am_c16, am_c24, am_c32, am_c40, am_c48, am_c56, am_c64, am_c72, Nat.add_zero, Bool.false_eq_true, Nat.zero_le, wX3_need hT3, hT.ch, c6, hmu, am_sI_sI]
                exact hK
              · simp only [c6, if_false, okM_inl] at hK
                simp only [gX3_thing_58, gX3_thing_59, gX3_thing_60, gX3_thing_62, gX3_thing_65, gX3_thing_66, am_kill_int, am_kill_ref, am_kill_null, am_kill_F, am_kill_long, am_cat_n, am_cat_i, am_cat_r, am_cat_0, am_cat_l, am_nr_n, am_nr_i, am_nr_r, am_nr_0, am_nr_l, Option.toList_some, Option.toList_none, List.nil_append, List.cons_append, va_rf_s, va_rf_n, am_I_sR, am_I_sL, am_R_sI, am_R_sL, am_L_sI, am_L_sR, am_k_sI, am_k_sR, am_k_sL, am_n_sI, am_n_sR, am_n_sL, true_and, and_true, true_or, or_true, or_false, false_or, not_true_eq_false, not_false_eq_true, Nat.reduceLT, am_dS, am_dP, am_d1, Nat.reduceSub, Nat.reduceMul, ne_eq, Nat.reduceBEq, Nat.reduceAdd, Nat.reduceLeDiff, Nat.reduceEqDiff, and_self, and_false, false_and, if_true, if_false, am_nb, am_nb0, am_nb1, am_lc1, am_lc2, am_lc3, am_b0, am_b1, am_10, am_c8, am_c16, am_c24, am_c32, am_c40, am_c48, am_c56, am_c64, am_c72, Nat.add_zero, Bool.false_eq_true, Nat.zero_le, wX3_need hT3, hT.ch, c6, hmu]
                exact hK _
          · have c5' : nI 4 ≤ nI dp := nI_le (by omega) (by omega)
            have e4 : (4 : Int32) = nI 4 := by decide
            simp only [c4, c5, and_false, if_false] at hK
            simp only [gX3_thing_1, gX3_thing_3, gX3_thing_6, gX3_thing_9, gX3_thing_10, gX3_thing_11, gX3_thing_14, gX3_thing_15, gX3_thing_16, gX3_thing_17, gX3_thing_20, gX3_thing_23, gX3_thing_24, gX3_thing_25, gX3_thing_26, gX3_thing_29, gX3_thing_30, gX3_thing_31, gX3_thing_33, gX3_thing_36, gX3_thing_37, gX3_thing_38, gX3_thing_41, gX3_thing_42, gX3_thing_43, gX3_thing_46, gX3_thing_47, gX3_thing_48, gX3_thing_51, gX3_thing_52, gX3_thing_53, gX3_thing_54, gX3_thing_55, gX3_thing_58, gX3_thing_59, gX3_thing_60, gX3_thing_62, gX3_thing_65, gX3_thing_66, gX3_thing_67, gX3_thing_68, gX3_thing_70, gX3_thing_72, gX3_thing_75, gX3_thing_78, gX3_thing_79, gX3_thing_80, gX3_thing_83, gX3_thing_84, gX3_thing_85, gX3_thing_88, gX3_thing_89, gX3_thing_92, gX3_thing_93, gX3_thing_94, gX3_thing_97, gX3_thing_100, gX3_thing_101, gX3_thing_102, gX3_thing_103, gX3_thing_104, gX3_thing_107, gX3_thing_108, gX3_thing_109, gX3_thing_112, gX3_thing_113, gX3_thing_116, gX3_thing_119, gX3_thing_120, gX3_thing_123, gX3_thing_124, gX3_thing_127, gX3_thing_128, gX3_thing_131, gX3_thing_132, am_kill_int, am_kill_ref, am_kill_null, am_kill_F, am_kill_long, am_cat_n, am_cat_i, am_cat_r, am_cat_0, am_cat_l, am_nr_n, am_nr_i, am_nr_r, am_nr_0, am_nr_l, Option.toList_some, Option.toList_none, List.nil_append, List.cons_append, va_rf_s, va_rf_n, am_II, am_I_sR, am_I_sL, am_R_sI, am_RR, am_R_sL, am_L_sI, am_L_sR, am_LL, am_k_sI, am_k_sR, am_k_sL, am_n_sI, am_n_sR, am_n_sL, true_and, and_true, true_or, or_true, or_false, false_or, not_true_eq_false, not_false_eq_true, Nat.reduceLT, am_dS, am_dP, am_d1, Nat.reduceSub, Nat.reduceMul, ne_eq, Nat.reduceBEq, Nat.reduceAdd, Nat.reduceLeDiff, Nat.reduceEqDiff, and_self, and_false, false_and, if_true, if_false, am_nb, am_nb0, am_nb1, am_lc1, am_lc2, am_lc3, am_b0, am_b1, am_10, am_c8, am_c16, am_c24, am_c32, am_c40, am_c48, am_c56, am_c64, am_c72, Nat.add_zero, Bool.false_eq_true, Nat.zero_le, wX3_passes hT, wX3_fine hT, wX3_here hT, wX3_in, wX3_letterOf, wX3_fault hT, hmu, c1, c2', c4, e4, c5', l1, ha]
            rw [okM_inl, am_sI_self ha] at hK
            exact hK 0
        · simp only [c4, false_and, if_false] at hK
          simp only [gX3_thing_1, gX3_thing_3, gX3_thing_6, gX3_thing_9, gX3_thing_10, gX3_thing_11, gX3_thing_14, gX3_thing_15, gX3_thing_16, gX3_thing_17, gX3_thing_20, gX3_thing_23, gX3_thing_24, gX3_thing_25, gX3_thing_26, gX3_thing_29, gX3_thing_30, gX3_thing_31, gX3_thing_33, gX3_thing_36, gX3_thing_37, gX3_thing_38, gX3_thing_41, gX3_thing_42, gX3_thing_43, gX3_thing_46, gX3_thing_47, gX3_thing_48, gX3_thing_51, gX3_thing_52, gX3_thing_53, gX3_thing_54, gX3_thing_55, gX3_thing_58, gX3_thing_59, gX3_thing_60, gX3_thing_62, gX3_thing_65, gX3_thing_66, gX3_thing_67, gX3_thing_68, gX3_thing_70, gX3_thing_72, gX3_thing_75, gX3_thing_78, gX3_thing_79, gX3_thing_80, gX3_thing_83, gX3_thing_84, gX3_thing_85, gX3_thing_88, gX3_thing_89, gX3_thing_92, gX3_thing_93, gX3_thing_94, gX3_thing_97, gX3_thing_100, gX3_thing_101, gX3_thing_102, gX3_thing_103, gX3_thing_104, gX3_thing_107, gX3_thing_108, gX3_thing_109, gX3_thing_112, gX3_thing_113, gX3_thing_116, gX3_thing_119, gX3_thing_120, gX3_thing_123, gX3_thing_124, gX3_thing_127, gX3_thing_128, gX3_thing_131, gX3_thing_132, am_kill_int, am_kill_ref, am_kill_null, am_kill_F, am_kill_long, am_cat_n, am_cat_i, am_cat_r, am_cat_0, am_cat_l, am_nr_n, am_nr_i, am_nr_r, am_nr_0, am_nr_l, Option.toList_some, Option.toList_none, List.nil_append, List.cons_append, va_rf_s, va_rf_n, am_II, am_I_sR, am_I_sL, am_R_sI, am_RR, am_R_sL, am_L_sI, am_L_sR, am_LL, am_k_sI, am_k_sR, am_k_sL, am_n_sI, am_n_sR, am_n_sL, true_and, and_true, true_or, or_true, or_false, false_or, not_true_eq_false, not_false_eq_true, Nat.reduceLT, am_dS, am_dP, am_d1, Nat.reduceSub, Nat.reduceMul, ne_eq, Nat.reduceBEq, Nat.reduceAdd, Nat.reduceLeDiff, Nat.reduceEqDiff, and_self, and_false, false_and, if_true, if_false, am_nb, am_nb0, am_nb1, am_lc1, am_lc2, am_lc3, am_b0, am_b1, am_10, am_c8, am_c16, am_c24, am_c32, am_c40, am_c48, am_c56, am_c64, am_c72, Nat.add_zero, Bool.false_eq_true, Nat.zero_le, wX3_passes hT, wX3_fine hT, wX3_here hT, wX3_in, wX3_letterOf, wX3_fault hT, hmu, c1, c2', c4, l1, ha]
          rw [okM_inl, am_sI_self ha] at hK
          exact hK 0
end MP
