/-! texts: both begin to read; a fault's place; the rule read by both -/
set_option maxRecDepth 100000
section TXV
variable {d : Nat} {μ ν ξ μ1 ν1 : am_M} {K : Option Value → am_M → Prop} {x y z c w : Int32} {h h' N C i j k r n M m a b e q q' t u s : Nat} {v : Int32} {ru : Option PF} {F G : Nat → Nat → Prop} {S S' T : Nat → Int32} {p : Int64} {ch : Nat → Int32} {f : PF}
/-- the component has begun to read n signs of at most m -/
def bgC (m t : Nat) (μ : am_M) : am_M := am_sI (am_sI (am_sI (am_sI μ 0 6 0) 0 7 0) 0 9 0) 0 8 (nI (min t m))
theorem miI_nI (ht : t ≤ 1000) (hm : m ≤ 1000) : (if nI m < nI t then nI m else nI t) = nI (min t m) := by
  by_cases f : m < t
  · rw [if_pos ((nI_ltI (by omega) (by omega)).mpr f), Nat.min_eq_right (by omega)]
  · rw [if_neg (fun q => f ((nI_ltI (by omega) (by omega)).mp q)), Nat.min_eq_left (by omega)]
theorem wX1_begins (hk : am_k μ 0 = (0, 0)) (ht : am_I μ 0 6 = nI t) (h80 : t ≤ 80) (hm : m ≤ 80) : am_Wp (d + 1) mX1_begins 0 [.ref 0, .int (nI m), am_F] [] μ K ↔ K (some (.int (nI t))) (bgC m t μ) := by
  have e := miI_nI (t := t) (m := m) (by omega) (by omega)
  simp only [gX1_begins_0, gX1_begins_1, gX1_begins_4, gX1_begins_5, gX1_begins_6, gX1_begins_7, gX1_begins_10, gX1_begins_11, gX1_begins_12, gX1_begins_15, gX1_begins_16, gX1_begins_17, gX1_begins_20, gX1_begins_21, gX1_begins_22, gX1_begins_23, gX1_begins_26, gX1_begins_29, gX1_begins_30, am_kill_int, am_kill_ref, am_kill_null, am_kill_F, am_kill_long, am_cat_n, am_cat_i, am_cat_r, am_cat_0, am_cat_l, am_nr_n, am_nr_i, am_nr_r, am_nr_0, am_nr_l, Option.toList_some, Option.toList_none, List.nil_append, List.cons_append, va_rf_s, va_rf_n, am_II, am_I_sR, am_I_sL, am_R_sI, am_RR, am_R_sL, am_L_sI, am_L_sR, am_LL, am_k_sI, am_k_sR, am_k_sL, am_n_sI, am_n_sR, am_n_sL, true_and, and_true, true_or, or_true, or_false, false_or, not_true_eq_false, not_false_eq_true, Nat.reduceLT, am_dS, am_dP, am_d1, Nat.reduceSub, Nat.reduceMul, ne_eq, Nat.reduceBEq, Nat.reduceAdd, Nat.reduceLeDiff, Nat.reduceEqDiff, and_self, and_false, false_and, if_true, if_false, am_nb, am_nb0, am_nb1, am_lc1, am_lc2, am_lc3, am_b0, am_b1, am_10, am_c8, am_c16, am_c24, am_c32, am_c40, am_c48, am_c56, am_c64, am_c72, Nat.add_zero, Bool.false_eq_true, Nat.zero_le, hk, ht, e]
  rfl
theorem wX1_faultOf (g : Bool) (hk : am_k μ 0 = (0, 0)) (h7 : am_I μ 0 7 = nI a) (h8 : am_I μ 0 8 = nI e) (ha : a ≤ 1000) (he : e ≤ 1000) (hn : n ≤ 1000) : am_Wp d mX1_faultOf 0 [.ref 0, .int (nI n), .int (if g = true then 1 else 0), am_F] [] μ K ↔ K (some (.int (if g = true ∧ a = e ∧ n ≤ e then 0 else -1 - nI a))) μ := by
  have e1 : (nI a = nI e) = (a = e) := nI_inj (by omega) (by omega)
  have e2 : (nI n ≤ nI e) = (n ≤ e) := propext (nI_leI (by omega) (by omega))
  have o10 : ¬ (1 : Int32) = 0 := by decide
  cases g with
  | false =>
    by_cases h1 : n ≤ e
    · simp only [gX1_faultOf_0, gX1_faultOf_1, gX1_faultOf_4, gX1_faultOf_5, gX1_faultOf_8, gX1_faultOf_9, gX1_faultOf_12, gX1_faultOf_15, gX1_faultOf_16, gX1_faultOf_19, gX1_faultOf_20, gX1_faultOf_21, gX1_faultOf_22, gX1_faultOf_23, gX1_faultOf_26, gX1_faultOf_29, gX1_faultOf_30, gX1_faultOf_33, gX1_faultOf_34, gX1_faultOf_37, gX1_faultOf_38, gX1_faultOf_41, gX1_faultOf_44, gX1_faultOf_45, gX1_faultOf_46, gX1_faultOf_49, gX1_faultOf_50, gX1_faultOf_51, gX1_faultOf_52, gX1_faultOf_55, gX1_faultOf_56, gX1_faultOf_59, gX1_faultOf_60, gX1_faultOf_61, gX1_faultOf_64, gX1_faultOf_65, am_kill_int, am_kill_ref, am_kill_null, am_kill_F, am_kill_long, am_cat_n, am_cat_i, am_cat_r, am_cat_0, am_cat_l, am_nr_n, am_nr_i, am_nr_r, am_nr_0, am_nr_l, Option.toList_some, Option.toList_none, List.nil_append, List.cons_append, va_rf_s, va_rf_n, am_II, am_I_sR, am_I_sL, am_R_sI, am_RR, am_R_sL, am_L_sI, am_L_sR, am_LL, am_k_sI, am_k_sR, am_k_sL, am_n_sI, am_n_sR, am_n_sL, true_and, and_true, true_or, or_true, or_false, false_or, not_true_eq_false, not_false_eq_true, Nat.reduceLT, am_dS, am_dP, am_d1, Nat.reduceSub, Nat.reduceMul, ne_eq, Nat.reduceBEq, Nat.reduceAdd, Nat.reduceLeDiff, Nat.reduceEqDiff, and_self, and_false, false_and, if_true, if_false, am_nb, am_nb0, am_nb1, am_lc1, am_lc2, am_lc3, am_b0, am_b1, am_10, am_c8, am_c16, am_c24, am_c32, am_c40, am_c48, am_c56, am_c64, am_c72, Nat.add_zero, Bool.false_eq_true, Nat.zero_le, hk, h7, h8, e1, e2, h1]
    · by_cases h2 : a = e
      · subst h2; simp only [gX1_faultOf_0, gX1_faultOf_1, gX1_faultOf_4, gX1_faultOf_5, gX1_faultOf_8, gX1_faultOf_9, gX1_faultOf_12, gX1_faultOf_15, gX1_faultOf_16, gX1_faultOf_19, gX1_faultOf_20, gX1_faultOf_21, gX1_faultOf_22, gX1_faultOf_23, gX1_faultOf_26, gX1_faultOf_29, gX1_faultOf_30, gX1_faultOf_33, gX1_faultOf_34, gX1_faultOf_37, gX1_faultOf_38, gX1_faultOf_41, gX1_faultOf_44, gX1_faultOf_45, gX1_faultOf_46, gX1_faultOf_49, gX1_faultOf_50, gX1_faultOf_51, gX1_faultOf_52, gX1_faultOf_55, gX1_faultOf_56, gX1_faultOf_59, gX1_faultOf_60, gX1_faultOf_61, gX1_faultOf_64, gX1_faultOf_65, am_kill_int, am_kill_ref, am_kill_null, am_kill_F, am_kill_long, am_cat_n, am_cat_i, am_cat_r, am_cat_0, am_cat_l, am_nr_n, am_nr_i, am_nr_r, am_nr_0, am_nr_l, Option.toList_some, Option.toList_none, List.nil_append, List.cons_append, va_rf_s, va_rf_n, am_II, am_I_sR, am_I_sL, am_R_sI, am_RR, am_R_sL, am_L_sI, am_L_sR, am_LL, am_k_sI, am_k_sR, am_k_sL, am_n_sI, am_n_sR, am_n_sL, true_and, and_true, true_or, or_true, or_false, false_or, not_true_eq_false, not_false_eq_true, Nat.reduceLT, am_dS, am_dP, am_d1, Nat.reduceSub, Nat.reduceMul, ne_eq, Nat.reduceBEq, Nat.reduceAdd, Nat.reduceLeDiff, Nat.reduceEqDiff, and_self, and_false, false_and, if_true, if_false, am_nb, am_nb0, am_nb1, am_lc1, am_lc2, am_lc3, am_b0, am_b1, am_10, am_c8, am_c16, am_c24, am_c32, am_c40, am_c48, am_c56, am_c64, am_c72, Nat.add_zero, Bool.false_eq_true, Nat.zero_le, hk, h7, h8, e1, e2, h1]
      · simp only [gX1_faultOf_0, gX1_faultOf_1, gX1_faultOf_4, gX1_faultOf_5, gX1_faultOf_8, gX1_faultOf_9, gX1_faultOf_12, gX1_faultOf_15, gX1_faultOf_16, gX1_faultOf_19, gX1_faultOf_20, gX1_faultOf_21, gX1_faultOf_22, gX1_faultOf_23, gX1_faultOf_26, gX1_faultOf_29, gX1_faultOf_30, gX1_faultOf_33, gX1_faultOf_34, gX1_faultOf_37, gX1_faultOf_38, gX1_faultOf_41, gX1_faultOf_44, gX1_faultOf_45, gX1_faultOf_46, gX1_faultOf_49, gX1_faultOf_50, gX1_faultOf_51, gX1_faultOf_52, gX1_faultOf_55, gX1_faultOf_56, gX1_faultOf_59, gX1_faultOf_60, gX1_faultOf_61, gX1_faultOf_64, gX1_faultOf_65, am_kill_int, am_kill_ref, am_kill_null, am_kill_F, am_kill_long, am_cat_n, am_cat_i, am_cat_r, am_cat_0, am_cat_l, am_nr_n, am_nr_i, am_nr_r, am_nr_0, am_nr_l, Option.toList_some, Option.toList_none, List.nil_append, List.cons_append, va_rf_s, va_rf_n, am_II, am_I_sR, am_I_sL, am_R_sI, am_RR, am_R_sL, am_L_sI, am_L_sR, am_LL, am_k_sI, am_k_sR, am_k_sL, am_n_sI, am_n_sR, am_n_sL, true_and, and_true, true_or, or_true, or_false, false_or, not_true_eq_false, not_false_eq_true, Nat.reduceLT, am_dS, am_dP, am_d1, Nat.reduceSub, Nat.reduceMul, ne_eq, Nat.reduceBEq, Nat.reduceAdd, Nat.reduceLeDiff, Nat.reduceEqDiff, and_self, and_false, false_and, if_true, if_false, am_nb, am_nb0, am_nb1, am_lc1, am_lc2, am_lc3, am_b0, am_b1, am_10, am_c8, am_c16, am_c24, am_c32, am_c40, am_c48, am_c56, am_c64, am_c72, Nat.add_zero, Bool.false_eq_true, Nat.zero_le, hk, h7, h8, e1, e2, h1, h2]
  | true =>
    by_cases h1 : n ≤ e
    · by_cases h2 : a = e
      · subst h2; simp only [gX1_faultOf_0, gX1_faultOf_1, gX1_faultOf_4, gX1_faultOf_5, gX1_faultOf_8, gX1_faultOf_9, gX1_faultOf_12, gX1_faultOf_15, gX1_faultOf_16, gX1_faultOf_19, gX1_faultOf_20, gX1_faultOf_21, gX1_faultOf_22, gX1_faultOf_23, gX1_faultOf_26, gX1_faultOf_29, gX1_faultOf_30, gX1_faultOf_33, gX1_faultOf_34, gX1_faultOf_37, gX1_faultOf_38, gX1_faultOf_41, gX1_faultOf_44, gX1_faultOf_45, gX1_faultOf_46, gX1_faultOf_49, gX1_faultOf_50, gX1_faultOf_51, gX1_faultOf_52, gX1_faultOf_55, gX1_faultOf_56, gX1_faultOf_59, gX1_faultOf_60, gX1_faultOf_61, gX1_faultOf_64, gX1_faultOf_65, am_kill_int, am_kill_ref, am_kill_null, am_kill_F, am_kill_long, am_cat_n, am_cat_i, am_cat_r, am_cat_0, am_cat_l, am_nr_n, am_nr_i, am_nr_r, am_nr_0, am_nr_l, Option.toList_some, Option.toList_none, List.nil_append, List.cons_append, va_rf_s, va_rf_n, am_II, am_I_sR, am_I_sL, am_R_sI, am_RR, am_R_sL, am_L_sI, am_L_sR, am_LL, am_k_sI, am_k_sR, am_k_sL, am_n_sI, am_n_sR, am_n_sL, true_and, and_true, true_or, or_true, or_false, false_or, not_true_eq_false, not_false_eq_true, Nat.reduceLT, am_dS, am_dP, am_d1, Nat.reduceSub, Nat.reduceMul, ne_eq, Nat.reduceBEq, Nat.reduceAdd, Nat.reduceLeDiff, Nat.reduceEqDiff, and_self, and_false, false_and, if_true, if_false, am_nb, am_nb0, am_nb1, am_lc1, am_lc2, am_lc3, am_b0, am_b1, am_10, am_c8, am_c16, am_c24, am_c32, am_c40, am_c48, am_c56, am_c64, am_c72, Nat.add_zero, Bool.false_eq_true, Nat.zero_le, hk, h7, h8, e1, e2, h1, o10]
      · simp only [gX1_faultOf_0, gX1_faultOf_1, gX1_faultOf_4, gX1_faultOf_5, gX1_faultOf_8, gX1_faultOf_9, gX1_faultOf_12, gX1_faultOf_15, gX1_faultOf_16, gX1_faultOf_19, gX1_faultOf_20, gX1_faultOf_21, gX1_faultOf_22, gX1_faultOf_23, gX1_faultOf_26, gX1_faultOf_29, gX1_faultOf_30, gX1_faultOf_33, gX1_faultOf_34, gX1_faultOf_37, gX1_faultOf_38, gX1_faultOf_41, gX1_faultOf_44, gX1_faultOf_45, gX1_faultOf_46, gX1_faultOf_49, gX1_faultOf_50, gX1_faultOf_51, gX1_faultOf_52, gX1_faultOf_55, gX1_faultOf_56, gX1_faultOf_59, gX1_faultOf_60, gX1_faultOf_61, gX1_faultOf_64, gX1_faultOf_65, am_kill_int, am_kill_ref, am_kill_null, am_kill_F, am_kill_long, am_cat_n, am_cat_i, am_cat_r, am_cat_0, am_cat_l, am_nr_n, am_nr_i, am_nr_r, am_nr_0, am_nr_l, Option.toList_some, Option.toList_none, List.nil_append, List.cons_append, va_rf_s, va_rf_n, am_II, am_I_sR, am_I_sL, am_R_sI, am_RR, am_R_sL, am_L_sI, am_L_sR, am_LL, am_k_sI, am_k_sR, am_k_sL, am_n_sI, am_n_sR, am_n_sL, true_and, and_true, true_or, or_true, or_false, false_or, not_true_eq_false, not_false_eq_true, Nat.reduceLT, am_dS, am_dP, am_d1, Nat.reduceSub, Nat.reduceMul, ne_eq, Nat.reduceBEq, Nat.reduceAdd, Nat.reduceLeDiff, Nat.reduceEqDiff, and_self, and_false, false_and, if_true, if_false, am_nb, am_nb0, am_nb1, am_lc1, am_lc2, am_lc3, am_b0, am_b1, am_10, am_c8, am_c16, am_c24, am_c32, am_c40, am_c48, am_c56, am_c64, am_c72, Nat.add_zero, Bool.false_eq_true, Nat.zero_le, hk, h7, h8, e1, e2, h1, h2, o10]
    · by_cases h2 : a = e
      · subst h2; simp only [gX1_faultOf_0, gX1_faultOf_1, gX1_faultOf_4, gX1_faultOf_5, gX1_faultOf_8, gX1_faultOf_9, gX1_faultOf_12, gX1_faultOf_15, gX1_faultOf_16, gX1_faultOf_19, gX1_faultOf_20, gX1_faultOf_21, gX1_faultOf_22, gX1_faultOf_23, gX1_faultOf_26, gX1_faultOf_29, gX1_faultOf_30, gX1_faultOf_33, gX1_faultOf_34, gX1_faultOf_37, gX1_faultOf_38, gX1_faultOf_41, gX1_faultOf_44, gX1_faultOf_45, gX1_faultOf_46, gX1_faultOf_49, gX1_faultOf_50, gX1_faultOf_51, gX1_faultOf_52, gX1_faultOf_55, gX1_faultOf_56, gX1_faultOf_59, gX1_faultOf_60, gX1_faultOf_61, gX1_faultOf_64, gX1_faultOf_65, am_kill_int, am_kill_ref, am_kill_null, am_kill_F, am_kill_long, am_cat_n, am_cat_i, am_cat_r, am_cat_0, am_cat_l, am_nr_n, am_nr_i, am_nr_r, am_nr_0, am_nr_l, Option.toList_some, Option.toList_none, List.nil_append, List.cons_append, va_rf_s, va_rf_n, am_II, am_I_sR, am_I_sL, am_R_sI, am_RR, am_R_sL, am_L_sI, am_L_sR, am_LL, am_k_sI, am_k_sR, am_k_sL, am_n_sI, am_n_sR, am_n_sL, true_and, and_true, true_or, or_true, or_false, false_or, not_true_eq_false, not_false_eq_true, Nat.reduceLT, am_dS, am_dP, am_d1, Nat.reduceSub, Nat.reduceMul, ne_eq, Nat.reduceBEq, Nat.reduceAdd, Nat.reduceLeDiff, Nat.reduceEqDiff, and_self, and_false, false_and, if_true, if_false, am_nb, am_nb0, am_nb1, am_lc1, am_lc2, am_lc3, am_b0, am_b1, am_10, am_c8, am_c16, am_c24, am_c32, am_c40, am_c48, am_c56, am_c64, am_c72, Nat.add_zero, Bool.false_eq_true, Nat.zero_le, hk, h7, h8, e1, e2, h1, o10]
      · simp only [gX1_faultOf_0, gX1_faultOf_1, gX1_faultOf_4, gX1_faultOf_5, gX1_faultOf_8, gX1_faultOf_9, gX1_faultOf_12, gX1_faultOf_15, gX1_faultOf_16, gX1_faultOf_19, gX1_faultOf_20, gX1_faultOf_21, gX1_faultOf_22, gX1_faultOf_23, gX1_faultOf_26, gX1_faultOf_29, gX1_faultOf_30, gX1_faultOf_33, gX1_faultOf_34, gX1_faultOf_37, gX1_faultOf_38, gX1_faultOf_41, gX1_faultOf_44, gX1_faultOf_45, gX1_faultOf_46, gX1_faultOf_49, gX1_faultOf_50, gX1_faultOf_51, gX1_faultOf_52, gX1_faultOf_55, gX1_faultOf_56, gX1_faultOf_59, gX1_faultOf_60, gX1_faultOf_61, gX1_faultOf_64, gX1_faultOf_65, am_kill_int, am_kill_ref, am_kill_null, am_kill_F, am_kill_long, am_cat_n, am_cat_i, am_cat_r, am_cat_0, am_cat_l, am_nr_n, am_nr_i, am_nr_r, am_nr_0, am_nr_l, Option.toList_some, Option.toList_none, List.nil_append, List.cons_append, va_rf_s, va_rf_n, am_II, am_I_sR, am_I_sL, am_R_sI, am_RR, am_R_sL, am_L_sI, am_L_sR, am_LL, am_k_sI, am_k_sR, am_k_sL, am_n_sI, am_n_sR, am_n_sL, true_and, and_true, true_or, or_true, or_false, false_or, not_true_eq_false, not_false_eq_true, Nat.reduceLT, am_dS, am_dP, am_d1, Nat.reduceSub, Nat.reduceMul, ne_eq, Nat.reduceBEq, Nat.reduceAdd, Nat.reduceLeDiff, Nat.reduceEqDiff, and_self, and_false, false_and, if_true, if_false, am_nb, am_nb0, am_nb1, am_lc1, am_lc2, am_lc3, am_b0, am_b1, am_10, am_c8, am_c16, am_c24, am_c32, am_c40, am_c48, am_c56, am_c64, am_c72, Nat.add_zero, Bool.false_eq_true, Nat.zero_le, hk, h7, h8, e1, e2, h1, h2, o10]
/-- what both read: the signs put, at most m of t -/
theorem chM_all (hp : pTx μ) (h80 : m ≤ 80 ∨ t ≤ 80) (i : Nat) : (i < min t m → chM (am_I μ 56) t m i = am_I μ 23 i ∧ ∃ q : Nat, q < 256 ∧ am_I μ 23 i = nI q) ∧ (min t m ≤ i → chM (am_I μ 56) t m i = -1) := by
  refine ⟨fun hi => ?_, fun hi => ?_⟩
  · obtain ⟨⟨q, q1, q2⟩, _, q3⟩ := hp i (by omega)
    refine ⟨?_, q, q1, q2⟩
    unfold chM
    rw [if_pos (by omega)]
    exact q3
  · unfold chM
    rw [if_neg (by omega)]
theorem CR_begin (hC : CC N ru c μ) (hst : stL μ) (hp : pTx μ) (h80 : t ≤ 80) (hm : m ≤ 80) : CR (min t m) 0 (chM (am_I μ 56) t m) (bgC m t μ) := by
  refine ⟨hC.1, ?_, rfl, rfl, ⟨by omega, by omega⟩, fun i hi => ?_, fun i hi => (chM_all hp (Or.inl hm) i).2 hi⟩
  · have hB : 78 ≤ am_B := by decide
    exact (((hst.sI (by omega)).sI (by omega)).sI (by omega)).sI (by omega)
  · obtain ⟨h1, q, h2, h3⟩ := (chM_all (m := m) (t := t) hp (Or.inl hm) i).1 hi
    exact ⟨h1.symm, q, h2, h1.trans h3⟩
/-- the model has begun -/
def bgT (m t : Nat) (μ : am_M) : am_M := am_sI (bgM 56 (nI t) (nI m) μ) 54 4 0
theorem bgT_TM (hm : mL (am_k μ) (am_R μ)) (hp : pTx μ) (h80 : t ≤ 80) (hm2 : m ≤ 80) : TM 56 80 0 t m (-1) (bgT m t μ) := by
  have hk : am_k μ 56 = (11, 80) := by unfold mL at hm; exact hm.1.2.2.1
  obtain ⟨h1, h2, h3, h4, h5, h6, h7, h8, h9, h10⟩ := bgM_TM (n := t) (m := m) hm hk (by omega) (by omega) (by decide) (Or.inl h80) (fun i hi => (hp i hi).2.1)
  exact ⟨h1, h2, h3, h4, h5, h6, h7, h8, h9, h10⟩
theorem wX3_beginText' (hm : mL (am_k μ) (am_R μ)) (ht : am_I μ 54 4 = nI t) : am_Wp (d + 1) mX3_beginText 0 [.ref 54, .int (nI m)] [] μ K ↔ K none (bgT m t μ) := by
  rw [wX3_beginText hm, ht]; rfl
theorem bgT_56 : am_I (bgT m t μ) 56 = am_I μ 56 := id rfl
theorem bgT_Fr : Fr (fun a b => a = 54 ∧ (b = 4 ∨ b = 9 ∨ b = 10 ∨ b = 11 ∨ b = 12)) μ (bgT m t μ) :=
  Fr.I (Fr.I (Fr.I (Fr.I (Fr.I (Fr.R' Fr.refl) ⟨rfl, by omega⟩) ⟨rfl, by omega⟩) ⟨rfl, by omega⟩) ⟨rfl, by omega⟩) ⟨rfl, by omega⟩
theorem bgC_Fr : Fr (fun a b => a = 0 ∧ (b = 6 ∨ b = 7 ∨ b = 8 ∨ b = 9)) μ (bgC m t μ) :=
  Fr.I (Fr.I (Fr.I (Fr.I Fr.refl ⟨rfl, by omega⟩) ⟨rfl, by omega⟩) ⟨rfl, by omega⟩) ⟨rfl, by omega⟩
/-! a rule asks the first eight of what it is given -/
theorem ltr_8 : ltr x < 8 := by
  unfold ltr
  split
  · decide
  split
  · decide
  split
  · decide
  split
  · decide
  split
  · decide
  split
  · decide
  split <;> decide
def f8P (p : PR) : Prop := match p with
  | .inl _ => True
  | .inr (f, _) => f8 f
theorem pT_f8 {H T : Nat → Nat → PR} {dp : Nat} (hH : ∀ b d, f8P (H b d)) (hT : ∀ b d, f8P (T b d)) : f8P (pT H T ch a dp) := by
  unfold pT
  split
  · have := hT (a + 1) dp
    split
    · trivial
    · rename_i f b e
      rw [e] at this
      exact fun e1 e2 h => by show - f e1 = - f e2; rw [this e1 e2 h]
  split
  · exact fun e1 e2 h => rfl
  split
  · exact fun e1 e2 h => h _ ltr_8
  split
  · have := hH (a + 1) (dp + 1)
    split
    · trivial
    · rename_i f b e
      rw [e] at this
      split
      · exact this
      · trivial
  · trivial
theorem pL_f8 {nx : Nat → PR} (hx : ∀ b, f8P (nx b)) : ∀ (n : Nat) (f : PF) (b : Nat), f8 f → f8P (pL nx m ch n f b)
  | 0, f, b, hf => hf
  | n + 1, f, b, hf => by
    unfold pL
    split
    · have := hx (b + 1)
      split
      · trivial
      · rename_i g b2 e
        rw [e] at this
        have hg : f8 (fun e => actI (ch b) (f e) (g e)) := fun e1 e2 h => by
          show actI _ _ _ = actI _ _ _
          rw [hf e1 e2 h, this e1 e2 h]
        split
        · exact hg
        · exact pL_f8 hx n _ b2 hg
    · exact hf
theorem pP_f8 : ∀ (n m a dp : Nat), f8P (pP ch n m a dp)
  | 0, _, _, _ => trivial
  | n + 1, m, a, dp => by
    unfold pP
    split
    · exact pT_f8 (fun b d => pP_f8 n 0 b d) (fun b d => pP_f8 n 3 b d)
    · have := pP_f8 n (m + 1) a dp
      split
      · trivial
      · rename_i f b e
        rw [e] at this
        exact pL_f8 (fun b => pP_f8 n (m + 1) b dp) 41 f b this
/-! a rule read: the rule, or a fault's place -/
def rdR (ch : Nat → Int32) (t : Nat) : Nat ⊕ Option PF := if t = 0 then .inr none else match pP ch 62 0 0 0 with
  | .inl p => .inl p
  | .inr (f, b) => if b < t then .inl b else .inr (some f)
theorem rdR_8 {g : Option PF} (h : rdR ch t = .inr g) : ru8 g := by
  unfold rdR at h
  split at h
  · cases h; trivial
  · have := pP_f8 (ch := ch) 62 0 0 0
    split at h
    · cases h
    · rename_i f b e
      rw [e] at this
      split at h
      · cases h
      · cases h; exact this
theorem nodeEq_R {o : Option Nat} (hk : a < 78) : nodeEq μ (am_sR μ a b o) := ⟨Nat.le_refl _, fun g z1 z2 z3 z4 => ⟨rfl, fun i => rfl, fun i => by rw [am_RR, if_neg (by omega)]⟩⟩
theorem nodeEq_I (hk : a < 78) : nodeEq μ (am_sI μ a b v) := ⟨Nat.le_refl _, fun g z1 z2 z3 z4 => ⟨rfl, fun i => by rw [am_I_sI, if_neg (by omega)], fun i => rfl⟩⟩
/-- what the component leaves of a rule read -/
def RD (μ ν : am_M) : Prop := (∀ h b, (h < am_n μ ∨ am_B ≤ h) → ¬ (h = 0 ∧ (b = 6 ∨ b = 7 ∨ b = 8 ∨ b = 9)) → am_I ν h b = am_I μ h b) ∧ (∀ h b, (h < am_n μ ∨ am_B ≤ h) → ¬ (h = 0 ∧ b = 18) → am_R ν h b = am_R μ h b) ∧ (∀ h b, (h < am_n μ ∨ am_B ≤ h) → am_L ν h b = am_L μ h b) ∧ (∀ h, (h < am_n μ ∨ am_B ≤ h) → am_k ν h = am_k μ h) ∧ (am_n μ ≤ am_n ν ∧ am_n ν ≤ am_n μ + 40) ∧ am_c ν ≤ am_c μ + 40 ∧ am_s ν ≤ am_s μ + 240
def rkR (ν : am_M) (g : Option PF) : Prop := match g with
  | none => am_R ν 0 18 = none
  | some f => ∃ a, am_R ν 0 18 = some a ∧ a < am_B ∧ Tr 64 ν a f
theorem RD_of {e : Nat} (he : e ≤ 40) (hA : AF (bgC m t μ) ν e) {o : Option Nat} : RD μ (am_sR ν 0 18 o) := by
  obtain ⟨a1, a2, a3, a4, a5, a6, a7⟩ := hA
  refine ⟨fun h b z1 z2 => ?_, fun h b z1 z2 => ?_, fun h b z1 => a3 h b z1, fun h z1 => a4 h z1, ⟨a5.1, ?_⟩, ?_, ?_⟩
  · rw [am_I_sR, a1 h b z1 (by omega)]
    exact bgC_Fr.1 h b (by omega)
  · rw [am_RR, if_neg z2, a2 h b z1]; rfl
  · have := a5.2
    show am_n ν ≤ am_n μ + 40
    have e : am_n (bgC m t μ) = am_n μ := rfl
    omega
  · show am_c ν ≤ am_c μ + 40
    have e : am_c (bgC m t μ) = am_c μ := rfl
    omega
  · show am_s ν ≤ am_s μ + 240
    have e : am_s (bgC m t μ) = am_s μ := rfl
    omega
theorem Tr.lt : ∀ {n : Nat}, Tr n μ h f → h < am_n μ
  | 0, q => absurd q id
  | _ + 1, q => q.1.2
theorem ch_ge (hp : pTx μ) (hm : m ≤ 80) : ∀ i, 0 ≤ chM (am_I μ 56) t m i → i < min t m := fun i hi => by
  by_cases f : i < min t m
  · exact f
  · rw [(chM_all hp (Or.inl hm) i).2 (by omega)] at hi
    exact absurd hi (by decide)
theorem wX1_readsRule (hC : CC N ru c μ) (hst : stL μ) (hp : pTx μ) (h80 : t ≤ 80) (ht : am_I μ 0 6 = nI t) (hn : 78 ≤ am_n μ ∧ am_n μ ≤ 390000)
    (hK1 : ∀ b ν, b ≤ 40 → rdR (chM (am_I μ 56) t 40) t = .inl b → RD μ ν → am_I ν 0 6 = 0 → K (some (.int (-1 - nI b))) ν)
    (hK2 : ∀ g ν, rdR (chM (am_I μ 56) t 40) t = .inr g → RD μ ν → am_I ν 0 6 = 0 → rkR ν g → (g = none ∨ t ≤ 40) → K (some (.int 0)) ν) :
    am_Wp (d + 134) mX1_readsRule 0 [.ref 0, am_F] [] μ K := by
  have hk := hC.1.c
  have hBB : am_B = 1000000 := rfl
  have e40 : (40 : Int32) = nI 40 := rfl
  have hkb : am_k (bgC 40 t μ) 0 = (0, 0) := hk
  rw [gX1_readsRule_0, gX1_readsRule_1, e40, gX1_readsRule_3]
  refine ⟨⟨by decide, by rw [hk]⟩, Nat.succ_pos _, ?_⟩
  rw [am_dS, wX1_begins (d := d + 132) hk ht h80 (by decide)]
  refine ⟨trivial, ?_⟩
  by_cases h0 : t = 0
  · have e0 : nI t = 0 := by rw [h0]; rfl
    have hr : rdR (chM (am_I μ 56) t 40) t = .inr none := by unfold rdR; rw [if_pos h0]
    simp only [Option.toList_some, List.cons_append, List.nil_append, gX1_readsRule_6, gX1_readsRule_7, gX1_readsRule_8, gX1_readsRule_9, gX1_readsRule_12, gX1_readsRule_13, gX1_readsRule_21, gX1_readsRule_21n, gX1_readsRule_24, gX1_readsRule_25, gX1_readsRule_28, gX1_readsRule_29, gX1_readsRule_49, am_kill_int, am_kill_ref, am_kill_null, am_kill_F, am_kill_long, am_cat_n, am_cat_i, am_cat_r, am_cat_0, am_cat_l, am_nr_n, am_nr_i, am_nr_r, am_nr_0, am_nr_l, Option.toList_some, Option.toList_none, List.nil_append, List.cons_append, va_rf_s, va_rf_n, am_II, am_I_sR, am_I_sL, am_R_sI, am_RR, am_R_sL, am_L_sI, am_L_sR, am_LL, am_k_sI, am_k_sR, am_k_sL, am_n_sI, am_n_sR, am_n_sL, true_and, and_true, true_or, or_true, or_false, false_or, not_true_eq_false, not_false_eq_true, Nat.reduceLT, am_dS, am_dP, am_d1, Nat.reduceSub, Nat.reduceMul, ne_eq, Nat.reduceBEq, Nat.reduceAdd, Nat.reduceLeDiff, Nat.reduceEqDiff, and_self, and_false, false_and, if_true, if_false, am_nb, am_nb0, am_nb1, am_lc1, am_lc2, am_lc3, am_b0, am_b1, am_10, am_c8, am_c16, am_c24, am_c32, am_c40, am_c48, am_c56, am_c64, am_c72, Nat.add_zero, Bool.false_eq_true, Nat.zero_le, hkb, e0]
    exact hK2 none _ hr (RD_of (e := 0) (by decide) AF.refl) rfl rfl (Or.inl rfl)
  · have e0 : ¬ nI t = 0 := fun f => by
      have := nI_clamp (n := t) (by omega)
      rw [f] at this
      have z : (0 : Int32).toNatClampNeg = 0 := by decide
      omega
    have hCR := CR_begin (t := t) (m := 40) hC hst hp h80 (by decide)
    have hle := pP_le (ch := chM (am_I μ 56) t 40) (e := min t 40) (ch_ge hp (by decide)) 62 0 0 0 (by omega)
    simp only [Option.toList_some, List.cons_append, List.nil_append, gX1_readsRule_6, gX1_readsRule_7, gX1_readsRule_8, gX1_readsRule_9, gX1_readsRule_12, gX1_readsRule_13, gX1_readsRule_16, gX1_readsRule_17, gX1_readsRule_18, am_kill_int, am_kill_ref, am_kill_null, am_kill_F, am_kill_long, am_cat_n, am_cat_i, am_cat_r, am_cat_0, am_cat_l, am_nr_n, am_nr_i, am_nr_r, am_nr_0, am_nr_l, Option.toList_some, Option.toList_none, List.nil_append, List.cons_append, va_rf_s, va_rf_n, am_II, am_I_sR, am_I_sL, am_R_sI, am_RR, am_R_sL, am_L_sI, am_L_sR, am_LL, am_k_sI, am_k_sR, am_k_sL, am_n_sI, am_n_sR, am_n_sL, true_and, and_true, true_or, or_true, or_false, false_or, not_true_eq_false, not_false_eq_true, Nat.reduceLT, am_dS, am_dP, am_d1, Nat.reduceSub, Nat.reduceMul, ne_eq, Nat.reduceBEq, Nat.reduceAdd, Nat.reduceLeDiff, Nat.reduceEqDiff, and_self, and_false, false_and, if_true, if_false, am_nb, am_nb0, am_nb1, am_lc1, am_lc2, am_lc3, am_b0, am_b1, am_10, am_c8, am_c16, am_c24, am_c32, am_c40, am_c48, am_c56, am_c64, am_c72, Nat.add_zero, Bool.false_eq_true, Nat.zero_le, hkb, e0]
    refine wX1_reads (d := d) (e := min t 40) (by omega) hCR rfl (by show 78 ≤ am_n μ ∧ am_n μ + _ ≤ _; omega) ?_
    cases hpp : pP (chM (am_I μ 56) t 40) 62 0 0 0 with
    | inl p =>
      rw [hpp] at hle
      have hp40 : p ≤ min t 40 := hle
      have hr : rdR (chM (am_I μ 56) t 40) t = .inl p := by unfold rdR; rw [if_neg h0, hpp]
      rw [okC_inl]
      intro ν hA h7
      have hk0 : am_k ν 0 = (0, 0) := (hA.2.2.2.1 0 (Or.inl (by show 0 < am_n μ; omega))).trans hkb
      have h8 : am_I ν 0 8 = nI (min t 40) := (hA.1 0 8 (Or.inl (by show 0 < am_n μ; omega)) (by omega)).trans rfl
      have h6 : am_I ν 0 6 = 0 := (hA.1 0 6 (Or.inl (by show 0 < am_n μ; omega)) (by omega)).trans rfl
      have ff := wX1_faultOf (d := d + 133) (K := fun r1 μ1 => am_nr r1 ∧ am_Wp (d + 134) mX1_readsRule 49 [.ref 0, .int (nI t)] (r1.toList ++ []) μ1 K) (μ := am_sR ν 0 18 none) (n := t) (e := min t 40) (a := p) false hk0 h7 h8 (by omega) (by omega) (by omega)
      simp only [Bool.false_eq_true, if_false, false_and] at ff
      refine ⟨trivial, ?_⟩
      simp only [Option.toList_some, List.cons_append, List.nil_append, gX1_readsRule_21, gX1_readsRule_21n, gX1_readsRule_24, gX1_readsRule_25, gX1_readsRule_28, gX1_readsRule_29, gX1_readsRule_32, gX1_readsRule_33, gX1_readsRule_34, gX1_readsRule_35, gX1_readsRule_38, gX1_readsRule_38n, gX1_readsRule_41, gX1_readsRule_42, gX1_readsRule_45, gX1_readsRule_46, am_kill_int, am_kill_ref, am_kill_null, am_kill_F, am_kill_long, am_cat_n, am_cat_i, am_cat_r, am_cat_0, am_cat_l, am_nr_n, am_nr_i, am_nr_r, am_nr_0, am_nr_l, Option.toList_some, Option.toList_none, List.nil_append, List.cons_append, va_rf_s, va_rf_n, am_II, am_I_sR, am_I_sL, am_R_sI, am_RR, am_R_sL, am_L_sI, am_L_sR, am_LL, am_k_sI, am_k_sR, am_k_sL, am_n_sI, am_n_sR, am_n_sL, true_and, and_true, true_or, or_true, or_false, false_or, not_true_eq_false, not_false_eq_true, Nat.reduceLT, am_dS, am_dP, am_d1, Nat.reduceSub, Nat.reduceMul, ne_eq, Nat.reduceBEq, Nat.reduceAdd, Nat.reduceLeDiff, Nat.reduceEqDiff, and_self, and_false, false_and, if_true, if_false, am_nb, am_nb0, am_nb1, am_lc1, am_lc2, am_lc3, am_b0, am_b1, am_10, am_c8, am_c16, am_c24, am_c32, am_c40, am_c48, am_c56, am_c64, am_c72, Nat.add_zero, Bool.false_eq_true, Nat.zero_le, hk0, e0, ff, gX1_readsRule_49]
      exact hK1 p _ (by omega) hr (RD_of (e := min t 40 - 0) (by omega) hA) h6
    | inr fb =>
      obtain ⟨f, b⟩ := fb
      rw [hpp] at hle
      have hb40 : b ≤ min t 40 := hle
      rw [okC_inr]
      intro ν h hA h7 h9 hTr
      have hk0 : am_k ν 0 = (0, 0) := (hA.2.2.2.1 0 (Or.inl (by show 0 < am_n μ; omega))).trans hkb
      have h8 : am_I ν 0 8 = nI (min t 40) := (hA.1 0 8 (Or.inl (by show 0 < am_n μ; omega)) (by omega)).trans rfl
      have h6 : am_I ν 0 6 = 0 := (hA.1 0 6 (Or.inl (by show 0 < am_n μ; omega)) (by omega)).trans rfl
      have hb : h < am_n ν := hTr.lt
      have hB : h < am_B := by
        have := hA.2.2.2.2.1.2
        have e : am_n (bgC 40 t μ) = am_n μ := rfl
        omega
      have ff := wX1_faultOf (d := d + 133) (K := fun r1 μ1 => am_nr r1 ∧ am_Wp (d + 134) mX1_readsRule 49 [.ref 0, .int (nI t)] (r1.toList ++ []) μ1 K) (μ := am_sR ν 0 18 (some h)) (n := t) (e := min t 40) (a := b) true hk0 h7 h8 (by omega) (by omega) (by omega)
      simp only [if_true, true_and] at ff
      have hRD := RD_of (m := 40) (t := t) (μ := μ) (o := some h) (e := b - 0) (by omega) hA
      refine ⟨trivial, ?_⟩
      simp only [Option.toList_some, List.cons_append, List.nil_append, gX1_readsRule_21, gX1_readsRule_21n, gX1_readsRule_24, gX1_readsRule_25, gX1_readsRule_28, gX1_readsRule_29, gX1_readsRule_32, gX1_readsRule_33, gX1_readsRule_34, gX1_readsRule_35, gX1_readsRule_38, gX1_readsRule_38n, gX1_readsRule_41, gX1_readsRule_42, gX1_readsRule_45, gX1_readsRule_46, am_kill_int, am_kill_ref, am_kill_null, am_kill_F, am_kill_long, am_cat_n, am_cat_i, am_cat_r, am_cat_0, am_cat_l, am_nr_n, am_nr_i, am_nr_r, am_nr_0, am_nr_l, Option.toList_some, Option.toList_none, List.nil_append, List.cons_append, va_rf_s, va_rf_n, am_II, am_I_sR, am_I_sL, am_R_sI, am_RR, am_R_sL, am_L_sI, am_L_sR, am_LL, am_k_sI, am_k_sR, am_k_sL, am_n_sI, am_n_sR, am_n_sL, true_and, and_true, true_or, or_true, or_false, false_or, not_true_eq_false, not_false_eq_true, Nat.reduceLT, am_dS, am_dP, am_d1, Nat.reduceSub, Nat.reduceMul, ne_eq, Nat.reduceBEq, Nat.reduceAdd, Nat.reduceLeDiff, Nat.reduceEqDiff, and_self, and_false, false_and, if_true, if_false, am_nb, am_nb0, am_nb1, am_lc1, am_lc2, am_lc3, am_b0, am_b1, am_10, am_c8, am_c16, am_c24, am_c32, am_c40, am_c48, am_c56, am_c64, am_c72, Nat.add_zero, Bool.false_eq_true, Nat.zero_le, hk0, hB, e0, ff, gX1_readsRule_49]
      have hTr' : Tr 64 (am_sR ν 0 18 (some h)) h f := (hTr.le (by omega)).mono (nodeEq_R (by decide))
      by_cases g : b < t
      · have hr : rdR (chM (am_I μ 56) t 40) t = .inl b := by unfold rdR; rw [if_neg h0, hpp]; exact if_pos g
        rw [if_neg (by omega)]
        exact hK1 b _ (by omega) hr hRD h6
      · have hr : rdR (chM (am_I μ 56) t 40) t = .inr (some f) := by unfold rdR; rw [if_neg h0, hpp]; exact if_neg g
        rw [if_pos (by omega)]
        exact hK2 (some f) _ hr hRD h6 ⟨h, by rw [am_RR, if_pos ⟨rfl, rfl⟩], hB, hTr'⟩ (Or.inr (by omega))
/-- what the model leaves of a rule read -/
def fRM (a b : Nat) : Prop := a = 54 ∧ (b = 4 ∨ b = 9 ∨ b = 10 ∨ b = 11 ∨ b = 12 ∨ b = 17)
theorem wX3_readRule (hm : mL (am_k μ) (am_R μ)) (hp : pTx μ) (h80 : t ≤ 80) (ht : am_I μ 54 4 = nI t)
    (hK1 : ∀ b ν, b ≤ 40 → rdR (chM (am_I μ 56) t 40) t = .inl b → Fr fRM μ ν → am_I ν 54 4 = 0 → am_I ν 54 17 = 0 → am_I ν 54 12 = nI b → K (some (.int 0)) ν)
    (hK2 : ∀ g ν, rdR (chM (am_I μ 56) t 40) t = .inr g → Fr fRM μ ν → am_I ν 54 4 = 0 → am_I ν 54 17 = 0 → K (some (.int 1)) ν) :
    am_Wp (d + 80) mX3_readRule 0 [.ref 54] [] μ K := by
  have hmu := hm
  unfold mL at hmu
  have e40 : (40 : Int32) = nI 40 := rfl
  have hT := bgT_TM (t := t) (m := 40) hm hp h80 (by decide)
  have hT0 : TM 56 80 0 t 40 (-1) (am_sI (bgT 40 t μ) 54 17 0) := hT.ask
  have hkb : am_k (bgT 40 t μ) 54 = (2, 0) := hmu.1.1
  have hF0 : Fr fRM μ (am_sI (bgT 40 t μ) 54 17 0) := Fr.I (bgT_Fr.le fun a b z => by unfold fRM; omega) ⟨rfl, by omega⟩
  have h4 : am_I (am_sI (bgT 40 t μ) 54 17 0) 54 4 = 0 := rfl
  have h17 : am_I (am_sI (bgT 40 t μ) 54 17 0) 54 17 = 0 := rfl
  have h9 : am_I (am_sI (bgT 40 t μ) 54 17 0) 54 9 = nI t := rfl
  have h56 : am_I (am_sI (bgT 40 t μ) 54 17 0) 56 = am_I μ 56 := rfl
  have fb0 : fits .boolean (.int 0) = true := by decide
  simp only [e40, gX3_readRule_0, gX3_readRule_1, gX3_readRule_3, am_kill_int, am_kill_ref, am_kill_null, am_kill_F, am_kill_long, am_cat_n, am_cat_i, am_cat_r, am_cat_0, am_cat_l, am_nr_n, am_nr_i, am_nr_r, am_nr_0, am_nr_l, Option.toList_some, Option.toList_none, List.nil_append, List.cons_append, va_rf_s, va_rf_n, am_I_sR, am_I_sL, am_R_sI, am_R_sL, am_L_sI, am_L_sR, am_k_sI, am_k_sR, am_k_sL, am_n_sI, am_n_sR, am_n_sL, true_and, and_true, true_or, or_true, or_false, false_or, not_true_eq_false, not_false_eq_true, Nat.reduceLT, am_dS, am_dP, am_d1, Nat.reduceSub, Nat.reduceMul, ne_eq, Nat.reduceBEq, Nat.reduceAdd, Nat.reduceLeDiff, Nat.reduceEqDiff, and_self, and_false, false_and, if_true, if_false, am_nb, am_nb0, am_nb1, am_lc1, am_lc2, am_lc3, am_b0, am_b1, am_10, am_c8, am_c16, am_c24, am_c32, am_c40, am_c48, am_c56, am_c64, am_c72, Nat.add_zero, Bool.false_eq_true, Nat.zero_le, hmu, wX3_beginText' hm ht, gX3_readRule_6, gX3_readRule_7, gX3_readRule_8, hkb, fb0]
  generalize am_sI (bgT 40 t μ) 54 17 0 = ν at hT0 hF0 h4 h17 h9 h56 ⊢
  have hmν := hT0.1
  unfold mL at hmν
  by_cases h0 : t = 0
  · have hr : rdR (chM (am_I μ 56) t 40) t = .inr none := by unfold rdR; rw [if_pos h0]
    have hle : nI t ≤ 0 := by rw [h0]; decide
    have ww := wX3_wasRight (d := d + 77) (K := fun r1 μ1 => am_nr r1 ∧ am_Wp (d + 80) mX3_readRule 28 [.ref 54] (r1.toList ++ []) μ1 K) hT0
    simp only [h0, Nat.lt_irrefl, and_false, if_false, not_false_eq_true, and_true, if_true] at ww
    simp only [gX3_readRule_11, gX3_readRule_12, gX3_readRule_15, gX3_readRule_24, gX3_readRule_25, am_kill_int, am_kill_ref, am_kill_null, am_kill_F, am_kill_long, am_cat_n, am_cat_i, am_cat_r, am_cat_0, am_cat_l, am_nr_n, am_nr_i, am_nr_r, am_nr_0, am_nr_l, Option.toList_some, Option.toList_none, List.nil_append, List.cons_append, va_rf_s, va_rf_n, am_I_sR, am_I_sL, am_R_sI, am_R_sL, am_L_sI, am_L_sR, am_k_sI, am_k_sR, am_k_sL, am_n_sI, am_n_sR, am_n_sL, true_and, and_true, true_or, or_true, or_false, false_or, not_true_eq_false, not_false_eq_true, Nat.reduceLT, am_dS, am_dP, am_d1, Nat.reduceSub, Nat.reduceMul, ne_eq, Nat.reduceBEq, Nat.reduceAdd, Nat.reduceLeDiff, Nat.reduceEqDiff, and_self, and_false, false_and, if_true, if_false, am_nb, am_nb0, am_nb1, am_lc1, am_lc2, am_lc3, am_b0, am_b1, am_10, am_c8, am_c16, am_c24, am_c32, am_c40, am_c48, am_c56, am_c64, am_c72, Nat.add_zero, Bool.false_eq_true, Nat.zero_le, hmν, h9, hle, ww, gX3_readRule_28]
    exact hK2 none ν hr hF0 h4 h17
  · have hle : ¬ nI t ≤ 0 := nI_ps (by omega) (by omega)
    have hle2 := pP_le (ch := chM (am_I μ 56) t 40) (e := min t 40) (ch_ge hp (by decide)) 62 0 0 0 (by omega)
    simp only [gX3_readRule_11, gX3_readRule_12, gX3_readRule_15, gX3_readRule_18, gX3_readRule_19, gX3_readRule_20, am_kill_int, am_kill_ref, am_kill_null, am_kill_F, am_kill_long, am_cat_n, am_cat_i, am_cat_r, am_cat_0, am_cat_l, am_nr_n, am_nr_i, am_nr_r, am_nr_0, am_nr_l, Option.toList_some, Option.toList_none, List.nil_append, List.cons_append, va_rf_s, va_rf_n, am_I_sR, am_I_sL, am_R_sI, am_R_sL, am_L_sI, am_L_sR, am_k_sI, am_k_sR, am_k_sL, am_n_sI, am_n_sR, am_n_sL, true_and, and_true, true_or, or_true, or_false, false_or, not_true_eq_false, not_false_eq_true, Nat.reduceLT, am_dS, am_dP, am_d1, Nat.reduceSub, Nat.reduceMul, ne_eq, Nat.reduceBEq, Nat.reduceAdd, Nat.reduceLeDiff, Nat.reduceEqDiff, and_self, and_false, false_and, if_true, if_false, am_nb, am_nb0, am_nb1, am_lc1, am_lc2, am_lc3, am_b0, am_b1, am_10, am_c8, am_c16, am_c24, am_c32, am_c40, am_c48, am_c56, am_c64, am_c72, Nat.add_zero, Bool.false_eq_true, Nat.zero_le, hmν, h9, hle]
    refine wX3_held (d := d + 12) (T := am_I μ 56) (by decide) h56 hT0 ?_
    cases hpp : pP (chM (am_I μ 56) t 40) 62 0 0 0 with
    | inl p =>
      rw [hpp] at hle2
      have hp40 : p ≤ min t 40 := hle2
      have hr : rdR (chM (am_I μ 56) t 40) t = .inl p := by unfold rdR; rw [if_neg h0, hpp]
      rw [okM_inl]
      intro v
      have hT1 := (hT0.go (k := p) (by omega)).fault (x := nI p)
      have hm1 : ¬ nI p = -1 := nI_m1 (by omega)
      have ww := wX3_wasRight (d := d + 77) (K := fun r1 μ1 => am_nr r1 ∧ am_Wp (d + 80) mX3_readRule 28 [.ref 54] (r1.toList ++ []) μ1 K) hT1
      simp only [hm1, false_and, if_false] at ww
      refine ⟨trivial, ?_⟩
      simp only [Option.toList_some, List.cons_append, List.nil_append, gX3_readRule_23, gX3_readRule_24, gX3_readRule_25, am_kill_int, am_kill_ref, am_kill_null, am_kill_F, am_kill_long, am_cat_n, am_cat_i, am_cat_r, am_cat_0, am_cat_l, am_nr_n, am_nr_i, am_nr_r, am_nr_0, am_nr_l, Option.toList_some, Option.toList_none, List.nil_append, List.cons_append, va_rf_s, va_rf_n, am_I_sR, am_I_sL, am_R_sI, am_R_sL, am_L_sI, am_L_sR, am_k_sI, am_k_sR, am_k_sL, am_n_sI, am_n_sR, am_n_sL, true_and, and_true, true_or, or_true, or_false, false_or, not_true_eq_false, not_false_eq_true, Nat.reduceLT, am_dS, am_dP, am_d1, Nat.reduceSub, Nat.reduceMul, ne_eq, Nat.reduceBEq, Nat.reduceAdd, Nat.reduceLeDiff, Nat.reduceEqDiff, and_self, and_false, false_and, if_true, if_false, am_nb, am_nb0, am_nb1, am_lc1, am_lc2, am_lc3, am_b0, am_b1, am_10, am_c8, am_c16, am_c24, am_c32, am_c40, am_c48, am_c56, am_c64, am_c72, Nat.add_zero, Bool.false_eq_true, Nat.zero_le, hmν, ww, gX3_readRule_28]
      exact hK1 p _ (by omega) hr (Fr.I (Fr.I hF0 ⟨rfl, by omega⟩) ⟨rfl, by omega⟩) h4 h17 rfl
    | inr fb =>
      obtain ⟨f, b⟩ := fb
      rw [hpp] at hle2
      have hb40 : b ≤ min t 40 := hle2
      rw [okM_inr]
      have hT1 := hT0.go (k := b) (by omega)
      have ww := wX3_wasRight (d := d + 77) (K := fun r1 μ1 => am_nr r1 ∧ am_Wp (d + 80) mX3_readRule 28 [.ref 54] (r1.toList ++ []) μ1 K) hT1
      refine ⟨trivial, ?_⟩
      by_cases g : b < t
      · have hr : rdR (chM (am_I μ 56) t 40) t = .inl b := by unfold rdR; rw [if_neg h0, hpp]; exact if_pos g
        simp only [g, not_true_eq_false, and_false, if_false, and_true, if_true] at ww
        simp only [Option.toList_some, List.cons_append, List.nil_append, gX3_readRule_23, gX3_readRule_24, gX3_readRule_25, am_kill_int, am_kill_ref, am_kill_null, am_kill_F, am_kill_long, am_cat_n, am_cat_i, am_cat_r, am_cat_0, am_cat_l, am_nr_n, am_nr_i, am_nr_r, am_nr_0, am_nr_l, Option.toList_some, Option.toList_none, List.nil_append, List.cons_append, va_rf_s, va_rf_n, am_I_sR, am_I_sL, am_R_sI, am_R_sL, am_L_sI, am_L_sR, am_k_sI, am_k_sR, am_k_sL, am_n_sI, am_n_sR, am_n_sL, true_and, and_true, true_or, or_true, or_false, false_or, not_true_eq_false, not_false_eq_true, Nat.reduceLT, am_dS, am_dP, am_d1, Nat.reduceSub, Nat.reduceMul, ne_eq, Nat.reduceBEq, Nat.reduceAdd, Nat.reduceLeDiff, Nat.reduceEqDiff, and_self, and_false, false_and, if_true, if_false, am_nb, am_nb0, am_nb1, am_lc1, am_lc2, am_lc3, am_b0, am_b1, am_10, am_c8, am_c16, am_c24, am_c32, am_c40, am_c48, am_c56, am_c64, am_c72, Nat.add_zero, Bool.false_eq_true, Nat.zero_le, hmν, ww, gX3_readRule_28]
        exact hK1 b _ (by omega) hr (Fr.I (Fr.I hF0 ⟨rfl, by omega⟩) ⟨rfl, by omega⟩) h4 h17 rfl
      · have hr : rdR (chM (am_I μ 56) t 40) t = .inr (some f) := by unfold rdR; rw [if_neg h0, hpp]; exact if_neg g
        simp only [g, not_false_eq_true, and_false, if_false, and_true, if_true] at ww
        simp only [Option.toList_some, List.cons_append, List.nil_append, gX3_readRule_23, gX3_readRule_24, gX3_readRule_25, am_kill_int, am_kill_ref, am_kill_null, am_kill_F, am_kill_long, am_cat_n, am_cat_i, am_cat_r, am_cat_0, am_cat_l, am_nr_n, am_nr_i, am_nr_r, am_nr_0, am_nr_l, Option.toList_some, Option.toList_none, List.nil_append, List.cons_append, va_rf_s, va_rf_n, am_I_sR, am_I_sL, am_R_sI, am_R_sL, am_L_sI, am_L_sR, am_k_sI, am_k_sR, am_k_sL, am_n_sI, am_n_sR, am_n_sL, true_and, and_true, true_or, or_true, or_false, false_or, not_true_eq_false, not_false_eq_true, Nat.reduceLT, am_dS, am_dP, am_d1, Nat.reduceSub, Nat.reduceMul, ne_eq, Nat.reduceBEq, Nat.reduceAdd, Nat.reduceLeDiff, Nat.reduceEqDiff, and_self, and_false, false_and, if_true, if_false, am_nb, am_nb0, am_nb1, am_lc1, am_lc2, am_lc3, am_b0, am_b1, am_10, am_c8, am_c16, am_c24, am_c32, am_c40, am_c48, am_c56, am_c64, am_c72, Nat.add_zero, Bool.false_eq_true, Nat.zero_le, hmν, ww, gX3_readRule_28]
        exact hK2 (some f) _ hr (Fr.I hF0 ⟨rfl, by omega⟩) h4 h17
end TXV
