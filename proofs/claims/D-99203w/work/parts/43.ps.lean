/-! the rule's text, read: a pure parser; the model reads and evaluates by it -/
set_option maxRecDepth 100000
section PS
variable {d : Nat} {μ ν : am_M} {K : Option Value → am_M → Prop} {x y z c w : Int32} {h N j i k r L a ln tp : Nat} {v : Int32}
abbrev PF : Type := (Nat → Int32) → Int32
abbrev PR : Type := Nat ⊕ (PF × Nat)
def isLt (x : Int32) : Bool := decide (x = 97 ∨ x = 99 ∨ x = 100 ∨ x = 107 ∨ x = 110 ∨ x = 111 ∨ x = 115 ∨ x = 120)
/-- the acts of a rank: comparing, adding, multiplying -/
def isOp (m : Nat) (x : Int32) : Bool := if m = 0 then decide (x = 60 ∨ x = 62 ∨ x = 61) else if m = 1 then decide (x = 43 ∨ x = 45) else decide (x = 42 ∨ x = 47)
def pT (H T : Nat → Nat → PR) (ch : Nat → Int32) (a dp : Nat) : PR :=
  if ch a = 45 then (match T (a + 1) dp with
    | .inl p => .inl p
    | .inr (f, b) => .inr (fun e => - f e, b))
  else if dgB (ch a) = true then .inr (fun _ => (nuF ch 2 (a + 1) (ch a - 48)).1, (nuF ch 2 (a + 1) (ch a - 48)).2)
  else if isLt (ch a) = true then .inr (fun e => e (ltr (ch a)), a + 1)
  else if ch a = 40 ∧ dp < 4 then (match H (a + 1) (dp + 1) with
    | .inl p => .inl p
    | .inr (f, b) => if ch b = 41 then .inr (f, b + 1) else .inl b)
  else .inl a
def pL (nx : Nat → PR) (m : Nat) (ch : Nat → Int32) : Nat → PF → Nat → PR
  | 0, f, b => .inr (f, b)
  | n + 1, f, b => if isOp m (ch b) = true then (match nx (b + 1) with
    | .inl p => .inl p
    | .inr (g, b2) => if m = 0 then .inr (fun e => actI (ch b) (f e) (g e), b2) else pL nx m ch n (fun e => actI (ch b) (f e) (g e)) b2) else .inr (f, b)
/-- modes: 3 a thing, 2 products, 1 sums, 0 comparisons -/
def pP (ch : Nat → Int32) : Nat → Nat → Nat → Nat → PR
  | 0, _, a, _ => .inl a
  | n + 1, m, a, dp => if m = 3 then pT (pP ch n 0) (pP ch n 3) ch a dp else (match pP ch n (m + 1) a dp with
    | .inl p => .inl p
    | .inr (f, b) => pL (fun b => pP ch n (m + 1) b dp) m ch 41 f b)
def ltM (x : Int32) : Int32 := if x = 99 then 0 else if x = 110 then 1 else if x = 107 then 2 else if x = 111 then 3 else if x = 115 then 4 else if x = 97 then 5 else if x = 120 then 6 else if x = 100 then 7 else -1
theorem wX3_letterOf : am_Wp d mX3_letterOf 0 [.int x] [] μ K ↔ K (some (.int (ltM x))) μ := by
  unfold ltM
  by_cases e99 : x = 99
  · subst e99
    simp (decide := true) only [gX3_letterOf_0, gX3_letterOf_1, gX3_letterOf_3, gX3_letterOf_6, gX3_letterOf_7, gX3_letterOf_10, gX3_letterOf_11, gX3_letterOf_13, gX3_letterOf_16, gX3_letterOf_17, gX3_letterOf_20, gX3_letterOf_21, gX3_letterOf_23, gX3_letterOf_26, gX3_letterOf_27, gX3_letterOf_30, gX3_letterOf_31, gX3_letterOf_33, gX3_letterOf_36, gX3_letterOf_37, gX3_letterOf_40, gX3_letterOf_41, gX3_letterOf_43, gX3_letterOf_46, gX3_letterOf_47, gX3_letterOf_50, gX3_letterOf_51, gX3_letterOf_53, gX3_letterOf_56, gX3_letterOf_57, gX3_letterOf_60, gX3_letterOf_61, gX3_letterOf_63, gX3_letterOf_66, gX3_letterOf_68, gX3_letterOf_71, gX3_letterOf_72, gX3_letterOf_74, gX3_letterOf_77, gX3_letterOf_79, gX3_letterOf_82, gX3_letterOf_83, am_kill_int, am_kill_ref, am_kill_null, am_kill_F, am_kill_long, am_cat_n, am_cat_i, am_cat_r, am_cat_0, am_cat_l, am_nr_n, am_nr_i, am_nr_r, am_nr_0, am_nr_l, Option.toList_some, Option.toList_none, List.nil_append, List.cons_append, va_rf_s, va_rf_n, am_II, am_I_sR, am_I_sL, am_R_sI, am_RR, am_R_sL, am_L_sI, am_L_sR, am_LL, am_k_sI, am_k_sR, am_k_sL, am_n_sI, am_n_sR, am_n_sL, true_and, and_true, true_or, or_true, or_false, false_or, not_true_eq_false, not_false_eq_true, Nat.reduceLT, am_dS, am_dP, am_d1, Nat.reduceSub, Nat.reduceMul, ne_eq, Nat.reduceBEq, Nat.reduceAdd, Nat.reduceLeDiff, Nat.reduceEqDiff, and_self, and_false, false_and, if_true, if_false, am_nb, am_nb0, am_nb1, am_lc1, am_lc2, am_lc3, am_b0, am_b1, am_10, am_c8, am_c16, am_c24, am_c32, am_c40, am_c48, am_c56, am_c64, am_c72, Nat.add_zero, Bool.false_eq_true, Nat.zero_le]
  by_cases e110 : x = 110
  · subst e110
    simp (decide := true) only [gX3_letterOf_0, gX3_letterOf_1, gX3_letterOf_3, gX3_letterOf_6, gX3_letterOf_7, gX3_letterOf_10, gX3_letterOf_11, gX3_letterOf_13, gX3_letterOf_16, gX3_letterOf_17, gX3_letterOf_20, gX3_letterOf_21, gX3_letterOf_23, gX3_letterOf_26, gX3_letterOf_27, gX3_letterOf_30, gX3_letterOf_31, gX3_letterOf_33, gX3_letterOf_36, gX3_letterOf_37, gX3_letterOf_40, gX3_letterOf_41, gX3_letterOf_43, gX3_letterOf_46, gX3_letterOf_47, gX3_letterOf_50, gX3_letterOf_51, gX3_letterOf_53, gX3_letterOf_56, gX3_letterOf_57, gX3_letterOf_60, gX3_letterOf_61, gX3_letterOf_63, gX3_letterOf_66, gX3_letterOf_68, gX3_letterOf_71, gX3_letterOf_72, gX3_letterOf_74, gX3_letterOf_77, gX3_letterOf_79, gX3_letterOf_82, gX3_letterOf_83, am_kill_int, am_kill_ref, am_kill_null, am_kill_F, am_kill_long, am_cat_n, am_cat_i, am_cat_r, am_cat_0, am_cat_l, am_nr_n, am_nr_i, am_nr_r, am_nr_0, am_nr_l, Option.toList_some, Option.toList_none, List.nil_append, List.cons_append, va_rf_s, va_rf_n, am_II, am_I_sR, am_I_sL, am_R_sI, am_RR, am_R_sL, am_L_sI, am_L_sR, am_LL, am_k_sI, am_k_sR, am_k_sL, am_n_sI, am_n_sR, am_n_sL, true_and, and_true, true_or, or_true, or_false, false_or, not_true_eq_false, not_false_eq_true, Nat.reduceLT, am_dS, am_dP, am_d1, Nat.reduceSub, Nat.reduceMul, ne_eq, Nat.reduceBEq, Nat.reduceAdd, Nat.reduceLeDiff, Nat.reduceEqDiff, and_self, and_false, false_and, if_true, if_false, am_nb, am_nb0, am_nb1, am_lc1, am_lc2, am_lc3, am_b0, am_b1, am_10, am_c8, am_c16, am_c24, am_c32, am_c40, am_c48, am_c56, am_c64, am_c72, Nat.add_zero, Bool.false_eq_true, Nat.zero_le]
  by_cases e107 : x = 107
  · subst e107
    simp (decide := true) only [gX3_letterOf_0, gX3_letterOf_1, gX3_letterOf_3, gX3_letterOf_6, gX3_letterOf_7, gX3_letterOf_10, gX3_letterOf_11, gX3_letterOf_13, gX3_letterOf_16, gX3_letterOf_17, gX3_letterOf_20, gX3_letterOf_21, gX3_letterOf_23, gX3_letterOf_26, gX3_letterOf_27, gX3_letterOf_30, gX3_letterOf_31, gX3_letterOf_33, gX3_letterOf_36, gX3_letterOf_37, gX3_letterOf_40, gX3_letterOf_41, gX3_letterOf_43, gX3_letterOf_46, gX3_letterOf_47, gX3_letterOf_50, gX3_letterOf_51, gX3_letterOf_53, gX3_letterOf_56, gX3_letterOf_57, gX3_letterOf_60, gX3_letterOf_61, gX3_letterOf_63, gX3_letterOf_66, gX3_letterOf_68, gX3_letterOf_71, gX3_letterOf_72, gX3_letterOf_74, gX3_letterOf_77, gX3_letterOf_79, gX3_letterOf_82, gX3_letterOf_83, am_kill_int, am_kill_ref, am_kill_null, am_kill_F, am_kill_long, am_cat_n, am_cat_i, am_cat_r, am_cat_0, am_cat_l, am_nr_n, am_nr_i, am_nr_r, am_nr_0, am_nr_l, Option.toList_some, Option.toList_none, List.nil_append, List.cons_append, va_rf_s, va_rf_n, am_II, am_I_sR, am_I_sL, am_R_sI, am_RR, am_R_sL, am_L_sI, am_L_sR, am_LL, am_k_sI, am_k_sR, am_k_sL, am_n_sI, am_n_sR, am_n_sL, true_and, and_true, true_or, or_true, or_false, false_or, not_true_eq_false, not_false_eq_true, Nat.reduceLT, am_dS, am_dP, am_d1, Nat.reduceSub, Nat.reduceMul, ne_eq, Nat.reduceBEq, Nat.reduceAdd, Nat.reduceLeDiff, Nat.reduceEqDiff, and_self, and_false, false_and, if_true, if_false, am_nb, am_nb0, am_nb1, am_lc1, am_lc2, am_lc3, am_b0, am_b1, am_10, am_c8, am_c16, am_c24, am_c32, am_c40, am_c48, am_c56, am_c64, am_c72, Nat.add_zero, Bool.false_eq_true, Nat.zero_le]
  by_cases e111 : x = 111
  · subst e111
    simp (decide := true) only [gX3_letterOf_0, gX3_letterOf_1, gX3_letterOf_3, gX3_letterOf_6, gX3_letterOf_7, gX3_letterOf_10, gX3_letterOf_11, gX3_letterOf_13, gX3_letterOf_16, gX3_letterOf_17, gX3_letterOf_20, gX3_letterOf_21, gX3_letterOf_23, gX3_letterOf_26, gX3_letterOf_27, gX3_letterOf_30, gX3_letterOf_31, gX3_letterOf_33, gX3_letterOf_36, gX3_letterOf_37, gX3_letterOf_40, gX3_letterOf_41, gX3_letterOf_43, gX3_letterOf_46, gX3_letterOf_47, gX3_letterOf_50, gX3_letterOf_51, gX3_letterOf_53, gX3_letterOf_56, gX3_letterOf_57, gX3_letterOf_60, gX3_letterOf_61, gX3_letterOf_63, gX3_letterOf_66, gX3_letterOf_68, gX3_letterOf_71, gX3_letterOf_72, gX3_letterOf_74, gX3_letterOf_77, gX3_letterOf_79, gX3_letterOf_82, gX3_letterOf_83, am_kill_int, am_kill_ref, am_kill_null, am_kill_F, am_kill_long, am_cat_n, am_cat_i, am_cat_r, am_cat_0, am_cat_l, am_nr_n, am_nr_i, am_nr_r, am_nr_0, am_nr_l, Option.toList_some, Option.toList_none, List.nil_append, List.cons_append, va_rf_s, va_rf_n, am_II, am_I_sR, am_I_sL, am_R_sI, am_RR, am_R_sL, am_L_sI, am_L_sR, am_LL, am_k_sI, am_k_sR, am_k_sL, am_n_sI, am_n_sR, am_n_sL, true_and, and_true, true_or, or_true, or_false, false_or, not_true_eq_false, not_false_eq_true, Nat.reduceLT, am_dS, am_dP, am_d1, Nat.reduceSub, Nat.reduceMul, ne_eq, Nat.reduceBEq, Nat.reduceAdd, Nat.reduceLeDiff, Nat.reduceEqDiff, and_self, and_false, false_and, if_true, if_false, am_nb, am_nb0, am_nb1, am_lc1, am_lc2, am_lc3, am_b0, am_b1, am_10, am_c8, am_c16, am_c24, am_c32, am_c40, am_c48, am_c56, am_c64, am_c72, Nat.add_zero, Bool.false_eq_true, Nat.zero_le]
  by_cases e115 : x = 115
  · subst e115
    simp (decide := true) only [gX3_letterOf_0, gX3_letterOf_1, gX3_letterOf_3, gX3_letterOf_6, gX3_letterOf_7, gX3_letterOf_10, gX3_letterOf_11, gX3_letterOf_13, gX3_letterOf_16, gX3_letterOf_17, gX3_letterOf_20, gX3_letterOf_21, gX3_letterOf_23, gX3_letterOf_26, gX3_letterOf_27, gX3_letterOf_30, gX3_letterOf_31, gX3_letterOf_33, gX3_letterOf_36, gX3_letterOf_37, gX3_letterOf_40, gX3_letterOf_41, gX3_letterOf_43, gX3_letterOf_46, gX3_letterOf_47, gX3_letterOf_50, gX3_letterOf_51, gX3_letterOf_53, gX3_letterOf_56, gX3_letterOf_57, gX3_letterOf_60, gX3_letterOf_61, gX3_letterOf_63, gX3_letterOf_66, gX3_letterOf_68, gX3_letterOf_71, gX3_letterOf_72, gX3_letterOf_74, gX3_letterOf_77, gX3_letterOf_79, gX3_letterOf_82, gX3_letterOf_83, am_kill_int, am_kill_ref, am_kill_null, am_kill_F, am_kill_long, am_cat_n, am_cat_i, am_cat_r, am_cat_0, am_cat_l, am_nr_n, am_nr_i, am_nr_r, am_nr_0, am_nr_l, Option.toList_some, Option.toList_none, List.nil_append, List.cons_append, va_rf_s, va_rf_n, am_II, am_I_sR, am_I_sL, am_R_sI, am_RR, am_R_sL, am_L_sI, am_L_sR, am_LL, am_k_sI, am_k_sR, am_k_sL, am_n_sI, am_n_sR, am_n_sL, true_and, and_true, true_or, or_true, or_false, false_or, not_true_eq_false, not_false_eq_true, Nat.reduceLT, am_dS, am_dP, am_d1, Nat.reduceSub, Nat.reduceMul, ne_eq, Nat.reduceBEq, Nat.reduceAdd, Nat.reduceLeDiff, Nat.reduceEqDiff, and_self, and_false, false_and, if_true, if_false, am_nb, am_nb0, am_nb1, am_lc1, am_lc2, am_lc3, am_b0, am_b1, am_10, am_c8, am_c16, am_c24, am_c32, am_c40, am_c48, am_c56, am_c64, am_c72, Nat.add_zero, Bool.false_eq_true, Nat.zero_le]
  by_cases e97 : x = 97
  · subst e97
    simp (decide := true) only [gX3_letterOf_0, gX3_letterOf_1, gX3_letterOf_3, gX3_letterOf_6, gX3_letterOf_7, gX3_letterOf_10, gX3_letterOf_11, gX3_letterOf_13, gX3_letterOf_16, gX3_letterOf_17, gX3_letterOf_20, gX3_letterOf_21, gX3_letterOf_23, gX3_letterOf_26, gX3_letterOf_27, gX3_letterOf_30, gX3_letterOf_31, gX3_letterOf_33, gX3_letterOf_36, gX3_letterOf_37, gX3_letterOf_40, gX3_letterOf_41, gX3_letterOf_43, gX3_letterOf_46, gX3_letterOf_47, gX3_letterOf_50, gX3_letterOf_51, gX3_letterOf_53, gX3_letterOf_56, gX3_letterOf_57, gX3_letterOf_60, gX3_letterOf_61, gX3_letterOf_63, gX3_letterOf_66, gX3_letterOf_68, gX3_letterOf_71, gX3_letterOf_72, gX3_letterOf_74, gX3_letterOf_77, gX3_letterOf_79, gX3_letterOf_82, gX3_letterOf_83, am_kill_int, am_kill_ref, am_kill_null, am_kill_F, am_kill_long, am_cat_n, am_cat_i, am_cat_r, am_cat_0, am_cat_l, am_nr_n, am_nr_i, am_nr_r, am_nr_0, am_nr_l, Option.toList_some, Option.toList_none, List.nil_append, List.cons_append, va_rf_s, va_rf_n, am_II, am_I_sR, am_I_sL, am_R_sI, am_RR, am_R_sL, am_L_sI, am_L_sR, am_LL, am_k_sI, am_k_sR, am_k_sL, am_n_sI, am_n_sR, am_n_sL, true_and, and_true, true_or, or_true, or_false, false_or, not_true_eq_false, not_false_eq_true, Nat.reduceLT, am_dS, am_dP, am_d1, Nat.reduceSub, Nat.reduceMul, ne_eq, Nat.reduceBEq, Nat.reduceAdd, Nat.reduceLeDiff, Nat.reduceEqDiff, and_self, and_false, false_and, if_true, if_false, am_nb, am_nb0, am_nb1, am_lc1, am_lc2, am_lc3, am_b0, am_b1, am_10, am_c8, am_c16, am_c24, am_c32, am_c40, am_c48, am_c56, am_c64, am_c72, Nat.add_zero, Bool.false_eq_true, Nat.zero_le]
  by_cases e120 : x = 120
  · subst e120
    simp (decide := true) only [gX3_letterOf_0, gX3_letterOf_1, gX3_letterOf_3, gX3_letterOf_6, gX3_letterOf_7, gX3_letterOf_10, gX3_letterOf_11, gX3_letterOf_13, gX3_letterOf_16, gX3_letterOf_17, gX3_letterOf_20, gX3_letterOf_21, gX3_letterOf_23, gX3_letterOf_26, gX3_letterOf_27, gX3_letterOf_30, gX3_letterOf_31, gX3_letterOf_33, gX3_letterOf_36, gX3_letterOf_37, gX3_letterOf_40, gX3_letterOf_41, gX3_letterOf_43, gX3_letterOf_46, gX3_letterOf_47, gX3_letterOf_50, gX3_letterOf_51, gX3_letterOf_53, gX3_letterOf_56, gX3_letterOf_57, gX3_letterOf_60, gX3_letterOf_61, gX3_letterOf_63, gX3_letterOf_66, gX3_letterOf_68, gX3_letterOf_71, gX3_letterOf_72, gX3_letterOf_74, gX3_letterOf_77, gX3_letterOf_79, gX3_letterOf_82, gX3_letterOf_83, am_kill_int, am_kill_ref, am_kill_null, am_kill_F, am_kill_long, am_cat_n, am_cat_i, am_cat_r, am_cat_0, am_cat_l, am_nr_n, am_nr_i, am_nr_r, am_nr_0, am_nr_l, Option.toList_some, Option.toList_none, List.nil_append, List.cons_append, va_rf_s, va_rf_n, am_II, am_I_sR, am_I_sL, am_R_sI, am_RR, am_R_sL, am_L_sI, am_L_sR, am_LL, am_k_sI, am_k_sR, am_k_sL, am_n_sI, am_n_sR, am_n_sL, true_and, and_true, true_or, or_true, or_false, false_or, not_true_eq_false, not_false_eq_true, Nat.reduceLT, am_dS, am_dP, am_d1, Nat.reduceSub, Nat.reduceMul, ne_eq, Nat.reduceBEq, Nat.reduceAdd, Nat.reduceLeDiff, Nat.reduceEqDiff, and_self, and_false, false_and, if_true, if_false, am_nb, am_nb0, am_nb1, am_lc1, am_lc2, am_lc3, am_b0, am_b1, am_10, am_c8, am_c16, am_c24, am_c32, am_c40, am_c48, am_c56, am_c64, am_c72, Nat.add_zero, Bool.false_eq_true, Nat.zero_le]
  by_cases e100 : x = 100
  · subst e100
    simp (decide := true) only [gX3_letterOf_0, gX3_letterOf_1, gX3_letterOf_3, gX3_letterOf_6, gX3_letterOf_7, gX3_letterOf_10, gX3_letterOf_11, gX3_letterOf_13, gX3_letterOf_16, gX3_letterOf_17, gX3_letterOf_20, gX3_letterOf_21, gX3_letterOf_23, gX3_letterOf_26, gX3_letterOf_27, gX3_letterOf_30, gX3_letterOf_31, gX3_letterOf_33, gX3_letterOf_36, gX3_letterOf_37, gX3_letterOf_40, gX3_letterOf_41, gX3_letterOf_43, gX3_letterOf_46, gX3_letterOf_47, gX3_letterOf_50, gX3_letterOf_51, gX3_letterOf_53, gX3_letterOf_56, gX3_letterOf_57, gX3_letterOf_60, gX3_letterOf_61, gX3_letterOf_63, gX3_letterOf_66, gX3_letterOf_68, gX3_letterOf_71, gX3_letterOf_72, gX3_letterOf_74, gX3_letterOf_77, gX3_letterOf_79, gX3_letterOf_82, gX3_letterOf_83, am_kill_int, am_kill_ref, am_kill_null, am_kill_F, am_kill_long, am_cat_n, am_cat_i, am_cat_r, am_cat_0, am_cat_l, am_nr_n, am_nr_i, am_nr_r, am_nr_0, am_nr_l, Option.toList_some, Option.toList_none, List.nil_append, List.cons_append, va_rf_s, va_rf_n, am_II, am_I_sR, am_I_sL, am_R_sI, am_RR, am_R_sL, am_L_sI, am_L_sR, am_LL, am_k_sI, am_k_sR, am_k_sL, am_n_sI, am_n_sR, am_n_sL, true_and, and_true, true_or, or_true, or_false, false_or, not_true_eq_false, not_false_eq_true, Nat.reduceLT, am_dS, am_dP, am_d1, Nat.reduceSub, Nat.reduceMul, ne_eq, Nat.reduceBEq, Nat.reduceAdd, Nat.reduceLeDiff, Nat.reduceEqDiff, and_self, and_false, false_and, if_true, if_false, am_nb, am_nb0, am_nb1, am_lc1, am_lc2, am_lc3, am_b0, am_b1, am_10, am_c8, am_c16, am_c24, am_c32, am_c40, am_c48, am_c56, am_c64, am_c72, Nat.add_zero, Bool.false_eq_true, Nat.zero_le]
  simp only [gX3_letterOf_0, gX3_letterOf_1, gX3_letterOf_3, gX3_letterOf_6, gX3_letterOf_7, gX3_letterOf_10, gX3_letterOf_11, gX3_letterOf_13, gX3_letterOf_16, gX3_letterOf_17, gX3_letterOf_20, gX3_letterOf_21, gX3_letterOf_23, gX3_letterOf_26, gX3_letterOf_27, gX3_letterOf_30, gX3_letterOf_31, gX3_letterOf_33, gX3_letterOf_36, gX3_letterOf_37, gX3_letterOf_40, gX3_letterOf_41, gX3_letterOf_43, gX3_letterOf_46, gX3_letterOf_47, gX3_letterOf_50, gX3_letterOf_51, gX3_letterOf_53, gX3_letterOf_56, gX3_letterOf_57, gX3_letterOf_60, gX3_letterOf_61, gX3_letterOf_63, gX3_letterOf_66, gX3_letterOf_68, gX3_letterOf_71, gX3_letterOf_72, gX3_letterOf_74, gX3_letterOf_77, gX3_letterOf_79, gX3_letterOf_82, gX3_letterOf_83, am_kill_int, am_kill_ref, am_kill_null, am_kill_F, am_kill_long, am_cat_n, am_cat_i, am_cat_r, am_cat_0, am_cat_l, am_nr_n, am_nr_i, am_nr_r, am_nr_0, am_nr_l, Option.toList_some, Option.toList_none, List.nil_append, List.cons_append, va_rf_s, va_rf_n, am_II, am_I_sR, am_I_sL, am_R_sI, am_RR, am_R_sL, am_L_sI, am_L_sR, am_LL, am_k_sI, am_k_sR, am_k_sL, am_n_sI, am_n_sR, am_n_sL, true_and, and_true, true_or, or_true, or_false, false_or, not_true_eq_false, not_false_eq_true, Nat.reduceLT, am_dS, am_dP, am_d1, Nat.reduceSub, Nat.reduceMul, ne_eq, Nat.reduceBEq, Nat.reduceAdd, Nat.reduceLeDiff, Nat.reduceEqDiff, and_self, and_false, false_and, if_true, if_false, am_nb, am_nb0, am_nb1, am_lc1, am_lc2, am_lc3, am_b0, am_b1, am_10, am_c8, am_c16, am_c24, am_c32, am_c40, am_c48, am_c56, am_c64, am_c72, Nat.add_zero, Bool.false_eq_true, Nat.zero_le, e99, e110, e107, e111, e115, e97, e120, e100]
/-- places stay within the text -/
def okP (e : Nat) (p : PR) : Prop := match p with
  | .inl p => p ≤ e
  | .inr (_, b) => b ≤ e
theorem nuF_le {ch : Nat → Int32} {e : Nat} (hch : ∀ i, 0 ≤ ch i → i < e) : ∀ (m a : Nat) (v : Int32), a ≤ e → (nuF ch m a v).2 ≤ e
  | 0, _, _, h => h
  | m + 1, a, v, h => by
    unfold nuF
    split
    · rename_i hd
      have := hch a (by unfold dgB at hd; exact Int32.le_trans (by decide) (of_decide_eq_true hd).1)
      exact nuF_le hch m (a + 1) _ (by omega)
    · exact h
theorem pT_le {ch : Nat → Int32} {e a dp : Nat} {H T : Nat → Nat → PR} (hch : ∀ i, 0 ≤ ch i → i < e) (hH : ∀ b d, b ≤ e → okP e (H b d)) (hT : ∀ b d, b ≤ e → okP e (T b d)) (h : a ≤ e) : okP e (pT H T ch a dp) := by
  unfold pT
  split
  · rename_i c
    have := hch a (by rw [c]; decide)
    have q := hT (a + 1) dp (by omega)
    cases hp : T (a + 1) dp with
    | inl p => rw [hp] at q; exact q
    | inr p => rw [hp] at q; exact q
  · split
    · rename_i hd
      have := hch a (by unfold dgB at hd; exact Int32.le_trans (by decide) (of_decide_eq_true hd).1)
      exact nuF_le hch 2 (a + 1) _ (by omega)
    · split
      · rename_i hd
        have := hch a (by unfold isLt at hd; rcases of_decide_eq_true hd with q | q | q | q | q | q | q | q <;> rw [q] <;> decide)
        show a + 1 ≤ e
        omega
      · split
        · rename_i c
          have := hch a (by rw [c.1]; decide)
          have q := hH (a + 1) (dp + 1) (by omega)
          cases hp : H (a + 1) (dp + 1) with
          | inl p => rw [hp] at q; exact q
          | inr p =>
            rw [hp] at q
            have q' : p.2 ≤ e := q
            show okP e (if ch p.2 = 41 then .inr (p.1, p.2 + 1) else .inl p.2)
            split
            · rename_i c2
              have := hch p.2 (by rw [c2]; decide)
              show p.2 + 1 ≤ e
              omega
            · exact q'
        · exact h
theorem pL_le {ch : Nat → Int32} {e m : Nat} {nx : Nat → PR} (hch : ∀ i, 0 ≤ ch i → i < e) (hx : ∀ b, b ≤ e → okP e (nx b)) : ∀ (n : Nat) (f : PF) (b : Nat), b ≤ e → okP e (pL nx m ch n f b)
  | 0, _, _, h => h
  | n + 1, f, b, h => by
    unfold pL
    split
    · rename_i hd
      have := hch b (by
        unfold isOp at hd
        split at hd
        · rcases of_decide_eq_true hd with q | q | q <;> rw [q] <;> decide
        · split at hd
          · rcases of_decide_eq_true hd with q | q <;> rw [q] <;> decide
          · rcases of_decide_eq_true hd with q | q <;> rw [q] <;> decide)
      have q := hx (b + 1) (by omega)
      cases hp : nx (b + 1) with
      | inl p => rw [hp] at q; exact q
      | inr p =>
        rw [hp] at q
        have q' : p.2 ≤ e := q
        show okP e (if m = 0 then .inr (fun e => actI (ch b) (f e) (p.1 e), p.2) else pL nx m ch n (fun e => actI (ch b) (f e) (p.1 e)) p.2)
        split
        · exact q'
        · exact pL_le hch hx n _ _ q'
    · exact h
theorem pP_le {ch : Nat → Int32} {e : Nat} (hch : ∀ i, 0 ≤ ch i → i < e) : ∀ (n m a dp : Nat), a ≤ e → okP e (pP ch n m a dp)
  | 0, _, _, _, h => h
  | n + 1, m, a, dp, h => by
    unfold pP
    split
    · exact pT_le hch (fun b d q => pP_le hch n 0 b d q) (fun b d q => pP_le hch n 3 b d q) h
    · have q := pP_le hch n (m + 1) a dp h
      cases hp : pP ch n (m + 1) a dp with
      | inl p => rw [hp] at q; exact q
      | inr p =>
        rw [hp] at q
        exact pL_le hch (fun b q => pP_le hch n (m + 1) b dp q) 41 _ _ q
/-- a reader never goes back -/
def okG (s : Nat) (p : PR) : Prop := match p with
  | .inl _ => True
  | .inr (_, b) => s ≤ b
theorem okG.le {s s' : Nat} (h : s' ≤ s) : ∀ {p : PR}, okG s p → okG s' p
  | .inl _, _ => trivial
  | .inr (_, _), q => Nat.le_trans h q
theorem nuF_ge {ch : Nat → Int32} : ∀ (m a : Nat) (v : Int32), a ≤ (nuF ch m a v).2
  | 0, _, _ => Nat.le_refl _
  | m + 1, a, v => by
    unfold nuF
    split
    · exact Nat.le_trans (Nat.le_succ a) (nuF_ge m (a + 1) _)
    · exact Nat.le_refl _
theorem pT_ge {ch : Nat → Int32} {a dp : Nat} {H T : Nat → Nat → PR} (hH : ∀ b d, okG b (H b d)) (hT : ∀ b d, okG b (T b d)) : okG a (pT H T ch a dp) := by
  unfold pT
  split
  · have q := hT (a + 1) dp
    cases hp : T (a + 1) dp with
    | inl p => exact trivial
    | inr p => rw [hp] at q; exact okG.le (Nat.le_succ a) (p := .inr (_, p.2)) q
  · split
    · exact Nat.le_trans (Nat.le_succ a) (nuF_ge 2 (a + 1) _)
    · split
      · exact Nat.le_succ a
      · split
        · have q := hH (a + 1) (dp + 1)
          cases hp : H (a + 1) (dp + 1) with
          | inl p => exact trivial
          | inr p =>
            rw [hp] at q
            have q' : a + 1 ≤ p.2 := q
            show okG a (if ch p.2 = 41 then .inr (p.1, p.2 + 1) else .inl p.2)
            split
            · show a ≤ p.2 + 1
              omega
            · exact trivial
        · exact trivial
theorem pL_ge {ch : Nat → Int32} {m : Nat} {nx : Nat → PR} (hx : ∀ b, okG b (nx b)) : ∀ (n : Nat) (f : PF) (b : Nat), okG b (pL nx m ch n f b)
  | 0, _, b => Nat.le_refl b
  | n + 1, f, b => by
    unfold pL
    split
    · have q := hx (b + 1)
      cases hp : nx (b + 1) with
      | inl p => exact trivial
      | inr p =>
        rw [hp] at q
        have q' : b + 1 ≤ p.2 := q
        show okG b (if m = 0 then .inr (fun e => actI (ch b) (f e) (p.1 e), p.2) else pL nx m ch n (fun e => actI (ch b) (f e) (p.1 e)) p.2)
        split
        · show b ≤ p.2
          omega
        · exact okG.le (by omega) (pL_ge hx n _ _)
    · exact Nat.le_refl b
theorem pP_ge {ch : Nat → Int32} : ∀ (n m a dp : Nat), okG a (pP ch n m a dp)
  | 0, _, _, _ => trivial
  | n + 1, m, a, dp => by
    unfold pP
    split
    · exact pT_ge (fun b d => pP_ge n 0 b d) (fun b d => pP_ge n 3 b d)
    · have q := pP_ge (ch := ch) n (m + 1) a dp
      cases hp : pP ch n (m + 1) a dp with
      | inl p => exact trivial
      | inr p =>
        rw [hp] at q
        exact okG.le q (pL_ge (fun b => pP_ge n (m + 1) b dp) 41 _ _)
end PS
