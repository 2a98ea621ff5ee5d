/-! calls that ask: rests -/
set_option maxRecDepth 100000
section OMV
variable {d : Nat} {μ ν ξ : am_M} {K : Option Value → am_M → Prop} {x y z c w : Int32} {h h' N C j i k r n M b q m t : Nat} {v : Int32} {ru : Option PF} {A o o' : Nat → Int32} {S a T : Nat → Int32} {g p p' : Nat → Bool}
def hG (x y v : Int32) : Int32 := (if y < x then v else 0) - x
def gG (x y v : Int32) : Int32 := (if y < x then 0 else v) - y
def bdR (x y v : Int32) (z : Nat) : Bool := decide (hG x y v < hG (nI z) y v) || decide (gG x y v < gG x (nI z) v)
def alF (p : Nat → Bool) : Nat → Nat → Bool
  | 0, _ => true
  | m + 1, k => if p k = true then false else alF p m (k + 1)
def rsB (v x y : Int32) : Bool := alF (bdR x y v) 10 0
theorem wX1_isRestL {hh gg : Int32} (e1 : hh = hG x y v) (e2 : gg = gG x y v) : ∀ (m k : Nat), k + m = 10 →
    (am_Wp d mX1_isRest 30 [.int x, .int y, .int v, .int hh, .int gg, .int (nI k)] [] μ K ↔ K (some (.int (if alF (bdR x y v) m k = true then 1 else 0))) μ)
  | 0, k, hk => by
    have hlt : (9 : Int32) < nI k := by rw [show (9 : Int32) = nI 9 from rfl]; exact nI_lt (by omega) (by omega)
    rw [gX1_isRest_30]
    simp only [gX1_isRest_32, gX1_isRest_34, gX1_isRest_82, gX1_isRest_83, am_kill_int, am_kill_ref, am_kill_null, am_kill_F, am_kill_long, am_cat_n, am_cat_i, am_cat_r, am_cat_0, am_cat_l, am_nr_n, am_nr_i, am_nr_r, am_nr_0, am_nr_l, Option.toList_some, Option.toList_none, List.nil_append, List.cons_append, va_rf_s, va_rf_n, am_II, am_I_sR, am_I_sL, am_R_sI, am_RR, am_R_sL, am_L_sI, am_L_sR, am_LL, am_k_sI, am_k_sR, am_k_sL, am_n_sI, am_n_sR, am_n_sL, true_and, and_true, true_or, or_true, or_false, false_or, not_true_eq_false, not_false_eq_true, Nat.reduceLT, am_dS, am_dP, am_d1, Nat.reduceSub, Nat.reduceMul, ne_eq, Nat.reduceBEq, Nat.reduceAdd, Nat.reduceLeDiff, Nat.reduceEqDiff, and_self, and_false, false_and, if_true, if_false, am_nb, am_nb0, am_nb1, am_lc1, am_lc2, am_lc3, am_b0, am_b1, am_10, am_c8, am_c16, am_c24, am_c32, am_c40, am_c48, am_c56, am_c64, am_c72, Nat.add_zero, Bool.false_eq_true, Nat.zero_le, hlt, alF]
  | m + 1, k, hk => by
    have hlt : ¬ (9 : Int32) < nI k := by rw [show (9 : Int32) = nI 9 from rfl]; exact nI_nlt (by omega) (by omega)
    have ih := wX1_isRestL e1 e2 m (k + 1) (by omega)
    unfold alF
    subst e1
    subst e2
    rw [gX1_isRest_30]
    by_cases c1 : nI k ≤ y
    all_goals
      by_cases c2 : x ≤ nI k
      all_goals
        have f1 : hG (nI k) y v = (if nI k ≤ y then 0 else v) - nI k := by
          unfold hG
          by_cases e : nI k ≤ y
          · rw [if_pos e, if_neg (Int32.not_lt.mpr e)]
          · rw [if_neg e, if_pos (Int32.not_le.mp e)]
        have f2 : gG x (nI k) v = (if x ≤ nI k then v else 0) - nI k := by
          unfold gG
          by_cases e : x ≤ nI k
          · rw [if_pos e, if_neg (Int32.not_lt.mpr e)]
          · rw [if_neg e, if_pos (Int32.not_le.mp e)]
        simp only [c1, c2, if_true, if_false] at f1 f2
        by_cases q1 : hG x y v < hG (nI k) y v
        · have hb : bdR x y v k = true := by unfold bdR; rw [decide_eq_true q1]; rfl
          rw [f1] at q1
          rw [if_pos hb]
          simp only [gX1_isRest_32, gX1_isRest_34, gX1_isRest_37, gX1_isRest_39, gX1_isRest_40, gX1_isRest_43, gX1_isRest_44, gX1_isRest_47, gX1_isRest_48, gX1_isRest_50, gX1_isRest_51, gX1_isRest_52, gX1_isRest_55, gX1_isRest_56, gX1_isRest_58, gX1_isRest_61, gX1_isRest_62, gX1_isRest_65, gX1_isRest_66, gX1_isRest_68, gX1_isRest_69, gX1_isRest_71, gX1_isRest_74, gX1_isRest_75, gX1_isRest_76, gX1_isRest_79, am_kill_int, am_kill_ref, am_kill_null, am_kill_F, am_kill_long, am_cat_n, am_cat_i, am_cat_r, am_cat_0, am_cat_l, am_nr_n, am_nr_i, am_nr_r, am_nr_0, am_nr_l, Option.toList_some, Option.toList_none, List.nil_append, List.cons_append, va_rf_s, va_rf_n, am_II, am_I_sR, am_I_sL, am_R_sI, am_RR, am_R_sL, am_L_sI, am_L_sR, am_LL, am_k_sI, am_k_sR, am_k_sL, am_n_sI, am_n_sR, am_n_sL, true_and, and_true, true_or, or_true, or_false, false_or, not_true_eq_false, not_false_eq_true, Nat.reduceLT, am_dS, am_dP, am_d1, Nat.reduceSub, Nat.reduceMul, ne_eq, Nat.reduceBEq, Nat.reduceAdd, Nat.reduceLeDiff, Nat.reduceEqDiff, and_self, and_false, false_and, if_true, if_false, am_nb, am_nb0, am_nb1, am_lc1, am_lc2, am_lc3, am_b0, am_b1, am_10, am_c8, am_c16, am_c24, am_c32, am_c40, am_c48, am_c56, am_c64, am_c72, Nat.add_zero, Bool.false_eq_true, Nat.zero_le, hlt, c1, q1]
        · by_cases q2 : gG x y v < gG x (nI k) v
          · have hb : bdR x y v k = true := by unfold bdR; rw [decide_eq_true q2, Bool.or_true]
            rw [f1] at q1
            rw [f2] at q2
            rw [if_pos hb]
            simp only [gX1_isRest_32, gX1_isRest_34, gX1_isRest_37, gX1_isRest_39, gX1_isRest_40, gX1_isRest_43, gX1_isRest_44, gX1_isRest_47, gX1_isRest_48, gX1_isRest_50, gX1_isRest_51, gX1_isRest_52, gX1_isRest_55, gX1_isRest_56, gX1_isRest_58, gX1_isRest_61, gX1_isRest_62, gX1_isRest_65, gX1_isRest_66, gX1_isRest_68, gX1_isRest_69, gX1_isRest_71, gX1_isRest_74, gX1_isRest_75, gX1_isRest_76, gX1_isRest_79, am_kill_int, am_kill_ref, am_kill_null, am_kill_F, am_kill_long, am_cat_n, am_cat_i, am_cat_r, am_cat_0, am_cat_l, am_nr_n, am_nr_i, am_nr_r, am_nr_0, am_nr_l, Option.toList_some, Option.toList_none, List.nil_append, List.cons_append, va_rf_s, va_rf_n, am_II, am_I_sR, am_I_sL, am_R_sI, am_RR, am_R_sL, am_L_sI, am_L_sR, am_LL, am_k_sI, am_k_sR, am_k_sL, am_n_sI, am_n_sR, am_n_sL, true_and, and_true, true_or, or_true, or_false, false_or, not_true_eq_false, not_false_eq_true, Nat.reduceLT, am_dS, am_dP, am_d1, Nat.reduceSub, Nat.reduceMul, ne_eq, Nat.reduceBEq, Nat.reduceAdd, Nat.reduceLeDiff, Nat.reduceEqDiff, and_self, and_false, false_and, if_true, if_false, am_nb, am_nb0, am_nb1, am_lc1, am_lc2, am_lc3, am_b0, am_b1, am_10, am_c8, am_c16, am_c24, am_c32, am_c40, am_c48, am_c56, am_c64, am_c72, Nat.add_zero, Bool.false_eq_true, Nat.zero_le, hlt, c1, c2, q1, Int32.not_le.mpr q2]
          · have hb : ¬ bdR x y v k = true := by unfold bdR; rw [decide_eq_false q1, decide_eq_false q2]; decide
            rw [f1] at q1
            rw [f2] at q2
            rw [if_neg hb]
            simp only [gX1_isRest_32, gX1_isRest_34, gX1_isRest_37, gX1_isRest_39, gX1_isRest_40, gX1_isRest_43, gX1_isRest_44, gX1_isRest_47, gX1_isRest_48, gX1_isRest_50, gX1_isRest_51, gX1_isRest_52, gX1_isRest_55, gX1_isRest_56, gX1_isRest_58, gX1_isRest_61, gX1_isRest_62, gX1_isRest_65, gX1_isRest_66, gX1_isRest_68, gX1_isRest_69, gX1_isRest_71, gX1_isRest_74, gX1_isRest_75, gX1_isRest_76, gX1_isRest_79, am_kill_int, am_kill_ref, am_kill_null, am_kill_F, am_kill_long, am_cat_n, am_cat_i, am_cat_r, am_cat_0, am_cat_l, am_nr_n, am_nr_i, am_nr_r, am_nr_0, am_nr_l, Option.toList_some, Option.toList_none, List.nil_append, List.cons_append, va_rf_s, va_rf_n, am_II, am_I_sR, am_I_sL, am_R_sI, am_RR, am_R_sL, am_L_sI, am_L_sR, am_LL, am_k_sI, am_k_sR, am_k_sL, am_n_sI, am_n_sR, am_n_sL, true_and, and_true, true_or, or_true, or_false, false_or, not_true_eq_false, not_false_eq_true, Nat.reduceLT, am_dS, am_dP, am_d1, Nat.reduceSub, Nat.reduceMul, ne_eq, Nat.reduceBEq, Nat.reduceAdd, Nat.reduceLeDiff, Nat.reduceEqDiff, and_self, and_false, false_and, if_true, if_false, am_nb, am_nb0, am_nb1, am_lc1, am_lc2, am_lc3, am_b0, am_b1, am_10, am_c8, am_c16, am_c24, am_c32, am_c40, am_c48, am_c56, am_c64, am_c72, Nat.add_zero, Bool.false_eq_true, Nat.zero_le, hlt, c1, c2, q1, Int32.not_lt.mp q2, nI_1]
            exact ih
theorem wX1_isRest : am_Wp d mX1_isRest 0 [.int x, .int y, .int v, am_F, am_F, am_F] [] μ K ↔ K (some (.int (if rsB v x y = true then 1 else 0))) μ := by
  have lo := fun hh gg e1 e2 => wX1_isRestL (d := d) (μ := μ) (K := K) (x := x) (y := y) (v := v) (hh := hh) (gg := gg) e1 e2 10 0 (by omega)
  rw [nI_0] at lo
  unfold rsB
  by_cases c1 : y < x
  · have f1 : v - x = hG x y v := by unfold hG; rw [if_pos c1]
    have f2 : 0 - y = gG x y v := by unfold gG; rw [if_pos c1]
    simp only [gX1_isRest_0, gX1_isRest_1, gX1_isRest_2, gX1_isRest_5, gX1_isRest_6, gX1_isRest_9, gX1_isRest_10, gX1_isRest_11, gX1_isRest_12, gX1_isRest_13, gX1_isRest_14, gX1_isRest_15, gX1_isRest_18, gX1_isRest_19, gX1_isRest_22, gX1_isRest_23, gX1_isRest_24, gX1_isRest_25, gX1_isRest_27, gX1_isRest_28, am_kill_int, am_kill_ref, am_kill_null, am_kill_F, am_kill_long, am_cat_n, am_cat_i, am_cat_r, am_cat_0, am_cat_l, am_nr_n, am_nr_i, am_nr_r, am_nr_0, am_nr_l, Option.toList_some, Option.toList_none, List.nil_append, List.cons_append, va_rf_s, va_rf_n, am_II, am_I_sR, am_I_sL, am_R_sI, am_RR, am_R_sL, am_L_sI, am_L_sR, am_LL, am_k_sI, am_k_sR, am_k_sL, am_n_sI, am_n_sR, am_n_sL, true_and, and_true, true_or, or_true, or_false, false_or, not_true_eq_false, not_false_eq_true, Nat.reduceLT, am_dS, am_dP, am_d1, Nat.reduceSub, Nat.reduceMul, ne_eq, Nat.reduceBEq, Nat.reduceAdd, Nat.reduceLeDiff, Nat.reduceEqDiff, and_self, and_false, false_and, if_true, if_false, am_nb, am_nb0, am_nb1, am_lc1, am_lc2, am_lc3, am_b0, am_b1, am_10, am_c8, am_c16, am_c24, am_c32, am_c40, am_c48, am_c56, am_c64, am_c72, Nat.add_zero, Bool.false_eq_true, Nat.zero_le, Int32.not_le.mpr c1]
    exact lo _ _ f1 f2
  · have f1 : 0 - x = hG x y v := by unfold hG; rw [if_neg c1]
    have f2 : v - y = gG x y v := by unfold gG; rw [if_neg c1]
    simp only [gX1_isRest_0, gX1_isRest_1, gX1_isRest_2, gX1_isRest_5, gX1_isRest_6, gX1_isRest_9, gX1_isRest_10, gX1_isRest_11, gX1_isRest_12, gX1_isRest_13, gX1_isRest_14, gX1_isRest_15, gX1_isRest_18, gX1_isRest_19, gX1_isRest_22, gX1_isRest_23, gX1_isRest_24, gX1_isRest_25, gX1_isRest_27, gX1_isRest_28, am_kill_int, am_kill_ref, am_kill_null, am_kill_F, am_kill_long, am_cat_n, am_cat_i, am_cat_r, am_cat_0, am_cat_l, am_nr_n, am_nr_i, am_nr_r, am_nr_0, am_nr_l, Option.toList_some, Option.toList_none, List.nil_append, List.cons_append, va_rf_s, va_rf_n, am_II, am_I_sR, am_I_sL, am_R_sI, am_RR, am_R_sL, am_L_sI, am_L_sR, am_LL, am_k_sI, am_k_sR, am_k_sL, am_n_sI, am_n_sR, am_n_sL, true_and, and_true, true_or, or_true, or_false, false_or, not_true_eq_false, not_false_eq_true, Nat.reduceLT, am_dS, am_dP, am_d1, Nat.reduceSub, Nat.reduceMul, ne_eq, Nat.reduceBEq, Nat.reduceAdd, Nat.reduceLeDiff, Nat.reduceEqDiff, and_self, and_false, false_and, if_true, if_false, am_nb, am_nb0, am_nb1, am_lc1, am_lc2, am_lc3, am_b0, am_b1, am_10, am_c8, am_c16, am_c24, am_c32, am_c40, am_c48, am_c56, am_c64, am_c72, Nat.add_zero, Bool.false_eq_true, Nat.zero_le, Int32.not_lt.mp c1]
    exact lo _ _ f1 f2
theorem wX3_hostGets : am_Wp d mX3_hostGets 0 [.int x, .int y, .int v] [] μ K ↔ K (some (.int (hG x y v))) μ := by
  unfold hG
  by_cases c1 : y < x
  · simp only [gX3_hostGets_0, gX3_hostGets_1, gX3_hostGets_2, gX3_hostGets_5, gX3_hostGets_6, gX3_hostGets_9, gX3_hostGets_10, gX3_hostGets_11, gX3_hostGets_12, am_kill_int, am_kill_ref, am_kill_null, am_kill_F, am_kill_long, am_cat_n, am_cat_i, am_cat_r, am_cat_0, am_cat_l, am_nr_n, am_nr_i, am_nr_r, am_nr_0, am_nr_l, Option.toList_some, Option.toList_none, List.nil_append, List.cons_append, va_rf_s, va_rf_n, am_I_sR, am_I_sL, am_R_sI, am_R_sL, am_L_sI, am_L_sR, am_k_sI, am_k_sR, am_k_sL, am_n_sI, am_n_sR, am_n_sL, true_and, and_true, true_or, or_true, or_false, false_or, not_true_eq_false, not_false_eq_true, Nat.reduceLT, am_dS, am_dP, am_d1, Nat.reduceSub, Nat.reduceMul, ne_eq, Nat.reduceBEq, Nat.reduceAdd, Nat.reduceLeDiff, Nat.reduceEqDiff, and_self, and_false, false_and, if_true, if_false, am_nb, am_nb0, am_nb1, am_lc1, am_lc2, am_lc3, am_b0, am_b1, am_10, am_c8, am_c16, am_c24, am_c32, am_c40, am_c48, am_c56, am_c64, am_c72, Nat.add_zero, Bool.false_eq_true, Nat.zero_le, c1, Int32.not_le.mpr c1]
  · simp only [gX3_hostGets_0, gX3_hostGets_1, gX3_hostGets_2, gX3_hostGets_5, gX3_hostGets_6, gX3_hostGets_9, gX3_hostGets_10, gX3_hostGets_11, gX3_hostGets_12, am_kill_int, am_kill_ref, am_kill_null, am_kill_F, am_kill_long, am_cat_n, am_cat_i, am_cat_r, am_cat_0, am_cat_l, am_nr_n, am_nr_i, am_nr_r, am_nr_0, am_nr_l, Option.toList_some, Option.toList_none, List.nil_append, List.cons_append, va_rf_s, va_rf_n, am_I_sR, am_I_sL, am_R_sI, am_R_sL, am_L_sI, am_L_sR, am_k_sI, am_k_sR, am_k_sL, am_n_sI, am_n_sR, am_n_sL, true_and, and_true, true_or, or_true, or_false, false_or, not_true_eq_false, not_false_eq_true, Nat.reduceLT, am_dS, am_dP, am_d1, Nat.reduceSub, Nat.reduceMul, ne_eq, Nat.reduceBEq, Nat.reduceAdd, Nat.reduceLeDiff, Nat.reduceEqDiff, and_self, and_false, false_and, if_true, if_false, am_nb, am_nb0, am_nb1, am_lc1, am_lc2, am_lc3, am_b0, am_b1, am_10, am_c8, am_c16, am_c24, am_c32, am_c40, am_c48, am_c56, am_c64, am_c72, Nat.add_zero, Bool.false_eq_true, Nat.zero_le, c1, Int32.not_lt.mp c1]
theorem wX3_guestGets : am_Wp d mX3_guestGets 0 [.int x, .int y, .int v] [] μ K ↔ K (some (.int (gG x y v))) μ := by
  unfold gG
  by_cases c1 : y < x
  · simp only [gX3_guestGets_0, gX3_guestGets_1, gX3_guestGets_2, gX3_guestGets_5, gX3_guestGets_6, gX3_guestGets_9, gX3_guestGets_10, gX3_guestGets_11, gX3_guestGets_12, am_kill_int, am_kill_ref, am_kill_null, am_kill_F, am_kill_long, am_cat_n, am_cat_i, am_cat_r, am_cat_0, am_cat_l, am_nr_n, am_nr_i, am_nr_r, am_nr_0, am_nr_l, Option.toList_some, Option.toList_none, List.nil_append, List.cons_append, va_rf_s, va_rf_n, am_I_sR, am_I_sL, am_R_sI, am_R_sL, am_L_sI, am_L_sR, am_k_sI, am_k_sR, am_k_sL, am_n_sI, am_n_sR, am_n_sL, true_and, and_true, true_or, or_true, or_false, false_or, not_true_eq_false, not_false_eq_true, Nat.reduceLT, am_dS, am_dP, am_d1, Nat.reduceSub, Nat.reduceMul, ne_eq, Nat.reduceBEq, Nat.reduceAdd, Nat.reduceLeDiff, Nat.reduceEqDiff, and_self, and_false, false_and, if_true, if_false, am_nb, am_nb0, am_nb1, am_lc1, am_lc2, am_lc3, am_b0, am_b1, am_10, am_c8, am_c16, am_c24, am_c32, am_c40, am_c48, am_c56, am_c64, am_c72, Nat.add_zero, Bool.false_eq_true, Nat.zero_le, c1, Int32.not_le.mpr c1]
  · simp only [gX3_guestGets_0, gX3_guestGets_1, gX3_guestGets_2, gX3_guestGets_5, gX3_guestGets_6, gX3_guestGets_9, gX3_guestGets_10, gX3_guestGets_11, gX3_guestGets_12, am_kill_int, am_kill_ref, am_kill_null, am_kill_F, am_kill_long, am_cat_n, am_cat_i, am_cat_r, am_cat_0, am_cat_l, am_nr_n, am_nr_i, am_nr_r, am_nr_0, am_nr_l, Option.toList_some, Option.toList_none, List.nil_append, List.cons_append, va_rf_s, va_rf_n, am_I_sR, am_I_sL, am_R_sI, am_R_sL, am_L_sI, am_L_sR, am_k_sI, am_k_sR, am_k_sL, am_n_sI, am_n_sR, am_n_sL, true_and, and_true, true_or, or_true, or_false, false_or, not_true_eq_false, not_false_eq_true, Nat.reduceLT, am_dS, am_dP, am_d1, Nat.reduceSub, Nat.reduceMul, ne_eq, Nat.reduceBEq, Nat.reduceAdd, Nat.reduceLeDiff, Nat.reduceEqDiff, and_self, and_false, false_and, if_true, if_false, am_nb, am_nb0, am_nb1, am_lc1, am_lc2, am_lc3, am_b0, am_b1, am_10, am_c8, am_c16, am_c24, am_c32, am_c40, am_c48, am_c56, am_c64, am_c72, Nat.add_zero, Bool.false_eq_true, Nat.zero_le, c1, Int32.not_lt.mp c1]
theorem wX3_isRestL : ∀ (m k : Nat), k + m = 10 →
    (am_Wp (d + 1) mX3_isRest 2 [.int x, .int y, .int v, .int (nI k)] [] μ K ↔ K (some (.int (if alF (bdR x y v) m k = true then 1 else 0))) μ)
  | 0, k, hk => by
    have hlt : (9 : Int32) < nI k := by rw [show (9 : Int32) = nI 9 from rfl]; exact nI_lt (by omega) (by omega)
    rw [gX3_isRest_2]
    simp only [gX3_isRest_3, gX3_isRest_5, gX3_isRest_46, gX3_isRest_47, am_kill_int, am_kill_ref, am_kill_null, am_kill_F, am_kill_long, am_cat_n, am_cat_i, am_cat_r, am_cat_0, am_cat_l, am_nr_n, am_nr_i, am_nr_r, am_nr_0, am_nr_l, Option.toList_some, Option.toList_none, List.nil_append, List.cons_append, va_rf_s, va_rf_n, am_I_sR, am_I_sL, am_R_sI, am_R_sL, am_L_sI, am_L_sR, am_k_sI, am_k_sR, am_k_sL, am_n_sI, am_n_sR, am_n_sL, true_and, and_true, true_or, or_true, or_false, false_or, not_true_eq_false, not_false_eq_true, Nat.reduceLT, am_dS, am_dP, am_d1, Nat.reduceSub, Nat.reduceMul, ne_eq, Nat.reduceBEq, Nat.reduceAdd, Nat.reduceLeDiff, Nat.reduceEqDiff, and_self, and_false, false_and, if_true, if_false, am_nb, am_nb0, am_nb1, am_lc1, am_lc2, am_lc3, am_b0, am_b1, am_10, am_c8, am_c16, am_c24, am_c32, am_c40, am_c48, am_c56, am_c64, am_c72, Nat.add_zero, Bool.false_eq_true, Nat.zero_le, hlt, alF]
  | m + 1, k, hk => by
    have hlt : ¬ (9 : Int32) < nI k := by rw [show (9 : Int32) = nI 9 from rfl]; exact nI_nlt (by omega) (by omega)
    have ih := wX3_isRestL m (k + 1) (by omega)
    unfold alF
    rw [gX3_isRest_2]
    by_cases q1 : hG x y v < hG (nI k) y v
    · have hb : bdR x y v k = true := by unfold bdR; rw [decide_eq_true q1]; rfl
      rw [if_pos hb]
      simp only [gX3_isRest_3, gX3_isRest_5, gX3_isRest_8, gX3_isRest_9, gX3_isRest_10, gX3_isRest_11, gX3_isRest_14, gX3_isRest_15, gX3_isRest_16, gX3_isRest_17, gX3_isRest_20, gX3_isRest_23, gX3_isRest_24, gX3_isRest_25, gX3_isRest_26, gX3_isRest_29, gX3_isRest_30, gX3_isRest_31, gX3_isRest_32, gX3_isRest_35, gX3_isRest_38, gX3_isRest_39, am_kill_int, am_kill_ref, am_kill_null, am_kill_F, am_kill_long, am_cat_n, am_cat_i, am_cat_r, am_cat_0, am_cat_l, am_nr_n, am_nr_i, am_nr_r, am_nr_0, am_nr_l, Option.toList_some, Option.toList_none, List.nil_append, List.cons_append, va_rf_s, va_rf_n, am_I_sR, am_I_sL, am_R_sI, am_R_sL, am_L_sI, am_L_sR, am_k_sI, am_k_sR, am_k_sL, am_n_sI, am_n_sR, am_n_sL, true_and, and_true, true_or, or_true, or_false, false_or, not_true_eq_false, not_false_eq_true, Nat.reduceLT, am_dS, am_dP, am_d1, Nat.reduceSub, Nat.reduceMul, ne_eq, Nat.reduceBEq, Nat.reduceAdd, Nat.reduceLeDiff, Nat.reduceEqDiff, and_self, and_false, false_and, if_true, if_false, am_nb, am_nb0, am_nb1, am_lc1, am_lc2, am_lc3, am_b0, am_b1, am_10, am_c8, am_c16, am_c24, am_c32, am_c40, am_c48, am_c56, am_c64, am_c72, Nat.add_zero, Bool.false_eq_true, Nat.zero_le, hlt, wX3_hostGets, q1]
    · by_cases q2 : gG x y v < gG x (nI k) v
      · have hb : bdR x y v k = true := by unfold bdR; rw [decide_eq_true q2, Bool.or_true]
        rw [if_pos hb]
        simp only [gX3_isRest_3, gX3_isRest_5, gX3_isRest_8, gX3_isRest_9, gX3_isRest_10, gX3_isRest_11, gX3_isRest_14, gX3_isRest_15, gX3_isRest_16, gX3_isRest_17, gX3_isRest_20, gX3_isRest_23, gX3_isRest_24, gX3_isRest_25, gX3_isRest_26, gX3_isRest_29, gX3_isRest_30, gX3_isRest_31, gX3_isRest_32, gX3_isRest_35, gX3_isRest_38, gX3_isRest_39, am_kill_int, am_kill_ref, am_kill_null, am_kill_F, am_kill_long, am_cat_n, am_cat_i, am_cat_r, am_cat_0, am_cat_l, am_nr_n, am_nr_i, am_nr_r, am_nr_0, am_nr_l, Option.toList_some, Option.toList_none, List.nil_append, List.cons_append, va_rf_s, va_rf_n, am_I_sR, am_I_sL, am_R_sI, am_R_sL, am_L_sI, am_L_sR, am_k_sI, am_k_sR, am_k_sL, am_n_sI, am_n_sR, am_n_sL, true_and, and_true, true_or, or_true, or_false, false_or, not_true_eq_false, not_false_eq_true, Nat.reduceLT, am_dS, am_dP, am_d1, Nat.reduceSub, Nat.reduceMul, ne_eq, Nat.reduceBEq, Nat.reduceAdd, Nat.reduceLeDiff, Nat.reduceEqDiff, and_self, and_false, false_and, if_true, if_false, am_nb, am_nb0, am_nb1, am_lc1, am_lc2, am_lc3, am_b0, am_b1, am_10, am_c8, am_c16, am_c24, am_c32, am_c40, am_c48, am_c56, am_c64, am_c72, Nat.add_zero, Bool.false_eq_true, Nat.zero_le, hlt, wX3_hostGets, wX3_guestGets, q1, Int32.not_le.mpr q2]
      · have hb : ¬ bdR x y v k = true := by unfold bdR; rw [decide_eq_false q1, decide_eq_false q2]; decide
        rw [if_neg hb]
        simp only [gX3_isRest_3, gX3_isRest_5, gX3_isRest_8, gX3_isRest_9, gX3_isRest_10, gX3_isRest_11, gX3_isRest_14, gX3_isRest_15, gX3_isRest_16, gX3_isRest_17, gX3_isRest_20, gX3_isRest_23, gX3_isRest_24, gX3_isRest_25, gX3_isRest_26, gX3_isRest_29, gX3_isRest_30, gX3_isRest_31, gX3_isRest_32, gX3_isRest_35, gX3_isRest_38, gX3_isRest_39, gX3_isRest_40, gX3_isRest_43, am_kill_int, am_kill_ref, am_kill_null, am_kill_F, am_kill_long, am_cat_n, am_cat_i, am_cat_r, am_cat_0, am_cat_l, am_nr_n, am_nr_i, am_nr_r, am_nr_0, am_nr_l, Option.toList_some, Option.toList_none, List.nil_append, List.cons_append, va_rf_s, va_rf_n, am_I_sR, am_I_sL, am_R_sI, am_R_sL, am_L_sI, am_L_sR, am_k_sI, am_k_sR, am_k_sL, am_n_sI, am_n_sR, am_n_sL, true_and, and_true, true_or, or_true, or_false, false_or, not_true_eq_false, not_false_eq_true, Nat.reduceLT, am_dS, am_dP, am_d1, Nat.reduceSub, Nat.reduceMul, ne_eq, Nat.reduceBEq, Nat.reduceAdd, Nat.reduceLeDiff, Nat.reduceEqDiff, and_self, and_false, false_and, if_true, if_false, am_nb, am_nb0, am_nb1, am_lc1, am_lc2, am_lc3, am_b0, am_b1, am_10, am_c8, am_c16, am_c24, am_c32, am_c40, am_c48, am_c56, am_c64, am_c72, Nat.add_zero, Bool.false_eq_true, Nat.zero_le, hlt, wX3_hostGets, wX3_guestGets, q1, Int32.not_lt.mp q2, nI_1]
        exact ih
theorem wX3_isRest : am_Wp (d + 1) mX3_isRest 0 [.int x, .int y, .int v, am_F] [] μ K ↔ K (some (.int (if rsB v x y = true then 1 else 0))) μ := by
  have lo := wX3_isRestL (d := d) (μ := μ) (K := K) (x := x) (y := y) (v := v) 10 0 (by omega)
  rw [nI_0] at lo
  simp only [gX3_isRest_0, gX3_isRest_1, am_kill_int, am_kill_ref, am_kill_null, am_kill_F, am_kill_long, am_cat_n, am_cat_i, am_cat_r, am_cat_0, am_cat_l, am_nr_n, am_nr_i, am_nr_r, am_nr_0, am_nr_l, Option.toList_some, Option.toList_none, List.nil_append, List.cons_append, va_rf_s, va_rf_n, am_I_sR, am_I_sL, am_R_sI, am_R_sL, am_L_sI, am_L_sR, am_k_sI, am_k_sR, am_k_sL, am_n_sI, am_n_sR, am_n_sL, true_and, and_true, true_or, or_true, or_false, false_or, not_true_eq_false, not_false_eq_true, Nat.reduceLT, am_dS, am_dP, am_d1, Nat.reduceSub, Nat.reduceMul, ne_eq, Nat.reduceBEq, Nat.reduceAdd, Nat.reduceLeDiff, Nat.reduceEqDiff, and_self, and_false, false_and, if_true, if_false, am_nb, am_nb0, am_nb1, am_lc1, am_lc2, am_lc3, am_b0, am_b1, am_10, am_c8, am_c16, am_c24, am_c32, am_c40, am_c48, am_c56, am_c64, am_c72, Nat.add_zero, Bool.false_eq_true, Nat.zero_le]
  exact lo
/-- how many so far, and the first -/
def rcF (p : Nat → Bool) : Nat → Nat
  | 0 => 0
  | t + 1 => if p t = true then rcF p t + 1 else rcF p t
def rfF (p : Nat → Bool) : Nat → Nat
  | 0 => 0
  | t + 1 => if p t = true ∧ rcF p t = 0 then t else rfF p t
theorem rcF_le : ∀ t, rcF p t ≤ t
  | 0 => Nat.le_refl 0
  | t + 1 => by unfold rcF; have := rcF_le t; split <;> omega
def pR (v : Int32) (t : Nat) : Bool := rsB v (nI (t / 10)) (nI (t % 10))
def vRs (v : Int32) : Int32 := if isN v 21 = true then nI (rcF (pR v) 100) else -1
def pRs (v : Int32) : Option (List Int64) := if isN v 21 = true then (if rcF (pR v) 100 = 0 then some [] else some [(nI (rfF (pR v) 100 / 10)).toInt64, (nI (rfF (pR v) 100 % 10)).toInt64]) else none
/-- what stands told -/
def RI (p : Nat → Bool) (t : Nat) (cnt : Int32) (L : Nat → Int64) : Prop := if rcF p t = 0 then cnt = 0 else cnt = 2 ∧ L 0 = (nI (rfF p t / 10)).toInt64 ∧ L 1 = (nI (rfF p t % 10)).toInt64
theorem e20L' : (20 : Int64) = (nI 21 - 1).toInt64 := by decide
theorem e20I' : (20 : Int32) = nI 21 - 1 := by decide
theorem RI_f {cnt : Int32} {L : Nat → Int64} (hp : ¬ p t = true) (h : RI p t cnt L) : RI p (t + 1) cnt L := by
  have e1 : rcF p (t + 1) = rcF p t := if_neg hp
  have e2 : rfF p (t + 1) = rfF p t := if_neg (fun e => hp e.1)
  unfold RI at h ⊢
  rw [e1, e2]
  exact h
theorem RI_s {cnt : Int32} {L : Nat → Int64} (hp : p t = true) (h0 : ¬ rcF p t = 0) (h : RI p t cnt L) : RI p (t + 1) cnt L := by
  have e1 : rcF p (t + 1) = rcF p t + 1 := if_pos hp
  have e2 : rfF p (t + 1) = rfF p t := if_neg (fun e => h0 e.2)
  unfold RI at h ⊢
  rw [if_neg h0] at h
  rw [e1, e2, if_neg (by omega)]
  exact h
theorem RI_n {cnt : Int32} {L : Nat → Int64} (hp : p t = true) (h0 : rcF p t = 0) (h1 : cnt = 2) (h2 : L 0 = (nI (t / 10)).toInt64) (h3 : L 1 = (nI (t % 10)).toInt64) : RI p (t + 1) cnt L := by
  have e1 : rcF p (t + 1) = rcF p t + 1 := if_pos hp
  have e2 : rfF p (t + 1) = t := if_pos ⟨hp, h0⟩
  unfold RI
  rw [e1, e2, if_neg (by omega)]
  exact ⟨h1, h2, h3⟩
theorem qc_rests (hP : Per N C ru c μ) : QC mX1_rests [.ref 0, .int v, am_F, am_F, am_F] μ (vRs v) (pRs v) := by
  intro d K hK
  have hC := hP.1.1
  have hcu := hC.1
  simp only [cL, spL, Nat.reduceAdd] at hcu
  have hN := hC.2.1
  have h8 := hC.2.2.1
  have hk := hC.1.c
  unfold vRs pRs at hK
  by_cases hx : isN v 21 = true
  · simp only [if_pos hx] at hK
    simp only [gX1_rests_0, gX1_rests_1, gX1_rests_2, gX1_rests_3, gX1_rests_6, gX1_rests_9, gX1_rests_12, gX1_rests_13, gX1_rests_14, gX1_rests_15, gX1_rests_16, gX1_rests_17, gX1_rests_18, gX1_rests_21, gX1_rests_22, am_kill_int, am_kill_ref, am_kill_null, am_kill_F, am_kill_long, am_cat_n, am_cat_i, am_cat_r, am_cat_0, am_cat_l, am_nr_n, am_nr_i, am_nr_r, am_nr_0, am_nr_l, Option.toList_some, Option.toList_none, List.nil_append, List.cons_append, va_rf_s, va_rf_n, am_II, am_I_sR, am_I_sL, am_R_sI, am_RR, am_R_sL, am_L_sI, am_L_sR, am_LL, am_k_sI, am_k_sR, am_k_sL, am_n_sI, am_n_sR, am_n_sL, true_and, and_true, true_or, or_true, or_false, false_or, not_true_eq_false, not_false_eq_true, Nat.reduceLT, am_dS, am_dP, am_d1, Nat.reduceSub, Nat.reduceMul, ne_eq, Nat.reduceBEq, Nat.reduceAdd, Nat.reduceLeDiff, Nat.reduceEqDiff, and_self, and_false, false_and, if_true, if_false, am_nb, am_nb0, am_nb1, am_lc1, am_lc2, am_lc3, am_b0, am_b1, am_10, am_c8, am_c16, am_c24, am_c32, am_c40, am_c48, am_c56, am_c64, am_c72, Nat.add_zero, Bool.false_eq_true, Nat.zero_le, hcu, wX1_in, am_l0, e20L', am_leL, am_isb, hx]
    rw [← nI_0]
    refine am_for (N := 10) (fun x ls ν => (∃ z, ls = [.ref 0, .int v, .int (nI (rcF (pR v) (10 * x))), .int (nI x), z]) ∧ Fw sC μ ν ∧ (∀ i, am_L ν 57 i = am_L μ 57 i) ∧ RI (pR v) (10 * x) (am_I ν 0 40) (am_L ν 53)) ?_ ?_ 10 0 _ _ (by omega) ⟨⟨_, rfl⟩, Fw.refl.I (by unfold sC; omega), fun i => rfl, ?_⟩
    · rintro x ls ν hx10 ⟨⟨z, rfl⟩, hF, hL, hR⟩ ih
      have hlt : ¬ (9 : Int32) < nI x := by rw [show (9 : Int32) = nI 9 from rfl]; exact nI_nlt (by omega) (by omega)
      rw [gX1_rests_23]
      simp only [gX1_rests_24, gX1_rests_26, gX1_rests_29, gX1_rests_30, am_kill_int, am_kill_ref, am_kill_null, am_kill_F, am_kill_long, am_cat_n, am_cat_i, am_cat_r, am_cat_0, am_cat_l, am_nr_n, am_nr_i, am_nr_r, am_nr_0, am_nr_l, Option.toList_some, Option.toList_none, List.nil_append, List.cons_append, va_rf_s, va_rf_n, am_II, am_I_sR, am_I_sL, am_R_sI, am_RR, am_R_sL, am_L_sI, am_L_sR, am_LL, am_k_sI, am_k_sR, am_k_sL, am_n_sI, am_n_sR, am_n_sL, true_and, and_true, true_or, or_true, or_false, false_or, not_true_eq_false, not_false_eq_true, Nat.reduceLT, am_dS, am_dP, am_d1, Nat.reduceSub, Nat.reduceMul, ne_eq, Nat.reduceBEq, Nat.reduceAdd, Nat.reduceLeDiff, Nat.reduceEqDiff, and_self, and_false, false_and, if_true, if_false, am_nb, am_nb0, am_nb1, am_lc1, am_lc2, am_lc3, am_b0, am_b1, am_10, am_c8, am_c16, am_c24, am_c32, am_c40, am_c48, am_c56, am_c64, am_c72, Nat.add_zero, Bool.false_eq_true, Nat.zero_le, hlt]
      rw [← nI_0]
      refine am_for (N := 10) (fun y ls ν => (ls = [.ref 0, .int v, .int (nI (rcF (pR v) (10 * x + y))), .int (nI x), .int (nI y)]) ∧ Fw sC μ ν ∧ (∀ i, am_L ν 57 i = am_L μ 57 i) ∧ RI (pR v) (10 * x + y) (am_I ν 0 40) (am_L ν 53)) ?_ ?_ 10 0 _ _ (by omega) ⟨rfl, hF, hL, hR⟩
      · rintro y ls ν hy10 ⟨rfl, hF, hL, hR⟩ ih2
        have hlt2 : ¬ (9 : Int32) < nI y := by rw [show (9 : Int32) = nI 9 from rfl]; exact nI_nlt (by omega) (by omega)
        have hcν : cL (am_k ν) (am_R ν) := hF.cL hC.1
        simp only [cL, spL, Nat.reduceAdd] at hcν
        have ep : pR v (10 * x + y) = rsB v (nI x) (nI y) := by
          unfold pR; rw [show (10 * x + y) / 10 = x by omega, show (10 * x + y) % 10 = y by omega]
        have hle := rcF_le (p := pR v) (10 * x + y)
        have ih' := fun ν h1 h2 h3 => ih2 [.ref 0, .int v, .int (nI (rcF (pR v) (10 * x + y + 1))), .int (nI x), .int (nI (y + 1))] ν ⟨rfl, h1, h2, h3⟩
        rw [show rcF (pR v) (10 * x + y + 1) = if pR v (10 * x + y) = true then rcF (pR v) (10 * x + y) + 1 else rcF (pR v) (10 * x + y) from rfl] at ih'
        rw [gX1_rests_32]
        by_cases hb : rsB v (nI x) (nI y) = true
        · have hp : pR v (10 * x + y) = true := by rw [ep]; exact hb
          rw [if_pos hp] at ih'
          by_cases h0 : rcF (pR v) (10 * x + y) = 0
          · have hle1 : nI (rcF (pR v) (10 * x + y) + 1) ≤ 1 := nI_le (b := 1) (by omega) (by omega)
            have hcnt : am_I ν 0 40 = 0 := by unfold RI at hR; rw [if_pos h0] at hR; exact hR
            simp only [gX1_rests_34, gX1_rests_36, gX1_rests_39, gX1_rests_40, gX1_rests_42, gX1_rests_43, gX1_rests_46, gX1_rests_49, gX1_rests_52, gX1_rests_55, gX1_rests_56, gX1_rests_57, gX1_rests_60, gX1_rests_63, gX1_rests_64, gX1_rests_65, gX1_rests_66, gX1_rests_69, gX1_rests_70, gX1_rests_72, gX1_rests_73, gX1_rests_76, gX1_rests_79, am_kill_int, am_kill_ref, am_kill_null, am_kill_F, am_kill_long, am_cat_n, am_cat_i, am_cat_r, am_cat_0, am_cat_l, am_nr_n, am_nr_i, am_nr_r, am_nr_0, am_nr_l, Option.toList_some, Option.toList_none, List.nil_append, List.cons_append, va_rf_s, va_rf_n, am_II, am_I_sR, am_I_sL, am_R_sI, am_RR, am_R_sL, am_L_sI, am_L_sR, am_LL, am_k_sI, am_k_sR, am_k_sL, am_n_sI, am_n_sR, am_n_sL, true_and, and_true, true_or, or_true, or_false, false_or, not_true_eq_false, not_false_eq_true, Nat.reduceLT, am_dS, am_dP, am_d1, Nat.reduceSub, Nat.reduceMul, ne_eq, Nat.reduceBEq, Nat.reduceAdd, Nat.reduceLeDiff, Nat.reduceEqDiff, and_self, and_false, false_and, if_true, if_false, am_nb, am_nb0, am_nb1, am_lc1, am_lc2, am_lc3, am_b0, am_b1, am_10, am_c8, am_c16, am_c24, am_c32, am_c40, am_c48, am_c56, am_c64, am_c72, Nat.add_zero, Bool.false_eq_true, Nat.zero_le, hlt2, wX1_isRest, hb, hle1, nI_1, hcν, hcnt, wX1_tells0, wX1_tells1]
            refine ih' _ ((((hF.L (Or.inl rfl)).I (by unfold sC; omega)).L (Or.inl rfl)).I (by unfold sC; omega)) (fun i => ?_) (RI_n (t := 10 * x + y) hp h0 ?_ ?_ ?_)
            · simp only [am_L_sI, am_LL, Nat.reduceEqDiff, false_and, if_false]; exact hL i
            · simp only [am_II, and_self, if_true]
            · simp only [am_L_sI, am_LL, and_self, if_true, Nat.reduceEqDiff, and_false, if_false, show (10 * x + y) / 10 = x by omega]
            · simp only [am_L_sI, am_LL, and_self, if_true, show (10 * x + y) % 10 = y by omega]
          · have hle1 : ¬ nI (rcF (pR v) (10 * x + y) + 1) ≤ 1 := nI_ge (a := 1) (by omega) (by omega)
            simp only [gX1_rests_34, gX1_rests_36, gX1_rests_39, gX1_rests_40, gX1_rests_42, gX1_rests_43, gX1_rests_46, gX1_rests_49, gX1_rests_52, gX1_rests_55, gX1_rests_56, gX1_rests_57, gX1_rests_60, gX1_rests_63, gX1_rests_64, gX1_rests_65, gX1_rests_66, gX1_rests_69, gX1_rests_70, gX1_rests_72, gX1_rests_73, gX1_rests_76, gX1_rests_79, am_kill_int, am_kill_ref, am_kill_null, am_kill_F, am_kill_long, am_cat_n, am_cat_i, am_cat_r, am_cat_0, am_cat_l, am_nr_n, am_nr_i, am_nr_r, am_nr_0, am_nr_l, Option.toList_some, Option.toList_none, List.nil_append, List.cons_append, va_rf_s, va_rf_n, am_II, am_I_sR, am_I_sL, am_R_sI, am_RR, am_R_sL, am_L_sI, am_L_sR, am_LL, am_k_sI, am_k_sR, am_k_sL, am_n_sI, am_n_sR, am_n_sL, true_and, and_true, true_or, or_true, or_false, false_or, not_true_eq_false, not_false_eq_true, Nat.reduceLT, am_dS, am_dP, am_d1, Nat.reduceSub, Nat.reduceMul, ne_eq, Nat.reduceBEq, Nat.reduceAdd, Nat.reduceLeDiff, Nat.reduceEqDiff, and_self, and_false, false_and, if_true, if_false, am_nb, am_nb0, am_nb1, am_lc1, am_lc2, am_lc3, am_b0, am_b1, am_10, am_c8, am_c16, am_c24, am_c32, am_c40, am_c48, am_c56, am_c64, am_c72, Nat.add_zero, Bool.false_eq_true, Nat.zero_le, hlt2, wX1_isRest, hb, hle1, nI_1]
            exact ih' _ hF hL (RI_s (t := 10 * x + y) hp h0 hR)
        · have hp : ¬ pR v (10 * x + y) = true := by rw [ep]; exact hb
          rw [if_neg hp] at ih'
          simp only [gX1_rests_34, gX1_rests_36, gX1_rests_39, gX1_rests_40, gX1_rests_42, gX1_rests_43, gX1_rests_46, gX1_rests_49, gX1_rests_52, gX1_rests_55, gX1_rests_56, gX1_rests_57, gX1_rests_60, gX1_rests_63, gX1_rests_64, gX1_rests_65, gX1_rests_66, gX1_rests_69, gX1_rests_70, gX1_rests_72, gX1_rests_73, gX1_rests_76, gX1_rests_79, am_kill_int, am_kill_ref, am_kill_null, am_kill_F, am_kill_long, am_cat_n, am_cat_i, am_cat_r, am_cat_0, am_cat_l, am_nr_n, am_nr_i, am_nr_r, am_nr_0, am_nr_l, Option.toList_some, Option.toList_none, List.nil_append, List.cons_append, va_rf_s, va_rf_n, am_II, am_I_sR, am_I_sL, am_R_sI, am_RR, am_R_sL, am_L_sI, am_L_sR, am_LL, am_k_sI, am_k_sR, am_k_sL, am_n_sI, am_n_sR, am_n_sL, true_and, and_true, true_or, or_true, or_false, false_or, not_true_eq_false, not_false_eq_true, Nat.reduceLT, am_dS, am_dP, am_d1, Nat.reduceSub, Nat.reduceMul, ne_eq, Nat.reduceBEq, Nat.reduceAdd, Nat.reduceLeDiff, Nat.reduceEqDiff, and_self, and_false, false_and, if_true, if_false, am_nb, am_nb0, am_nb1, am_lc1, am_lc2, am_lc3, am_b0, am_b1, am_10, am_c8, am_c16, am_c24, am_c32, am_c40, am_c48, am_c56, am_c64, am_c72, Nat.add_zero, Bool.false_eq_true, Nat.zero_le, hlt2, wX1_isRest, hb, nI_1]
          exact ih' _ hF hL (RI_f (t := 10 * x + y) hp hR)
      · rintro ls ν ⟨rfl, hF, hL, hR⟩
        have hlt2 : (9 : Int32) < nI 10 := by decide
        have ih' := fun ν h1 h2 h3 => ih [.ref 0, .int v, .int (nI (rcF (pR v) (10 * (x + 1)))), .int (nI (x + 1)), .int (nI 10)] ν ⟨⟨_, rfl⟩, h1, h2, h3⟩
        rw [show 10 * (x + 1) = 10 * x + 10 by omega] at ih'
        rw [gX1_rests_32]
        simp only [gX1_rests_34, gX1_rests_36, gX1_rests_82, gX1_rests_85, am_kill_int, am_kill_ref, am_kill_null, am_kill_F, am_kill_long, am_cat_n, am_cat_i, am_cat_r, am_cat_0, am_cat_l, am_nr_n, am_nr_i, am_nr_r, am_nr_0, am_nr_l, Option.toList_some, Option.toList_none, List.nil_append, List.cons_append, va_rf_s, va_rf_n, am_II, am_I_sR, am_I_sL, am_R_sI, am_RR, am_R_sL, am_L_sI, am_L_sR, am_LL, am_k_sI, am_k_sR, am_k_sL, am_n_sI, am_n_sR, am_n_sL, true_and, and_true, true_or, or_true, or_false, false_or, not_true_eq_false, not_false_eq_true, Nat.reduceLT, am_dS, am_dP, am_d1, Nat.reduceSub, Nat.reduceMul, ne_eq, Nat.reduceBEq, Nat.reduceAdd, Nat.reduceLeDiff, Nat.reduceEqDiff, and_self, and_false, false_and, if_true, if_false, am_nb, am_nb0, am_nb1, am_lc1, am_lc2, am_lc3, am_b0, am_b1, am_10, am_c8, am_c16, am_c24, am_c32, am_c40, am_c48, am_c56, am_c64, am_c72, Nat.add_zero, Bool.false_eq_true, Nat.zero_le, hlt2, nI_1]
        exact ih' ν hF hL hR
    · rintro ls ν ⟨⟨z, rfl⟩, hF, hL, hR⟩
      have hlt2 : (9 : Int32) < nI 10 := by decide
      rw [gX1_rests_23]
      simp only [gX1_rests_24, gX1_rests_26, gX1_rests_88, gX1_rests_89, am_kill_int, am_kill_ref, am_kill_null, am_kill_F, am_kill_long, am_cat_n, am_cat_i, am_cat_r, am_cat_0, am_cat_l, am_nr_n, am_nr_i, am_nr_r, am_nr_0, am_nr_l, Option.toList_some, Option.toList_none, List.nil_append, List.cons_append, va_rf_s, va_rf_n, am_II, am_I_sR, am_I_sL, am_R_sI, am_RR, am_R_sL, am_L_sI, am_L_sR, am_LL, am_k_sI, am_k_sR, am_k_sL, am_n_sI, am_n_sR, am_n_sL, true_and, and_true, true_or, or_true, or_false, false_or, not_true_eq_false, not_false_eq_true, Nat.reduceLT, am_dS, am_dP, am_d1, Nat.reduceSub, Nat.reduceMul, ne_eq, Nat.reduceBEq, Nat.reduceAdd, Nat.reduceLeDiff, Nat.reduceEqDiff, and_self, and_false, false_and, if_true, if_false, am_nb, am_nb0, am_nb1, am_lc1, am_lc2, am_lc3, am_b0, am_b1, am_10, am_c8, am_c16, am_c24, am_c32, am_c40, am_c48, am_c56, am_c64, am_c72, Nat.add_zero, Bool.false_eq_true, Nat.zero_le, hlt2]
      refine hK ν hF ?_ hL
      unfold RI at hR
      by_cases h0 : rcF (pR v) 100 = 0
      · rw [if_pos h0] at hR
        rw [if_pos h0]
        exact ⟨Nat.zero_le _, hR, fun i hi => absurd hi (Nat.not_lt_zero i)⟩
      · rw [if_neg h0] at hR
        rw [if_neg h0]
        exact TC2 hR.1 hR.2.1 hR.2.2
    · have e : rcF (pR v) (10 * 0) = 0 := rfl
      unfold RI
      rw [if_pos e, am_I_sI, if_pos ⟨rfl, rfl⟩]
      exact nI_0
  · simp only [hx, Bool.false_eq_true, if_false] at hK
    simp only [gX1_rests_0, gX1_rests_1, gX1_rests_2, gX1_rests_3, gX1_rests_6, gX1_rests_9, gX1_rests_12, gX1_rests_13, am_kill_int, am_kill_ref, am_kill_null, am_kill_F, am_kill_long, am_cat_n, am_cat_i, am_cat_r, am_cat_0, am_cat_l, am_nr_n, am_nr_i, am_nr_r, am_nr_0, am_nr_l, Option.toList_some, Option.toList_none, List.nil_append, List.cons_append, va_rf_s, va_rf_n, am_II, am_I_sR, am_I_sL, am_R_sI, am_RR, am_R_sL, am_L_sI, am_L_sR, am_LL, am_k_sI, am_k_sR, am_k_sL, am_n_sI, am_n_sR, am_n_sL, true_and, and_true, true_or, or_true, or_false, false_or, not_true_eq_false, not_false_eq_true, Nat.reduceLT, am_dS, am_dP, am_d1, Nat.reduceSub, Nat.reduceMul, ne_eq, Nat.reduceBEq, Nat.reduceAdd, Nat.reduceLeDiff, Nat.reduceEqDiff, and_self, and_false, false_and, if_true, if_false, am_nb, am_nb0, am_nb1, am_lc1, am_lc2, am_lc3, am_b0, am_b1, am_10, am_c8, am_c16, am_c24, am_c32, am_c40, am_c48, am_c56, am_c64, am_c72, Nat.add_zero, Bool.false_eq_true, Nat.zero_le, wX1_in, am_l0, e20L', am_leL, am_isb, hx]
    exact hK μ Fw.refl TC0 (fun _ => rfl)
theorem q5_rests (hP : Per N C ru c μ) : Q5 mX3_rests [.ref 54, .int v, am_F, am_F, am_F] μ (vRs v) (pRs v) := by
  intro d K hK
  have hS := hP.1.2.1
  have hC := hS.1
  have hmu := hC.1
  unfold mL at hmu
  have hN := hC.2.1
  have h8 := hC.2.2.1
  unfold vRs pRs at hK
  by_cases hx : isN v 21 = true
  · simp only [if_pos hx] at hK
    simp only [gX3_rests_5, gX3_rests_6, gX3_rests_7, gX3_rests_9, gX3_rests_12, gX3_rests_15, gX3_rests_16, gX3_rests_17, gX3_rests_18, gX3_rests_19, gX3_rests_20, gX3_rests_21, gX3_rests_24, gX3_rests_25, am_kill_int, am_kill_ref, am_kill_null, am_kill_F, am_kill_long, am_cat_n, am_cat_i, am_cat_r, am_cat_0, am_cat_l, am_nr_n, am_nr_i, am_nr_r, am_nr_0, am_nr_l, Option.toList_some, Option.toList_none, List.nil_append, List.cons_append, va_rf_s, va_rf_n, am_I_sR, am_I_sL, am_R_sI, am_R_sL, am_L_sI, am_L_sR, am_k_sI, am_k_sR, am_k_sL, am_n_sI, am_n_sR, am_n_sL, true_and, and_true, true_or, or_true, or_false, false_or, not_true_eq_false, not_false_eq_true, Nat.reduceLT, am_dS, am_dP, am_d1, Nat.reduceSub, Nat.reduceMul, ne_eq, Nat.reduceBEq, Nat.reduceAdd, Nat.reduceLeDiff, Nat.reduceEqDiff, and_self, and_false, false_and, if_true, if_false, am_nb, am_nb0, am_nb1, am_lc1, am_lc2, am_lc3, am_b0, am_b1, am_10, am_c8, am_c16, am_c24, am_c32, am_c40, am_c48, am_c56, am_c64, am_c72, Nat.add_zero, Bool.false_eq_true, Nat.zero_le, hmu, wX3_in, e20I', am_isb, hx]
    rw [← nI_0]
    refine am_for (N := 10) (fun x ls ν => (∃ z, ls = [.ref 54, .int v, .int (nI (rcF (pR v) (10 * x))), .int (nI x), z]) ∧ Fw sM μ ν ∧ am_I ν 54 17 = 0 ∧ (∀ i, am_L ν 53 i = am_L μ 53 i) ∧ RI (pR v) (10 * x) (am_I ν 54 6) (am_L ν 57)) ?_ ?_ 10 0 _ _ (by omega) ⟨⟨_, rfl⟩, Fw.refl.I (by unfold sM; omega), ?_, fun i => rfl, ?_⟩
    · rintro x ls ν hx10 ⟨⟨z, rfl⟩, hF, h17, hL, hR⟩ ih
      have hlt : ¬ (9 : Int32) < nI x := by rw [show (9 : Int32) = nI 9 from rfl]; exact nI_nlt (by omega) (by omega)
      rw [gX3_rests_26]
      simp only [gX3_rests_27, gX3_rests_29, gX3_rests_32, gX3_rests_33, am_kill_int, am_kill_ref, am_kill_null, am_kill_F, am_kill_long, am_cat_n, am_cat_i, am_cat_r, am_cat_0, am_cat_l, am_nr_n, am_nr_i, am_nr_r, am_nr_0, am_nr_l, Option.toList_some, Option.toList_none, List.nil_append, List.cons_append, va_rf_s, va_rf_n, am_I_sR, am_I_sL, am_R_sI, am_R_sL, am_L_sI, am_L_sR, am_k_sI, am_k_sR, am_k_sL, am_n_sI, am_n_sR, am_n_sL, true_and, and_true, true_or, or_true, or_false, false_or, not_true_eq_false, not_false_eq_true, Nat.reduceLT, am_dS, am_dP, am_d1, Nat.reduceSub, Nat.reduceMul, ne_eq, Nat.reduceBEq, Nat.reduceAdd, Nat.reduceLeDiff, Nat.reduceEqDiff, and_self, and_false, false_and, if_true, if_false, am_nb, am_nb0, am_nb1, am_lc1, am_lc2, am_lc3, am_b0, am_b1, am_10, am_c8, am_c16, am_c24, am_c32, am_c40, am_c48, am_c56, am_c64, am_c72, Nat.add_zero, Bool.false_eq_true, Nat.zero_le, hlt]
      rw [← nI_0]
      refine am_for (N := 10) (fun y ls ν => (ls = [.ref 54, .int v, .int (nI (rcF (pR v) (10 * x + y))), .int (nI x), .int (nI y)]) ∧ Fw sM μ ν ∧ am_I ν 54 17 = 0 ∧ (∀ i, am_L ν 53 i = am_L μ 53 i) ∧ RI (pR v) (10 * x + y) (am_I ν 54 6) (am_L ν 57)) ?_ ?_ 10 0 _ _ (by omega) ⟨rfl, hF, h17, hL, hR⟩
      · rintro y ls ν hy10 ⟨rfl, hF, h17, hL, hR⟩ ih2
        have hlt2 : ¬ (9 : Int32) < nI y := by rw [show (9 : Int32) = nI 9 from rfl]; exact nI_nlt (by omega) (by omega)
        have hmν := hF.mLk hC.1
        unfold mL at hmν
        have ep : pR v (10 * x + y) = rsB v (nI x) (nI y) := by
          unfold pR; rw [show (10 * x + y) / 10 = x by omega, show (10 * x + y) % 10 = y by omega]
        have hle := rcF_le (p := pR v) (10 * x + y)
        have ih' := fun ν h1 h17 h2 h3 => ih2 [.ref 54, .int v, .int (nI (rcF (pR v) (10 * x + y + 1))), .int (nI x), .int (nI (y + 1))] ν ⟨rfl, h1, h17, h2, h3⟩
        rw [show rcF (pR v) (10 * x + y + 1) = if pR v (10 * x + y) = true then rcF (pR v) (10 * x + y) + 1 else rcF (pR v) (10 * x + y) from rfl] at ih'
        rw [gX3_rests_35]
        by_cases hb : rsB v (nI x) (nI y) = true
        · have hp : pR v (10 * x + y) = true := by rw [ep]; exact hb
          rw [if_pos hp] at ih'
          by_cases h0 : rcF (pR v) (10 * x + y) = 0
          · have hcnt : am_I ν 54 6 = 0 := by unfold RI at hR; rw [if_pos h0] at hR; exact hR
            have e0 : nI (rcF (pR v) (10 * x + y)) = 0 := by rw [h0]; rfl
            have e1 : (0 : Int32) + 1 = nI (rcF (pR v) (10 * x + y) + 1) := by rw [h0]; decide
            simp only [gX3_rests_37, gX3_rests_39, gX3_rests_42, gX3_rests_43, gX3_rests_45, gX3_rests_46, gX3_rests_49, gX3_rests_52, gX3_rests_55, gX3_rests_56, gX3_rests_59, gX3_rests_60, gX3_rests_61, gX3_rests_62, gX3_rests_65, gX3_rests_66, gX3_rests_68, gX3_rests_69, gX3_rests_72, gX3_rests_75, gX3_rests_78, am_kill_int, am_kill_ref, am_kill_null, am_kill_F, am_kill_long, am_cat_n, am_cat_i, am_cat_r, am_cat_0, am_cat_l, am_nr_n, am_nr_i, am_nr_r, am_nr_0, am_nr_l, Option.toList_some, Option.toList_none, List.nil_append, List.cons_append, va_rf_s, va_rf_n, am_II, am_I_sR, am_I_sL, am_R_sI, am_RR, am_R_sL, am_L_sI, am_L_sR, am_LL, am_k_sI, am_k_sR, am_k_sL, am_n_sI, am_n_sR, am_n_sL, true_and, and_true, true_or, or_true, or_false, false_or, not_true_eq_false, not_false_eq_true, Nat.reduceLT, am_dS, am_dP, am_d1, Nat.reduceSub, Nat.reduceMul, ne_eq, Nat.reduceBEq, Nat.reduceAdd, Nat.reduceLeDiff, Nat.reduceEqDiff, and_self, and_false, false_and, if_true, if_false, am_nb, am_nb0, am_nb1, am_lc1, am_lc2, am_lc3, am_b0, am_b1, am_10, am_c8, am_c16, am_c24, am_c32, am_c40, am_c48, am_c56, am_c64, am_c72, Nat.add_zero, Bool.false_eq_true, Nat.zero_le, hlt2, wX3_isRest, hb, e0, hmν, hcnt, wX3_tell0, wX3_tell1]
            rw [e1, nI_1]
            refine ih' _ ((((hF.L (Or.inr rfl)).I (by unfold sM; omega)).L (Or.inr rfl)).I (by unfold sM; omega)) ?_ (fun i => ?_) (RI_n (t := 10 * x + y) hp h0 ?_ ?_ ?_)
            · simp only [am_II, am_I_sL, Nat.reduceEqDiff, and_false, if_false]; exact h17
            · simp only [am_L_sI, am_LL, Nat.reduceEqDiff, false_and, if_false]; exact hL i
            · simp only [am_II, and_self, if_true]
            · simp only [am_L_sI, am_LL, and_self, if_true, Nat.reduceEqDiff, and_false, if_false, show (10 * x + y) / 10 = x by omega]
            · simp only [am_L_sI, am_LL, and_self, if_true, show (10 * x + y) % 10 = y by omega]
          · have e0 : ¬ nI (rcF (pR v) (10 * x + y)) = 0 := fun e => by
              have := nI_clamp (n := rcF (pR v) (10 * x + y)) (by omega)
              rw [e] at this
              have z0 : (0 : Int32).toNatClampNeg = 0 := by decide
              omega
            simp only [gX3_rests_37, gX3_rests_39, gX3_rests_42, gX3_rests_43, gX3_rests_45, gX3_rests_46, gX3_rests_49, gX3_rests_52, gX3_rests_55, gX3_rests_56, gX3_rests_59, gX3_rests_60, gX3_rests_61, gX3_rests_62, gX3_rests_65, gX3_rests_66, gX3_rests_68, gX3_rests_69, gX3_rests_72, gX3_rests_75, gX3_rests_78, am_kill_int, am_kill_ref, am_kill_null, am_kill_F, am_kill_long, am_cat_n, am_cat_i, am_cat_r, am_cat_0, am_cat_l, am_nr_n, am_nr_i, am_nr_r, am_nr_0, am_nr_l, Option.toList_some, Option.toList_none, List.nil_append, List.cons_append, va_rf_s, va_rf_n, am_II, am_I_sR, am_I_sL, am_R_sI, am_RR, am_R_sL, am_L_sI, am_L_sR, am_LL, am_k_sI, am_k_sR, am_k_sL, am_n_sI, am_n_sR, am_n_sL, true_and, and_true, true_or, or_true, or_false, false_or, not_true_eq_false, not_false_eq_true, Nat.reduceLT, am_dS, am_dP, am_d1, Nat.reduceSub, Nat.reduceMul, ne_eq, Nat.reduceBEq, Nat.reduceAdd, Nat.reduceLeDiff, Nat.reduceEqDiff, and_self, and_false, false_and, if_true, if_false, am_nb, am_nb0, am_nb1, am_lc1, am_lc2, am_lc3, am_b0, am_b1, am_10, am_c8, am_c16, am_c24, am_c32, am_c40, am_c48, am_c56, am_c64, am_c72, Nat.add_zero, Bool.false_eq_true, Nat.zero_le, hlt2, wX3_isRest, hb, e0, nI_1]
            exact ih' _ hF h17 hL (RI_s (t := 10 * x + y) hp h0 hR)
        · have hp : ¬ pR v (10 * x + y) = true := by rw [ep]; exact hb
          rw [if_neg hp] at ih'
          simp only [gX3_rests_37, gX3_rests_39, gX3_rests_42, gX3_rests_43, gX3_rests_45, gX3_rests_46, gX3_rests_49, gX3_rests_52, gX3_rests_55, gX3_rests_56, gX3_rests_59, gX3_rests_60, gX3_rests_61, gX3_rests_62, gX3_rests_65, gX3_rests_66, gX3_rests_68, gX3_rests_69, gX3_rests_72, gX3_rests_75, gX3_rests_78, am_kill_int, am_kill_ref, am_kill_null, am_kill_F, am_kill_long, am_cat_n, am_cat_i, am_cat_r, am_cat_0, am_cat_l, am_nr_n, am_nr_i, am_nr_r, am_nr_0, am_nr_l, Option.toList_some, Option.toList_none, List.nil_append, List.cons_append, va_rf_s, va_rf_n, am_II, am_I_sR, am_I_sL, am_R_sI, am_RR, am_R_sL, am_L_sI, am_L_sR, am_LL, am_k_sI, am_k_sR, am_k_sL, am_n_sI, am_n_sR, am_n_sL, true_and, and_true, true_or, or_true, or_false, false_or, not_true_eq_false, not_false_eq_true, Nat.reduceLT, am_dS, am_dP, am_d1, Nat.reduceSub, Nat.reduceMul, ne_eq, Nat.reduceBEq, Nat.reduceAdd, Nat.reduceLeDiff, Nat.reduceEqDiff, and_self, and_false, false_and, if_true, if_false, am_nb, am_nb0, am_nb1, am_lc1, am_lc2, am_lc3, am_b0, am_b1, am_10, am_c8, am_c16, am_c24, am_c32, am_c40, am_c48, am_c56, am_c64, am_c72, Nat.add_zero, Bool.false_eq_true, Nat.zero_le, hlt2, wX3_isRest, hb, nI_1]
          exact ih' _ hF h17 hL (RI_f (t := 10 * x + y) hp hR)
      · rintro ls ν ⟨rfl, hF, h17, hL, hR⟩
        have hlt2 : (9 : Int32) < nI 10 := by decide
        have ih' := fun ν h1 h17 h2 h3 => ih [.ref 54, .int v, .int (nI (rcF (pR v) (10 * (x + 1)))), .int (nI (x + 1)), .int (nI 10)] ν ⟨⟨_, rfl⟩, h1, h17, h2, h3⟩
        rw [show 10 * (x + 1) = 10 * x + 10 by omega] at ih'
        rw [gX3_rests_35]
        simp only [gX3_rests_37, gX3_rests_39, gX3_rests_81, gX3_rests_84, am_kill_int, am_kill_ref, am_kill_null, am_kill_F, am_kill_long, am_cat_n, am_cat_i, am_cat_r, am_cat_0, am_cat_l, am_nr_n, am_nr_i, am_nr_r, am_nr_0, am_nr_l, Option.toList_some, Option.toList_none, List.nil_append, List.cons_append, va_rf_s, va_rf_n, am_II, am_I_sR, am_I_sL, am_R_sI, am_RR, am_R_sL, am_L_sI, am_L_sR, am_LL, am_k_sI, am_k_sR, am_k_sL, am_n_sI, am_n_sR, am_n_sL, true_and, and_true, true_or, or_true, or_false, false_or, not_true_eq_false, not_false_eq_true, Nat.reduceLT, am_dS, am_dP, am_d1, Nat.reduceSub, Nat.reduceMul, ne_eq, Nat.reduceBEq, Nat.reduceAdd, Nat.reduceLeDiff, Nat.reduceEqDiff, and_self, and_false, false_and, if_true, if_false, am_nb, am_nb0, am_nb1, am_lc1, am_lc2, am_lc3, am_b0, am_b1, am_10, am_c8, am_c16, am_c24, am_c32, am_c40, am_c48, am_c56, am_c64, am_c72, Nat.add_zero, Bool.false_eq_true, Nat.zero_le, hlt2, nI_1]
        exact ih' ν hF h17 hL hR
    · rintro ls ν ⟨⟨z, rfl⟩, hF, h17, hL, hR⟩
      have hlt2 : (9 : Int32) < nI 10 := by decide
      rw [gX3_rests_26]
      simp only [gX3_rests_27, gX3_rests_29, gX3_rests_87, gX3_rests_88, am_kill_int, am_kill_ref, am_kill_null, am_kill_F, am_kill_long, am_cat_n, am_cat_i, am_cat_r, am_cat_0, am_cat_l, am_nr_n, am_nr_i, am_nr_r, am_nr_0, am_nr_l, Option.toList_some, Option.toList_none, List.nil_append, List.cons_append, va_rf_s, va_rf_n, am_II, am_I_sR, am_I_sL, am_R_sI, am_RR, am_R_sL, am_L_sI, am_L_sR, am_LL, am_k_sI, am_k_sR, am_k_sL, am_n_sI, am_n_sR, am_n_sL, true_and, and_true, true_or, or_true, or_false, false_or, not_true_eq_false, not_false_eq_true, Nat.reduceLT, am_dS, am_dP, am_d1, Nat.reduceSub, Nat.reduceMul, ne_eq, Nat.reduceBEq, Nat.reduceAdd, Nat.reduceLeDiff, Nat.reduceEqDiff, and_self, and_false, false_and, if_true, if_false, am_nb, am_nb0, am_nb1, am_lc1, am_lc2, am_lc3, am_b0, am_b1, am_10, am_c8, am_c16, am_c24, am_c32, am_c40, am_c48, am_c56, am_c64, am_c72, Nat.add_zero, Bool.false_eq_true, Nat.zero_le, hlt2]
      refine hK ν hF h17 ?_ hL
      unfold RI at hR
      by_cases h0 : rcF (pR v) 100 = 0
      · rw [if_pos h0] at hR
        rw [if_pos h0]
        exact ⟨hR, fun i hi => absurd hi (Nat.not_lt_zero i)⟩
      · rw [if_neg h0] at hR
        rw [if_neg h0]
        exact TN2 hR.1 hR.2.1 hR.2.2
    · rw [am_I_sI, if_neg (by omega)]; exact hP.h17
    · have e : rcF (pR v) (10 * 0) = 0 := rfl
      unfold RI
      rw [if_pos e, am_I_sI, if_pos ⟨rfl, rfl⟩]
      exact nI_0
  · simp only [hx, Bool.false_eq_true, if_false] at hK
    simp only [gX3_rests_5, gX3_rests_6, gX3_rests_7, gX3_rests_9, gX3_rests_12, gX3_rests_15, gX3_rests_16, am_kill_int, am_kill_ref, am_kill_null, am_kill_F, am_kill_long, am_cat_n, am_cat_i, am_cat_r, am_cat_0, am_cat_l, am_nr_n, am_nr_i, am_nr_r, am_nr_0, am_nr_l, Option.toList_some, Option.toList_none, List.nil_append, List.cons_append, va_rf_s, va_rf_n, am_I_sR, am_I_sL, am_R_sI, am_R_sL, am_L_sI, am_L_sR, am_k_sI, am_k_sR, am_k_sL, am_n_sI, am_n_sR, am_n_sL, true_and, and_true, true_or, or_true, or_false, false_or, not_true_eq_false, not_false_eq_true, Nat.reduceLT, am_dS, am_dP, am_d1, Nat.reduceSub, Nat.reduceMul, ne_eq, Nat.reduceBEq, Nat.reduceAdd, Nat.reduceLeDiff, Nat.reduceEqDiff, and_self, and_false, false_and, if_true, if_false, am_nb, am_nb0, am_nb1, am_lc1, am_lc2, am_lc3, am_b0, am_b1, am_10, am_c8, am_c16, am_c24, am_c32, am_c40, am_c48, am_c56, am_c64, am_c72, Nat.add_zero, Bool.false_eq_true, Nat.zero_le, hmu, wX3_in, e20I', am_isb, hx]
    exact hK μ Fw.refl hP.h17 TN0 (fun _ => rfl)
theorem op_rests (hI : Inv q μ) : OP q mX1_rests mX3_rests [.ref 0, .int v, am_F, am_F, am_F] [.ref 54, .int v, am_F, am_F, am_F] μ :=
  op_S (V := fun N ru c S => vRs v) (P := fun N ru c S => pRs v) (fun hP => qc_rests hP) (fun d K μ h h' => by simp only [gX3_rests_0, gX3_rests_1, gX3_rests_2, am_kill_int, am_kill_ref, am_kill_null, am_kill_F, am_kill_long, am_cat_n, am_cat_i, am_cat_r, am_cat_0, am_cat_l, am_nr_n, am_nr_i, am_nr_r, am_nr_0, am_nr_l, Option.toList_some, Option.toList_none, List.nil_append, List.cons_append, va_rf_s, va_rf_n, am_I_sR, am_I_sL, am_R_sI, am_R_sL, am_L_sI, am_L_sR, am_k_sI, am_k_sR, am_k_sL, am_n_sI, am_n_sR, am_n_sL, true_and, and_true, true_or, or_true, or_false, false_or, not_true_eq_false, not_false_eq_true, Nat.reduceLT, am_dS, am_dP, am_d1, Nat.reduceSub, Nat.reduceMul, ne_eq, Nat.reduceBEq, Nat.reduceAdd, Nat.reduceLeDiff, Nat.reduceEqDiff, and_self, and_false, false_and, if_true, if_false, am_nb, am_nb0, am_nb1, am_lc1, am_lc2, am_lc3, am_b0, am_b1, am_10, am_c8, am_c16, am_c24, am_c32, am_c40, am_c48, am_c56, am_c64, am_c72, Nat.add_zero, Bool.false_eq_true, Nat.zero_le, h]; exact h') (fun hP => q5_rests hP) hI
end OMV
