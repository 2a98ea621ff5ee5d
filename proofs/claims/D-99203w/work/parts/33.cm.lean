/-! the component's leaves, part 3 -/
set_option maxRecDepth 100000
section CMV
variable {d : Nat} {μ : am_M} {K : Option Value → am_M → Prop} {x y : Int32} {h h' N j : Nat} {p1 p2 p3 : Int64} {v : Int32}
theorem cS_w0 (hj : j < 8) : cS (am_sI μ (h + 1) j v) h = spU (cS μ h) (j) v := by
  have e := cS_u (μ := μ) (h := h) (v := v) (r := 0) hj (by decide)
  rwa [show h + 1 + 0 = h + 1 by omega, show 8 * 0 + j = j by omega] at e
theorem cS_w1 (hj : j < 8) : cS (am_sI μ (h + 2) j v) h = spU (cS μ h) (8 + j) v := by
  have e := cS_u (μ := μ) (h := h) (v := v) (r := 1) hj (by decide)
  rwa [show h + 1 + 1 = h + 2 by omega, show 8 * 1 + j = 8 + j by omega] at e
theorem cS_w2 (hj : j < 8) : cS (am_sI μ (h + 3) j v) h = spU (cS μ h) (16 + j) v := by
  have e := cS_u (μ := μ) (h := h) (v := v) (r := 2) hj (by decide)
  rwa [show h + 1 + 2 = h + 3 by omega, show 8 * 2 + j = 16 + j by omega] at e
theorem cS_w3 (hj : j < 8) : cS (am_sI μ (h + 4) j v) h = spU (cS μ h) (24 + j) v := by
  have e := cS_u (μ := μ) (h := h) (v := v) (r := 3) hj (by decide)
  rwa [show h + 1 + 3 = h + 4 by omega, show 8 * 3 + j = 24 + j by omega] at e
theorem cS_w4 (hj : j < 8) : cS (am_sI μ (h + 5) j v) h = spU (cS μ h) (32 + j) v := by
  have e := cS_u (μ := μ) (h := h) (v := v) (r := 4) hj (by decide)
  rwa [show h + 1 + 4 = h + 5 by omega, show 8 * 4 + j = 32 + j by omega] at e
theorem cS_w5 (hj : j < 8) : cS (am_sI μ (h + 6) j v) h = spU (cS μ h) (40 + j) v := by
  have e := cS_u (μ := μ) (h := h) (v := v) (r := 5) hj (by decide)
  rwa [show h + 1 + 5 = h + 6 by omega, show 8 * 5 + j = 40 + j by omega] at e
theorem cS_w6 (hj : j < 8) : cS (am_sI μ (h + 7) j v) h = spU (cS μ h) (48 + j) v := by
  have e := cS_u (μ := μ) (h := h) (v := v) (r := 6) hj (by decide)
  rwa [show h + 1 + 6 = h + 7 by omega, show 8 * 6 + j = 48 + j by omega] at e
theorem cS_w7 (hj : j < 8) : cS (am_sI μ (h + 8) j v) h = spU (cS μ h) (56 + j) v := by
  have e := cS_u (μ := μ) (h := h) (v := v) (r := 7) hj (by decide)
  rwa [show h + 1 + 7 = h + 8 by omega, show 8 * 7 + j = 56 + j by omega] at e
theorem cS_w8 (hj : j < 8) : cS (am_sI μ (h + 9) j v) h = spU (cS μ h) (64 + j) v := by
  have e := cS_u (μ := μ) (h := h) (v := v) (r := 8) hj (by decide)
  rwa [show h + 1 + 8 = h + 9 by omega, show 8 * 8 + j = 64 + j by omega] at e
theorem cS_w9 (hj : j < 8) : cS (am_sI μ (h + 10) j v) h = spU (cS μ h) (72 + j) v := by
  have e := cS_u (μ := μ) (h := h) (v := v) (r := 9) hj (by decide)
  rwa [show h + 1 + 9 = h + 10 by omega, show 8 * 9 + j = 72 + j by omega] at e
theorem cS_wd : cS (am_sI μ h 10 v) h = spU (cS μ h) 80 v := cS_uf (r := 0) (by decide)
theorem cS_wf : cS (am_sI μ h 11 v) h = spU (cS μ h) 81 v := cS_uf (r := 1) (by decide)
theorem cS_wt : cS (am_sI μ h 12 v) h = spU (cS μ h) 82 v := cS_uf (r := 2) (by decide)
theorem orB_t {p : Nat → Bool} (h : p j = true) : orB p j ||| 1 <<< (nI j &&& 31) = orB p (j + 1) := by simp only [orB, h, if_true]
theorem orB_f {p : Nat → Bool} (h : p j = false) : orB p j ||| 0 = orB p (j + 1) := by simp only [orB, h, Bool.false_eq_true, if_false]
theorem orB_congr {p q : Nat → Bool} : ∀ {n : Nat}, (∀ j, j < n → p j = q j) → orB p n = orB q n
  | 0, _ => rfl
  | n + 1, h => by simp only [orB, orB_congr (n := n) (fun j hj => h j (by omega)), h n (by omega)]
def gF (fr : Int32) (S : Nat → Int32) (n : Nat) : Bool := decide (fr ≤ S (48 + n))
def nF (S : Nat → Int32) (n : Nat) : Bool := decide (0 ≤ S (32 + n))
theorem wX1_guests {fr : Int32} (hN : am_I μ 0 2 = nI N) (h8 : N ≤ 8) (hk : am_k μ 0 = (0, 0)) (hs : spL h (am_k μ) (am_R μ)) :
    am_Wp d mX1_guests 0 [.ref 0, .ref h, .int fr, am_F, am_F] [] μ K ↔ K (some (.int (orB (gF fr (cS μ h)) N))) μ := by
  unfold spL at hs
  refine am_Wp.det ?_
  simp only [gX1_guests_0, gX1_guests_1, gX1_guests_2, gX1_guests_3, gX1_guests_7, gX1_guests_8, gX1_guests_11, gX1_guests_14, gX1_guests_15, gX1_guests_15n, gX1_guests_16, gX1_guests_19, gX1_guests_21, gX1_guests_22, gX1_guests_23, gX1_guests_26, gX1_guests_27, gX1_guests_29, gX1_guests_30, gX1_guests_33, gX1_guests_34, gX1_guests_35, gX1_guests_36, gX1_guests_39, gX1_guests_42, gX1_guests_43, am_kill_int, am_kill_ref, am_kill_null, am_kill_F, am_kill_long, am_cat_n, am_cat_i, am_cat_r, am_cat_0, am_cat_l, am_nr_n, am_nr_i, am_nr_r, am_nr_0, am_nr_l, Option.toList_some, Option.toList_none, List.nil_append, List.cons_append, va_rf_s, va_rf_n, am_II, am_I_sR, am_I_sL, am_R_sI, am_RR, am_R_sL, am_L_sI, am_L_sR, am_LL, am_k_sI, am_k_sR, am_k_sL, am_n_sI, am_n_sR, am_n_sL, true_and, and_true, true_or, or_true, or_false, false_or, not_true_eq_false, not_false_eq_true, Nat.reduceLT, am_dS, am_dP, am_d1, Nat.reduceSub, Nat.reduceMul, ne_eq, Nat.reduceBEq, Nat.reduceAdd, Nat.reduceLeDiff, Nat.reduceEqDiff, and_self, and_false, false_and, if_true, if_false, am_nb, am_nb0, am_nb1, am_lc1, am_lc2, am_lc3, am_b0, am_b1, Nat.add_zero, Bool.false_eq_true, Nat.zero_le]
  refine am_for (N := N) (fun j ls ν => ν = μ ∧ ls = [.ref 0, .ref h, .int fr, .int (orB (gF fr (cS μ h)) j), .int (nI j)]) ?_ ?_ N 0 _ _ (by omega) ⟨rfl, rfl⟩
  · rintro j ls ν hj ⟨rfl, rfl⟩ ih
    have hin : vp_in (nI j) 8 := vp_in_nI (by omega) (by omega)
    have hlt : ¬ nI N ≤ nI j := nI_ge hj (by omega)
    have hcl : (nI j).toNatClampNeg = j := nI_clamp (by omega)
    rw [gX1_guests_5]
    simp only [gX1_guests_0, gX1_guests_1, gX1_guests_2, gX1_guests_3, gX1_guests_7, gX1_guests_8, gX1_guests_11, gX1_guests_14, gX1_guests_15, gX1_guests_15n, gX1_guests_16, gX1_guests_19, gX1_guests_21, gX1_guests_22, gX1_guests_23, gX1_guests_26, gX1_guests_27, gX1_guests_29, gX1_guests_30, gX1_guests_33, gX1_guests_34, gX1_guests_35, gX1_guests_36, gX1_guests_39, gX1_guests_42, gX1_guests_43, am_kill_int, am_kill_ref, am_kill_null, am_kill_F, am_kill_long, am_cat_n, am_cat_i, am_cat_r, am_cat_0, am_cat_l, am_nr_n, am_nr_i, am_nr_r, am_nr_0, am_nr_l, Option.toList_some, Option.toList_none, List.nil_append, List.cons_append, va_rf_s, va_rf_n, am_II, am_I_sR, am_I_sL, am_R_sI, am_RR, am_R_sL, am_L_sI, am_L_sR, am_LL, am_k_sI, am_k_sR, am_k_sL, am_n_sI, am_n_sR, am_n_sL, true_and, and_true, true_or, or_true, or_false, false_or, not_true_eq_false, not_false_eq_true, Nat.reduceLT, am_dS, am_dP, am_d1, Nat.reduceSub, Nat.reduceMul, ne_eq, Nat.reduceBEq, Nat.reduceAdd, Nat.reduceLeDiff, Nat.reduceEqDiff, and_self, and_false, false_and, if_true, if_false, am_nb, am_nb0, am_nb1, am_lc1, am_lc2, am_lc3, am_b0, am_b1, Nat.add_zero, Bool.false_eq_true, Nat.zero_le, hN, hk, hs, hin, hlt, hcl]
    by_cases hc : fr ≤ am_I ν (h + 7) j
    · have hp : gF fr (cS ν h) j = true := by unfold gF; rw [cS_6 (by omega)]; exact decide_eq_true hc
      simp only [Int32.not_lt.mpr hc, if_false, orB_t hp, nI_1]
      exact ih _ _ ⟨rfl, rfl⟩
    · have hp : gF fr (cS ν h) j = false := by unfold gF; rw [cS_6 (by omega)]; exact decide_eq_false hc
      simp only [Int32.not_le.mp hc, if_true, orB_f hp, nI_1]
      exact ih _ _ ⟨rfl, rfl⟩
  · rintro ls ν ⟨rfl, rfl⟩
    simp only [gX1_guests_0, gX1_guests_1, gX1_guests_2, gX1_guests_3, gX1_guests_5, gX1_guests_7, gX1_guests_8, gX1_guests_11, gX1_guests_14, gX1_guests_15, gX1_guests_15n, gX1_guests_16, gX1_guests_19, gX1_guests_21, gX1_guests_22, gX1_guests_23, gX1_guests_26, gX1_guests_27, gX1_guests_29, gX1_guests_30, gX1_guests_33, gX1_guests_34, gX1_guests_35, gX1_guests_36, gX1_guests_39, gX1_guests_42, gX1_guests_43, am_kill_int, am_kill_ref, am_kill_null, am_kill_F, am_kill_long, am_cat_n, am_cat_i, am_cat_r, am_cat_0, am_cat_l, am_nr_n, am_nr_i, am_nr_r, am_nr_0, am_nr_l, Option.toList_some, Option.toList_none, List.nil_append, List.cons_append, va_rf_s, va_rf_n, am_II, am_I_sR, am_I_sL, am_R_sI, am_RR, am_R_sL, am_L_sI, am_L_sR, am_LL, am_k_sI, am_k_sR, am_k_sL, am_n_sI, am_n_sR, am_n_sL, true_and, and_true, true_or, or_true, or_false, false_or, not_true_eq_false, not_false_eq_true, Nat.reduceLT, am_dS, am_dP, am_d1, Nat.reduceSub, Nat.reduceMul, ne_eq, Nat.reduceBEq, Nat.reduceAdd, Nat.reduceLeDiff, Nat.reduceEqDiff, and_self, and_false, false_and, if_true, if_false, am_nb, am_nb0, am_nb1, am_lc1, am_lc2, am_lc3, am_b0, am_b1, Nat.add_zero, Bool.false_eq_true, Nat.zero_le, hN, hk, Int32.le_refl]
theorem wX1_noticed (hN : am_I μ 0 2 = nI N) (h8 : N ≤ 8) (hk : am_k μ 0 = (0, 0)) (hs : spL h (am_k μ) (am_R μ)) :
    am_Wp (d + 1) mX1_noticed 0 [.ref 0, .ref h, am_F, am_F] [] μ K ↔ K (some (.int (orB (nF (cS μ h)) N))) μ := by
  refine am_Wp.det ?_
  simp only [gX1_noticed_0, gX1_noticed_1, gX1_noticed_2, gX1_noticed_3, gX1_noticed_5, gX1_noticed_6, gX1_noticed_9, gX1_noticed_12, gX1_noticed_13, gX1_noticed_13n, gX1_noticed_14, gX1_noticed_18, gX1_noticed_21, gX1_noticed_22, gX1_noticed_23, gX1_noticed_24, gX1_noticed_27, gX1_noticed_28, gX1_noticed_29, gX1_noticed_30, gX1_noticed_33, gX1_noticed_36, gX1_noticed_37, am_kill_int, am_kill_ref, am_kill_null, am_kill_F, am_kill_long, am_cat_n, am_cat_i, am_cat_r, am_cat_0, am_cat_l, am_nr_n, am_nr_i, am_nr_r, am_nr_0, am_nr_l, Option.toList_some, Option.toList_none, List.nil_append, List.cons_append, va_rf_s, va_rf_n, am_II, am_I_sR, am_I_sL, am_R_sI, am_RR, am_R_sL, am_L_sI, am_L_sR, am_LL, am_k_sI, am_k_sR, am_k_sL, am_n_sI, am_n_sR, am_n_sL, true_and, and_true, true_or, or_true, or_false, false_or, not_true_eq_false, not_false_eq_true, Nat.reduceLT, am_dS, am_dP, am_d1, Nat.reduceSub, Nat.reduceMul, ne_eq, Nat.reduceBEq, Nat.reduceAdd, Nat.reduceLeDiff, Nat.reduceEqDiff, and_self, and_false, false_and, if_true, if_false, am_nb, am_nb0, am_nb1, am_lc1, am_lc2, am_lc3, am_b0, am_b1, Nat.add_zero, Bool.false_eq_true, Nat.zero_le]
  refine am_for (N := N) (fun j ls ν => ν = μ ∧ ls = [.ref 0, .ref h, .int (orB (nF (cS μ h)) j), .int (nI j)]) ?_ ?_ N 0 _ _ (by omega) ⟨rfl, rfl⟩
  · rintro j ls ν hj ⟨rfl, rfl⟩ ih
    have hj8 : j < 8 := by omega
    have hlt : ¬ nI N ≤ nI j := nI_ge hj (by omega)
    rw [gX1_noticed_4]
    simp only [gX1_noticed_0, gX1_noticed_1, gX1_noticed_2, gX1_noticed_3, gX1_noticed_5, gX1_noticed_6, gX1_noticed_9, gX1_noticed_12, gX1_noticed_13, gX1_noticed_13n, gX1_noticed_14, gX1_noticed_15, gX1_noticed_18, gX1_noticed_21, gX1_noticed_22, gX1_noticed_23, gX1_noticed_24, gX1_noticed_27, gX1_noticed_28, gX1_noticed_29, gX1_noticed_30, gX1_noticed_33, gX1_noticed_36, gX1_noticed_37, am_kill_int, am_kill_ref, am_kill_null, am_kill_F, am_kill_long, am_cat_n, am_cat_i, am_cat_r, am_cat_0, am_cat_l, am_nr_n, am_nr_i, am_nr_r, am_nr_0, am_nr_l, Option.toList_some, Option.toList_none, List.nil_append, List.cons_append, va_rf_s, va_rf_n, am_II, am_I_sR, am_I_sL, am_R_sI, am_RR, am_R_sL, am_L_sI, am_L_sR, am_LL, am_k_sI, am_k_sR, am_k_sL, am_n_sI, am_n_sR, am_n_sL, true_and, and_true, true_or, or_true, or_false, false_or, not_true_eq_false, not_false_eq_true, Nat.reduceLT, am_dS, am_dP, am_d1, Nat.reduceSub, Nat.reduceMul, ne_eq, Nat.reduceBEq, Nat.reduceAdd, Nat.reduceLeDiff, Nat.reduceEqDiff, and_self, and_false, false_and, if_true, if_false, am_nb, am_nb0, am_nb1, am_lc1, am_lc2, am_lc3, am_b0, am_b1, Nat.add_zero, Bool.false_eq_true, Nat.zero_le, hN, hk, hs, hs.1, hj8, hlt, wX2_isNoticed]
    by_cases hc : 0 ≤ cS ν h (32 + j)
    · have hp : nF (cS ν h) j = true := decide_eq_true hc
      simp only [hc, if_true, not_true_eq_false, if_false, orB_t hp, nI_1]
      exact ih _ _ ⟨rfl, rfl⟩
    · have hp : nF (cS ν h) j = false := decide_eq_false hc
      simp only [hc, if_true, not_false_eq_true, if_false, orB_f hp, nI_1]
      exact ih _ _ ⟨rfl, rfl⟩
  · rintro ls ν ⟨rfl, rfl⟩
    simp only [gX1_noticed_0, gX1_noticed_1, gX1_noticed_2, gX1_noticed_3, gX1_noticed_4, gX1_noticed_5, gX1_noticed_6, gX1_noticed_9, gX1_noticed_12, gX1_noticed_13, gX1_noticed_13n, gX1_noticed_14, gX1_noticed_18, gX1_noticed_21, gX1_noticed_22, gX1_noticed_23, gX1_noticed_24, gX1_noticed_27, gX1_noticed_28, gX1_noticed_29, gX1_noticed_30, gX1_noticed_33, gX1_noticed_36, gX1_noticed_37, am_kill_int, am_kill_ref, am_kill_null, am_kill_F, am_kill_long, am_cat_n, am_cat_i, am_cat_r, am_cat_0, am_cat_l, am_nr_n, am_nr_i, am_nr_r, am_nr_0, am_nr_l, Option.toList_some, Option.toList_none, List.nil_append, List.cons_append, va_rf_s, va_rf_n, am_II, am_I_sR, am_I_sL, am_R_sI, am_RR, am_R_sL, am_L_sI, am_L_sR, am_LL, am_k_sI, am_k_sR, am_k_sL, am_n_sI, am_n_sR, am_n_sL, true_and, and_true, true_or, or_true, or_false, false_or, not_true_eq_false, not_false_eq_true, Nat.reduceLT, am_dS, am_dP, am_d1, Nat.reduceSub, Nat.reduceMul, ne_eq, Nat.reduceBEq, Nat.reduceAdd, Nat.reduceLeDiff, Nat.reduceEqDiff, and_self, and_false, false_and, if_true, if_false, am_nb, am_nb0, am_nb1, am_lc1, am_lc2, am_lc3, am_b0, am_b1, Nat.add_zero, Bool.false_eq_true, Nat.zero_le, hN, hk, Int32.le_refl]
theorem wX1_inTime (hN : am_I μ 0 2 = nI N) (h8 : N ≤ 8) (hk : am_k μ 0 = (0, 0)) (hs : spL h (am_k μ) (am_R μ)) :
    am_Wp (d + 2) mX1_inTime 0 [.ref 0, .ref h, am_F, am_F] [] μ K ↔ K (some (.int (orB (inT (am_I μ 0 3) (cS μ h)) N))) μ := by
  refine am_Wp.det ?_
  simp only [gX1_inTime_0, gX1_inTime_1, gX1_inTime_2, gX1_inTime_3, gX1_inTime_5, gX1_inTime_6, gX1_inTime_9, gX1_inTime_12, gX1_inTime_13, gX1_inTime_14, gX1_inTime_14n, gX1_inTime_15, gX1_inTime_19, gX1_inTime_22, gX1_inTime_23, gX1_inTime_24, gX1_inTime_25, gX1_inTime_28, gX1_inTime_29, gX1_inTime_30, gX1_inTime_31, gX1_inTime_34, gX1_inTime_37, gX1_inTime_38, am_kill_int, am_kill_ref, am_kill_null, am_kill_F, am_kill_long, am_cat_n, am_cat_i, am_cat_r, am_cat_0, am_cat_l, am_nr_n, am_nr_i, am_nr_r, am_nr_0, am_nr_l, Option.toList_some, Option.toList_none, List.nil_append, List.cons_append, va_rf_s, va_rf_n, am_II, am_I_sR, am_I_sL, am_R_sI, am_RR, am_R_sL, am_L_sI, am_L_sR, am_LL, am_k_sI, am_k_sR, am_k_sL, am_n_sI, am_n_sR, am_n_sL, true_and, and_true, true_or, or_true, or_false, false_or, not_true_eq_false, not_false_eq_true, Nat.reduceLT, am_dS, am_dP, am_d1, Nat.reduceSub, Nat.reduceMul, ne_eq, Nat.reduceBEq, Nat.reduceAdd, Nat.reduceLeDiff, Nat.reduceEqDiff, and_self, and_false, false_and, if_true, if_false, am_nb, am_nb0, am_nb1, am_lc1, am_lc2, am_lc3, am_b0, am_b1, Nat.add_zero, Bool.false_eq_true, Nat.zero_le]
  refine am_for (N := N) (fun j ls ν => ν = μ ∧ ls = [.ref 0, .ref h, .int (orB (inT (am_I μ 0 3) (cS μ h)) j), .int (nI j)]) ?_ ?_ N 0 _ _ (by omega) ⟨rfl, rfl⟩
  · rintro j ls ν hj ⟨rfl, rfl⟩ ih
    have hj8 : j < 8 := by omega
    have hlt : ¬ nI N ≤ nI j := nI_ge hj (by omega)
    rw [gX1_inTime_4]
    simp only [gX1_inTime_0, gX1_inTime_1, gX1_inTime_2, gX1_inTime_3, gX1_inTime_5, gX1_inTime_6, gX1_inTime_9, gX1_inTime_12, gX1_inTime_13, gX1_inTime_14, gX1_inTime_14n, gX1_inTime_15, gX1_inTime_16, gX1_inTime_19, gX1_inTime_22, gX1_inTime_23, gX1_inTime_24, gX1_inTime_25, gX1_inTime_28, gX1_inTime_29, gX1_inTime_30, gX1_inTime_31, gX1_inTime_34, gX1_inTime_37, gX1_inTime_38, am_kill_int, am_kill_ref, am_kill_null, am_kill_F, am_kill_long, am_cat_n, am_cat_i, am_cat_r, am_cat_0, am_cat_l, am_nr_n, am_nr_i, am_nr_r, am_nr_0, am_nr_l, Option.toList_some, Option.toList_none, List.nil_append, List.cons_append, va_rf_s, va_rf_n, am_II, am_I_sR, am_I_sL, am_R_sI, am_RR, am_R_sL, am_L_sI, am_L_sR, am_LL, am_k_sI, am_k_sR, am_k_sL, am_n_sI, am_n_sR, am_n_sL, true_and, and_true, true_or, or_true, or_false, false_or, not_true_eq_false, not_false_eq_true, Nat.reduceLT, am_dS, am_dP, am_d1, Nat.reduceSub, Nat.reduceMul, ne_eq, Nat.reduceBEq, Nat.reduceAdd, Nat.reduceLeDiff, Nat.reduceEqDiff, and_self, and_false, false_and, if_true, if_false, am_nb, am_nb0, am_nb1, am_lc1, am_lc2, am_lc3, am_b0, am_b1, Nat.add_zero, Bool.false_eq_true, Nat.zero_le, hN, hk, hs, hj8, hlt, wX1_isInTime]
    by_cases hc : inT (am_I ν 0 3) (cS ν h) j = true
    · simp only [hc, if_true, not_true_eq_false, if_false, orB_t hc, nI_1]
      exact ih _ _ ⟨rfl, rfl⟩
    · have hp := eq_false_of_ne_true hc
      simp only [hc, if_true, not_false_eq_true, if_false, orB_f hp, nI_1]
      exact ih _ _ ⟨rfl, rfl⟩
  · rintro ls ν ⟨rfl, rfl⟩
    simp only [gX1_inTime_0, gX1_inTime_1, gX1_inTime_2, gX1_inTime_3, gX1_inTime_4, gX1_inTime_5, gX1_inTime_6, gX1_inTime_9, gX1_inTime_12, gX1_inTime_13, gX1_inTime_14, gX1_inTime_14n, gX1_inTime_15, gX1_inTime_19, gX1_inTime_22, gX1_inTime_23, gX1_inTime_24, gX1_inTime_25, gX1_inTime_28, gX1_inTime_29, gX1_inTime_30, gX1_inTime_31, gX1_inTime_34, gX1_inTime_37, gX1_inTime_38, am_kill_int, am_kill_ref, am_kill_null, am_kill_F, am_kill_long, am_cat_n, am_cat_i, am_cat_r, am_cat_0, am_cat_l, am_nr_n, am_nr_i, am_nr_r, am_nr_0, am_nr_l, Option.toList_some, Option.toList_none, List.nil_append, List.cons_append, va_rf_s, va_rf_n, am_II, am_I_sR, am_I_sL, am_R_sI, am_RR, am_R_sL, am_L_sI, am_L_sR, am_LL, am_k_sI, am_k_sR, am_k_sL, am_n_sI, am_n_sR, am_n_sL, true_and, and_true, true_or, or_true, or_false, false_or, not_true_eq_false, not_false_eq_true, Nat.reduceLT, am_dS, am_dP, am_d1, Nat.reduceSub, Nat.reduceMul, ne_eq, Nat.reduceBEq, Nat.reduceAdd, Nat.reduceLeDiff, Nat.reduceEqDiff, and_self, and_false, false_and, if_true, if_false, am_nb, am_nb0, am_nb1, am_lc1, am_lc2, am_lc3, am_b0, am_b1, Nat.add_zero, Bool.false_eq_true, Nat.zero_le, hN, hk, Int32.le_refl]
def suI (f : Nat → Int32) : Nat → Int32
  | 0 => 0
  | n + 1 => suI f n + f n
theorem wX1_sumOf (hN : am_I μ 0 2 = nI N) (h8 : N ≤ 8) (hk : am_k μ 0 = (0, 0)) (hs : am_k μ h = (10, 8)) :
    am_Wp d mX1_sumOf 0 [.ref 0, .ref h, am_F, am_F] [] μ K ↔ K (some (.int (suI (am_I μ h) N))) μ := by
  refine am_Wp.det ?_
  simp only [gX1_sumOf_0, gX1_sumOf_1, gX1_sumOf_2, gX1_sumOf_3, gX1_sumOf_5, gX1_sumOf_6, gX1_sumOf_9, gX1_sumOf_12, gX1_sumOf_13, gX1_sumOf_13n, gX1_sumOf_14, gX1_sumOf_15, gX1_sumOf_16, gX1_sumOf_17, gX1_sumOf_18, gX1_sumOf_21, gX1_sumOf_24, gX1_sumOf_25, am_kill_int, am_kill_ref, am_kill_null, am_kill_F, am_kill_long, am_cat_n, am_cat_i, am_cat_r, am_cat_0, am_cat_l, am_nr_n, am_nr_i, am_nr_r, am_nr_0, am_nr_l, Option.toList_some, Option.toList_none, List.nil_append, List.cons_append, va_rf_s, va_rf_n, am_II, am_I_sR, am_I_sL, am_R_sI, am_RR, am_R_sL, am_L_sI, am_L_sR, am_LL, am_k_sI, am_k_sR, am_k_sL, am_n_sI, am_n_sR, am_n_sL, true_and, and_true, true_or, or_true, or_false, false_or, not_true_eq_false, not_false_eq_true, Nat.reduceLT, am_dS, am_dP, am_d1, Nat.reduceSub, Nat.reduceMul, ne_eq, Nat.reduceBEq, Nat.reduceAdd, Nat.reduceLeDiff, Nat.reduceEqDiff, and_self, and_false, false_and, if_true, if_false, am_nb, am_nb0, am_nb1, am_lc1, am_lc2, am_lc3, am_b0, am_b1, Nat.add_zero, Bool.false_eq_true, Nat.zero_le]
  refine am_for (N := N) (fun j ls ν => ν = μ ∧ ls = [.ref 0, .ref h, .int (suI (am_I μ h) j), .int (nI j)]) ?_ ?_ N 0 _ _ (by omega) ⟨rfl, rfl⟩
  · rintro j ls ν hj ⟨rfl, rfl⟩ ih
    have hin : vp_in (nI j) 8 := vp_in_nI (by omega) (by omega)
    have hcl : (nI j).toNatClampNeg = j := nI_clamp (by omega)
    have hlt : ¬ nI N ≤ nI j := nI_ge hj (by omega)
    rw [gX1_sumOf_4]
    simp only [gX1_sumOf_0, gX1_sumOf_1, gX1_sumOf_2, gX1_sumOf_3, gX1_sumOf_5, gX1_sumOf_6, gX1_sumOf_9, gX1_sumOf_12, gX1_sumOf_13, gX1_sumOf_13n, gX1_sumOf_14, gX1_sumOf_15, gX1_sumOf_16, gX1_sumOf_17, gX1_sumOf_18, gX1_sumOf_21, gX1_sumOf_24, gX1_sumOf_25, am_kill_int, am_kill_ref, am_kill_null, am_kill_F, am_kill_long, am_cat_n, am_cat_i, am_cat_r, am_cat_0, am_cat_l, am_nr_n, am_nr_i, am_nr_r, am_nr_0, am_nr_l, Option.toList_some, Option.toList_none, List.nil_append, List.cons_append, va_rf_s, va_rf_n, am_II, am_I_sR, am_I_sL, am_R_sI, am_RR, am_R_sL, am_L_sI, am_L_sR, am_LL, am_k_sI, am_k_sR, am_k_sL, am_n_sI, am_n_sR, am_n_sL, true_and, and_true, true_or, or_true, or_false, false_or, not_true_eq_false, not_false_eq_true, Nat.reduceLT, am_dS, am_dP, am_d1, Nat.reduceSub, Nat.reduceMul, ne_eq, Nat.reduceBEq, Nat.reduceAdd, Nat.reduceLeDiff, Nat.reduceEqDiff, and_self, and_false, false_and, if_true, if_false, am_nb, am_nb0, am_nb1, am_lc1, am_lc2, am_lc3, am_b0, am_b1, Nat.add_zero, Bool.false_eq_true, Nat.zero_le, hN, hk, hs, hin, hlt, hcl]
    rw [nI_1]
    exact ih _ _ ⟨rfl, rfl⟩
  · rintro ls ν ⟨rfl, rfl⟩
    rw [gX1_sumOf_4]
    simp only [gX1_sumOf_0, gX1_sumOf_1, gX1_sumOf_2, gX1_sumOf_3, gX1_sumOf_5, gX1_sumOf_6, gX1_sumOf_9, gX1_sumOf_12, gX1_sumOf_13, gX1_sumOf_13n, gX1_sumOf_14, gX1_sumOf_15, gX1_sumOf_16, gX1_sumOf_17, gX1_sumOf_18, gX1_sumOf_21, gX1_sumOf_24, gX1_sumOf_25, hN, hk, Int32.le_refl, if_true, true_and, and_self, am_nr_i]
def frB (c : Int32) (S : Nat → Int32) (n : Nat) : Bool := decide (S (48 + n) = 0) && inT c S n
theorem wX1_isFree (hj : j < 8) (hk : am_k μ 0 = (0, 0)) (hs : spL h (am_k μ) (am_R μ)) : am_Wp (d + 2) mX1_isFree 0 [.ref 0, .ref h, .int (nI j)] [] μ K ↔ K (some (.int (if frB (am_I μ 0 3) (cS μ h) j = true then 1 else 0))) μ := by
  have hs' := hs
  unfold spL at hs'
  have hin : vp_in (nI j) 8 := vp_in_nI (by omega) (by omega)
  have hcl : (nI j).toNatClampNeg = j := nI_clamp (by omega)
  simp only [gX1_isFree_0, gX1_isFree_0n, gX1_isFree_1, gX1_isFree_4, gX1_isFree_5, gX1_isFree_6, gX1_isFree_9, gX1_isFree_10, gX1_isFree_10n, gX1_isFree_11, gX1_isFree_12, gX1_isFree_15, gX1_isFree_18, gX1_isFree_19, gX1_isFree_22, gX1_isFree_23, am_kill_int, am_kill_ref, am_kill_null, am_kill_F, am_kill_long, am_cat_n, am_cat_i, am_cat_r, am_cat_0, am_cat_l, am_nr_n, am_nr_i, am_nr_r, am_nr_0, am_nr_l, Option.toList_some, Option.toList_none, List.nil_append, List.cons_append, va_rf_s, va_rf_n, am_II, am_I_sR, am_I_sL, am_R_sI, am_RR, am_R_sL, am_L_sI, am_L_sR, am_LL, am_k_sI, am_k_sR, am_k_sL, am_n_sI, am_n_sR, am_n_sL, true_and, and_true, true_or, or_true, or_false, false_or, not_true_eq_false, not_false_eq_true, Nat.reduceLT, am_dS, am_dP, am_d1, Nat.reduceSub, Nat.reduceMul, ne_eq, Nat.reduceBEq, Nat.reduceAdd, Nat.reduceLeDiff, Nat.reduceEqDiff, and_self, and_false, false_and, if_true, if_false, am_nb, am_nb0, am_nb1, am_lc1, am_lc2, am_lc3, am_b0, am_b1, Nat.add_zero, Bool.false_eq_true, Nat.zero_le, wX1_isInTime hj hk hs, hk, hs', hin, hcl, frB, ← cS_6 hj]
  by_cases hc : cS μ h (48 + j) = 0
  · by_cases hc2 : inT (am_I μ 0 3) (cS μ h) j = true
    · simp only [hc, hc2, decide_true, Bool.and_self, am_kill_int, am_kill_ref, am_kill_null, am_kill_F, am_kill_long, am_cat_n, am_cat_i, am_cat_r, am_cat_0, am_cat_l, am_nr_n, am_nr_i, am_nr_r, am_nr_0, am_nr_l, Option.toList_some, Option.toList_none, List.nil_append, List.cons_append, va_rf_s, va_rf_n, am_II, am_I_sR, am_I_sL, am_R_sI, am_RR, am_R_sL, am_L_sI, am_L_sR, am_LL, am_k_sI, am_k_sR, am_k_sL, am_n_sI, am_n_sR, am_n_sL, true_and, and_true, true_or, or_true, or_false, false_or, not_true_eq_false, not_false_eq_true, Nat.reduceLT, am_dS, am_dP, am_d1, Nat.reduceSub, Nat.reduceMul, ne_eq, Nat.reduceBEq, Nat.reduceAdd, Nat.reduceLeDiff, Nat.reduceEqDiff, and_self, and_false, false_and, if_true, if_false, am_nb, am_nb0, am_nb1, am_lc1, am_lc2, am_lc3, am_b0, am_b1, Nat.add_zero, Bool.false_eq_true, Nat.zero_le]
    · simp only [hc, hc2, decide_true, Bool.true_and, am_kill_int, am_kill_ref, am_kill_null, am_kill_F, am_kill_long, am_cat_n, am_cat_i, am_cat_r, am_cat_0, am_cat_l, am_nr_n, am_nr_i, am_nr_r, am_nr_0, am_nr_l, Option.toList_some, Option.toList_none, List.nil_append, List.cons_append, va_rf_s, va_rf_n, am_II, am_I_sR, am_I_sL, am_R_sI, am_RR, am_R_sL, am_L_sI, am_L_sR, am_LL, am_k_sI, am_k_sR, am_k_sL, am_n_sI, am_n_sR, am_n_sL, true_and, and_true, true_or, or_true, or_false, false_or, not_true_eq_false, not_false_eq_true, Nat.reduceLT, am_dS, am_dP, am_d1, Nat.reduceSub, Nat.reduceMul, ne_eq, Nat.reduceBEq, Nat.reduceAdd, Nat.reduceLeDiff, Nat.reduceEqDiff, and_self, and_false, false_and, if_true, if_false, am_nb, am_nb0, am_nb1, am_lc1, am_lc2, am_lc3, am_b0, am_b1, Nat.add_zero, Bool.false_eq_true, Nat.zero_le]
  · simp only [hc, decide_false, Bool.false_and, am_kill_int, am_kill_ref, am_kill_null, am_kill_F, am_kill_long, am_cat_n, am_cat_i, am_cat_r, am_cat_0, am_cat_l, am_nr_n, am_nr_i, am_nr_r, am_nr_0, am_nr_l, Option.toList_some, Option.toList_none, List.nil_append, List.cons_append, va_rf_s, va_rf_n, am_II, am_I_sR, am_I_sL, am_R_sI, am_RR, am_R_sL, am_L_sI, am_L_sR, am_LL, am_k_sI, am_k_sR, am_k_sL, am_n_sI, am_n_sR, am_n_sL, true_and, and_true, true_or, or_true, or_false, false_or, not_true_eq_false, not_false_eq_true, Nat.reduceLT, am_dS, am_dP, am_d1, Nat.reduceSub, Nat.reduceMul, ne_eq, Nat.reduceBEq, Nat.reduceAdd, Nat.reduceLeDiff, Nat.reduceEqDiff, and_self, and_false, false_and, if_true, if_false, am_nb, am_nb0, am_nb1, am_lc1, am_lc2, am_lc3, am_b0, am_b1, Nat.add_zero, Bool.false_eq_true, Nat.zero_le]
theorem wX1_swaps {a i : Nat} (hi : i < 8) (hj : j < 8) (hs : am_k μ a = (10, 8)) : am_Wp d mX1_swaps 0 [.ref a, .int (nI i), .int (nI j), am_F] [] μ K ↔ K none (am_sI (am_sI μ a i (am_I μ a j)) a j (am_I μ a i)) := by
  have hin : vp_in (nI i) 8 := vp_in_nI (by omega) (by omega)
  have hcl : (nI i).toNatClampNeg = i := nI_clamp (by omega)
  have hin' : vp_in (nI j) 8 := vp_in_nI (by omega) (by omega)
  have hcl' : (nI j).toNatClampNeg = j := nI_clamp (by omega)
  simp only [gX1_swaps_0, gX1_swaps_0n, gX1_swaps_1, gX1_swaps_2, gX1_swaps_3, gX1_swaps_4, gX1_swaps_4n, gX1_swaps_5, gX1_swaps_6, gX1_swaps_6n, gX1_swaps_7, gX1_swaps_8, gX1_swaps_9, gX1_swaps_10, gX1_swaps_10n, gX1_swaps_11, gX1_swaps_12, gX1_swaps_13, gX1_swaps_14, hs, hin, hcl, hin', hcl', am_kill_int, am_kill_ref, am_kill_null, am_kill_F, am_kill_long, am_cat_n, am_cat_i, am_cat_r, am_cat_0, am_cat_l, am_nr_n, am_nr_i, am_nr_r, am_nr_0, am_nr_l, Option.toList_some, Option.toList_none, List.nil_append, List.cons_append, va_rf_s, va_rf_n, am_II, am_I_sR, am_I_sL, am_R_sI, am_RR, am_R_sL, am_L_sI, am_L_sR, am_LL, am_k_sI, am_k_sR, am_k_sL, am_n_sI, am_n_sR, am_n_sL, true_and, and_true, true_or, or_true, or_false, false_or, not_true_eq_false, not_false_eq_true, Nat.reduceLT, am_dS, am_dP, am_d1, Nat.reduceSub, Nat.reduceMul, ne_eq, Nat.reduceBEq, Nat.reduceAdd, Nat.reduceLeDiff, Nat.reduceEqDiff, and_self, and_false, false_and, if_true, if_false, am_nb, am_nb0, am_nb1, am_lc1, am_lc2, am_lc3, am_b0, am_b1, Nat.add_zero, Bool.false_eq_true, Nat.zero_le]
theorem wX1_tells {r : Nat} (hr : am_I μ 0 40 = nI r) (h16 : r < 16) (hk : am_k μ 0 = (0, 0)) (hR : am_R μ 0 39 = some 53) (hk2 : am_k μ 53 = (12, 16)) : am_Wp d mX1_tells 0 [.ref 0, .long p1, am_F] [] μ K ↔ K none (am_sI (am_sL μ 53 r p1) 0 40 (nI (r + 1))) := by
  have hin : vp_in (nI r) 16 := vp_in_nI (by omega) (by omega)
  have hcl : (nI r).toNatClampNeg = r := nI_clamp (by omega)
  simp only [gX1_tells_0, gX1_tells_1, gX1_tells_4, gX1_tells_5, gX1_tells_8, gX1_tells_9, gX1_tells_10, gX1_tells_11, gX1_tells_12, gX1_tells_15, gX1_tells_16, gX1_tells_17, gX1_tells_20, hr, hk, hR, hk2, hin, hcl, nI_1, am_kill_int, am_kill_ref, am_kill_null, am_kill_F, am_kill_long, am_cat_n, am_cat_i, am_cat_r, am_cat_0, am_cat_l, am_nr_n, am_nr_i, am_nr_r, am_nr_0, am_nr_l, Option.toList_some, Option.toList_none, List.nil_append, List.cons_append, va_rf_s, va_rf_n, am_II, am_I_sR, am_I_sL, am_R_sI, am_RR, am_R_sL, am_L_sI, am_L_sR, am_LL, am_k_sI, am_k_sR, am_k_sL, am_n_sI, am_n_sR, am_n_sL, true_and, and_true, true_or, or_true, or_false, false_or, not_true_eq_false, not_false_eq_true, Nat.reduceLT, am_dS, am_dP, am_d1, Nat.reduceSub, Nat.reduceMul, ne_eq, Nat.reduceBEq, Nat.reduceAdd, Nat.reduceLeDiff, Nat.reduceEqDiff, and_self, and_false, false_and, if_true, if_false, am_nb, am_nb0, am_nb1, am_lc1, am_lc2, am_lc3, am_b0, am_b1, Nat.add_zero, Bool.false_eq_true, Nat.zero_le]
def miI (x y : Int32) : Int32 := if y < x then y else x
def maI (x y : Int32) : Int32 := if x < y then y else x
def abI (x : Int32) : Int32 := if 0 ≤ x then x else 0 - x
def shI (x : Int32) : Int32 := 1000 + maI (-999) (miI 999 x)
theorem wX1_shown : am_Wp (d + 1) mX1_shown 0 [.int x] [] μ K ↔ K (some (.int (shI x))) μ := by
  simp only [gX1_shown_0, gX1_shown_3, gX1_shown_6, gX1_shown_9, gX1_shown_10, gX1_shown_13, gX1_shown_16, gX1_shown_17, am_kill_int, am_kill_ref, am_kill_null, am_kill_F, am_kill_long, am_cat_n, am_cat_i, am_cat_r, am_cat_0, am_cat_l, am_nr_n, am_nr_i, am_nr_r, am_nr_0, am_nr_l, Option.toList_some, Option.toList_none, List.nil_append, List.cons_append, va_rf_s, va_rf_n, am_II, am_I_sR, am_I_sL, am_R_sI, am_RR, am_R_sL, am_L_sI, am_L_sR, am_LL, am_k_sI, am_k_sR, am_k_sL, am_n_sI, am_n_sR, am_n_sL, true_and, and_true, true_or, or_true, or_false, false_or, not_true_eq_false, not_false_eq_true, Nat.reduceLT, am_dS, am_dP, am_d1, Nat.reduceSub, Nat.reduceMul, ne_eq, Nat.reduceBEq, Nat.reduceAdd, Nat.reduceLeDiff, Nat.reduceEqDiff, and_self, and_false, false_and, if_true, if_false, am_nb, am_nb0, am_nb1, am_lc1, am_lc2, am_lc3, am_b0, am_b1, Nat.add_zero, Bool.false_eq_true, Nat.zero_le, shI, maI, miI]
  exact Iff.rfl
theorem wX2_leaves (hj : j < 8) (hs : spL h (am_k μ) (am_R μ)) : am_Wp d mX2_leaves 0 [.ref h, .int (nI j)] [] μ K ↔ K none (am_sI (am_sI (am_sI (am_sI μ (h + 7) j 0) (h + 8) j 0) (h + 9) j 0) (h + 10) j 0) := by
  unfold spL at hs
  have hin : vp_in (nI j) 8 := vp_in_nI (by omega) (by omega)
  have hcl : (nI j).toNatClampNeg = j := nI_clamp (by omega)
  simp only [gX2_leaves_0, gX2_leaves_1, gX2_leaves_4, gX2_leaves_5, gX2_leaves_6, gX2_leaves_7, gX2_leaves_8, gX2_leaves_11, gX2_leaves_12, gX2_leaves_13, gX2_leaves_14, gX2_leaves_15, gX2_leaves_18, gX2_leaves_19, gX2_leaves_20, gX2_leaves_21, gX2_leaves_22, gX2_leaves_25, gX2_leaves_26, gX2_leaves_27, gX2_leaves_28, hs, hin, hcl, am_kill_int, am_kill_ref, am_kill_null, am_kill_F, am_kill_long, am_cat_n, am_cat_i, am_cat_r, am_cat_0, am_cat_l, am_nr_n, am_nr_i, am_nr_r, am_nr_0, am_nr_l, Option.toList_some, Option.toList_none, List.nil_append, List.cons_append, va_rf_s, va_rf_n, am_II, am_I_sR, am_I_sL, am_R_sI, am_RR, am_R_sL, am_L_sI, am_L_sR, am_LL, am_k_sI, am_k_sR, am_k_sL, am_n_sI, am_n_sR, am_n_sL, true_and, and_true, true_or, or_true, or_false, false_or, not_true_eq_false, not_false_eq_true, Nat.reduceLT, am_dS, am_dP, am_d1, Nat.reduceSub, Nat.reduceMul, ne_eq, Nat.reduceBEq, Nat.reduceAdd, Nat.reduceLeDiff, Nat.reduceEqDiff, and_self, and_false, false_and, if_true, if_false, am_nb, am_nb0, am_nb1, am_lc1, am_lc2, am_lc3, am_b0, am_b1, Nat.add_zero, Bool.false_eq_true, Nat.zero_le]
theorem wX2_comes (hj : j < 8) (hs : spL h (am_k μ) (am_R μ)) : am_Wp (d + 1) mX2_comes 0 [.ref h, .int (nI j)] [] μ K ↔ K none (am_sI (am_sI (am_sI (am_sI (am_sI (am_sI μ (h + 5) j (-1)) (h + 6) j 0) (h + 7) j 0) (h + 8) j 0) (h + 9) j 0) (h + 10) j 0) := by
  have hs' := hs
  unfold spL at hs'
  have hin : vp_in (nI j) 8 := vp_in_nI (by omega) (by omega)
  have hcl : (nI j).toNatClampNeg = j := nI_clamp (by omega)
  simp only [gX2_comes_0, gX2_comes_1, gX2_comes_4, gX2_comes_5, gX2_comes_6, gX2_comes_7, gX2_comes_8, gX2_comes_11, gX2_comes_12, gX2_comes_13, gX2_comes_14, gX2_comes_15, gX2_comes_16, gX2_comes_19, hs', hs, hj, hin, hcl, wX2_leaves, am_kill_int, am_kill_ref, am_kill_null, am_kill_F, am_kill_long, am_cat_n, am_cat_i, am_cat_r, am_cat_0, am_cat_l, am_nr_n, am_nr_i, am_nr_r, am_nr_0, am_nr_l, Option.toList_some, Option.toList_none, List.nil_append, List.cons_append, va_rf_s, va_rf_n, am_II, am_I_sR, am_I_sL, am_R_sI, am_RR, am_R_sL, am_L_sI, am_L_sR, am_LL, am_k_sI, am_k_sR, am_k_sL, am_n_sI, am_n_sR, am_n_sL, true_and, and_true, true_or, or_true, or_false, false_or, not_true_eq_false, not_false_eq_true, Nat.reduceLT, am_dS, am_dP, am_d1, Nat.reduceSub, Nat.reduceMul, ne_eq, Nat.reduceBEq, Nat.reduceAdd, Nat.reduceLeDiff, Nat.reduceEqDiff, and_self, and_false, false_and, if_true, if_false, am_nb, am_nb0, am_nb1, am_lc1, am_lc2, am_lc3, am_b0, am_b1, Nat.add_zero, Bool.false_eq_true, Nat.zero_le]
theorem wX2_lies (hj : j < 8) (hs : spL h (am_k μ) (am_R μ)) : am_Wp (d + 1) mX2_lies 0 [.ref h, .int (nI j), .int x] [] μ K ↔ K none (am_sI (am_sI (am_sI (am_sI (am_sI (am_sI (am_sI μ (h + 7) j 0) (h + 8) j 0) (h + 9) j 0) (h + 10) j 0) (h + 7) j 1) (h + 8) j x) (h + 4) j (maI 0 (am_I μ (h + 4) j - 1))) := by
  have hs' := hs
  unfold spL at hs'
  have hin : vp_in (nI j) 8 := vp_in_nI (by omega) (by omega)
  have hcl : (nI j).toNatClampNeg = j := nI_clamp (by omega)
  simp only [gX2_lies_0, gX2_lies_1, gX2_lies_2, gX2_lies_5, gX2_lies_6, gX2_lies_9, gX2_lies_10, gX2_lies_11, gX2_lies_12, gX2_lies_13, gX2_lies_16, gX2_lies_17, gX2_lies_18, gX2_lies_19, gX2_lies_20, gX2_lies_23, gX2_lies_24, gX2_lies_25, gX2_lies_26, gX2_lies_29, gX2_lies_30, gX2_lies_31, gX2_lies_32, gX2_lies_33, gX2_lies_36, gX2_lies_37, hs', hs, hj, hin, hcl, wX2_leaves, am_kill_int, am_kill_ref, am_kill_null, am_kill_F, am_kill_long, am_cat_n, am_cat_i, am_cat_r, am_cat_0, am_cat_l, am_nr_n, am_nr_i, am_nr_r, am_nr_0, am_nr_l, Option.toList_some, Option.toList_none, List.nil_append, List.cons_append, va_rf_s, va_rf_n, am_II, am_I_sR, am_I_sL, am_R_sI, am_RR, am_R_sL, am_L_sI, am_L_sR, am_LL, am_k_sI, am_k_sR, am_k_sL, am_n_sI, am_n_sR, am_n_sL, true_and, and_true, true_or, or_true, or_false, false_or, not_true_eq_false, not_false_eq_true, Nat.reduceLT, am_dS, am_dP, am_d1, Nat.reduceSub, Nat.reduceMul, ne_eq, Nat.reduceBEq, Nat.reduceAdd, Nat.reduceLeDiff, Nat.reduceEqDiff, and_self, and_false, false_and, if_true, if_false, am_nb, am_nb0, am_nb1, am_lc1, am_lc2, am_lc3, am_b0, am_b1, Nat.add_zero, Bool.false_eq_true, Nat.zero_le, Nat.add_left_cancel_iff, maI]
end CMV
