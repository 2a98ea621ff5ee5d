/-! the component's leaves -/
set_option maxRecDepth 100000
section CQ
variable {d : Nat} {μ : am_M} {K : Option Value → am_M → Prop} {x y : Int32} {h h' N j : Nat} {p1 p2 p3 : Int64} {v : Int32}
def spL (h : Nat) (k : Nat → Nat × Nat) (R : Nat → Nat → Option Nat) : Prop := k h = (1, 0) ∧ R h 0 = some (h + 1) ∧ R h 1 = some (h + 2) ∧ R h 2 = some (h + 3) ∧ R h 3 = some (h + 4) ∧ R h 4 = some (h + 5) ∧ R h 5 = some (h + 6) ∧ R h 6 = some (h + 7) ∧ R h 7 = some (h + 8) ∧ R h 8 = some (h + 9) ∧ R h 9 = some (h + 10) ∧ k (h + 1) = (10, 8) ∧ k (h + 2) = (10, 8) ∧ k (h + 3) = (10, 8) ∧ k (h + 4) = (10, 8) ∧ k (h + 5) = (10, 8) ∧ k (h + 6) = (10, 8) ∧ k (h + 7) = (10, 8) ∧ k (h + 8) = (10, 8) ∧ k (h + 9) = (10, 8) ∧ k (h + 10) = (10, 8)
def cL (k : Nat → Nat × Nat) (R : Nat → Nat → Option Nat) : Prop := (k 0 = (0, 0) ∧ k 23 = (10, 80) ∧ k 24 = (10, 8) ∧ k 25 = (10, 8) ∧ k 26 = (10, 8) ∧ k 27 = (10, 8) ∧ k 28 = (14, 12) ∧ k 40 = (13, 8) ∧ k 41 = (10, 60) ∧ k 42 = (10, 60) ∧ k 43 = (10, 60) ∧ k 44 = (10, 4) ∧ k 45 = (10, 4) ∧ k 46 = (10, 4) ∧ k 47 = (10, 8) ∧ k 48 = (10, 8) ∧ k 49 = (10, 12) ∧ k 50 = (10, 12) ∧ k 51 = (14, 2) ∧ k 52 = (10, 2) ∧ k 53 = (12, 16)) ∧ (R 0 0 = some 1 ∧ R 0 1 = some 12 ∧ R 0 5 = some 23 ∧ R 0 10 = some 24 ∧ R 0 11 = some 25 ∧ R 0 12 = some 26 ∧ R 0 13 = some 27 ∧ R 0 19 = some 28 ∧ R 0 20 = some 29 ∧ R 0 22 = some 40 ∧ R 0 23 = some 41 ∧ R 0 24 = some 42 ∧ R 0 25 = some 43 ∧ R 0 27 = some 44 ∧ R 0 28 = some 45 ∧ R 0 29 = some 46 ∧ R 0 31 = some 47 ∧ R 0 32 = some 48 ∧ R 0 34 = some 49 ∧ R 0 35 = some 50 ∧ R 0 37 = some 51 ∧ R 0 38 = some 52 ∧ R 0 39 = some 53) ∧ spL 1 k R ∧ spL 12 k R ∧ spL 29 k R
theorem cL.c {k : Nat → Nat × Nat} {R : Nat → Nat → Option Nat} (h : cL k R) : k 0 = (0, 0) := h.1.1
theorem cL.s1 {k : Nat → Nat × Nat} {R : Nat → Nat → Option Nat} (h : cL k R) : spL 1 k R := h.2.2.1
theorem cL.s2 {k : Nat → Nat × Nat} {R : Nat → Nat → Option Nat} (h : cL k R) : spL 12 k R := h.2.2.2.1
theorem cL.s3 {k : Nat → Nat × Nat} {R : Nat → Nat → Option Nat} (h : cL k R) : spL 29 k R := h.2.2.2.2
/-- a spring of the component, flat -/
def cS (μ : am_M) (h : Nat) : Nat → Int32 := fun i => if i < 80 then am_I μ (h + 1 + i / 8) (i % 8) else if i < 83 then am_I μ h (i - 70) else 0
def spU (f : Nat → Int32) (k : Nat) (v : Int32) : Nat → Int32 := fun i => if i = k then v else f i
theorem cS_0 (hj : j < 8) : cS μ h j = am_I μ (h + 1) j := by
  unfold cS; rw [if_pos (by omega), show j / 8 = 0 by omega, show j % 8 = j by omega]
theorem cS_1 (hj : j < 8) : cS μ h (8 + j) = am_I μ (h + 2) j := by
  unfold cS; rw [if_pos (by omega), show (8 + j) / 8 = 1 by omega, show (8 + j) % 8 = j by omega]
theorem cS_2 (hj : j < 8) : cS μ h (16 + j) = am_I μ (h + 3) j := by
  unfold cS; rw [if_pos (by omega), show (16 + j) / 8 = 2 by omega, show (16 + j) % 8 = j by omega]
theorem cS_3 (hj : j < 8) : cS μ h (24 + j) = am_I μ (h + 4) j := by
  unfold cS; rw [if_pos (by omega), show (24 + j) / 8 = 3 by omega, show (24 + j) % 8 = j by omega]
theorem cS_4 (hj : j < 8) : cS μ h (32 + j) = am_I μ (h + 5) j := by
  unfold cS; rw [if_pos (by omega), show (32 + j) / 8 = 4 by omega, show (32 + j) % 8 = j by omega]
theorem cS_5 (hj : j < 8) : cS μ h (40 + j) = am_I μ (h + 6) j := by
  unfold cS; rw [if_pos (by omega), show (40 + j) / 8 = 5 by omega, show (40 + j) % 8 = j by omega]
theorem cS_6 (hj : j < 8) : cS μ h (48 + j) = am_I μ (h + 7) j := by
  unfold cS; rw [if_pos (by omega), show (48 + j) / 8 = 6 by omega, show (48 + j) % 8 = j by omega]
theorem cS_7 (hj : j < 8) : cS μ h (56 + j) = am_I μ (h + 8) j := by
  unfold cS; rw [if_pos (by omega), show (56 + j) / 8 = 7 by omega, show (56 + j) % 8 = j by omega]
theorem cS_8 (hj : j < 8) : cS μ h (64 + j) = am_I μ (h + 9) j := by
  unfold cS; rw [if_pos (by omega), show (64 + j) / 8 = 8 by omega, show (64 + j) % 8 = j by omega]
theorem cS_9 (hj : j < 8) : cS μ h (72 + j) = am_I μ (h + 10) j := by
  unfold cS; rw [if_pos (by omega), show (72 + j) / 8 = 9 by omega, show (72 + j) % 8 = j by omega]
theorem cS_d : cS μ h 80 = am_I μ h 10 := rfl
theorem cS_f : cS μ h 81 = am_I μ h 11 := rfl
theorem cS_t : cS μ h 82 = am_I μ h 12 := rfl
theorem cS_u {r : Nat} (hj : j < 8) (hr : r < 10) : cS (am_sI μ (h + 1 + r) j v) h = spU (cS μ h) (8 * r + j) v := by
  funext i
  unfold cS spU
  simp only [am_I_sI]
  by_cases h1 : i < 80
  · simp only [if_pos h1]
    by_cases h2 : i = 8 * r + j
    · rw [if_pos h2, if_pos ⟨by omega, by omega⟩]
    · rw [if_neg h2, if_neg (by omega)]
  · simp only [if_neg h1]
    rw [if_neg (by omega : ¬ i = 8 * r + j)]
    by_cases h3 : i < 83
    · simp only [if_pos h3]
      rw [if_neg (by omega)]
    · simp only [if_neg h3]
theorem cS_uf {r : Nat} (hr : r < 3) : cS (am_sI μ h (10 + r) v) h = spU (cS μ h) (80 + r) v := by
  funext i
  unfold cS spU
  simp only [am_I_sI]
  by_cases h1 : i < 80
  · simp only [if_pos h1]
    rw [if_neg (by omega), if_neg (by omega)]
  · simp only [if_neg h1]
    by_cases h3 : i < 83
    · simp only [if_pos h3]
      by_cases h2 : i = 80 + r
      · rw [if_pos h2, if_pos ⟨trivial, by omega⟩]
      · rw [if_neg h2, if_neg (by omega)]
    · simp only [if_neg h3]
      rw [if_neg (by omega)]
theorem cS_congr {ν : am_M} (hh : ∀ a b, h ≤ a → a ≤ h + 10 → am_I ν a b = am_I μ a b) : cS ν h = cS μ h := by
  funext i
  unfold cS
  by_cases h1 : i < 80
  · rw [if_pos h1, if_pos h1, hh _ _ (by omega) (by omega)]
  · rw [if_neg h1, if_neg h1, hh _ _ (by omega) (by omega)]
theorem cS_o {a b : Nat} (ha : a < h ∨ h + 10 < a) : cS (am_sI μ a b v) h = cS μ h :=
  cS_congr fun x y q r => by rw [am_I_sI, if_neg (by omega)]
theorem cS_sR {a b : Nat} {r : Option Nat} : cS (am_sR μ a b r) h = cS μ h := rfl
theorem cS_sL {a b : Nat} {r : Int64} : cS (am_sL μ a b r) h = cS μ h := rfl
def orB (p : Nat → Bool) : Nat → Int32
  | 0 => 0
  | n + 1 => orB p n ||| (if p n = true then 1 <<< (nI n &&& 31) else 0)
theorem wX1_in : am_Wp d mX1_in 0 [.long p1, am_F, .long p2, am_F, .long p3, am_F] [] μ K ↔ K (some (.int (if p2 ≤ p1 ∧ p1 ≤ p3 then 1 else 0))) μ := by
  simp only [gX1_in_0, gX1_in_1, gX1_in_2, gX1_in_3, gX1_in_6, gX1_in_7, gX1_in_9, gX1_in_10, gX1_in_13, gX1_in_14, gX1_in_17, gX1_in_18, am_kill_int, am_kill_ref, am_kill_null, am_kill_F, am_kill_long, am_cat_n, am_cat_i, am_cat_r, am_cat_0, am_cat_l, am_nr_n, am_nr_i, am_nr_r, am_nr_0, am_nr_l, Option.toList_some, Option.toList_none, List.nil_append, List.cons_append, va_rf_s, va_rf_n, am_II, am_I_sR, am_I_sL, am_R_sI, am_RR, am_R_sL, am_L_sI, am_L_sR, am_LL, am_k_sI, am_k_sR, am_k_sL, am_n_sI, am_n_sR, am_n_sL, true_and, and_true, true_or, or_true, or_false, false_or, not_true_eq_false, not_false_eq_true, Nat.reduceLT, am_dS, am_dP, am_d1, Nat.reduceSub, Nat.reduceMul, ne_eq, Nat.reduceBEq, Nat.reduceAdd, Nat.reduceLeDiff, Nat.reduceEqDiff, and_self, and_false, false_and, if_true, if_false, am_nb, am_nb0, am_nb1, am_lc1, am_lc2, am_lc3, am_b0, am_b1, Nat.add_zero, Bool.false_eq_true, Nat.zero_le]
  by_cases h1 : p2 ≤ p1
  · have h1' : ¬ p1 < p2 := Int64.not_lt.mpr h1
    by_cases h2 : p1 ≤ p3
    · have h2' : ¬ p3 < p1 := Int64.not_lt.mpr h2
      simp only [h1, h2, h1', h2', am_kill_int, am_kill_ref, am_kill_null, am_kill_F, am_kill_long, am_cat_n, am_cat_i, am_cat_r, am_cat_0, am_cat_l, am_nr_n, am_nr_i, am_nr_r, am_nr_0, am_nr_l, Option.toList_some, Option.toList_none, List.nil_append, List.cons_append, va_rf_s, va_rf_n, am_II, am_I_sR, am_I_sL, am_R_sI, am_RR, am_R_sL, am_L_sI, am_L_sR, am_LL, am_k_sI, am_k_sR, am_k_sL, am_n_sI, am_n_sR, am_n_sL, true_and, and_true, true_or, or_true, or_false, false_or, not_true_eq_false, not_false_eq_true, Nat.reduceLT, am_dS, am_dP, am_d1, Nat.reduceSub, Nat.reduceMul, ne_eq, Nat.reduceBEq, Nat.reduceAdd, Nat.reduceLeDiff, Nat.reduceEqDiff, and_self, and_false, false_and, if_true, if_false, am_nb, am_nb0, am_nb1, am_lc1, am_lc2, am_lc3, am_b0, am_b1, Nat.add_zero, Bool.false_eq_true, Nat.zero_le]
    · have h2' : p3 < p1 := Int64.not_le.mp h2
      simp only [h1, h2, h1', h2', am_kill_int, am_kill_ref, am_kill_null, am_kill_F, am_kill_long, am_cat_n, am_cat_i, am_cat_r, am_cat_0, am_cat_l, am_nr_n, am_nr_i, am_nr_r, am_nr_0, am_nr_l, Option.toList_some, Option.toList_none, List.nil_append, List.cons_append, va_rf_s, va_rf_n, am_II, am_I_sR, am_I_sL, am_R_sI, am_RR, am_R_sL, am_L_sI, am_L_sR, am_LL, am_k_sI, am_k_sR, am_k_sL, am_n_sI, am_n_sR, am_n_sL, true_and, and_true, true_or, or_true, or_false, false_or, not_true_eq_false, not_false_eq_true, Nat.reduceLT, am_dS, am_dP, am_d1, Nat.reduceSub, Nat.reduceMul, ne_eq, Nat.reduceBEq, Nat.reduceAdd, Nat.reduceLeDiff, Nat.reduceEqDiff, and_self, and_false, false_and, if_true, if_false, am_nb, am_nb0, am_nb1, am_lc1, am_lc2, am_lc3, am_b0, am_b1, Nat.add_zero, Bool.false_eq_true, Nat.zero_le]
  · have h1' : p1 < p2 := Int64.not_le.mp h1
    simp only [h1, h1', am_kill_int, am_kill_ref, am_kill_null, am_kill_F, am_kill_long, am_cat_n, am_cat_i, am_cat_r, am_cat_0, am_cat_l, am_nr_n, am_nr_i, am_nr_r, am_nr_0, am_nr_l, Option.toList_some, Option.toList_none, List.nil_append, List.cons_append, va_rf_s, va_rf_n, am_II, am_I_sR, am_I_sL, am_R_sI, am_RR, am_R_sL, am_L_sI, am_L_sR, am_LL, am_k_sI, am_k_sR, am_k_sL, am_n_sI, am_n_sR, am_n_sL, true_and, and_true, true_or, or_true, or_false, false_or, not_true_eq_false, not_false_eq_true, Nat.reduceLT, am_dS, am_dP, am_d1, Nat.reduceSub, Nat.reduceMul, ne_eq, Nat.reduceBEq, Nat.reduceAdd, Nat.reduceLeDiff, Nat.reduceEqDiff, and_self, and_false, false_and, if_true, if_false, am_nb, am_nb0, am_nb1, am_lc1, am_lc2, am_lc3, am_b0, am_b1, Nat.add_zero, Bool.false_eq_true, Nat.zero_le]
theorem wX1_isNest (hN : am_I μ 0 2 = nI N) (h8 : N ≤ 8) (hk : am_k μ 0 = (0, 0)) : am_Wp (d + 1) mX1_isNest 0 [.ref 0, .int x] [] μ K ↔ K (some (.int (if isN x N = true then 1 else 0))) μ := by
  simp only [gX1_isNest_0, gX1_isNest_1, gX1_isNest_2, gX1_isNest_3, gX1_isNest_4, gX1_isNest_7, gX1_isNest_8, gX1_isNest_9, gX1_isNest_10, gX1_isNest_13, am_kill_int, am_kill_ref, am_kill_null, am_kill_F, am_kill_long, am_cat_n, am_cat_i, am_cat_r, am_cat_0, am_cat_l, am_nr_n, am_nr_i, am_nr_r, am_nr_0, am_nr_l, Option.toList_some, Option.toList_none, List.nil_append, List.cons_append, va_rf_s, va_rf_n, am_II, am_I_sR, am_I_sL, am_R_sI, am_RR, am_R_sL, am_L_sI, am_L_sR, am_LL, am_k_sI, am_k_sR, am_k_sL, am_n_sI, am_n_sR, am_n_sL, true_and, and_true, true_or, or_true, or_false, false_or, not_true_eq_false, not_false_eq_true, Nat.reduceLT, am_dS, am_dP, am_d1, Nat.reduceSub, Nat.reduceMul, ne_eq, Nat.reduceBEq, Nat.reduceAdd, Nat.reduceLeDiff, Nat.reduceEqDiff, and_self, and_false, false_and, if_true, if_false, am_nb, am_nb0, am_nb1, am_lc1, am_lc2, am_lc3, am_b0, am_b1, Nat.add_zero, Bool.false_eq_true, Nat.zero_le, hk, hN, wX1_in, am_l0, am_leL, am_isb]
theorem wX1_isColour : am_Wp (d + 1) mX1_isColour 0 [.int x] [] μ K ↔ K (some (.int (if isN x 10 = true then 1 else 0))) μ := by
  have e : (9 : Int64) = (nI 10 - 1).toInt64 := by decide
  simp only [gX1_isColour_0, gX1_isColour_1, gX1_isColour_2, gX1_isColour_3, gX1_isColour_6, gX1_isColour_9, am_kill_int, am_kill_ref, am_kill_null, am_kill_F, am_kill_long, am_cat_n, am_cat_i, am_cat_r, am_cat_0, am_cat_l, am_nr_n, am_nr_i, am_nr_r, am_nr_0, am_nr_l, Option.toList_some, Option.toList_none, List.nil_append, List.cons_append, va_rf_s, va_rf_n, am_II, am_I_sR, am_I_sL, am_R_sI, am_RR, am_R_sL, am_L_sI, am_L_sR, am_LL, am_k_sI, am_k_sR, am_k_sL, am_n_sI, am_n_sR, am_n_sL, true_and, and_true, true_or, or_true, or_false, false_or, not_true_eq_false, not_false_eq_true, Nat.reduceLT, am_dS, am_dP, am_d1, Nat.reduceSub, Nat.reduceMul, ne_eq, Nat.reduceBEq, Nat.reduceAdd, Nat.reduceLeDiff, Nat.reduceEqDiff, and_self, and_false, false_and, if_true, if_false, am_nb, am_nb0, am_nb1, am_lc1, am_lc2, am_lc3, am_b0, am_b1, Nat.add_zero, Bool.false_eq_true, Nat.zero_le, wX1_in, am_l0, e, am_leL, am_isb]
theorem wX1_has : am_Wp d mX1_has 0 [.int x, .int y] [] μ K ↔ K (some (.int (if x >>> (y &&& 31) &&& 1 = 1 then 1 else 0))) μ := by
  simp only [gX1_has_0, gX1_has_1, gX1_has_2, gX1_has_3, gX1_has_4, gX1_has_5, gX1_has_6, gX1_has_9, gX1_has_10, gX1_has_13, gX1_has_14, am_kill_int, am_kill_ref, am_kill_null, am_kill_F, am_kill_long, am_cat_n, am_cat_i, am_cat_r, am_cat_0, am_cat_l, am_nr_n, am_nr_i, am_nr_r, am_nr_0, am_nr_l, Option.toList_some, Option.toList_none, List.nil_append, List.cons_append, va_rf_s, va_rf_n, am_II, am_I_sR, am_I_sL, am_R_sI, am_RR, am_R_sL, am_L_sI, am_L_sR, am_LL, am_k_sI, am_k_sR, am_k_sL, am_n_sI, am_n_sR, am_n_sL, true_and, and_true, true_or, or_true, or_false, false_or, not_true_eq_false, not_false_eq_true, Nat.reduceLT, am_dS, am_dP, am_d1, Nat.reduceSub, Nat.reduceMul, ne_eq, Nat.reduceBEq, Nat.reduceAdd, Nat.reduceLeDiff, Nat.reduceEqDiff, and_self, and_false, false_and, if_true, if_false, am_nb, am_nb0, am_nb1, am_lc1, am_lc2, am_lc3, am_b0, am_b1, Nat.add_zero, Bool.false_eq_true, Nat.zero_le]
  split <;> simp only [am_kill_int, am_kill_ref, am_kill_null, am_kill_F, am_kill_long, am_cat_n, am_cat_i, am_cat_r, am_cat_0, am_cat_l, am_nr_n, am_nr_i, am_nr_r, am_nr_0, am_nr_l, Option.toList_some, Option.toList_none, List.nil_append, List.cons_append, va_rf_s, va_rf_n, am_II, am_I_sR, am_I_sL, am_R_sI, am_RR, am_R_sL, am_L_sI, am_L_sR, am_LL, am_k_sI, am_k_sR, am_k_sL, am_n_sI, am_n_sR, am_n_sL, true_and, and_true, true_or, or_true, or_false, false_or, not_true_eq_false, not_false_eq_true, Nat.reduceLT, am_dS, am_dP, am_d1, Nat.reduceSub, Nat.reduceMul, ne_eq, Nat.reduceBEq, Nat.reduceAdd, Nat.reduceLeDiff, Nat.reduceEqDiff, and_self, and_false, false_and, if_true, if_false, am_nb, am_nb0, am_nb1, am_lc1, am_lc2, am_lc3, am_b0, am_b1, Nat.add_zero, Bool.false_eq_true, Nat.zero_le]
theorem wX1_isPair (hN : am_I μ 0 2 = nI N) (h8 : N ≤ 8) (hk : am_k μ 0 = (0, 0)) : am_Wp (d + 2) mX1_isPair 0 [.ref 0, .int x, .int y] [] μ K ↔ K (some (.int (if isN x N = true ∧ isN y N = true ∧ ¬ x = y then 1 else 0))) μ := by
  simp only [gX1_isPair_0, gX1_isPair_1, gX1_isPair_2, gX1_isPair_5, gX1_isPair_8, gX1_isPair_9, gX1_isPair_10, gX1_isPair_13, gX1_isPair_16, gX1_isPair_17, gX1_isPair_18, gX1_isPair_21, gX1_isPair_22, gX1_isPair_25, gX1_isPair_26, am_kill_int, am_kill_ref, am_kill_null, am_kill_F, am_kill_long, am_cat_n, am_cat_i, am_cat_r, am_cat_0, am_cat_l, am_nr_n, am_nr_i, am_nr_r, am_nr_0, am_nr_l, Option.toList_some, Option.toList_none, List.nil_append, List.cons_append, va_rf_s, va_rf_n, am_II, am_I_sR, am_I_sL, am_R_sI, am_RR, am_R_sL, am_L_sI, am_L_sR, am_LL, am_k_sI, am_k_sR, am_k_sL, am_n_sI, am_n_sR, am_n_sL, true_and, and_true, true_or, or_true, or_false, false_or, not_true_eq_false, not_false_eq_true, Nat.reduceLT, am_dS, am_dP, am_d1, Nat.reduceSub, Nat.reduceMul, ne_eq, Nat.reduceBEq, Nat.reduceAdd, Nat.reduceLeDiff, Nat.reduceEqDiff, and_self, and_false, false_and, if_true, if_false, am_nb, am_nb0, am_nb1, am_lc1, am_lc2, am_lc3, am_b0, am_b1, Nat.add_zero, Bool.false_eq_true, Nat.zero_le, wX1_isNest hN h8 hk]
  by_cases h1 : isN x N = true
  · by_cases h2 : isN y N = true
    · by_cases h3 : x = y
      · simp only [h1, h2, h3, hk, am_kill_int, am_kill_ref, am_kill_null, am_kill_F, am_kill_long, am_cat_n, am_cat_i, am_cat_r, am_cat_0, am_cat_l, am_nr_n, am_nr_i, am_nr_r, am_nr_0, am_nr_l, Option.toList_some, Option.toList_none, List.nil_append, List.cons_append, va_rf_s, va_rf_n, am_II, am_I_sR, am_I_sL, am_R_sI, am_RR, am_R_sL, am_L_sI, am_L_sR, am_LL, am_k_sI, am_k_sR, am_k_sL, am_n_sI, am_n_sR, am_n_sL, true_and, and_true, true_or, or_true, or_false, false_or, not_true_eq_false, not_false_eq_true, Nat.reduceLT, am_dS, am_dP, am_d1, Nat.reduceSub, Nat.reduceMul, ne_eq, Nat.reduceBEq, Nat.reduceAdd, Nat.reduceLeDiff, Nat.reduceEqDiff, and_self, and_false, false_and, if_true, if_false, am_nb, am_nb0, am_nb1, am_lc1, am_lc2, am_lc3, am_b0, am_b1, Nat.add_zero, Bool.false_eq_true, Nat.zero_le]
      · simp only [h1, h2, h3, hk, am_kill_int, am_kill_ref, am_kill_null, am_kill_F, am_kill_long, am_cat_n, am_cat_i, am_cat_r, am_cat_0, am_cat_l, am_nr_n, am_nr_i, am_nr_r, am_nr_0, am_nr_l, Option.toList_some, Option.toList_none, List.nil_append, List.cons_append, va_rf_s, va_rf_n, am_II, am_I_sR, am_I_sL, am_R_sI, am_RR, am_R_sL, am_L_sI, am_L_sR, am_LL, am_k_sI, am_k_sR, am_k_sL, am_n_sI, am_n_sR, am_n_sL, true_and, and_true, true_or, or_true, or_false, false_or, not_true_eq_false, not_false_eq_true, Nat.reduceLT, am_dS, am_dP, am_d1, Nat.reduceSub, Nat.reduceMul, ne_eq, Nat.reduceBEq, Nat.reduceAdd, Nat.reduceLeDiff, Nat.reduceEqDiff, and_self, and_false, false_and, if_true, if_false, am_nb, am_nb0, am_nb1, am_lc1, am_lc2, am_lc3, am_b0, am_b1, Nat.add_zero, Bool.false_eq_true, Nat.zero_le]
    · simp only [h1, h2, hk, am_kill_int, am_kill_ref, am_kill_null, am_kill_F, am_kill_long, am_cat_n, am_cat_i, am_cat_r, am_cat_0, am_cat_l, am_nr_n, am_nr_i, am_nr_r, am_nr_0, am_nr_l, Option.toList_some, Option.toList_none, List.nil_append, List.cons_append, va_rf_s, va_rf_n, am_II, am_I_sR, am_I_sL, am_R_sI, am_RR, am_R_sL, am_L_sI, am_L_sR, am_LL, am_k_sI, am_k_sR, am_k_sL, am_n_sI, am_n_sR, am_n_sL, true_and, and_true, true_or, or_true, or_false, false_or, not_true_eq_false, not_false_eq_true, Nat.reduceLT, am_dS, am_dP, am_d1, Nat.reduceSub, Nat.reduceMul, ne_eq, Nat.reduceBEq, Nat.reduceAdd, Nat.reduceLeDiff, Nat.reduceEqDiff, and_self, and_false, false_and, if_true, if_false, am_nb, am_nb0, am_nb1, am_lc1, am_lc2, am_lc3, am_b0, am_b1, Nat.add_zero, Bool.false_eq_true, Nat.zero_le]
  · simp only [h1, hk, am_kill_int, am_kill_ref, am_kill_null, am_kill_F, am_kill_long, am_cat_n, am_cat_i, am_cat_r, am_cat_0, am_cat_l, am_nr_n, am_nr_i, am_nr_r, am_nr_0, am_nr_l, Option.toList_some, Option.toList_none, List.nil_append, List.cons_append, va_rf_s, va_rf_n, am_II, am_I_sR, am_I_sL, am_R_sI, am_RR, am_R_sL, am_L_sI, am_L_sR, am_LL, am_k_sI, am_k_sR, am_k_sL, am_n_sI, am_n_sR, am_n_sL, true_and, and_true, true_or, or_true, or_false, false_or, not_true_eq_false, not_false_eq_true, Nat.reduceLT, am_dS, am_dP, am_d1, Nat.reduceSub, Nat.reduceMul, ne_eq, Nat.reduceBEq, Nat.reduceAdd, Nat.reduceLeDiff, Nat.reduceEqDiff, and_self, and_false, false_and, if_true, if_false, am_nb, am_nb0, am_nb1, am_lc1, am_lc2, am_lc3, am_b0, am_b1, Nat.add_zero, Bool.false_eq_true, Nat.zero_le]
theorem wX2_isNoticed (hj : j < 8) (hs : spL h (am_k μ) (am_R μ)) : am_Wp d mX2_isNoticed 0 [.ref h, .int (nI j)] [] μ K ↔ K (some (.int (if 0 ≤ cS μ h (32 + j) then 1 else 0))) μ := by
  unfold spL at hs
  rw [cS_4 hj]
  have hin : vp_in (nI j) 8 := vp_in_nI (by omega) (by omega)
  have hcl : (nI j).toNatClampNeg = j := nI_clamp (by omega)
  simp only [gX2_isNoticed_0, gX2_isNoticed_1, gX2_isNoticed_4, gX2_isNoticed_5, gX2_isNoticed_6, gX2_isNoticed_9, gX2_isNoticed_10, gX2_isNoticed_13, gX2_isNoticed_14, am_kill_int, am_kill_ref, am_kill_null, am_kill_F, am_kill_long, am_cat_n, am_cat_i, am_cat_r, am_cat_0, am_cat_l, am_nr_n, am_nr_i, am_nr_r, am_nr_0, am_nr_l, Option.toList_some, Option.toList_none, List.nil_append, List.cons_append, va_rf_s, va_rf_n, am_II, am_I_sR, am_I_sL, am_R_sI, am_RR, am_R_sL, am_L_sI, am_L_sR, am_LL, am_k_sI, am_k_sR, am_k_sL, am_n_sI, am_n_sR, am_n_sL, true_and, and_true, true_or, or_true, or_false, false_or, not_true_eq_false, not_false_eq_true, Nat.reduceLT, am_dS, am_dP, am_d1, Nat.reduceSub, Nat.reduceMul, ne_eq, Nat.reduceBEq, Nat.reduceAdd, Nat.reduceLeDiff, Nat.reduceEqDiff, and_self, and_false, false_and, if_true, if_false, am_nb, am_nb0, am_nb1, am_lc1, am_lc2, am_lc3, am_b0, am_b1, Nat.add_zero, Bool.false_eq_true, Nat.zero_le, hs, hin, hcl]
  by_cases hc : 0 ≤ am_I μ (h + 5) j
  · simp only [hc, Int32.not_lt.mpr hc, am_kill_int, am_kill_ref, am_kill_null, am_kill_F, am_kill_long, am_cat_n, am_cat_i, am_cat_r, am_cat_0, am_cat_l, am_nr_n, am_nr_i, am_nr_r, am_nr_0, am_nr_l, Option.toList_some, Option.toList_none, List.nil_append, List.cons_append, va_rf_s, va_rf_n, am_II, am_I_sR, am_I_sL, am_R_sI, am_RR, am_R_sL, am_L_sI, am_L_sR, am_LL, am_k_sI, am_k_sR, am_k_sL, am_n_sI, am_n_sR, am_n_sL, true_and, and_true, true_or, or_true, or_false, false_or, not_true_eq_false, not_false_eq_true, Nat.reduceLT, am_dS, am_dP, am_d1, Nat.reduceSub, Nat.reduceMul, ne_eq, Nat.reduceBEq, Nat.reduceAdd, Nat.reduceLeDiff, Nat.reduceEqDiff, and_self, and_false, false_and, if_true, if_false, am_nb, am_nb0, am_nb1, am_lc1, am_lc2, am_lc3, am_b0, am_b1, Nat.add_zero, Bool.false_eq_true, Nat.zero_le]
  · simp only [hc, Int32.not_le.mp hc, am_kill_int, am_kill_ref, am_kill_null, am_kill_F, am_kill_long, am_cat_n, am_cat_i, am_cat_r, am_cat_0, am_cat_l, am_nr_n, am_nr_i, am_nr_r, am_nr_0, am_nr_l, Option.toList_some, Option.toList_none, List.nil_append, List.cons_append, va_rf_s, va_rf_n, am_II, am_I_sR, am_I_sL, am_R_sI, am_RR, am_R_sL, am_L_sI, am_L_sR, am_LL, am_k_sI, am_k_sR, am_k_sL, am_n_sI, am_n_sR, am_n_sL, true_and, and_true, true_or, or_true, or_false, false_or, not_true_eq_false, not_false_eq_true, Nat.reduceLT, am_dS, am_dP, am_d1, Nat.reduceSub, Nat.reduceMul, ne_eq, Nat.reduceBEq, Nat.reduceAdd, Nat.reduceLeDiff, Nat.reduceEqDiff, and_self, and_false, false_and, if_true, if_false, am_nb, am_nb0, am_nb1, am_lc1, am_lc2, am_lc3, am_b0, am_b1, Nat.add_zero, Bool.false_eq_true, Nat.zero_le]
def inT (c : Int32) (S : Nat → Int32) (n : Nat) : Bool := decide (0 ≤ S (32 + n)) && decide (c ≤ S (32 + n))
theorem wX1_isInTime (hj : j < 8) (hk : am_k μ 0 = (0, 0)) (hs : spL h (am_k μ) (am_R μ)) : am_Wp (d + 1) mX1_isInTime 0 [.ref 0, .ref h, .int (nI j)] [] μ K ↔ K (some (.int (if inT (am_I μ 0 3) (cS μ h) j = true then 1 else 0))) μ := by
  have hs' := hs
  unfold spL at hs'
  have hin : vp_in (nI j) 8 := vp_in_nI (by omega) (by omega)
  have hcl : (nI j).toNatClampNeg = j := nI_clamp (by omega)
  simp only [gX1_isInTime_0, gX1_isInTime_0n, gX1_isInTime_1, gX1_isInTime_2, gX1_isInTime_5, gX1_isInTime_8, gX1_isInTime_8n, gX1_isInTime_9, gX1_isInTime_12, gX1_isInTime_13, gX1_isInTime_14, gX1_isInTime_15, gX1_isInTime_18, gX1_isInTime_21, gX1_isInTime_22, gX1_isInTime_25, gX1_isInTime_26, am_kill_int, am_kill_ref, am_kill_null, am_kill_F, am_kill_long, am_cat_n, am_cat_i, am_cat_r, am_cat_0, am_cat_l, am_nr_n, am_nr_i, am_nr_r, am_nr_0, am_nr_l, Option.toList_some, Option.toList_none, List.nil_append, List.cons_append, va_rf_s, va_rf_n, am_II, am_I_sR, am_I_sL, am_R_sI, am_RR, am_R_sL, am_L_sI, am_L_sR, am_LL, am_k_sI, am_k_sR, am_k_sL, am_n_sI, am_n_sR, am_n_sL, true_and, and_true, true_or, or_true, or_false, false_or, not_true_eq_false, not_false_eq_true, Nat.reduceLT, am_dS, am_dP, am_d1, Nat.reduceSub, Nat.reduceMul, ne_eq, Nat.reduceBEq, Nat.reduceAdd, Nat.reduceLeDiff, Nat.reduceEqDiff, and_self, and_false, false_and, if_true, if_false, am_nb, am_nb0, am_nb1, am_lc1, am_lc2, am_lc3, am_b0, am_b1, Nat.add_zero, Bool.false_eq_true, Nat.zero_le, wX2_isNoticed hj hs, hk, hs', hin, hcl, inT, ← cS_4 hj]
  by_cases hc : 0 ≤ cS μ h (32 + j)
  · by_cases hc2 : am_I μ 0 3 ≤ cS μ h (32 + j)
    · simp only [hc, hc2, Int32.not_lt.mpr hc2, decide_true, Bool.and_self, am_kill_int, am_kill_ref, am_kill_null, am_kill_F, am_kill_long, am_cat_n, am_cat_i, am_cat_r, am_cat_0, am_cat_l, am_nr_n, am_nr_i, am_nr_r, am_nr_0, am_nr_l, Option.toList_some, Option.toList_none, List.nil_append, List.cons_append, va_rf_s, va_rf_n, am_II, am_I_sR, am_I_sL, am_R_sI, am_RR, am_R_sL, am_L_sI, am_L_sR, am_LL, am_k_sI, am_k_sR, am_k_sL, am_n_sI, am_n_sR, am_n_sL, true_and, and_true, true_or, or_true, or_false, false_or, not_true_eq_false, not_false_eq_true, Nat.reduceLT, am_dS, am_dP, am_d1, Nat.reduceSub, Nat.reduceMul, ne_eq, Nat.reduceBEq, Nat.reduceAdd, Nat.reduceLeDiff, Nat.reduceEqDiff, and_self, and_false, false_and, if_true, if_false, am_nb, am_nb0, am_nb1, am_lc1, am_lc2, am_lc3, am_b0, am_b1, Nat.add_zero, Bool.false_eq_true, Nat.zero_le]
    · simp only [hc, hc2, Int32.not_le.mp hc2, decide_true, decide_false, Bool.and_false, Bool.false_eq_true, am_kill_int, am_kill_ref, am_kill_null, am_kill_F, am_kill_long, am_cat_n, am_cat_i, am_cat_r, am_cat_0, am_cat_l, am_nr_n, am_nr_i, am_nr_r, am_nr_0, am_nr_l, Option.toList_some, Option.toList_none, List.nil_append, List.cons_append, va_rf_s, va_rf_n, am_II, am_I_sR, am_I_sL, am_R_sI, am_RR, am_R_sL, am_L_sI, am_L_sR, am_LL, am_k_sI, am_k_sR, am_k_sL, am_n_sI, am_n_sR, am_n_sL, true_and, and_true, true_or, or_true, or_false, false_or, not_true_eq_false, not_false_eq_true, Nat.reduceLT, am_dS, am_dP, am_d1, Nat.reduceSub, Nat.reduceMul, ne_eq, Nat.reduceBEq, Nat.reduceAdd, Nat.reduceLeDiff, Nat.reduceEqDiff, and_self, and_false, false_and, if_true, if_false, am_nb, am_nb0, am_nb1, am_lc1, am_lc2, am_lc3, am_b0, am_b1, Nat.add_zero, Bool.false_eq_true, Nat.zero_le]
  · simp only [hc, decide_false, Bool.false_and, Bool.false_eq_true, am_kill_int, am_kill_ref, am_kill_null, am_kill_F, am_kill_long, am_cat_n, am_cat_i, am_cat_r, am_cat_0, am_cat_l, am_nr_n, am_nr_i, am_nr_r, am_nr_0, am_nr_l, Option.toList_some, Option.toList_none, List.nil_append, List.cons_append, va_rf_s, va_rf_n, am_II, am_I_sR, am_I_sL, am_R_sI, am_RR, am_R_sL, am_L_sI, am_L_sR, am_LL, am_k_sI, am_k_sR, am_k_sL, am_n_sI, am_n_sR, am_n_sL, true_and, and_true, true_or, or_true, or_false, false_or, not_true_eq_false, not_false_eq_true, Nat.reduceLT, am_dS, am_dP, am_d1, Nat.reduceSub, Nat.reduceMul, ne_eq, Nat.reduceBEq, Nat.reduceAdd, Nat.reduceLeDiff, Nat.reduceEqDiff, and_self, and_false, false_and, if_true, if_false, am_nb, am_nb0, am_nb1, am_lc1, am_lc2, am_lc3, am_b0, am_b1, Nat.add_zero, Bool.false_eq_true, Nat.zero_le]
end CQ
