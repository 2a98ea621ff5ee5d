/-! whose it is, which it was -/
set_option maxRecDepth 100000
section WHV
variable {d : Nat} {μ ν ξ μ1 ν1 : am_M} {K : Option Value → am_M → Prop} {x y z c w : Int32} {h h' N C i j k r n L R M m a b e q q' t u s f B : Nat} {v : Int32} {ru : Option PF} {S S' T : Nat → Int32} {p : Int64}
theorem mod_half {a b : Nat} (hb : 0 < b) (ha : a < 2 ^ (k + 1)) (hba : b < a) : a % b < 2 ^ k := by
  have h1 := Nat.mod_lt a hb
  have h2 := Nat.div_add_mod a b
  have h3 : 0 < a / b := Nat.div_pos (by omega) hb
  have h4 : b * 1 ≤ b * (a / b) := Nat.mul_le_mul_left b h3
  rw [Nat.pow_succ] at ha
  omega
theorem gcd_step {a b : Nat} : Nat.gcd a b = Nat.gcd b (a % b) := by
  rw [Nat.gcd_comm a b, Nat.gcd_rec b a, Nat.gcd_comm]
theorem wX1_common : ∀ (k a b e : Nat) (K : Option Value → am_M → Prop), a < 2 ^ 62 → b < 2 ^ 62 → b < 2 ^ k → 2 * k ≤ e → (am_Wp e mX1_common 0 [.long (lN a), am_F, .long (lN b), am_F] [] μ K ↔ K (some (.long (lN (Nat.gcd a b)))) μ) := by
  intro k
  have z0 : (0 : Int64) = lN 0 := rfl
  have zero : ∀ (a e : Nat) (K : Option Value → am_M → Prop), am_Wp e mX1_common 0 [.long (lN a), am_F, .long (lN 0), am_F] [] μ K ↔ K (some (.long (lN a))) μ := fun a e K => by
    simp only [gX1_common_0, gX1_common_1, gX1_common_2, gX1_common_3, gX1_common_6, gX1_common_7, gX1_common_17, am_kill_int, am_kill_ref, am_kill_null, am_kill_F, am_kill_long, am_cat_n, am_cat_i, am_cat_r, am_cat_0, am_cat_l, am_nr_n, am_nr_i, am_nr_r, am_nr_0, am_nr_l, Option.toList_some, Option.toList_none, List.nil_append, List.cons_append, va_rf_s, va_rf_n, am_II, am_I_sR, am_I_sL, am_R_sI, am_RR, am_R_sL, am_L_sI, am_L_sR, am_LL, am_k_sI, am_k_sR, am_k_sL, am_n_sI, am_n_sR, am_n_sL, true_and, and_true, true_or, or_true, or_false, false_or, not_true_eq_false, not_false_eq_true, Nat.reduceLT, am_dS, am_dP, am_d1, Nat.reduceSub, Nat.reduceMul, ne_eq, Nat.reduceBEq, Nat.reduceAdd, Nat.reduceLeDiff, Nat.reduceEqDiff, and_self, and_false, false_and, if_true, if_false, am_nb, am_nb0, am_nb1, am_lc1, am_lc2, am_lc3, am_b0, am_b1, am_10, am_c8, am_c16, am_c24, am_c32, am_c40, am_c48, am_c56, am_c64, am_c72, Nat.add_zero, Bool.false_eq_true, Nat.zero_le, z0]
  have one : ∀ (a b e : Nat) (K : Option Value → am_M → Prop), a < 2 ^ 62 → b < 2 ^ 62 → b ≠ 0 → 0 < e → (am_Wp e mX1_common 0 [.long (lN a), am_F, .long (lN b), am_F] [] μ K ↔ am_Wp (e - 1) mX1_common 0 [.long (lN b), am_F, .long (lN (a % b)), am_F] [] μ (fun r1 μ1 => am_nr r1 ∧ am_Wp e mX1_common 17 [.long (lN a), am_F, .long (lN b), am_F] (r1.toList ++ []) μ1 K)) := fun a b e K ha hb hb0 he => by
    have nz : ¬ lN b = lN 0 := by rw [pk_lEQ (by omega) (by omega)]; exact hb0
    have hrem := pk_lRem (a := a) (b := b) (by omega) (by omega) (by omega)
    rw [gX1_common_0]
    simp only [gX1_common_1, gX1_common_2, gX1_common_3, gX1_common_10, gX1_common_11, gX1_common_12, gX1_common_13, gX1_common_14, am_kill_int, am_kill_ref, am_kill_null, am_kill_F, am_kill_long, am_cat_n, am_cat_i, am_cat_r, am_cat_0, am_cat_l, am_nr_n, am_nr_i, am_nr_r, am_nr_0, am_nr_l, Option.toList_some, Option.toList_none, List.nil_append, List.cons_append, va_rf_s, va_rf_n, am_II, am_I_sR, am_I_sL, am_R_sI, am_RR, am_R_sL, am_L_sI, am_L_sR, am_LL, am_k_sI, am_k_sR, am_k_sL, am_n_sI, am_n_sR, am_n_sL, true_and, and_true, true_or, or_true, or_false, false_or, not_true_eq_false, not_false_eq_true, Nat.reduceLT, am_dS, am_dP, am_d1, Nat.reduceSub, Nat.reduceMul, ne_eq, Nat.reduceBEq, Nat.reduceAdd, Nat.reduceLeDiff, Nat.reduceEqDiff, and_self, and_false, false_and, if_true, if_false, am_nb, am_nb0, am_nb1, am_lc1, am_lc2, am_lc3, am_b0, am_b1, am_10, am_c8, am_c16, am_c24, am_c32, am_c40, am_c48, am_c56, am_c64, am_c72, Nat.add_zero, Bool.false_eq_true, Nat.zero_le, z0, nz, hrem, he]
  induction k with
  | zero =>
    intro a b e K ha hb hk he
    have : b = 0 := by omega
    subst this
    rw [zero, Nat.gcd_zero_right]
  | succ k ih =>
    intro a b e K ha hb hk he
    by_cases h0 : b = 0
    · subst h0
      rw [zero, Nat.gcd_zero_right]
    · have hr := Nat.mod_lt a (by omega : 0 < b)
      rw [one a b e K ha hb h0 (by omega), gcd_step]
      by_cases h1 : a % b = 0
      · rw [h1, zero, Nat.gcd_zero_right]
        simp only [gX1_common_17, am_kill_int, am_kill_ref, am_kill_null, am_kill_F, am_kill_long, am_cat_n, am_cat_i, am_cat_r, am_cat_0, am_cat_l, am_nr_n, am_nr_i, am_nr_r, am_nr_0, am_nr_l, Option.toList_some, Option.toList_none, List.nil_append, List.cons_append, va_rf_s, va_rf_n, am_II, am_I_sR, am_I_sL, am_R_sI, am_RR, am_R_sL, am_L_sI, am_L_sR, am_LL, am_k_sI, am_k_sR, am_k_sL, am_n_sI, am_n_sR, am_n_sL, true_and, and_true, true_or, or_true, or_false, false_or, not_true_eq_false, not_false_eq_true, Nat.reduceLT, am_dS, am_dP, am_d1, Nat.reduceSub, Nat.reduceMul, ne_eq, Nat.reduceBEq, Nat.reduceAdd, Nat.reduceLeDiff, Nat.reduceEqDiff, and_self, and_false, false_and, if_true, if_false, am_nb, am_nb0, am_nb1, am_lc1, am_lc2, am_lc3, am_b0, am_b1, am_10, am_c8, am_c16, am_c24, am_c32, am_c40, am_c48, am_c56, am_c64, am_c72, Nat.add_zero, Bool.false_eq_true, Nat.zero_le]
      · have hr2 := mod_half (k := k) (by omega : 0 < a % b) hk hr
        rw [one b (a % b) (e - 1) _ hb (by omega) h1 (by omega), gcd_step, ih (a % b) (b % (a % b)) (e - 1 - 1) _ (by omega) (by have := Nat.mod_lt b (by omega : 0 < a % b); omega) hr2 (by omega)]
        simp only [gX1_common_17, am_kill_int, am_kill_ref, am_kill_null, am_kill_F, am_kill_long, am_cat_n, am_cat_i, am_cat_r, am_cat_0, am_cat_l, am_nr_n, am_nr_i, am_nr_r, am_nr_0, am_nr_l, Option.toList_some, Option.toList_none, List.nil_append, List.cons_append, va_rf_s, va_rf_n, am_II, am_I_sR, am_I_sL, am_R_sI, am_RR, am_R_sL, am_L_sI, am_L_sR, am_LL, am_k_sI, am_k_sR, am_k_sL, am_n_sI, am_n_sR, am_n_sL, true_and, and_true, true_or, or_true, or_false, false_or, not_true_eq_false, not_false_eq_true, Nat.reduceLT, am_dS, am_dP, am_d1, Nat.reduceSub, Nat.reduceMul, ne_eq, Nat.reduceBEq, Nat.reduceAdd, Nat.reduceLeDiff, Nat.reduceEqDiff, and_self, and_false, false_and, if_true, if_false, am_nb, am_nb0, am_nb1, am_lc1, am_lc2, am_lc3, am_b0, am_b1, am_10, am_c8, am_c16, am_c24, am_c32, am_c40, am_c48, am_c56, am_c64, am_c72, Nat.add_zero, Bool.false_eq_true, Nat.zero_le]
theorem wX3_common : ∀ (k a b e : Nat) (K : Option Value → am_M → Prop), a < 2 ^ 62 → b < 2 ^ 62 → b < 2 ^ k → 2 * k ≤ e → (am_Wp e mX3_common 0 [.long (lN a), am_F, .long (lN b), am_F] [] μ K ↔ K (some (.long (lN (Nat.gcd a b)))) μ) := by
  intro k
  have z0 : (0 : Int64) = lN 0 := rfl
  have zero : ∀ (a e : Nat) (K : Option Value → am_M → Prop), am_Wp e mX3_common 0 [.long (lN a), am_F, .long (lN 0), am_F] [] μ K ↔ K (some (.long (lN a))) μ := fun a e K => by
    simp only [gX3_common_0, gX3_common_1, gX3_common_2, gX3_common_3, gX3_common_6, gX3_common_7, gX3_common_17, am_kill_int, am_kill_ref, am_kill_null, am_kill_F, am_kill_long, am_cat_n, am_cat_i, am_cat_r, am_cat_0, am_cat_l, am_nr_n, am_nr_i, am_nr_r, am_nr_0, am_nr_l, Option.toList_some, Option.toList_none, List.nil_append, List.cons_append, va_rf_s, va_rf_n, am_II, am_I_sR, am_I_sL, am_R_sI, am_RR, am_R_sL, am_L_sI, am_L_sR, am_LL, am_k_sI, am_k_sR, am_k_sL, am_n_sI, am_n_sR, am_n_sL, true_and, and_true, true_or, or_true, or_false, false_or, not_true_eq_false, not_false_eq_true, Nat.reduceLT, am_dS, am_dP, am_d1, Nat.reduceSub, Nat.reduceMul, ne_eq, Nat.reduceBEq, Nat.reduceAdd, Nat.reduceLeDiff, Nat.reduceEqDiff, and_self, and_false, false_and, if_true, if_false, am_nb, am_nb0, am_nb1, am_lc1, am_lc2, am_lc3, am_b0, am_b1, am_10, am_c8, am_c16, am_c24, am_c32, am_c40, am_c48, am_c56, am_c64, am_c72, Nat.add_zero, Bool.false_eq_true, Nat.zero_le, z0]
  have one : ∀ (a b e : Nat) (K : Option Value → am_M → Prop), a < 2 ^ 62 → b < 2 ^ 62 → b ≠ 0 → 0 < e → (am_Wp e mX3_common 0 [.long (lN a), am_F, .long (lN b), am_F] [] μ K ↔ am_Wp (e - 1) mX3_common 0 [.long (lN b), am_F, .long (lN (a % b)), am_F] [] μ (fun r1 μ1 => am_nr r1 ∧ am_Wp e mX3_common 17 [.long (lN a), am_F, .long (lN b), am_F] (r1.toList ++ []) μ1 K)) := fun a b e K ha hb hb0 he => by
    have nz : ¬ lN b = lN 0 := by rw [pk_lEQ (by omega) (by omega)]; exact hb0
    have hrem := pk_lRem (a := a) (b := b) (by omega) (by omega) (by omega)
    rw [gX3_common_0]
    simp only [gX3_common_1, gX3_common_2, gX3_common_3, gX3_common_10, gX3_common_11, gX3_common_12, gX3_common_13, gX3_common_14, am_kill_int, am_kill_ref, am_kill_null, am_kill_F, am_kill_long, am_cat_n, am_cat_i, am_cat_r, am_cat_0, am_cat_l, am_nr_n, am_nr_i, am_nr_r, am_nr_0, am_nr_l, Option.toList_some, Option.toList_none, List.nil_append, List.cons_append, va_rf_s, va_rf_n, am_II, am_I_sR, am_I_sL, am_R_sI, am_RR, am_R_sL, am_L_sI, am_L_sR, am_LL, am_k_sI, am_k_sR, am_k_sL, am_n_sI, am_n_sR, am_n_sL, true_and, and_true, true_or, or_true, or_false, false_or, not_true_eq_false, not_false_eq_true, Nat.reduceLT, am_dS, am_dP, am_d1, Nat.reduceSub, Nat.reduceMul, ne_eq, Nat.reduceBEq, Nat.reduceAdd, Nat.reduceLeDiff, Nat.reduceEqDiff, and_self, and_false, false_and, if_true, if_false, am_nb, am_nb0, am_nb1, am_lc1, am_lc2, am_lc3, am_b0, am_b1, am_10, am_c8, am_c16, am_c24, am_c32, am_c40, am_c48, am_c56, am_c64, am_c72, Nat.add_zero, Bool.false_eq_true, Nat.zero_le, z0, nz, hrem, he]
  induction k with
  | zero =>
    intro a b e K ha hb hk he
    have : b = 0 := by omega
    subst this
    rw [zero, Nat.gcd_zero_right]
  | succ k ih =>
    intro a b e K ha hb hk he
    by_cases h0 : b = 0
    · subst h0
      rw [zero, Nat.gcd_zero_right]
    · have hr := Nat.mod_lt a (by omega : 0 < b)
      rw [one a b e K ha hb h0 (by omega), gcd_step]
      by_cases h1 : a % b = 0
      · rw [h1, zero, Nat.gcd_zero_right]
        simp only [gX3_common_17, am_kill_int, am_kill_ref, am_kill_null, am_kill_F, am_kill_long, am_cat_n, am_cat_i, am_cat_r, am_cat_0, am_cat_l, am_nr_n, am_nr_i, am_nr_r, am_nr_0, am_nr_l, Option.toList_some, Option.toList_none, List.nil_append, List.cons_append, va_rf_s, va_rf_n, am_II, am_I_sR, am_I_sL, am_R_sI, am_RR, am_R_sL, am_L_sI, am_L_sR, am_LL, am_k_sI, am_k_sR, am_k_sL, am_n_sI, am_n_sR, am_n_sL, true_and, and_true, true_or, or_true, or_false, false_or, not_true_eq_false, not_false_eq_true, Nat.reduceLT, am_dS, am_dP, am_d1, Nat.reduceSub, Nat.reduceMul, ne_eq, Nat.reduceBEq, Nat.reduceAdd, Nat.reduceLeDiff, Nat.reduceEqDiff, and_self, and_false, false_and, if_true, if_false, am_nb, am_nb0, am_nb1, am_lc1, am_lc2, am_lc3, am_b0, am_b1, am_10, am_c8, am_c16, am_c24, am_c32, am_c40, am_c48, am_c56, am_c64, am_c72, Nat.add_zero, Bool.false_eq_true, Nat.zero_le]
      · have hr2 := mod_half (k := k) (by omega : 0 < a % b) hk hr
        rw [one b (a % b) (e - 1) _ hb (by omega) h1 (by omega), gcd_step, ih (a % b) (b % (a % b)) (e - 1 - 1) _ (by omega) (by have := Nat.mod_lt b (by omega : 0 < a % b); omega) hr2 (by omega)]
        simp only [gX3_common_17, am_kill_int, am_kill_ref, am_kill_null, am_kill_F, am_kill_long, am_cat_n, am_cat_i, am_cat_r, am_cat_0, am_cat_l, am_nr_n, am_nr_i, am_nr_r, am_nr_0, am_nr_l, Option.toList_some, Option.toList_none, List.nil_append, List.cons_append, va_rf_s, va_rf_n, am_II, am_I_sR, am_I_sL, am_R_sI, am_RR, am_R_sL, am_L_sI, am_L_sR, am_LL, am_k_sI, am_k_sR, am_k_sL, am_n_sI, am_n_sR, am_n_sL, true_and, and_true, true_or, or_true, or_false, false_or, not_true_eq_false, not_false_eq_true, Nat.reduceLT, am_dS, am_dP, am_d1, Nat.reduceSub, Nat.reduceMul, ne_eq, Nat.reduceBEq, Nat.reduceAdd, Nat.reduceLeDiff, Nat.reduceEqDiff, and_self, and_false, false_and, if_true, if_false, am_nb, am_nb0, am_nb1, am_lc1, am_lc2, am_lc3, am_b0, am_b1, am_10, am_c8, am_c16, am_c24, am_c32, am_c40, am_c48, am_c56, am_c64, am_c72, Nat.add_zero, Bool.false_eq_true, Nat.zero_le]
/-- the chance of k of n looks, in tenths -/
def lkN (j n k : Nat) : Nat := j ^ k * (10 - j) ^ (n - k)
theorem lkN_le (hj : j ≤ 10) (hn : n ≤ 8) (hk : k ≤ n) : lkN j n k ≤ 100000000 := by
  have h1 : j ^ k ≤ 10 ^ k := Nat.pow_le_pow_left hj k
  have h2 : (10 - j) ^ (n - k) ≤ 10 ^ (n - k) := Nat.pow_le_pow_left (by omega) _
  have h3 : lkN j n k ≤ 10 ^ k * 10 ^ (n - k) := Nat.mul_le_mul h1 h2
  rw [← Nat.pow_add, show k + (n - k) = n by omega] at h3
  have h4 : (10 : Nat) ^ n ≤ 10 ^ 8 := Nat.pow_le_pow_right (by decide) hn
  omega
theorem ten_sub (hj : j ≤ 10) : (10 : Int32) - nI j = nI (10 - j) := by
  have e : ∀ j : Fin 11, (10 : Int32) - nI j.val = nI (10 - j.val) := by decide
  exact e ⟨j, by omega⟩
theorem wX1_looks (hj : j ≤ 10) (hn : n ≤ 8) (hk : k ≤ n) : am_Wp d mX1_looks 0 [.int (nI j), .int (nI n), .int (nI k), am_F, am_F, am_F] [] μ K ↔ K (some (.long (lN (lkN j n k)))) μ := by
  refine am_Wp.det ?_
  have e1 : (nI j).toInt64 = lN j := nI_l (by omega)
  have e2 : ((10 : Int32) - nI j).toInt64 = lN (10 - j) := by rw [ten_sub hj, nI_l (by omega)]
  have l1 : (1 : Int64) = lN 1 := rfl
  simp only [gX1_looks_0, gX1_looks_1, gX1_looks_2, gX1_looks_3, am_kill_int, am_kill_ref, am_kill_null, am_kill_F, am_kill_long, am_cat_n, am_cat_i, am_cat_r, am_cat_0, am_cat_l, am_nr_n, am_nr_i, am_nr_r, am_nr_0, am_nr_l, Option.toList_some, Option.toList_none, List.nil_append, List.cons_append, va_rf_s, va_rf_n, am_II, am_I_sR, am_I_sL, am_R_sI, am_RR, am_R_sL, am_L_sI, am_L_sR, am_LL, am_k_sI, am_k_sR, am_k_sL, am_n_sI, am_n_sR, am_n_sL, true_and, and_true, true_or, or_true, or_false, false_or, not_true_eq_false, not_false_eq_true, Nat.reduceLT, am_dS, am_dP, am_d1, Nat.reduceSub, Nat.reduceMul, ne_eq, Nat.reduceBEq, Nat.reduceAdd, Nat.reduceLeDiff, Nat.reduceEqDiff, and_self, and_false, false_and, if_true, if_false, am_nb, am_nb0, am_nb1, am_lc1, am_lc2, am_lc3, am_b0, am_b1, am_10, am_c8, am_c16, am_c24, am_c32, am_c40, am_c48, am_c56, am_c64, am_c72, Nat.add_zero, Bool.false_eq_true, Nat.zero_le, l1]
  refine am_for (N := n) (fun i ls ν => ν = μ ∧ ls = [.int (nI j), .int (nI n), .int (nI k), .long (lN (j ^ (min i k) * (10 - j) ^ (i - k))), am_F, .int (nI i)]) ?_ ?_ n 0 _ _ (by omega) ⟨rfl, by rw [Nat.zero_min, Nat.zero_sub]; rfl⟩
  · rintro i ls ν hi ⟨rfl, rfl⟩ ih
    have hlt : ¬ nI n ≤ nI i := nI_ge hi (by omega)
    rw [gX1_looks_5]
    by_cases g : i < k
    · have hlt2 : ¬ nI k ≤ nI i := nI_ge g (by omega)
      simp only [gX1_looks_7, gX1_looks_8, gX1_looks_11, gX1_looks_12, gX1_looks_14, gX1_looks_15, gX1_looks_18, gX1_looks_19, gX1_looks_20, gX1_looks_28, gX1_looks_29, gX1_looks_30, gX1_looks_33, am_kill_int, am_kill_ref, am_kill_null, am_kill_F, am_kill_long, am_cat_n, am_cat_i, am_cat_r, am_cat_0, am_cat_l, am_nr_n, am_nr_i, am_nr_r, am_nr_0, am_nr_l, Option.toList_some, Option.toList_none, List.nil_append, List.cons_append, va_rf_s, va_rf_n, am_II, am_I_sR, am_I_sL, am_R_sI, am_RR, am_R_sL, am_L_sI, am_L_sR, am_LL, am_k_sI, am_k_sR, am_k_sL, am_n_sI, am_n_sR, am_n_sL, true_and, and_true, true_or, or_true, or_false, false_or, not_true_eq_false, not_false_eq_true, Nat.reduceLT, am_dS, am_dP, am_d1, Nat.reduceSub, Nat.reduceMul, ne_eq, Nat.reduceBEq, Nat.reduceAdd, Nat.reduceLeDiff, Nat.reduceEqDiff, and_self, and_false, false_and, if_true, if_false, am_nb, am_nb0, am_nb1, am_lc1, am_lc2, am_lc3, am_b0, am_b1, am_10, am_c8, am_c16, am_c24, am_c32, am_c40, am_c48, am_c56, am_c64, am_c72, Nat.add_zero, Bool.false_eq_true, Nat.zero_le, hlt, hlt2, e1, lN_mul, nI_1]
      refine ih _ _ ⟨rfl, ?_⟩
      rw [Nat.min_eq_left (by omega), Nat.min_eq_left (by omega), show i - k = 0 by omega, show i + 1 - k = 0 by omega, Nat.pow_zero, Nat.mul_one, Nat.mul_one, Nat.pow_succ]
    · have hle : nI k ≤ nI i := nI_le (by omega) (by omega)
      simp only [gX1_looks_7, gX1_looks_8, gX1_looks_11, gX1_looks_12, gX1_looks_14, gX1_looks_15, gX1_looks_23, gX1_looks_25, gX1_looks_26, gX1_looks_27, gX1_looks_28, gX1_looks_29, gX1_looks_30, gX1_looks_33, am_kill_int, am_kill_ref, am_kill_null, am_kill_F, am_kill_long, am_cat_n, am_cat_i, am_cat_r, am_cat_0, am_cat_l, am_nr_n, am_nr_i, am_nr_r, am_nr_0, am_nr_l, Option.toList_some, Option.toList_none, List.nil_append, List.cons_append, va_rf_s, va_rf_n, am_II, am_I_sR, am_I_sL, am_R_sI, am_RR, am_R_sL, am_L_sI, am_L_sR, am_LL, am_k_sI, am_k_sR, am_k_sL, am_n_sI, am_n_sR, am_n_sL, true_and, and_true, true_or, or_true, or_false, false_or, not_true_eq_false, not_false_eq_true, Nat.reduceLT, am_dS, am_dP, am_d1, Nat.reduceSub, Nat.reduceMul, ne_eq, Nat.reduceBEq, Nat.reduceAdd, Nat.reduceLeDiff, Nat.reduceEqDiff, and_self, and_false, false_and, if_true, if_false, am_nb, am_nb0, am_nb1, am_lc1, am_lc2, am_lc3, am_b0, am_b1, am_10, am_c8, am_c16, am_c24, am_c32, am_c40, am_c48, am_c56, am_c64, am_c72, Nat.add_zero, Bool.false_eq_true, Nat.zero_le, hlt, hle, e2, lN_mul, nI_1]
      refine ih _ _ ⟨rfl, ?_⟩
      rw [Nat.min_eq_right (by omega), Nat.min_eq_right (by omega), show i + 1 - k = i - k + 1 by omega, Nat.pow_succ, Nat.mul_assoc]
  · rintro ls ν ⟨rfl, rfl⟩
    rw [gX1_looks_5]
    simp only [gX1_looks_7, gX1_looks_8, gX1_looks_36, gX1_looks_37, am_kill_int, am_kill_ref, am_kill_null, am_kill_F, am_kill_long, am_cat_n, am_cat_i, am_cat_r, am_cat_0, am_cat_l, am_nr_n, am_nr_i, am_nr_r, am_nr_0, am_nr_l, Option.toList_some, Option.toList_none, List.nil_append, List.cons_append, va_rf_s, va_rf_n, am_II, am_I_sR, am_I_sL, am_R_sI, am_RR, am_R_sL, am_L_sI, am_L_sR, am_LL, am_k_sI, am_k_sR, am_k_sL, am_n_sI, am_n_sR, am_n_sL, true_and, and_true, true_or, or_true, or_false, false_or, not_true_eq_false, not_false_eq_true, Nat.reduceLT, am_dS, am_dP, am_d1, Nat.reduceSub, Nat.reduceMul, ne_eq, Nat.reduceBEq, Nat.reduceAdd, Nat.reduceLeDiff, Nat.reduceEqDiff, and_self, and_false, false_and, if_true, if_false, am_nb, am_nb0, am_nb1, am_lc1, am_lc2, am_lc3, am_b0, am_b1, am_10, am_c8, am_c16, am_c24, am_c32, am_c40, am_c48, am_c56, am_c64, am_c72, Nat.add_zero, Bool.false_eq_true, Nat.zero_le, Int32.le_refl]
    rw [Nat.min_eq_right hk]
    rfl
theorem wX3_power (hn : n ≤ 8) : am_Wp d mX3_power 0 [.long (lN a), am_F, .int (nI n), am_F, am_F, am_F] [] μ K ↔ K (some (.long (lN (a ^ n)))) μ := by
  refine am_Wp.det ?_
  have l1 : (1 : Int64) = lN 1 := rfl
  simp only [gX3_power_0, gX3_power_1, gX3_power_2, gX3_power_3, am_kill_int, am_kill_ref, am_kill_null, am_kill_F, am_kill_long, am_cat_n, am_cat_i, am_cat_r, am_cat_0, am_cat_l, am_nr_n, am_nr_i, am_nr_r, am_nr_0, am_nr_l, Option.toList_some, Option.toList_none, List.nil_append, List.cons_append, va_rf_s, va_rf_n, am_II, am_I_sR, am_I_sL, am_R_sI, am_RR, am_R_sL, am_L_sI, am_L_sR, am_LL, am_k_sI, am_k_sR, am_k_sL, am_n_sI, am_n_sR, am_n_sL, true_and, and_true, true_or, or_true, or_false, false_or, not_true_eq_false, not_false_eq_true, Nat.reduceLT, am_dS, am_dP, am_d1, Nat.reduceSub, Nat.reduceMul, ne_eq, Nat.reduceBEq, Nat.reduceAdd, Nat.reduceLeDiff, Nat.reduceEqDiff, and_self, and_false, false_and, if_true, if_false, am_nb, am_nb0, am_nb1, am_lc1, am_lc2, am_lc3, am_b0, am_b1, am_10, am_c8, am_c16, am_c24, am_c32, am_c40, am_c48, am_c56, am_c64, am_c72, Nat.add_zero, Bool.false_eq_true, Nat.zero_le, l1]
  refine am_for (N := n) (fun i ls ν => ν = μ ∧ ls = [.long (lN a), am_F, .int (nI n), .long (lN (a ^ i)), am_F, .int (nI i)]) ?_ ?_ n 0 _ _ (by omega) ⟨rfl, rfl⟩
  · rintro i ls ν hi ⟨rfl, rfl⟩ ih
    have hlt : ¬ nI n ≤ nI i := nI_ge hi (by omega)
    rw [gX3_power_5]
    simp only [gX3_power_7, gX3_power_8, gX3_power_11, gX3_power_12, gX3_power_13, gX3_power_14, gX3_power_15, gX3_power_18, am_kill_int, am_kill_ref, am_kill_null, am_kill_F, am_kill_long, am_cat_n, am_cat_i, am_cat_r, am_cat_0, am_cat_l, am_nr_n, am_nr_i, am_nr_r, am_nr_0, am_nr_l, Option.toList_some, Option.toList_none, List.nil_append, List.cons_append, va_rf_s, va_rf_n, am_II, am_I_sR, am_I_sL, am_R_sI, am_RR, am_R_sL, am_L_sI, am_L_sR, am_LL, am_k_sI, am_k_sR, am_k_sL, am_n_sI, am_n_sR, am_n_sL, true_and, and_true, true_or, or_true, or_false, false_or, not_true_eq_false, not_false_eq_true, Nat.reduceLT, am_dS, am_dP, am_d1, Nat.reduceSub, Nat.reduceMul, ne_eq, Nat.reduceBEq, Nat.reduceAdd, Nat.reduceLeDiff, Nat.reduceEqDiff, and_self, and_false, false_and, if_true, if_false, am_nb, am_nb0, am_nb1, am_lc1, am_lc2, am_lc3, am_b0, am_b1, am_10, am_c8, am_c16, am_c24, am_c32, am_c40, am_c48, am_c56, am_c64, am_c72, Nat.add_zero, Bool.false_eq_true, Nat.zero_le, hlt, lN_mul, nI_1]
    exact ih _ _ ⟨rfl, by rw [Nat.pow_succ]⟩
  · rintro ls ν ⟨rfl, rfl⟩
    rw [gX3_power_5]
    simp only [gX3_power_7, gX3_power_8, gX3_power_21, gX3_power_22, am_kill_int, am_kill_ref, am_kill_null, am_kill_F, am_kill_long, am_cat_n, am_cat_i, am_cat_r, am_cat_0, am_cat_l, am_nr_n, am_nr_i, am_nr_r, am_nr_0, am_nr_l, Option.toList_some, Option.toList_none, List.nil_append, List.cons_append, va_rf_s, va_rf_n, am_II, am_I_sR, am_I_sL, am_R_sI, am_RR, am_R_sL, am_L_sI, am_L_sR, am_LL, am_k_sI, am_k_sR, am_k_sL, am_n_sI, am_n_sR, am_n_sL, true_and, and_true, true_or, or_true, or_false, false_or, not_true_eq_false, not_false_eq_true, Nat.reduceLT, am_dS, am_dP, am_d1, Nat.reduceSub, Nat.reduceMul, ne_eq, Nat.reduceBEq, Nat.reduceAdd, Nat.reduceLeDiff, Nat.reduceEqDiff, and_self, and_false, false_and, if_true, if_false, am_nb, am_nb0, am_nb1, am_lc1, am_lc2, am_lc3, am_b0, am_b1, am_10, am_c8, am_c16, am_c24, am_c32, am_c40, am_c48, am_c56, am_c64, am_c72, Nat.add_zero, Bool.false_eq_true, Nat.zero_le, Int32.le_refl, and_self]
theorem sub_I (hk : k ≤ n) (hn : n ≤ 8) : nI n - nI k = nI (n - k) := by
  have e : ∀ n : Fin 9, ∀ k : Fin 9, k.val ≤ n.val → nI n.val - nI k.val = nI (n.val - k.val) := by decide
  exact e ⟨n, by omega⟩ ⟨k, by omega⟩ hk
theorem wX3_looks (hj : j ≤ 10) (hn : n ≤ 8) (hk : k ≤ n) : am_Wp (d + 1) mX3_looks 0 [.int (nI j), .int (nI n), .int (nI k)] [] μ K ↔ K (some (.long (lN (lkN j n k)))) μ := by
  have e1 : (nI j).toInt64 = lN j := nI_l (by omega)
  have e2 : ((10 : Int32) - nI j).toInt64 = lN (10 - j) := by rw [ten_sub hj, nI_l (by omega)]
  have p1 := fun (a : Nat) (K : Option Value → am_M → Prop) => wX3_power (d := d) (μ := μ) (a := a) (n := k) (K := K) (by omega)
  have p2 := fun (a : Nat) (K : Option Value → am_M → Prop) => wX3_power (d := d) (μ := μ) (a := a) (n := n - k) (K := K) (by omega)
  refine am_Wp.det ?_
  simp only [gX3_looks_0, gX3_looks_1, gX3_looks_2, gX3_looks_3, gX3_looks_6, gX3_looks_8, gX3_looks_9, gX3_looks_10, gX3_looks_11, gX3_looks_12, gX3_looks_13, gX3_looks_14, gX3_looks_17, gX3_looks_18, am_kill_int, am_kill_ref, am_kill_null, am_kill_F, am_kill_long, am_cat_n, am_cat_i, am_cat_r, am_cat_0, am_cat_l, am_nr_n, am_nr_i, am_nr_r, am_nr_0, am_nr_l, Option.toList_some, Option.toList_none, List.nil_append, List.cons_append, va_rf_s, va_rf_n, am_II, am_I_sR, am_I_sL, am_R_sI, am_RR, am_R_sL, am_L_sI, am_L_sR, am_LL, am_k_sI, am_k_sR, am_k_sL, am_n_sI, am_n_sR, am_n_sL, true_and, and_true, true_or, or_true, or_false, false_or, not_true_eq_false, not_false_eq_true, Nat.reduceLT, am_dS, am_dP, am_d1, Nat.reduceSub, Nat.reduceMul, ne_eq, Nat.reduceBEq, Nat.reduceAdd, Nat.reduceLeDiff, Nat.reduceEqDiff, and_self, and_false, false_and, if_true, if_false, am_nb, am_nb0, am_nb1, am_lc1, am_lc2, am_lc3, am_b0, am_b1, am_10, am_c8, am_c16, am_c24, am_c32, am_c40, am_c48, am_c56, am_c64, am_c72, Nat.add_zero, Bool.false_eq_true, Nat.zero_le, e1, e2, sub_I hk hn, p1, p2, lN_mul, lkN, and_self]
def whO (q p r n k : Nat) : Nat × Nat := (q * lkN p n k, q * lkN p n k + (10 - q) * lkN r n k)
def vWho (x1 x2 x3 x4 x5 : Int32) : Int32 := if isN x1 11 = true ∧ isN x2 11 = true ∧ isN x3 11 = true ∧ isN x4 9 = true ∧ 0 ≤ x5 ∧ x5 ≤ x4 then (if (whO x1.toNatClampNeg x2.toNatClampNeg x3.toNatClampNeg x4.toNatClampNeg x5.toNatClampNeg).2 = 0 then -2 else 0) else -1
def pWho (x1 x2 x3 x4 x5 : Int32) : Option (List Int64) := if isN x1 11 = true ∧ isN x2 11 = true ∧ isN x3 11 = true ∧ isN x4 9 = true ∧ 0 ≤ x5 ∧ x5 ≤ x4 then (if (whO x1.toNatClampNeg x2.toNatClampNeg x3.toNatClampNeg x4.toNatClampNeg x5.toNatClampNeg).2 = 0 then none else some [lN ((whO x1.toNatClampNeg x2.toNatClampNeg x3.toNatClampNeg x4.toNatClampNeg x5.toNatClampNeg).1 / Nat.gcd (whO x1.toNatClampNeg x2.toNatClampNeg x3.toNatClampNeg x4.toNatClampNeg x5.toNatClampNeg).1 (whO x1.toNatClampNeg x2.toNatClampNeg x3.toNatClampNeg x4.toNatClampNeg x5.toNatClampNeg).2), lN ((whO x1.toNatClampNeg x2.toNatClampNeg x3.toNatClampNeg x4.toNatClampNeg x5.toNatClampNeg).2 / Nat.gcd (whO x1.toNatClampNeg x2.toNatClampNeg x3.toNatClampNeg x4.toNatClampNeg x5.toNatClampNeg).1 (whO x1.toNatClampNeg x2.toNatClampNeg x3.toNatClampNeg x4.toNatClampNeg x5.toNatClampNeg).2)]) else none
variable {x1 x2 x3 x4 x5 : Int32}
theorem qc_whose (hP : Per N C ru c μ) : QC mX1_whose [.ref 0, .int x1, .int x2, .int x3, .int x4, .int x5, am_F, am_F, am_F, am_F, am_F, am_F] μ (vWho x1 x2 x3 x4 x5) (pWho x1 x2 x3 x4 x5) := by
  intro d K hK
  have hC := hP.1.1
  have hcu := hC.1
  simp only [cL, spL, Nat.reduceAdd] at hcu
  have hN := hC.2.1
  have h8 := hC.2.2.1
  have hk := hC.1.c
  have e11L : (10 : Int64) = (nI 11 - 1).toInt64 := by decide
  have e9L : (8 : Int64) = (nI 9 - 1).toInt64 := by decide
  have e11I : (10 : Int32) = nI 11 - 1 := by decide
  have e9I : (8 : Int32) = nI 9 - 1 := by decide
  have o10 : ¬ (1 : Int32) = 0 := by decide
  unfold vWho pWho at hK
  by_cases h1 : isN x1 11 = true
  · by_cases h2 : isN x2 11 = true
    · by_cases h3 : isN x3 11 = true
      · by_cases h4 : isN x4 9 = true
        · by_cases h5 : 0 ≤ x5 ∧ x5 ≤ x4
          · simp only [if_pos (And.intro h1 (And.intro h2 (And.intro h3 (And.intro h4 h5))))] at hK
            obtain ⟨a, ha, rfl⟩ := isN_of (by omega) h1
            obtain ⟨p, hp, rfl⟩ := isN_of (by omega) h2
            obtain ⟨r, hr, rfl⟩ := isN_of (by omega) h3
            obtain ⟨n, hn, rfl⟩ := isN_of (by omega) h4
            obtain ⟨k, hk', rfl⟩ := rngI (M := n) (by omega) h5.1 h5.2
            simp only [nI_clamp (show a < 2 ^ 31 by omega), nI_clamp (show p < 2 ^ 31 by omega), nI_clamp (show r < 2 ^ 31 by omega), nI_clamp (show n < 2 ^ 31 by omega), nI_clamp (show k < 2 ^ 31 by omega)] at hK
            have l1 := lkN_le (j := p) (n := n) (k := k) (by omega) (by omega) (by omega)
            have l2 := lkN_le (j := r) (n := n) (k := k) (by omega) (by omega) (by omega)
            have u1 : (whO a p r n k).1 ≤ 1000000000 := by
              have : a * lkN p n k ≤ 10 * 100000000 := Nat.mul_le_mul (by omega) l1
              exact this
            have u2 : (whO a p r n k).2 ≤ 2000000000 := by
              have h1 : (10 - a) * lkN r n k ≤ 10 * 100000000 := Nat.mul_le_mul (by omega) l2
              have h2 : (whO a p r n k).2 = (whO a p r n k).1 + (10 - a) * lkN r n k := rfl
              omega
            have e1 : (nI a).toInt64 = lN a := nI_l (by omega)
            have e2 : ((10 : Int32) - nI a).toInt64 = lN (10 - a) := by rw [ten_sub (by omega), nI_l (by omega)]
            have k1 := fun (K : Option Value → am_M → Prop) => wX1_looks (d := d + 199) (μ := μ) (j := p) (n := n) (k := k) (K := K) (by omega) (by omega) (by omega)
            have k2 := fun (K : Option Value → am_M → Prop) => wX1_looks (d := d + 199) (μ := μ) (j := r) (n := n) (k := k) (K := K) (by omega) (by omega) (by omega)
            have w1 : lN a * lN (lkN p n k) = lN (whO a p r n k).1 := lN_mul _ _
            have w2 : lN (whO a p r n k).1 + lN (10 - a) * lN (lkN r n k) = lN (whO a p r n k).2 := by rw [lN_mul, lN_add]; rfl
            have h5' := h5
            have z0 : (0 : Int64) = lN 0 := rfl
            have e10 : (10 : Int32) = nI 11 - 1 := by decide
            simp only [gX1_whose_0, gX1_whose_1, gX1_whose_2, gX1_whose_3, gX1_whose_6, gX1_whose_9, gX1_whose_12, gX1_whose_13, gX1_whose_14, gX1_whose_15, gX1_whose_18, gX1_whose_21, gX1_whose_24, gX1_whose_25, gX1_whose_26, gX1_whose_27, gX1_whose_30, gX1_whose_33, gX1_whose_36, gX1_whose_38, gX1_whose_39, gX1_whose_40, gX1_whose_43, gX1_whose_46, gX1_whose_49, gX1_whose_51, gX1_whose_52, gX1_whose_53, gX1_whose_55, gX1_whose_56, gX1_whose_59, am_kill_int, am_kill_ref, am_kill_null, am_kill_F, am_kill_long, am_cat_n, am_cat_i, am_cat_r, am_cat_0, am_cat_l, am_nr_n, am_nr_i, am_nr_r, am_nr_0, am_nr_l, Option.toList_some, Option.toList_none, List.nil_append, List.cons_append, va_rf_s, va_rf_n, am_II, am_I_sR, am_I_sL, am_R_sI, am_RR, am_R_sL, am_L_sI, am_L_sR, am_LL, am_k_sI, am_k_sR, am_k_sL, am_n_sI, am_n_sR, am_n_sL, true_and, and_true, true_or, or_true, or_false, false_or, not_true_eq_false, not_false_eq_true, Nat.reduceLT, am_dS, am_dP, am_d1, Nat.reduceSub, Nat.reduceMul, ne_eq, Nat.reduceBEq, Nat.reduceAdd, Nat.reduceLeDiff, Nat.reduceEqDiff, and_self, and_false, false_and, if_true, if_false, am_nb, am_nb0, am_nb1, am_lc1, am_lc2, am_lc3, am_b0, am_b1, am_10, am_c8, am_c16, am_c24, am_c32, am_c40, am_c48, am_c56, am_c64, am_c72, Nat.add_zero, Bool.false_eq_true, Nat.zero_le, hcu, wX1_in, am_l0, e11L, e9L, am_leL, am_isb, h1, h2, h3, h4, h5', o10]
            have st : am_Wp (d + 200) mX1_whose 64 [.ref 0, .int (nI a), .int (nI p), .int (nI r), .int (nI n), .int (nI k), am_F, am_F, am_F, am_F, am_F, am_F] [] μ K := by
              simp only [gX1_whose_64, gX1_whose_65, gX1_whose_66, gX1_whose_67, gX1_whose_69, gX1_whose_71, gX1_whose_74, gX1_whose_75, gX1_whose_77, gX1_whose_79, gX1_whose_81, gX1_whose_82, gX1_whose_83, gX1_whose_84, gX1_whose_85, gX1_whose_87, gX1_whose_89, gX1_whose_92, gX1_whose_93, gX1_whose_94, gX1_whose_96, gX1_whose_98, gX1_whose_99, gX1_whose_100, am_kill_int, am_kill_ref, am_kill_null, am_kill_F, am_kill_long, am_cat_n, am_cat_i, am_cat_r, am_cat_0, am_cat_l, am_nr_n, am_nr_i, am_nr_r, am_nr_0, am_nr_l, Option.toList_some, Option.toList_none, List.nil_append, List.cons_append, va_rf_s, va_rf_n, am_II, am_I_sR, am_I_sL, am_R_sI, am_RR, am_R_sL, am_L_sI, am_L_sR, am_LL, am_k_sI, am_k_sR, am_k_sL, am_n_sI, am_n_sR, am_n_sL, true_and, and_true, true_or, or_true, or_false, false_or, not_true_eq_false, not_false_eq_true, Nat.reduceLT, am_dS, am_dP, am_d1, Nat.reduceSub, Nat.reduceMul, ne_eq, Nat.reduceBEq, Nat.reduceAdd, Nat.reduceLeDiff, Nat.reduceEqDiff, and_self, and_false, false_and, if_true, if_false, am_nb, am_nb0, am_nb1, am_lc1, am_lc2, am_lc3, am_b0, am_b1, am_10, am_c8, am_c16, am_c24, am_c32, am_c40, am_c48, am_c56, am_c64, am_c72, Nat.add_zero, Bool.false_eq_true, Nat.zero_le, hcu, e1, e2, k1, k2, w1, w2]
              by_cases hz : (whO a p r n k).2 = 0
              · have hz' : (lN (whO a p r n k).2 = 0) = True := eq_true (by rw [hz]; rfl)
                simp only [if_pos hz] at hK
                simp only [hz', gX1_whose_103, gX1_whose_105, am_kill_int, am_kill_ref, am_kill_null, am_kill_F, am_kill_long, am_cat_n, am_cat_i, am_cat_r, am_cat_0, am_cat_l, am_nr_n, am_nr_i, am_nr_r, am_nr_0, am_nr_l, Option.toList_some, Option.toList_none, List.nil_append, List.cons_append, va_rf_s, va_rf_n, am_II, am_I_sR, am_I_sL, am_R_sI, am_RR, am_R_sL, am_L_sI, am_L_sR, am_LL, am_k_sI, am_k_sR, am_k_sL, am_n_sI, am_n_sR, am_n_sL, true_and, and_true, true_or, or_true, or_false, false_or, not_true_eq_false, not_false_eq_true, Nat.reduceLT, am_dS, am_dP, am_d1, Nat.reduceSub, Nat.reduceMul, ne_eq, Nat.reduceBEq, Nat.reduceAdd, Nat.reduceLeDiff, Nat.reduceEqDiff, and_self, and_false, false_and, if_true, if_false, am_nb, am_nb0, am_nb1, am_lc1, am_lc2, am_lc3, am_b0, am_b1, am_10, am_c8, am_c16, am_c24, am_c32, am_c40, am_c48, am_c56, am_c64, am_c72, Nat.add_zero, Bool.false_eq_true, Nat.zero_le]
                exact hK μ Fw.refl TC0 (fun _ => rfl)
              · have hz' : (lN (whO a p r n k).2 = 0) = False := eq_false (by rw [z0, pk_lEQ (by omega) (by omega)]; exact hz)
                simp only [if_neg hz] at hK
                have g0 : 0 < Nat.gcd (whO a p r n k).1 (whO a p r n k).2 := Nat.gcd_pos_of_pos_right _ (by omega)
                have g1 : Nat.gcd (whO a p r n k).1 (whO a p r n k).2 ≤ (whO a p r n k).2 := Nat.gcd_le_right _ (by omega)
                have gz : ¬ lN (Nat.gcd (whO a p r n k).1 (whO a p r n k).2) = 0 := by rw [z0, pk_lEQ (by omega) (by omega)]; omega
                have d1 := pk_lDiv (a := (whO a p r n k).1) (b := Nat.gcd (whO a p r n k).1 (whO a p r n k).2) (by omega) g0 (by omega)
                have d2 := pk_lDiv (a := (whO a p r n k).2) (b := Nat.gcd (whO a p r n k).1 (whO a p r n k).2) (by omega) g0 (by omega)
                have cc := fun (K : Option Value → am_M → Prop) => wX1_common (μ := μ) 31 (whO a p r n k).1 (whO a p r n k).2 (d + 199) K (by omega) (by omega) (by omega) (by omega)
                simp only [hz', gX1_whose_106, gX1_whose_108, gX1_whose_110, gX1_whose_113, gX1_whose_115, gX1_whose_116, gX1_whose_117, gX1_whose_120, gX1_whose_121, gX1_whose_123, gX1_whose_125, gX1_whose_126, gX1_whose_129, gX1_whose_130, gX1_whose_132, gX1_whose_134, gX1_whose_135, gX1_whose_138, gX1_whose_139, am_kill_int, am_kill_ref, am_kill_null, am_kill_F, am_kill_long, am_cat_n, am_cat_i, am_cat_r, am_cat_0, am_cat_l, am_nr_n, am_nr_i, am_nr_r, am_nr_0, am_nr_l, Option.toList_some, Option.toList_none, List.nil_append, List.cons_append, va_rf_s, va_rf_n, am_II, am_I_sR, am_I_sL, am_R_sI, am_RR, am_R_sL, am_L_sI, am_L_sR, am_LL, am_k_sI, am_k_sR, am_k_sL, am_n_sI, am_n_sR, am_n_sL, true_and, and_true, true_or, or_true, or_false, false_or, not_true_eq_false, not_false_eq_true, Nat.reduceLT, am_dS, am_dP, am_d1, Nat.reduceSub, Nat.reduceMul, ne_eq, Nat.reduceBEq, Nat.reduceAdd, Nat.reduceLeDiff, Nat.reduceEqDiff, and_self, and_false, false_and, if_true, if_false, am_nb, am_nb0, am_nb1, am_lc1, am_lc2, am_lc3, am_b0, am_b1, am_10, am_c8, am_c16, am_c24, am_c32, am_c40, am_c48, am_c56, am_c64, am_c72, Nat.add_zero, Bool.false_eq_true, Nat.zero_le, hcu, cc, gz, d1, d2, wX1_tells0, wX1_tells1]
                refine hK _ (((((Fw.refl.I (by unfold sC; omega)).L (Or.inl rfl)).I (by unfold sC; omega)).L (Or.inl rfl)).I (by unfold sC; omega)) (TC2 ?_ ?_ ?_) (fun i => ?_)
                · simp only [am_II, and_self, if_true]
                · simp only [am_L_sI, am_LL, and_self, if_true, Nat.reduceEqDiff, and_false, if_false]
                · simp only [am_L_sI, am_LL, and_self, if_true]
                · simp only [am_L_sI, am_LL, Nat.reduceEqDiff, false_and, if_false]
            exact st
          · have hn : ¬ (isN x1 11 = true ∧ isN x2 11 = true ∧ isN x3 11 = true ∧ isN x4 9 = true ∧ 0 ≤ x5 ∧ x5 ≤ x4) := fun z => h5 z.2.2.2.2
            simp only [if_neg hn] at hK
            simp only [gX1_whose_0, gX1_whose_1, gX1_whose_2, gX1_whose_3, gX1_whose_6, gX1_whose_9, gX1_whose_12, gX1_whose_13, gX1_whose_14, gX1_whose_15, gX1_whose_18, gX1_whose_21, gX1_whose_24, gX1_whose_25, gX1_whose_26, gX1_whose_27, gX1_whose_30, gX1_whose_33, gX1_whose_36, gX1_whose_38, gX1_whose_39, gX1_whose_40, gX1_whose_43, gX1_whose_46, gX1_whose_49, gX1_whose_51, gX1_whose_52, gX1_whose_53, gX1_whose_55, gX1_whose_56, gX1_whose_59, gX1_whose_62, gX1_whose_63, am_kill_int, am_kill_ref, am_kill_null, am_kill_F, am_kill_long, am_cat_n, am_cat_i, am_cat_r, am_cat_0, am_cat_l, am_nr_n, am_nr_i, am_nr_r, am_nr_0, am_nr_l, Option.toList_some, Option.toList_none, List.nil_append, List.cons_append, va_rf_s, va_rf_n, am_II, am_I_sR, am_I_sL, am_R_sI, am_RR, am_R_sL, am_L_sI, am_L_sR, am_LL, am_k_sI, am_k_sR, am_k_sL, am_n_sI, am_n_sR, am_n_sL, true_and, and_true, true_or, or_true, or_false, false_or, not_true_eq_false, not_false_eq_true, Nat.reduceLT, am_dS, am_dP, am_d1, Nat.reduceSub, Nat.reduceMul, ne_eq, Nat.reduceBEq, Nat.reduceAdd, Nat.reduceLeDiff, Nat.reduceEqDiff, and_self, and_false, false_and, if_true, if_false, am_nb, am_nb0, am_nb1, am_lc1, am_lc2, am_lc3, am_b0, am_b1, am_10, am_c8, am_c16, am_c24, am_c32, am_c40, am_c48, am_c56, am_c64, am_c72, Nat.add_zero, Bool.false_eq_true, Nat.zero_le, hcu, wX1_in, am_l0, e11L, e9L, am_leL, am_isb, h1, h2, h3, h4, h5, o10]
            exact hK μ Fw.refl TC0 (fun _ => rfl)
        · have hn : ¬ (isN x1 11 = true ∧ isN x2 11 = true ∧ isN x3 11 = true ∧ isN x4 9 = true ∧ 0 ≤ x5 ∧ x5 ≤ x4) := fun z => h4 z.2.2.2.1
          simp only [if_neg hn] at hK
          simp only [gX1_whose_0, gX1_whose_1, gX1_whose_2, gX1_whose_3, gX1_whose_6, gX1_whose_9, gX1_whose_12, gX1_whose_13, gX1_whose_14, gX1_whose_15, gX1_whose_18, gX1_whose_21, gX1_whose_24, gX1_whose_25, gX1_whose_26, gX1_whose_27, gX1_whose_30, gX1_whose_33, gX1_whose_36, gX1_whose_38, gX1_whose_39, gX1_whose_40, gX1_whose_43, gX1_whose_46, gX1_whose_62, gX1_whose_63, am_kill_int, am_kill_ref, am_kill_null, am_kill_F, am_kill_long, am_cat_n, am_cat_i, am_cat_r, am_cat_0, am_cat_l, am_nr_n, am_nr_i, am_nr_r, am_nr_0, am_nr_l, Option.toList_some, Option.toList_none, List.nil_append, List.cons_append, va_rf_s, va_rf_n, am_II, am_I_sR, am_I_sL, am_R_sI, am_RR, am_R_sL, am_L_sI, am_L_sR, am_LL, am_k_sI, am_k_sR, am_k_sL, am_n_sI, am_n_sR, am_n_sL, true_and, and_true, true_or, or_true, or_false, false_or, not_true_eq_false, not_false_eq_true, Nat.reduceLT, am_dS, am_dP, am_d1, Nat.reduceSub, Nat.reduceMul, ne_eq, Nat.reduceBEq, Nat.reduceAdd, Nat.reduceLeDiff, Nat.reduceEqDiff, and_self, and_false, false_and, if_true, if_false, am_nb, am_nb0, am_nb1, am_lc1, am_lc2, am_lc3, am_b0, am_b1, am_10, am_c8, am_c16, am_c24, am_c32, am_c40, am_c48, am_c56, am_c64, am_c72, Nat.add_zero, Bool.false_eq_true, Nat.zero_le, hcu, wX1_in, am_l0, e11L, e9L, am_leL, am_isb, h1, h2, h3, h4, o10]
          exact hK μ Fw.refl TC0 (fun _ => rfl)
      · have hn : ¬ (isN x1 11 = true ∧ isN x2 11 = true ∧ isN x3 11 = true ∧ isN x4 9 = true ∧ 0 ≤ x5 ∧ x5 ≤ x4) := fun z => h3 z.2.2.1
        simp only [if_neg hn] at hK
        simp only [gX1_whose_0, gX1_whose_1, gX1_whose_2, gX1_whose_3, gX1_whose_6, gX1_whose_9, gX1_whose_12, gX1_whose_13, gX1_whose_14, gX1_whose_15, gX1_whose_18, gX1_whose_21, gX1_whose_24, gX1_whose_25, gX1_whose_26, gX1_whose_27, gX1_whose_30, gX1_whose_33, gX1_whose_62, gX1_whose_63, am_kill_int, am_kill_ref, am_kill_null, am_kill_F, am_kill_long, am_cat_n, am_cat_i, am_cat_r, am_cat_0, am_cat_l, am_nr_n, am_nr_i, am_nr_r, am_nr_0, am_nr_l, Option.toList_some, Option.toList_none, List.nil_append, List.cons_append, va_rf_s, va_rf_n, am_II, am_I_sR, am_I_sL, am_R_sI, am_RR, am_R_sL, am_L_sI, am_L_sR, am_LL, am_k_sI, am_k_sR, am_k_sL, am_n_sI, am_n_sR, am_n_sL, true_and, and_true, true_or, or_true, or_false, false_or, not_true_eq_false, not_false_eq_true, Nat.reduceLT, am_dS, am_dP, am_d1, Nat.reduceSub, Nat.reduceMul, ne_eq, Nat.reduceBEq, Nat.reduceAdd, Nat.reduceLeDiff, Nat.reduceEqDiff, and_self, and_false, false_and, if_true, if_false, am_nb, am_nb0, am_nb1, am_lc1, am_lc2, am_lc3, am_b0, am_b1, am_10, am_c8, am_c16, am_c24, am_c32, am_c40, am_c48, am_c56, am_c64, am_c72, Nat.add_zero, Bool.false_eq_true, Nat.zero_le, hcu, wX1_in, am_l0, e11L, e9L, am_leL, am_isb, h1, h2, h3, o10]
        exact hK μ Fw.refl TC0 (fun _ => rfl)
    · have hn : ¬ (isN x1 11 = true ∧ isN x2 11 = true ∧ isN x3 11 = true ∧ isN x4 9 = true ∧ 0 ≤ x5 ∧ x5 ≤ x4) := fun z => h2 z.2.1
      simp only [if_neg hn] at hK
      simp only [gX1_whose_0, gX1_whose_1, gX1_whose_2, gX1_whose_3, gX1_whose_6, gX1_whose_9, gX1_whose_12, gX1_whose_13, gX1_whose_14, gX1_whose_15, gX1_whose_18, gX1_whose_21, gX1_whose_62, gX1_whose_63, am_kill_int, am_kill_ref, am_kill_null, am_kill_F, am_kill_long, am_cat_n, am_cat_i, am_cat_r, am_cat_0, am_cat_l, am_nr_n, am_nr_i, am_nr_r, am_nr_0, am_nr_l, Option.toList_some, Option.toList_none, List.nil_append, List.cons_append, va_rf_s, va_rf_n, am_II, am_I_sR, am_I_sL, am_R_sI, am_RR, am_R_sL, am_L_sI, am_L_sR, am_LL, am_k_sI, am_k_sR, am_k_sL, am_n_sI, am_n_sR, am_n_sL, true_and, and_true, true_or, or_true, or_false, false_or, not_true_eq_false, not_false_eq_true, Nat.reduceLT, am_dS, am_dP, am_d1, Nat.reduceSub, Nat.reduceMul, ne_eq, Nat.reduceBEq, Nat.reduceAdd, Nat.reduceLeDiff, Nat.reduceEqDiff, and_self, and_false, false_and, if_true, if_false, am_nb, am_nb0, am_nb1, am_lc1, am_lc2, am_lc3, am_b0, am_b1, am_10, am_c8, am_c16, am_c24, am_c32, am_c40, am_c48, am_c56, am_c64, am_c72, Nat.add_zero, Bool.false_eq_true, Nat.zero_le, hcu, wX1_in, am_l0, e11L, e9L, am_leL, am_isb, h1, h2, o10]
      exact hK μ Fw.refl TC0 (fun _ => rfl)
  · have hn : ¬ (isN x1 11 = true ∧ isN x2 11 = true ∧ isN x3 11 = true ∧ isN x4 9 = true ∧ 0 ≤ x5 ∧ x5 ≤ x4) := fun z => h1 z.1
    simp only [if_neg hn] at hK
    simp only [gX1_whose_0, gX1_whose_1, gX1_whose_2, gX1_whose_3, gX1_whose_6, gX1_whose_9, gX1_whose_62, gX1_whose_63, am_kill_int, am_kill_ref, am_kill_null, am_kill_F, am_kill_long, am_cat_n, am_cat_i, am_cat_r, am_cat_0, am_cat_l, am_nr_n, am_nr_i, am_nr_r, am_nr_0, am_nr_l, Option.toList_some, Option.toList_none, List.nil_append, List.cons_append, va_rf_s, va_rf_n, am_II, am_I_sR, am_I_sL, am_R_sI, am_RR, am_R_sL, am_L_sI, am_L_sR, am_LL, am_k_sI, am_k_sR, am_k_sL, am_n_sI, am_n_sR, am_n_sL, true_and, and_true, true_or, or_true, or_false, false_or, not_true_eq_false, not_false_eq_true, Nat.reduceLT, am_dS, am_dP, am_d1, Nat.reduceSub, Nat.reduceMul, ne_eq, Nat.reduceBEq, Nat.reduceAdd, Nat.reduceLeDiff, Nat.reduceEqDiff, and_self, and_false, false_and, if_true, if_false, am_nb, am_nb0, am_nb1, am_lc1, am_lc2, am_lc3, am_b0, am_b1, am_10, am_c8, am_c16, am_c24, am_c32, am_c40, am_c48, am_c56, am_c64, am_c72, Nat.add_zero, Bool.false_eq_true, Nat.zero_le, hcu, wX1_in, am_l0, e11L, e9L, am_leL, am_isb, h1, o10]
    exact hK μ Fw.refl TC0 (fun _ => rfl)
theorem q5_whose (hP : Per N C ru c μ) : Q5 mX3_whose [.ref 54, .int x1, .int x2, .int x3, .int x4, .int x5, am_F, am_F, am_F, am_F, am_F, am_F] μ (vWho x1 x2 x3 x4 x5) (pWho x1 x2 x3 x4 x5) := by
  intro d K hK
  have hS := hP.1.2.1
  have hC := hS.1
  have hmu := hC.1
  unfold mL at hmu
  have hN := hC.2.1
  have h8 := hC.2.2.1
  have e11L : (10 : Int64) = (nI 11 - 1).toInt64 := by decide
  have e9L : (8 : Int64) = (nI 9 - 1).toInt64 := by decide
  have e11I : (10 : Int32) = nI 11 - 1 := by decide
  have e9I : (8 : Int32) = nI 9 - 1 := by decide
  have o10 : ¬ (1 : Int32) = 0 := by decide
  unfold vWho pWho at hK
  by_cases h1 : isN x1 11 = true
  · by_cases h2 : isN x2 11 = true
    · by_cases h3 : isN x3 11 = true
      · by_cases h4 : isN x4 9 = true
        · by_cases h5 : 0 ≤ x5 ∧ x5 ≤ x4
          · simp only [if_pos (And.intro h1 (And.intro h2 (And.intro h3 (And.intro h4 h5))))] at hK
            obtain ⟨a, ha, rfl⟩ := isN_of (by omega) h1
            obtain ⟨p, hp, rfl⟩ := isN_of (by omega) h2
            obtain ⟨r, hr, rfl⟩ := isN_of (by omega) h3
            obtain ⟨n, hn, rfl⟩ := isN_of (by omega) h4
            obtain ⟨k, hk', rfl⟩ := rngI (M := n) (by omega) h5.1 h5.2
            simp only [nI_clamp (show a < 2 ^ 31 by omega), nI_clamp (show p < 2 ^ 31 by omega), nI_clamp (show r < 2 ^ 31 by omega), nI_clamp (show n < 2 ^ 31 by omega), nI_clamp (show k < 2 ^ 31 by omega)] at hK
            have l1 := lkN_le (j := p) (n := n) (k := k) (by omega) (by omega) (by omega)
            have l2 := lkN_le (j := r) (n := n) (k := k) (by omega) (by omega) (by omega)
            have u1 : (whO a p r n k).1 ≤ 1000000000 := by
              have : a * lkN p n k ≤ 10 * 100000000 := Nat.mul_le_mul (by omega) l1
              exact this
            have u2 : (whO a p r n k).2 ≤ 2000000000 := by
              have h1 : (10 - a) * lkN r n k ≤ 10 * 100000000 := Nat.mul_le_mul (by omega) l2
              have h2 : (whO a p r n k).2 = (whO a p r n k).1 + (10 - a) * lkN r n k := rfl
              omega
            have e1 : (nI a).toInt64 = lN a := nI_l (by omega)
            have e2 : ((10 : Int32) - nI a).toInt64 = lN (10 - a) := by rw [ten_sub (by omega), nI_l (by omega)]
            have k1 := fun (K : Option Value → am_M → Prop) => wX3_looks (d := d + 198) (μ := μ) (j := p) (n := n) (k := k) (K := K) (by omega) (by omega) (by omega)
            have k2 := fun (K : Option Value → am_M → Prop) => wX3_looks (d := d + 198) (μ := μ) (j := r) (n := n) (k := k) (K := K) (by omega) (by omega) (by omega)
            have w1 : lN a * lN (lkN p n k) = lN (whO a p r n k).1 := lN_mul _ _
            have w2 : lN (whO a p r n k).1 + lN (10 - a) * lN (lkN r n k) = lN (whO a p r n k).2 := by rw [lN_mul, lN_add]; rfl
            have h5' := h5
            have z0 : (0 : Int64) = lN 0 := rfl
            have e10 : (10 : Int32) = nI 11 - 1 := by decide
            simp only [gX3_whose_5, gX3_whose_6, gX3_whose_7, gX3_whose_9, gX3_whose_12, gX3_whose_15, gX3_whose_16, gX3_whose_17, gX3_whose_19, gX3_whose_22, gX3_whose_25, gX3_whose_26, gX3_whose_27, gX3_whose_29, gX3_whose_32, gX3_whose_35, gX3_whose_37, gX3_whose_38, gX3_whose_40, gX3_whose_43, gX3_whose_46, gX3_whose_48, gX3_whose_49, gX3_whose_51, gX3_whose_54, am_kill_int, am_kill_ref, am_kill_null, am_kill_F, am_kill_long, am_cat_n, am_cat_i, am_cat_r, am_cat_0, am_cat_l, am_nr_n, am_nr_i, am_nr_r, am_nr_0, am_nr_l, Option.toList_some, Option.toList_none, List.nil_append, List.cons_append, va_rf_s, va_rf_n, am_II, am_I_sR, am_I_sL, am_R_sI, am_RR, am_R_sL, am_L_sI, am_L_sR, am_LL, am_k_sI, am_k_sR, am_k_sL, am_n_sI, am_n_sR, am_n_sL, true_and, and_true, true_or, or_true, or_false, false_or, not_true_eq_false, not_false_eq_true, Nat.reduceLT, am_dS, am_dP, am_d1, Nat.reduceSub, Nat.reduceMul, ne_eq, Nat.reduceBEq, Nat.reduceAdd, Nat.reduceLeDiff, Nat.reduceEqDiff, and_self, and_false, false_and, if_true, if_false, am_nb, am_nb0, am_nb1, am_lc1, am_lc2, am_lc3, am_b0, am_b1, am_10, am_c8, am_c16, am_c24, am_c32, am_c40, am_c48, am_c56, am_c64, am_c72, Nat.add_zero, Bool.false_eq_true, Nat.zero_le, hmu, wX3_in, e11I, e9I, am_isb, h1, h2, h3, h4, h5', o10]
            have st : am_Wp (d + 200) mX3_whose 59 [.ref 54, .int (nI a), .int (nI p), .int (nI r), .int (nI n), .int (nI k), am_F, am_F, am_F, am_F, am_F, am_F] [] μ K := by
              simp only [gX3_whose_59, gX3_whose_60, gX3_whose_61, gX3_whose_62, gX3_whose_64, gX3_whose_66, gX3_whose_69, gX3_whose_70, gX3_whose_72, gX3_whose_74, gX3_whose_76, gX3_whose_77, gX3_whose_78, gX3_whose_79, gX3_whose_80, gX3_whose_82, gX3_whose_84, gX3_whose_87, gX3_whose_88, gX3_whose_89, gX3_whose_91, gX3_whose_93, gX3_whose_94, gX3_whose_95, am_kill_int, am_kill_ref, am_kill_null, am_kill_F, am_kill_long, am_cat_n, am_cat_i, am_cat_r, am_cat_0, am_cat_l, am_nr_n, am_nr_i, am_nr_r, am_nr_0, am_nr_l, Option.toList_some, Option.toList_none, List.nil_append, List.cons_append, va_rf_s, va_rf_n, am_II, am_I_sR, am_I_sL, am_R_sI, am_RR, am_R_sL, am_L_sI, am_L_sR, am_LL, am_k_sI, am_k_sR, am_k_sL, am_n_sI, am_n_sR, am_n_sL, true_and, and_true, true_or, or_true, or_false, false_or, not_true_eq_false, not_false_eq_true, Nat.reduceLT, am_dS, am_dP, am_d1, Nat.reduceSub, Nat.reduceMul, ne_eq, Nat.reduceBEq, Nat.reduceAdd, Nat.reduceLeDiff, Nat.reduceEqDiff, and_self, and_false, false_and, if_true, if_false, am_nb, am_nb0, am_nb1, am_lc1, am_lc2, am_lc3, am_b0, am_b1, am_10, am_c8, am_c16, am_c24, am_c32, am_c40, am_c48, am_c56, am_c64, am_c72, Nat.add_zero, Bool.false_eq_true, Nat.zero_le, hmu, e1, e2, k1, k2, w1, w2]
              by_cases hz : (whO a p r n k).2 = 0
              · have hz' : (lN (whO a p r n k).2 = 0) = True := eq_true (by rw [hz]; rfl)
                simp only [if_pos hz] at hK
                simp only [hz', gX3_whose_98, gX3_whose_100, am_kill_int, am_kill_ref, am_kill_null, am_kill_F, am_kill_long, am_cat_n, am_cat_i, am_cat_r, am_cat_0, am_cat_l, am_nr_n, am_nr_i, am_nr_r, am_nr_0, am_nr_l, Option.toList_some, Option.toList_none, List.nil_append, List.cons_append, va_rf_s, va_rf_n, am_II, am_I_sR, am_I_sL, am_R_sI, am_RR, am_R_sL, am_L_sI, am_L_sR, am_LL, am_k_sI, am_k_sR, am_k_sL, am_n_sI, am_n_sR, am_n_sL, true_and, and_true, true_or, or_true, or_false, false_or, not_true_eq_false, not_false_eq_true, Nat.reduceLT, am_dS, am_dP, am_d1, Nat.reduceSub, Nat.reduceMul, ne_eq, Nat.reduceBEq, Nat.reduceAdd, Nat.reduceLeDiff, Nat.reduceEqDiff, and_self, and_false, false_and, if_true, if_false, am_nb, am_nb0, am_nb1, am_lc1, am_lc2, am_lc3, am_b0, am_b1, am_10, am_c8, am_c16, am_c24, am_c32, am_c40, am_c48, am_c56, am_c64, am_c72, Nat.add_zero, Bool.false_eq_true, Nat.zero_le]
                exact hK μ Fw.refl hP.h17 TN0 (fun _ => rfl)
              · have hz' : (lN (whO a p r n k).2 = 0) = False := eq_false (by rw [z0, pk_lEQ (by omega) (by omega)]; exact hz)
                simp only [if_neg hz] at hK
                have g0 : 0 < Nat.gcd (whO a p r n k).1 (whO a p r n k).2 := Nat.gcd_pos_of_pos_right _ (by omega)
                have g1 : Nat.gcd (whO a p r n k).1 (whO a p r n k).2 ≤ (whO a p r n k).2 := Nat.gcd_le_right _ (by omega)
                have gz : ¬ lN (Nat.gcd (whO a p r n k).1 (whO a p r n k).2) = 0 := by rw [z0, pk_lEQ (by omega) (by omega)]; omega
                have d1 := pk_lDiv (a := (whO a p r n k).1) (b := Nat.gcd (whO a p r n k).1 (whO a p r n k).2) (by omega) g0 (by omega)
                have d2 := pk_lDiv (a := (whO a p r n k).2) (b := Nat.gcd (whO a p r n k).1 (whO a p r n k).2) (by omega) g0 (by omega)
                have cc := fun (K : Option Value → am_M → Prop) => wX3_common (μ := μ) 31 (whO a p r n k).1 (whO a p r n k).2 (d + 199) K (by omega) (by omega) (by omega) (by omega)
                simp only [hz', gX3_whose_101, gX3_whose_103, gX3_whose_105, gX3_whose_108, gX3_whose_110, gX3_whose_111, gX3_whose_112, gX3_whose_115, gX3_whose_116, gX3_whose_118, gX3_whose_120, gX3_whose_121, gX3_whose_124, gX3_whose_125, gX3_whose_127, gX3_whose_129, gX3_whose_130, gX3_whose_133, gX3_whose_134, am_kill_int, am_kill_ref, am_kill_null, am_kill_F, am_kill_long, am_cat_n, am_cat_i, am_cat_r, am_cat_0, am_cat_l, am_nr_n, am_nr_i, am_nr_r, am_nr_0, am_nr_l, Option.toList_some, Option.toList_none, List.nil_append, List.cons_append, va_rf_s, va_rf_n, am_II, am_I_sR, am_I_sL, am_R_sI, am_RR, am_R_sL, am_L_sI, am_L_sR, am_LL, am_k_sI, am_k_sR, am_k_sL, am_n_sI, am_n_sR, am_n_sL, true_and, and_true, true_or, or_true, or_false, false_or, not_true_eq_false, not_false_eq_true, Nat.reduceLT, am_dS, am_dP, am_d1, Nat.reduceSub, Nat.reduceMul, ne_eq, Nat.reduceBEq, Nat.reduceAdd, Nat.reduceLeDiff, Nat.reduceEqDiff, and_self, and_false, false_and, if_true, if_false, am_nb, am_nb0, am_nb1, am_lc1, am_lc2, am_lc3, am_b0, am_b1, am_10, am_c8, am_c16, am_c24, am_c32, am_c40, am_c48, am_c56, am_c64, am_c72, Nat.add_zero, Bool.false_eq_true, Nat.zero_le, hmu, cc, gz, d1, d2, wX3_tell0, wX3_tell1]
                refine hK _ (((((Fw.refl.I (by unfold sM; omega)).L (Or.inr rfl)).I (by unfold sM; omega)).L (Or.inr rfl)).I (by unfold sM; omega)) (by simp only [am_II, am_I_sL, Nat.reduceEqDiff, and_false, if_false]; exact hP.h17) (TN2 ?_ ?_ ?_) (fun i => ?_)
                · simp only [am_II, and_self, if_true]
                · simp only [am_L_sI, am_LL, and_self, if_true, Nat.reduceEqDiff, and_false, if_false]
                · simp only [am_L_sI, am_LL, and_self, if_true]
                · simp only [am_L_sI, am_LL, Nat.reduceEqDiff, false_and, if_false]
            exact st
          · have hn : ¬ (isN x1 11 = true ∧ isN x2 11 = true ∧ isN x3 11 = true ∧ isN x4 9 = true ∧ 0 ≤ x5 ∧ x5 ≤ x4) := fun z => h5 z.2.2.2.2
            simp only [if_neg hn] at hK
            simp only [gX3_whose_5, gX3_whose_6, gX3_whose_7, gX3_whose_9, gX3_whose_12, gX3_whose_15, gX3_whose_16, gX3_whose_17, gX3_whose_19, gX3_whose_22, gX3_whose_25, gX3_whose_26, gX3_whose_27, gX3_whose_29, gX3_whose_32, gX3_whose_35, gX3_whose_37, gX3_whose_38, gX3_whose_40, gX3_whose_43, gX3_whose_46, gX3_whose_48, gX3_whose_49, gX3_whose_51, gX3_whose_54, gX3_whose_57, gX3_whose_58, am_kill_int, am_kill_ref, am_kill_null, am_kill_F, am_kill_long, am_cat_n, am_cat_i, am_cat_r, am_cat_0, am_cat_l, am_nr_n, am_nr_i, am_nr_r, am_nr_0, am_nr_l, Option.toList_some, Option.toList_none, List.nil_append, List.cons_append, va_rf_s, va_rf_n, am_II, am_I_sR, am_I_sL, am_R_sI, am_RR, am_R_sL, am_L_sI, am_L_sR, am_LL, am_k_sI, am_k_sR, am_k_sL, am_n_sI, am_n_sR, am_n_sL, true_and, and_true, true_or, or_true, or_false, false_or, not_true_eq_false, not_false_eq_true, Nat.reduceLT, am_dS, am_dP, am_d1, Nat.reduceSub, Nat.reduceMul, ne_eq, Nat.reduceBEq, Nat.reduceAdd, Nat.reduceLeDiff, Nat.reduceEqDiff, and_self, and_false, false_and, if_true, if_false, am_nb, am_nb0, am_nb1, am_lc1, am_lc2, am_lc3, am_b0, am_b1, am_10, am_c8, am_c16, am_c24, am_c32, am_c40, am_c48, am_c56, am_c64, am_c72, Nat.add_zero, Bool.false_eq_true, Nat.zero_le, hmu, wX3_in, e11I, e9I, am_isb, h1, h2, h3, h4, h5, o10]
            exact hK μ Fw.refl hP.h17 TN0 (fun _ => rfl)
        · have hn : ¬ (isN x1 11 = true ∧ isN x2 11 = true ∧ isN x3 11 = true ∧ isN x4 9 = true ∧ 0 ≤ x5 ∧ x5 ≤ x4) := fun z => h4 z.2.2.2.1
          simp only [if_neg hn] at hK
          simp only [gX3_whose_5, gX3_whose_6, gX3_whose_7, gX3_whose_9, gX3_whose_12, gX3_whose_15, gX3_whose_16, gX3_whose_17, gX3_whose_19, gX3_whose_22, gX3_whose_25, gX3_whose_26, gX3_whose_27, gX3_whose_29, gX3_whose_32, gX3_whose_35, gX3_whose_37, gX3_whose_38, gX3_whose_40, gX3_whose_43, gX3_whose_57, gX3_whose_58, am_kill_int, am_kill_ref, am_kill_null, am_kill_F, am_kill_long, am_cat_n, am_cat_i, am_cat_r, am_cat_0, am_cat_l, am_nr_n, am_nr_i, am_nr_r, am_nr_0, am_nr_l, Option.toList_some, Option.toList_none, List.nil_append, List.cons_append, va_rf_s, va_rf_n, am_II, am_I_sR, am_I_sL, am_R_sI, am_RR, am_R_sL, am_L_sI, am_L_sR, am_LL, am_k_sI, am_k_sR, am_k_sL, am_n_sI, am_n_sR, am_n_sL, true_and, and_true, true_or, or_true, or_false, false_or, not_true_eq_false, not_false_eq_true, Nat.reduceLT, am_dS, am_dP, am_d1, Nat.reduceSub, Nat.reduceMul, ne_eq, Nat.reduceBEq, Nat.reduceAdd, Nat.reduceLeDiff, Nat.reduceEqDiff, and_self, and_false, false_and, if_true, if_false, am_nb, am_nb0, am_nb1, am_lc1, am_lc2, am_lc3, am_b0, am_b1, am_10, am_c8, am_c16, am_c24, am_c32, am_c40, am_c48, am_c56, am_c64, am_c72, Nat.add_zero, Bool.false_eq_true, Nat.zero_le, hmu, wX3_in, e11I, e9I, am_isb, h1, h2, h3, h4, o10]
          exact hK μ Fw.refl hP.h17 TN0 (fun _ => rfl)
      · have hn : ¬ (isN x1 11 = true ∧ isN x2 11 = true ∧ isN x3 11 = true ∧ isN x4 9 = true ∧ 0 ≤ x5 ∧ x5 ≤ x4) := fun z => h3 z.2.2.1
        simp only [if_neg hn] at hK
        simp only [gX3_whose_5, gX3_whose_6, gX3_whose_7, gX3_whose_9, gX3_whose_12, gX3_whose_15, gX3_whose_16, gX3_whose_17, gX3_whose_19, gX3_whose_22, gX3_whose_25, gX3_whose_26, gX3_whose_27, gX3_whose_29, gX3_whose_32, gX3_whose_57, gX3_whose_58, am_kill_int, am_kill_ref, am_kill_null, am_kill_F, am_kill_long, am_cat_n, am_cat_i, am_cat_r, am_cat_0, am_cat_l, am_nr_n, am_nr_i, am_nr_r, am_nr_0, am_nr_l, Option.toList_some, Option.toList_none, List.nil_append, List.cons_append, va_rf_s, va_rf_n, am_II, am_I_sR, am_I_sL, am_R_sI, am_RR, am_R_sL, am_L_sI, am_L_sR, am_LL, am_k_sI, am_k_sR, am_k_sL, am_n_sI, am_n_sR, am_n_sL, true_and, and_true, true_or, or_true, or_false, false_or, not_true_eq_false, not_false_eq_true, Nat.reduceLT, am_dS, am_dP, am_d1, Nat.reduceSub, Nat.reduceMul, ne_eq, Nat.reduceBEq, Nat.reduceAdd, Nat.reduceLeDiff, Nat.reduceEqDiff, and_self, and_false, false_and, if_true, if_false, am_nb, am_nb0, am_nb1, am_lc1, am_lc2, am_lc3, am_b0, am_b1, am_10, am_c8, am_c16, am_c24, am_c32, am_c40, am_c48, am_c56, am_c64, am_c72, Nat.add_zero, Bool.false_eq_true, Nat.zero_le, hmu, wX3_in, e11I, e9I, am_isb, h1, h2, h3, o10]
        exact hK μ Fw.refl hP.h17 TN0 (fun _ => rfl)
    · have hn : ¬ (isN x1 11 = true ∧ isN x2 11 = true ∧ isN x3 11 = true ∧ isN x4 9 = true ∧ 0 ≤ x5 ∧ x5 ≤ x4) := fun z => h2 z.2.1
      simp only [if_neg hn] at hK
      simp only [gX3_whose_5, gX3_whose_6, gX3_whose_7, gX3_whose_9, gX3_whose_12, gX3_whose_15, gX3_whose_16, gX3_whose_17, gX3_whose_19, gX3_whose_22, gX3_whose_57, gX3_whose_58, am_kill_int, am_kill_ref, am_kill_null, am_kill_F, am_kill_long, am_cat_n, am_cat_i, am_cat_r, am_cat_0, am_cat_l, am_nr_n, am_nr_i, am_nr_r, am_nr_0, am_nr_l, Option.toList_some, Option.toList_none, List.nil_append, List.cons_append, va_rf_s, va_rf_n, am_II, am_I_sR, am_I_sL, am_R_sI, am_RR, am_R_sL, am_L_sI, am_L_sR, am_LL, am_k_sI, am_k_sR, am_k_sL, am_n_sI, am_n_sR, am_n_sL, true_and, and_true, true_or, or_true, or_false, false_or, not_true_eq_false, not_false_eq_true, Nat.reduceLT, am_dS, am_dP, am_d1, Nat.reduceSub, Nat.reduceMul, ne_eq, Nat.reduceBEq, Nat.reduceAdd, Nat.reduceLeDiff, Nat.reduceEqDiff, and_self, and_false, false_and, if_true, if_false, am_nb, am_nb0, am_nb1, am_lc1, am_lc2, am_lc3, am_b0, am_b1, am_10, am_c8, am_c16, am_c24, am_c32, am_c40, am_c48, am_c56, am_c64, am_c72, Nat.add_zero, Bool.false_eq_true, Nat.zero_le, hmu, wX3_in, e11I, e9I, am_isb, h1, h2, o10]
      exact hK μ Fw.refl hP.h17 TN0 (fun _ => rfl)
  · have hn : ¬ (isN x1 11 = true ∧ isN x2 11 = true ∧ isN x3 11 = true ∧ isN x4 9 = true ∧ 0 ≤ x5 ∧ x5 ≤ x4) := fun z => h1 z.1
    simp only [if_neg hn] at hK
    simp only [gX3_whose_5, gX3_whose_6, gX3_whose_7, gX3_whose_9, gX3_whose_12, gX3_whose_57, gX3_whose_58, am_kill_int, am_kill_ref, am_kill_null, am_kill_F, am_kill_long, am_cat_n, am_cat_i, am_cat_r, am_cat_0, am_cat_l, am_nr_n, am_nr_i, am_nr_r, am_nr_0, am_nr_l, Option.toList_some, Option.toList_none, List.nil_append, List.cons_append, va_rf_s, va_rf_n, am_II, am_I_sR, am_I_sL, am_R_sI, am_RR, am_R_sL, am_L_sI, am_L_sR, am_LL, am_k_sI, am_k_sR, am_k_sL, am_n_sI, am_n_sR, am_n_sL, true_and, and_true, true_or, or_true, or_false, false_or, not_true_eq_false, not_false_eq_true, Nat.reduceLT, am_dS, am_dP, am_d1, Nat.reduceSub, Nat.reduceMul, ne_eq, Nat.reduceBEq, Nat.reduceAdd, Nat.reduceLeDiff, Nat.reduceEqDiff, and_self, and_false, false_and, if_true, if_false, am_nb, am_nb0, am_nb1, am_lc1, am_lc2, am_lc3, am_b0, am_b1, am_10, am_c8, am_c16, am_c24, am_c32, am_c40, am_c48, am_c56, am_c64, am_c72, Nat.add_zero, Bool.false_eq_true, Nat.zero_le, hmu, wX3_in, e11I, e9I, am_isb, h1, o10]
    exact hK μ Fw.refl hP.h17 TN0 (fun _ => rfl)
theorem op_whose (hI : Inv q μ) : OP q mX1_whose mX3_whose [.ref 0, .int x1, .int x2, .int x3, .int x4, .int x5, am_F, am_F, am_F, am_F, am_F, am_F] [.ref 54, .int x1, .int x2, .int x3, .int x4, .int x5, am_F, am_F, am_F, am_F, am_F, am_F] μ :=
  op_S (V := fun _ _ _ _ => vWho x1 x2 x3 x4 x5) (P := fun _ _ _ _ => pWho x1 x2 x3 x4 x5) (fun hP => qc_whose hP) (fun d K μ h h' => by simp only [gX3_whose_0, gX3_whose_1, gX3_whose_2, am_kill_int, am_kill_ref, am_kill_null, am_kill_F, am_kill_long, am_cat_n, am_cat_i, am_cat_r, am_cat_0, am_cat_l, am_nr_n, am_nr_i, am_nr_r, am_nr_0, am_nr_l, Option.toList_some, Option.toList_none, List.nil_append, List.cons_append, va_rf_s, va_rf_n, am_I_sR, am_I_sL, am_R_sI, am_R_sL, am_L_sI, am_L_sR, am_k_sI, am_k_sR, am_k_sL, am_n_sI, am_n_sR, am_n_sL, true_and, and_true, true_or, or_true, or_false, false_or, not_true_eq_false, not_false_eq_true, Nat.reduceLT, am_dS, am_dP, am_d1, Nat.reduceSub, Nat.reduceMul, ne_eq, Nat.reduceBEq, Nat.reduceAdd, Nat.reduceLeDiff, Nat.reduceEqDiff, and_self, and_false, false_and, if_true, if_false, am_nb, am_nb0, am_nb1, am_lc1, am_lc2, am_lc3, am_b0, am_b1, am_10, am_c8, am_c16, am_c24, am_c32, am_c40, am_c48, am_c56, am_c64, am_c72, Nat.add_zero, Bool.false_eq_true, Nat.zero_le, h]; exact h') (fun hP => q5_whose hP) hI
end WHV
