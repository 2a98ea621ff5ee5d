/-! nests: both loops over the lines -/
set_option maxRecDepth 100000
section NLV
variable {d : Nat} {μ ν ξ μ1 ν1 : am_M} {K : Option Value → am_M → Prop} {x y z c w : Int32} {h h' N C i j k r n L M m a b e q q' t u s ln tp : Nat} {v : Int32} {ru : Option PF} {F G : Nat → Nat → Prop} {S S' T : Nat → Int32} {p : Int64} {ch : Nat → Int32} {f : PF}
/-- the lines: a fault's place, or how many -/
def nsR (ch : Nat → Int32) : Nat → Nat → Nat ⊕ Nat
  | 0, i => .inl (5 * i)
  | q + 1, i => match pLn ch (5 * i) with
    | some p => .inl p
    | none => if ch (5 * i + 4) = 59 then nsR ch q (i + 1) else .inr (i + 1)
theorem nsR_le : ∀ (q i : Nat), (∀ p, nsR ch q i = .inl p → p ≤ 5 * (i + q) + 3) ∧ (∀ k, nsR ch q i = .inr k → i + 1 ≤ k ∧ k ≤ i + q)
  | 0, i => ⟨fun p h => by unfold nsR at h; cases h; omega, fun k h => by unfold nsR at h; cases h⟩
  | q + 1, i => by
    have ih := nsR_le q (i + 1)
    refine ⟨fun p h => ?_, fun k h => ?_⟩
    · unfold nsR at h
      split at h
      · rename_i e
        cases h
        have := pLn_le e
        omega
      · split at h
        · have := ih.1 p h; omega
        · cases h
    · unfold nsR at h
      split at h
      · cases h
      · split at h
        · have := ih.2 k h; omega
        · cases h; omega
theorem nsC_loop (z4 z5 : Value) : ∀ (q i : Nat) (g : Int32) (μ' : am_M), q + N + i = 8 → CR e (5 * i) ch μ' → Fr fNC μ μ' → am_I μ' 0 14 = nI (N + i) → (∀ j, j < i → ∀ r, r < 4 → am_I μ' (24 + r) (N + j) = vLn ch (5 * j) r) →
    (∀ p ν, nsR ch q i = .inl p → Fr fNC μ ν → am_I ν 0 7 = nI p → am_Wp (d + 200) mX1_nests 56 [.ref 0, .int (nI t), .int 0, .int 0, z4, z5] [] ν K) →
    (∀ k ν, nsR ch q i = .inr k → Fr fNC μ ν → am_I ν 0 7 = nI (5 * k - 1) → am_I ν 0 14 = nI (N + k) → (∀ j, j < k → ∀ r, r < 4 → am_I ν (24 + r) (N + j) = vLn ch (5 * j) r) → am_Wp (d + 200) mX1_nests 56 [.ref 0, .int (nI t), .int 1, .int 0, z4, z5] [] ν K) →
    am_Wp (d + 200) mX1_nests 25 [.ref 0, .int (nI t), .int g, .int 1, z4, z5] [] μ' K := by
  intro q
  have o10 : ¬ (1 : Int32) = 0 := by decide
  induction q with
  | zero =>
    intro i g μ' hq hC hF h14 hr hK1 hK2
    have hk := hC.1.c
    rw [gX1_nests_25]
    simp only [gX1_nests_26, gX1_nests_29, gX1_nests_30, am_kill_int, am_kill_ref, am_kill_null, am_kill_F, am_kill_long, am_cat_n, am_cat_i, am_cat_r, am_cat_0, am_cat_l, am_nr_n, am_nr_i, am_nr_r, am_nr_0, am_nr_l, Option.toList_some, Option.toList_none, List.nil_append, List.cons_append, va_rf_s, va_rf_n, am_II, am_I_sR, am_I_sL, am_R_sI, am_RR, am_R_sL, am_L_sI, am_L_sR, am_LL, am_k_sI, am_k_sR, am_k_sL, am_n_sI, am_n_sR, am_n_sL, true_and, and_true, true_or, or_true, or_false, false_or, not_true_eq_false, not_false_eq_true, Nat.reduceLT, am_dS, am_dP, am_d1, Nat.reduceSub, Nat.reduceMul, ne_eq, Nat.reduceBEq, Nat.reduceAdd, Nat.reduceLeDiff, Nat.reduceEqDiff, and_self, and_false, false_and, if_true, if_false, am_nb, am_nb0, am_nb1, am_lc1, am_lc2, am_lc3, am_b0, am_b1, am_10, am_c8, am_c16, am_c24, am_c32, am_c40, am_c48, am_c56, am_c64, am_c72, Nat.add_zero, Bool.false_eq_true, Nat.zero_le, hk, o10]
    rw [readsNest_8 (d := d + 191) hk (by rw [h14, show N + i = 8 by omega])]
    simp only [Option.toList_some, List.cons_append, List.nil_append, gX1_nests_33, gX1_nests_34, gX1_nests_35, gX1_nests_51, gX1_nests_52, gX1_nests_53, am_kill_int, am_kill_ref, am_kill_null, am_kill_F, am_kill_long, am_cat_n, am_cat_i, am_cat_r, am_cat_0, am_cat_l, am_nr_n, am_nr_i, am_nr_r, am_nr_0, am_nr_l, Option.toList_some, Option.toList_none, List.nil_append, List.cons_append, va_rf_s, va_rf_n, am_II, am_I_sR, am_I_sL, am_R_sI, am_RR, am_R_sL, am_L_sI, am_L_sR, am_LL, am_k_sI, am_k_sR, am_k_sL, am_n_sI, am_n_sR, am_n_sL, true_and, and_true, true_or, or_true, or_false, false_or, not_true_eq_false, not_false_eq_true, Nat.reduceLT, am_dS, am_dP, am_d1, Nat.reduceSub, Nat.reduceMul, ne_eq, Nat.reduceBEq, Nat.reduceAdd, Nat.reduceLeDiff, Nat.reduceEqDiff, and_self, and_false, false_and, if_true, if_false, am_nb, am_nb0, am_nb1, am_lc1, am_lc2, am_lc3, am_b0, am_b1, am_10, am_c8, am_c16, am_c24, am_c32, am_c40, am_c48, am_c56, am_c64, am_c72, Nat.add_zero, Bool.false_eq_true, Nat.zero_le]
    rw [gX1_nests_25]
    simp only [gX1_nests_26, am_kill_int, am_kill_ref, am_kill_null, am_kill_F, am_kill_long, am_cat_n, am_cat_i, am_cat_r, am_cat_0, am_cat_l, am_nr_n, am_nr_i, am_nr_r, am_nr_0, am_nr_l, Option.toList_some, Option.toList_none, List.nil_append, List.cons_append, va_rf_s, va_rf_n, am_II, am_I_sR, am_I_sL, am_R_sI, am_RR, am_R_sL, am_L_sI, am_L_sR, am_LL, am_k_sI, am_k_sR, am_k_sL, am_n_sI, am_n_sR, am_n_sL, true_and, and_true, true_or, or_true, or_false, false_or, not_true_eq_false, not_false_eq_true, Nat.reduceLT, am_dS, am_dP, am_d1, Nat.reduceSub, Nat.reduceMul, ne_eq, Nat.reduceBEq, Nat.reduceAdd, Nat.reduceLeDiff, Nat.reduceEqDiff, and_self, and_false, false_and, if_true, if_false, am_nb, am_nb0, am_nb1, am_lc1, am_lc2, am_lc3, am_b0, am_b1, am_10, am_c8, am_c16, am_c24, am_c32, am_c40, am_c48, am_c56, am_c64, am_c72, Nat.add_zero, Bool.false_eq_true, Nat.zero_le]
    exact hK1 (5 * i) μ' rfl hF hC.2.2.1
  | succ q ih =>
    intro i g μ' hq hC hF h14 hr hK1 hK2
    have hk := hC.1.c
    rw [gX1_nests_25]
    simp only [gX1_nests_26, gX1_nests_29, gX1_nests_30, am_kill_int, am_kill_ref, am_kill_null, am_kill_F, am_kill_long, am_cat_n, am_cat_i, am_cat_r, am_cat_0, am_cat_l, am_nr_n, am_nr_i, am_nr_r, am_nr_0, am_nr_l, Option.toList_some, Option.toList_none, List.nil_append, List.cons_append, va_rf_s, va_rf_n, am_II, am_I_sR, am_I_sL, am_R_sI, am_RR, am_R_sL, am_L_sI, am_L_sR, am_LL, am_k_sI, am_k_sR, am_k_sL, am_n_sI, am_n_sR, am_n_sL, true_and, and_true, true_or, or_true, or_false, false_or, not_true_eq_false, not_false_eq_true, Nat.reduceLT, am_dS, am_dP, am_d1, Nat.reduceSub, Nat.reduceMul, ne_eq, Nat.reduceBEq, Nat.reduceAdd, Nat.reduceLeDiff, Nat.reduceEqDiff, and_self, and_false, false_and, if_true, if_false, am_nb, am_nb0, am_nb1, am_lc1, am_lc2, am_lc3, am_b0, am_b1, am_10, am_c8, am_c16, am_c24, am_c32, am_c40, am_c48, am_c56, am_c64, am_c72, Nat.add_zero, Bool.false_eq_true, Nat.zero_le, hk, o10]
    refine wX1_readsNest (d := d + 191) hC (by omega) h14 (by omega) (fun p ν hp hF2 h7 => ?_) (fun ν hp hF2 h7 h14' hr2 => ?_)
    · refine ⟨trivial, ?_⟩
      simp only [Option.toList_some, List.cons_append, List.nil_append, gX1_nests_33, gX1_nests_34, gX1_nests_35, gX1_nests_51, gX1_nests_52, gX1_nests_53, am_kill_int, am_kill_ref, am_kill_null, am_kill_F, am_kill_long, am_cat_n, am_cat_i, am_cat_r, am_cat_0, am_cat_l, am_nr_n, am_nr_i, am_nr_r, am_nr_0, am_nr_l, Option.toList_some, Option.toList_none, List.nil_append, List.cons_append, va_rf_s, va_rf_n, am_II, am_I_sR, am_I_sL, am_R_sI, am_RR, am_R_sL, am_L_sI, am_L_sR, am_LL, am_k_sI, am_k_sR, am_k_sL, am_n_sI, am_n_sR, am_n_sL, true_and, and_true, true_or, or_true, or_false, false_or, not_true_eq_false, not_false_eq_true, Nat.reduceLT, am_dS, am_dP, am_d1, Nat.reduceSub, Nat.reduceMul, ne_eq, Nat.reduceBEq, Nat.reduceAdd, Nat.reduceLeDiff, Nat.reduceEqDiff, and_self, and_false, false_and, if_true, if_false, am_nb, am_nb0, am_nb1, am_lc1, am_lc2, am_lc3, am_b0, am_b1, am_10, am_c8, am_c16, am_c24, am_c32, am_c40, am_c48, am_c56, am_c64, am_c72, Nat.add_zero, Bool.false_eq_true, Nat.zero_le]
      rw [gX1_nests_25]
      simp only [gX1_nests_26, am_kill_int, am_kill_ref, am_kill_null, am_kill_F, am_kill_long, am_cat_n, am_cat_i, am_cat_r, am_cat_0, am_cat_l, am_nr_n, am_nr_i, am_nr_r, am_nr_0, am_nr_l, Option.toList_some, Option.toList_none, List.nil_append, List.cons_append, va_rf_s, va_rf_n, am_II, am_I_sR, am_I_sL, am_R_sI, am_RR, am_R_sL, am_L_sI, am_L_sR, am_LL, am_k_sI, am_k_sR, am_k_sL, am_n_sI, am_n_sR, am_n_sL, true_and, and_true, true_or, or_true, or_false, false_or, not_true_eq_false, not_false_eq_true, Nat.reduceLT, am_dS, am_dP, am_d1, Nat.reduceSub, Nat.reduceMul, ne_eq, Nat.reduceBEq, Nat.reduceAdd, Nat.reduceLeDiff, Nat.reduceEqDiff, and_self, and_false, false_and, if_true, if_false, am_nb, am_nb0, am_nb1, am_lc1, am_lc2, am_lc3, am_b0, am_b1, am_10, am_c8, am_c16, am_c24, am_c32, am_c40, am_c48, am_c56, am_c64, am_c72, Nat.add_zero, Bool.false_eq_true, Nat.zero_le]
      refine hK1 p ν ?_ (hF.trans hF2) h7
      unfold nsR
      rw [hp]
    · have hCν : CR e (5 * i + 4) ch ν := hC.fr hF2 h7 (by omega)
      have hk' := hCν.1.c
      have hr3 : ∀ ξ, am_I ξ 24 = am_I ν 24 → am_I ξ 25 = am_I ν 25 → am_I ξ 26 = am_I ν 26 → am_I ξ 27 = am_I ν 27 → ∀ j, j < i + 1 → ∀ r, r < 4 → am_I ξ (24 + r) (N + j) = vLn ch (5 * j) r := fun ξ q1 q2 q3 q4 j hj r hr4 => by
        have e : am_I ξ (24 + r) = am_I ν (24 + r) := by
          rcases (by omega : r = 0 ∨ r = 1 ∨ r = 2 ∨ r = 3) with f | f | f | f <;> subst f <;> assumption
        rw [e]
        by_cases f : j = i
        · subst f; exact (hr2 r hr4).1
        · rw [(hr2 r hr4).2 _ (by omega)]; exact hr j (by omega) r hr4
      have htk := wX1_takes (d := d + 198) (x := 59) (K := fun r1 μ1 => am_nr r1 ∧ am_Wp (d + 200) mX1_nests 44 [.ref 0, .int (nI t), .int 1, .int 1, z4, z5] (r1.toList ++ []) μ1 K) hCν (by decide)
      refine ⟨trivial, ?_⟩
      by_cases c59 : ch (5 * i + 4) = 59
      · rw [if_pos c59] at htk
        simp only [Option.toList_some, List.cons_append, List.nil_append, gX1_nests_33, gX1_nests_34, gX1_nests_35, gX1_nests_38, gX1_nests_39, gX1_nests_41, am_kill_int, am_kill_ref, am_kill_null, am_kill_F, am_kill_long, am_cat_n, am_cat_i, am_cat_r, am_cat_0, am_cat_l, am_nr_n, am_nr_i, am_nr_r, am_nr_0, am_nr_l, Option.toList_some, Option.toList_none, List.nil_append, List.cons_append, va_rf_s, va_rf_n, am_II, am_I_sR, am_I_sL, am_R_sI, am_RR, am_R_sL, am_L_sI, am_L_sR, am_LL, am_k_sI, am_k_sR, am_k_sL, am_n_sI, am_n_sR, am_n_sL, true_and, and_true, true_or, or_true, or_false, false_or, not_true_eq_false, not_false_eq_true, Nat.reduceLT, am_dS, am_dP, am_d1, Nat.reduceSub, Nat.reduceMul, ne_eq, Nat.reduceBEq, Nat.reduceAdd, Nat.reduceLeDiff, Nat.reduceEqDiff, and_self, and_false, false_and, if_true, if_false, am_nb, am_nb0, am_nb1, am_lc1, am_lc2, am_lc3, am_b0, am_b1, am_10, am_c8, am_c16, am_c24, am_c32, am_c40, am_c48, am_c56, am_c64, am_c72, Nat.add_zero, Bool.false_eq_true, Nat.zero_le, hk', o10, htk]
        simp only [gX1_nests_44, gX1_nests_47, gX1_nests_48, gX1_nests_51, gX1_nests_52, gX1_nests_53, am_kill_int, am_kill_ref, am_kill_null, am_kill_F, am_kill_long, am_cat_n, am_cat_i, am_cat_r, am_cat_0, am_cat_l, am_nr_n, am_nr_i, am_nr_r, am_nr_0, am_nr_l, Option.toList_some, Option.toList_none, List.nil_append, List.cons_append, va_rf_s, va_rf_n, am_II, am_I_sR, am_I_sL, am_R_sI, am_RR, am_R_sL, am_L_sI, am_L_sR, am_LL, am_k_sI, am_k_sR, am_k_sL, am_n_sI, am_n_sR, am_n_sL, true_and, and_true, true_or, or_true, or_false, false_or, not_true_eq_false, not_false_eq_true, Nat.reduceLT, am_dS, am_dP, am_d1, Nat.reduceSub, Nat.reduceMul, ne_eq, Nat.reduceBEq, Nat.reduceAdd, Nat.reduceLeDiff, Nat.reduceEqDiff, and_self, and_false, false_and, if_true, if_false, am_nb, am_nb0, am_nb1, am_lc1, am_lc2, am_lc3, am_b0, am_b1, am_10, am_c8, am_c16, am_c24, am_c32, am_c40, am_c48, am_c56, am_c64, am_c72, Nat.add_zero, Bool.false_eq_true, Nat.zero_le, o10]
        have hCx := hCν.go (k := 5 * i + 4 + 1) (by omega)
        have en : nsR ch (q + 1) i = nsR ch q (i + 1) := by
          conv => lhs; unfold nsR
          rw [hp]
          exact if_pos c59
        refine ih (i + 1) 1 _ (by omega) hCx ((hF.trans hF2).trans (Fr.I Fr.refl (by unfold fNC; omega))) (by rw [am_I_sI, if_neg (by omega)]; exact h14') (hr3 _ (am_row_o (by decide)) (am_row_o (by decide)) (am_row_o (by decide)) (am_row_o (by decide))) (fun p ξ z1 => hK1 p ξ (en.trans z1)) (fun k ξ z1 => hK2 k ξ (en.trans z1))
      · rw [if_neg c59] at htk
        simp only [Option.toList_some, List.cons_append, List.nil_append, gX1_nests_33, gX1_nests_34, gX1_nests_35, gX1_nests_38, gX1_nests_39, gX1_nests_41, am_kill_int, am_kill_ref, am_kill_null, am_kill_F, am_kill_long, am_cat_n, am_cat_i, am_cat_r, am_cat_0, am_cat_l, am_nr_n, am_nr_i, am_nr_r, am_nr_0, am_nr_l, Option.toList_some, Option.toList_none, List.nil_append, List.cons_append, va_rf_s, va_rf_n, am_II, am_I_sR, am_I_sL, am_R_sI, am_RR, am_R_sL, am_L_sI, am_L_sR, am_LL, am_k_sI, am_k_sR, am_k_sL, am_n_sI, am_n_sR, am_n_sL, true_and, and_true, true_or, or_true, or_false, false_or, not_true_eq_false, not_false_eq_true, Nat.reduceLT, am_dS, am_dP, am_d1, Nat.reduceSub, Nat.reduceMul, ne_eq, Nat.reduceBEq, Nat.reduceAdd, Nat.reduceLeDiff, Nat.reduceEqDiff, and_self, and_false, false_and, if_true, if_false, am_nb, am_nb0, am_nb1, am_lc1, am_lc2, am_lc3, am_b0, am_b1, am_10, am_c8, am_c16, am_c24, am_c32, am_c40, am_c48, am_c56, am_c64, am_c72, Nat.add_zero, Bool.false_eq_true, Nat.zero_le, hk', o10, htk]
        simp only [gX1_nests_44, gX1_nests_51, gX1_nests_52, gX1_nests_53, am_kill_int, am_kill_ref, am_kill_null, am_kill_F, am_kill_long, am_cat_n, am_cat_i, am_cat_r, am_cat_0, am_cat_l, am_nr_n, am_nr_i, am_nr_r, am_nr_0, am_nr_l, Option.toList_some, Option.toList_none, List.nil_append, List.cons_append, va_rf_s, va_rf_n, am_II, am_I_sR, am_I_sL, am_R_sI, am_RR, am_R_sL, am_L_sI, am_L_sR, am_LL, am_k_sI, am_k_sR, am_k_sL, am_n_sI, am_n_sR, am_n_sL, true_and, and_true, true_or, or_true, or_false, false_or, not_true_eq_false, not_false_eq_true, Nat.reduceLT, am_dS, am_dP, am_d1, Nat.reduceSub, Nat.reduceMul, ne_eq, Nat.reduceBEq, Nat.reduceAdd, Nat.reduceLeDiff, Nat.reduceEqDiff, and_self, and_false, false_and, if_true, if_false, am_nb, am_nb0, am_nb1, am_lc1, am_lc2, am_lc3, am_b0, am_b1, am_10, am_c8, am_c16, am_c24, am_c32, am_c40, am_c48, am_c56, am_c64, am_c72, Nat.add_zero, Bool.false_eq_true, Nat.zero_le]
        rw [gX1_nests_25]
        simp only [gX1_nests_26, am_kill_int, am_kill_ref, am_kill_null, am_kill_F, am_kill_long, am_cat_n, am_cat_i, am_cat_r, am_cat_0, am_cat_l, am_nr_n, am_nr_i, am_nr_r, am_nr_0, am_nr_l, Option.toList_some, Option.toList_none, List.nil_append, List.cons_append, va_rf_s, va_rf_n, am_II, am_I_sR, am_I_sL, am_R_sI, am_RR, am_R_sL, am_L_sI, am_L_sR, am_LL, am_k_sI, am_k_sR, am_k_sL, am_n_sI, am_n_sR, am_n_sL, true_and, and_true, true_or, or_true, or_false, false_or, not_true_eq_false, not_false_eq_true, Nat.reduceLT, am_dS, am_dP, am_d1, Nat.reduceSub, Nat.reduceMul, ne_eq, Nat.reduceBEq, Nat.reduceAdd, Nat.reduceLeDiff, Nat.reduceEqDiff, and_self, and_false, false_and, if_true, if_false, am_nb, am_nb0, am_nb1, am_lc1, am_lc2, am_lc3, am_b0, am_b1, am_10, am_c8, am_c16, am_c24, am_c32, am_c40, am_c48, am_c56, am_c64, am_c72, Nat.add_zero, Bool.false_eq_true, Nat.zero_le]
        have en : nsR ch (q + 1) i = .inr (i + 1) := by
          unfold nsR
          rw [hp]
          exact if_neg c59
        refine hK2 (i + 1) ν en (hF.trans hF2) (by rw [show 5 * (i + 1) - 1 = 5 * i + 4 by omega]; exact h7) h14' (hr3 ν rfl rfl rfl rfl)
theorem nsM_loop (ht : t ≤ 80) (hch : chM (am_I μ 56) t m = ch) (z3 z4 : Value) : ∀ (q i : Nat) (μ' : am_M), q + N + i = 8 → TM 56 80 (5 * i) t m (-1) μ' → NX t m μ μ' → am_I μ 54 1 = nI N → (∀ j, j < i → ∀ r, r < 4 → am_I μ' 58 (4 * j + r) = vLn ch (5 * j) r) →
    (∀ p b n' ν, nsR ch q i = .inl p → TM 56 80 b t m (nI p) ν → NX t m μ ν → am_Wp (d + 200) mX3_nests 77 [.ref 54, .int n', .int 0, z3, z4] [] ν K) →
    (∀ k ν, nsR ch q i = .inr k → TM 56 80 (5 * k - 1) t m (-1) ν → NX t m μ ν → (∀ j, j < k → ∀ r, r < 4 → am_I ν 58 (4 * j + r) = vLn ch (5 * j) r) → am_Wp (d + 200) mX3_nests 77 [.ref 54, .int (nI k), .int 0, z3, z4] [] ν K) →
    am_Wp (d + 200) mX3_nests 24 [.ref 54, .int (nI i), .int 1, z3, z4] [] μ' K := by
  intro q
  have o10 : ¬ (1 : Int32) = 0 := by decide
  have e8 : (8 : Int32) = nI 8 := rfl
  -- behind a fault the loop ends
  have out : ∀ (n' : Int32) (b p : Nat) (ν : am_M), p ≤ 1000 → TM 56 80 b t m (nI p) ν → (∀ x, am_Wp (d + 200) mX3_nests 77 [.ref 54, .int x, .int 0, z3, z4] [] ν K) → am_Wp (d + 200) mX3_nests 64 [.ref 54, .int n', .int 1, z3, z4] [] ν K := fun n' b p ν hp hT hK => by
    have hmu := hT.1
    unfold mL at hmu
    have hm1 := nI_m1 (a := p) hp
    have hps := wX3_passes (d := d + 198) (x := 59) (K := fun r1 μ1 => am_nr r1 ∧ am_Wp (d + 200) mX3_nests 73 [.ref 54, .int (n' + 1), .int 1, z3, z4] (r1.toList ++ []) μ1 K) hT
    rw [if_neg (fun f => hm1 f.1)] at hps
    simp only [gX3_nests_64, gX3_nests_67, gX3_nests_68, gX3_nests_70, am_kill_int, am_kill_ref, am_kill_null, am_kill_F, am_kill_long, am_cat_n, am_cat_i, am_cat_r, am_cat_0, am_cat_l, am_nr_n, am_nr_i, am_nr_r, am_nr_0, am_nr_l, Option.toList_some, Option.toList_none, List.nil_append, List.cons_append, va_rf_s, va_rf_n, am_I_sR, am_I_sL, am_R_sI, am_R_sL, am_L_sI, am_L_sR, am_k_sI, am_k_sR, am_k_sL, am_n_sI, am_n_sR, am_n_sL, true_and, and_true, true_or, or_true, or_false, false_or, not_true_eq_false, not_false_eq_true, Nat.reduceLT, am_dS, am_dP, am_d1, Nat.reduceSub, Nat.reduceMul, ne_eq, Nat.reduceBEq, Nat.reduceAdd, Nat.reduceLeDiff, Nat.reduceEqDiff, and_self, and_false, false_and, if_true, if_false, am_nb, am_nb0, am_nb1, am_lc1, am_lc2, am_lc3, am_b0, am_b1, am_10, am_c8, am_c16, am_c24, am_c32, am_c40, am_c48, am_c56, am_c64, am_c72, Nat.add_zero, Bool.false_eq_true, Nat.zero_le, hmu, hps]
    simp only [gX3_nests_73, gX3_nests_74, am_kill_int, am_kill_ref, am_kill_null, am_kill_F, am_kill_long, am_cat_n, am_cat_i, am_cat_r, am_cat_0, am_cat_l, am_nr_n, am_nr_i, am_nr_r, am_nr_0, am_nr_l, Option.toList_some, Option.toList_none, List.nil_append, List.cons_append, va_rf_s, va_rf_n, am_II, am_I_sR, am_I_sL, am_R_sI, am_RR, am_R_sL, am_L_sI, am_L_sR, am_LL, am_k_sI, am_k_sR, am_k_sL, am_n_sI, am_n_sR, am_n_sL, true_and, and_true, true_or, or_true, or_false, false_or, not_true_eq_false, not_false_eq_true, Nat.reduceLT, am_dS, am_dP, am_d1, Nat.reduceSub, Nat.reduceMul, ne_eq, Nat.reduceBEq, Nat.reduceAdd, Nat.reduceLeDiff, Nat.reduceEqDiff, and_self, and_false, false_and, if_true, if_false, am_nb, am_nb0, am_nb1, am_lc1, am_lc2, am_lc3, am_b0, am_b1, am_10, am_c8, am_c16, am_c24, am_c32, am_c40, am_c48, am_c56, am_c64, am_c72, Nat.add_zero, Bool.false_eq_true, Nat.zero_le]
    rw [gX3_nests_24]
    simp only [gX3_nests_25, am_kill_int, am_kill_ref, am_kill_null, am_kill_F, am_kill_long, am_cat_n, am_cat_i, am_cat_r, am_cat_0, am_cat_l, am_nr_n, am_nr_i, am_nr_r, am_nr_0, am_nr_l, Option.toList_some, Option.toList_none, List.nil_append, List.cons_append, va_rf_s, va_rf_n, am_II, am_I_sR, am_I_sL, am_R_sI, am_RR, am_R_sL, am_L_sI, am_L_sR, am_LL, am_k_sI, am_k_sR, am_k_sL, am_n_sI, am_n_sR, am_n_sL, true_and, and_true, true_or, or_true, or_false, false_or, not_true_eq_false, not_false_eq_true, Nat.reduceLT, am_dS, am_dP, am_d1, Nat.reduceSub, Nat.reduceMul, ne_eq, Nat.reduceBEq, Nat.reduceAdd, Nat.reduceLeDiff, Nat.reduceEqDiff, and_self, and_false, false_and, if_true, if_false, am_nb, am_nb0, am_nb1, am_lc1, am_lc2, am_lc3, am_b0, am_b1, am_10, am_c8, am_c16, am_c24, am_c32, am_c40, am_c48, am_c56, am_c64, am_c72, Nat.add_zero, Bool.false_eq_true, Nat.zero_le]
    exact hK _
  induction q with
  | zero =>
    intro i μ' hq hT hN hN1 hr hK1 hK2
    have hmu := hT.1
    unfold mL at hmu
    have h1 : am_I μ' 54 1 = nI N := (hN.1.1 54 1 (by unfold fNM; omega)).trans hN1
    have e : nI (N + i) = nI 8 := by rw [show N + i = 8 by omega]
    have hfi := wX3_fine (d := d + 199) (K := fun r1 μ1 => am_nr r1 ∧ am_Wp (d + 200) mX3_nests 32 [.ref 54, .int (nI i), .int 1, z3, z4] (r1.toList ++ []) μ1 K) hT
    rw [if_pos rfl] at hfi
    have hfa := wX3_fault (d := d + 198) (x := nI (5 * i)) (K := fun r1 μ1 => am_nr r1 ∧ am_Wp (d + 200) mX3_nests 54 [.ref 54, .int (nI i), .int 1, z3, z4] (r1.toList ++ []) μ1 K) hT
    rw [if_pos rfl] at hfa
    have h11 := hT.2.2.2.1
    rw [gX3_nests_24]
    simp only [gX3_nests_25, gX3_nests_28, gX3_nests_29, am_kill_int, am_kill_ref, am_kill_null, am_kill_F, am_kill_long, am_cat_n, am_cat_i, am_cat_r, am_cat_0, am_cat_l, am_nr_n, am_nr_i, am_nr_r, am_nr_0, am_nr_l, Option.toList_some, Option.toList_none, List.nil_append, List.cons_append, va_rf_s, va_rf_n, am_I_sR, am_I_sL, am_R_sI, am_R_sL, am_L_sI, am_L_sR, am_k_sI, am_k_sR, am_k_sL, am_n_sI, am_n_sR, am_n_sL, true_and, and_true, true_or, or_true, or_false, false_or, not_true_eq_false, not_false_eq_true, Nat.reduceLT, am_dS, am_dP, am_d1, Nat.reduceSub, Nat.reduceMul, ne_eq, Nat.reduceBEq, Nat.reduceAdd, Nat.reduceLeDiff, Nat.reduceEqDiff, and_self, and_false, false_and, if_true, if_false, am_nb, am_nb0, am_nb1, am_lc1, am_lc2, am_lc3, am_b0, am_b1, am_10, am_c8, am_c16, am_c24, am_c32, am_c40, am_c48, am_c56, am_c64, am_c72, Nat.add_zero, Bool.false_eq_true, Nat.zero_le, hmu, o10, hfi]
    simp only [gX3_nests_32, gX3_nests_35, gX3_nests_36, gX3_nests_39, gX3_nests_40, gX3_nests_41, gX3_nests_43, gX3_nests_46, gX3_nests_47, gX3_nests_48, gX3_nests_51, am_kill_int, am_kill_ref, am_kill_null, am_kill_F, am_kill_long, am_cat_n, am_cat_i, am_cat_r, am_cat_0, am_cat_l, am_nr_n, am_nr_i, am_nr_r, am_nr_0, am_nr_l, Option.toList_some, Option.toList_none, List.nil_append, List.cons_append, va_rf_s, va_rf_n, am_I_sR, am_I_sL, am_R_sI, am_R_sL, am_L_sI, am_L_sR, am_k_sI, am_k_sR, am_k_sL, am_n_sI, am_n_sR, am_n_sL, true_and, and_true, true_or, or_true, or_false, false_or, not_true_eq_false, not_false_eq_true, Nat.reduceLT, am_dS, am_dP, am_d1, Nat.reduceSub, Nat.reduceMul, ne_eq, Nat.reduceBEq, Nat.reduceAdd, Nat.reduceLeDiff, Nat.reduceEqDiff, and_self, and_false, false_and, if_true, if_false, am_nb, am_nb0, am_nb1, am_lc1, am_lc2, am_lc3, am_b0, am_b1, am_10, am_c8, am_c16, am_c24, am_c32, am_c40, am_c48, am_c56, am_c64, am_c72, Nat.add_zero, Bool.false_eq_true, Nat.zero_le, hmu, o10, h1, nI_add, e8, e, h11, hfa]
    simp only [gX3_nests_54, am_kill_int, am_kill_ref, am_kill_null, am_kill_F, am_kill_long, am_cat_n, am_cat_i, am_cat_r, am_cat_0, am_cat_l, am_nr_n, am_nr_i, am_nr_r, am_nr_0, am_nr_l, Option.toList_some, Option.toList_none, List.nil_append, List.cons_append, va_rf_s, va_rf_n, am_I_sR, am_I_sL, am_R_sI, am_R_sL, am_L_sI, am_L_sR, am_k_sI, am_k_sR, am_k_sL, am_n_sI, am_n_sR, am_n_sL, true_and, and_true, true_or, or_true, or_false, false_or, not_true_eq_false, not_false_eq_true, Nat.reduceLT, am_dS, am_dP, am_d1, Nat.reduceSub, Nat.reduceMul, ne_eq, Nat.reduceBEq, Nat.reduceAdd, Nat.reduceLeDiff, Nat.reduceEqDiff, and_self, and_false, false_and, if_true, if_false, am_nb, am_nb0, am_nb1, am_lc1, am_lc2, am_lc3, am_b0, am_b1, am_10, am_c8, am_c16, am_c24, am_c32, am_c40, am_c48, am_c56, am_c64, am_c72, Nat.add_zero, Bool.false_eq_true, Nat.zero_le]
    have hT2 := hT.fault (x := nI (5 * i))
    exact out _ _ (5 * i) _ (by omega) hT2 (fun x => hK1 (5 * i) _ x _ rfl hT2 (hN.I (Or.inr ⟨rfl, by omega⟩)))
  | succ q ih =>
    intro i μ' hq hT hN hN1 hr hK1 hK2
    have hmu := hT.1
    unfold mL at hmu
    have h1 : am_I μ' 54 1 = nI N := (hN.1.1 54 1 (by unfold fNM; omega)).trans hN1
    have e : ¬ nI (N + i) = nI 8 := by rw [nI_inj (by omega) (by omega)]; omega
    have hfi := wX3_fine (d := d + 199) (K := fun r1 μ1 => am_nr r1 ∧ am_Wp (d + 200) mX3_nests 32 [.ref 54, .int (nI i), .int 1, z3, z4] (r1.toList ++ []) μ1 K) hT
    rw [if_pos rfl] at hfi
    have e4 : (4 : Int32) * nI i = nI (4 * i) := by rw [show (4 : Int32) = nI 4 from rfl]; exact nI_mul
    rw [gX3_nests_24]
    simp only [gX3_nests_25, gX3_nests_28, gX3_nests_29, am_kill_int, am_kill_ref, am_kill_null, am_kill_F, am_kill_long, am_cat_n, am_cat_i, am_cat_r, am_cat_0, am_cat_l, am_nr_n, am_nr_i, am_nr_r, am_nr_0, am_nr_l, Option.toList_some, Option.toList_none, List.nil_append, List.cons_append, va_rf_s, va_rf_n, am_I_sR, am_I_sL, am_R_sI, am_R_sL, am_L_sI, am_L_sR, am_k_sI, am_k_sR, am_k_sL, am_n_sI, am_n_sR, am_n_sL, true_and, and_true, true_or, or_true, or_false, false_or, not_true_eq_false, not_false_eq_true, Nat.reduceLT, am_dS, am_dP, am_d1, Nat.reduceSub, Nat.reduceMul, ne_eq, Nat.reduceBEq, Nat.reduceAdd, Nat.reduceLeDiff, Nat.reduceEqDiff, and_self, and_false, false_and, if_true, if_false, am_nb, am_nb0, am_nb1, am_lc1, am_lc2, am_lc3, am_b0, am_b1, am_10, am_c8, am_c16, am_c24, am_c32, am_c40, am_c48, am_c56, am_c64, am_c72, Nat.add_zero, Bool.false_eq_true, Nat.zero_le, hmu, o10, hfi]
    simp only [gX3_nests_32, gX3_nests_35, gX3_nests_36, gX3_nests_39, gX3_nests_40, gX3_nests_41, gX3_nests_43, gX3_nests_57, gX3_nests_58, gX3_nests_59, gX3_nests_60, gX3_nests_61, am_kill_int, am_kill_ref, am_kill_null, am_kill_F, am_kill_long, am_cat_n, am_cat_i, am_cat_r, am_cat_0, am_cat_l, am_nr_n, am_nr_i, am_nr_r, am_nr_0, am_nr_l, Option.toList_some, Option.toList_none, List.nil_append, List.cons_append, va_rf_s, va_rf_n, am_I_sR, am_I_sL, am_R_sI, am_R_sL, am_L_sI, am_L_sR, am_k_sI, am_k_sR, am_k_sL, am_n_sI, am_n_sR, am_n_sL, true_and, and_true, true_or, or_true, or_false, false_or, not_true_eq_false, not_false_eq_true, Nat.reduceLT, am_dS, am_dP, am_d1, Nat.reduceSub, Nat.reduceMul, ne_eq, Nat.reduceBEq, Nat.reduceAdd, Nat.reduceLeDiff, Nat.reduceEqDiff, and_self, and_false, false_and, if_true, if_false, am_nb, am_nb0, am_nb1, am_lc1, am_lc2, am_lc3, am_b0, am_b1, am_10, am_c8, am_c16, am_c24, am_c32, am_c40, am_c48, am_c56, am_c64, am_c72, Nat.add_zero, Bool.false_eq_true, Nat.zero_le, hmu, o10, h1, nI_add, e8, e, e4]
    have h56 : chM (am_I μ' 56) t m = ch := by rw [show am_I μ' 56 = am_I μ 56 from funext fun i => hN.1.1 56 i (by unfold fNM; omega)]; exact hch
    refine wX3_readNest (d := d + 196) hT ht (by omega) (by omega) h56 (fun p b ν hp hT2 hN2 => ?_) (fun ν hp hT2 hN2 g1 g2 => ?_)
    · simp only [Option.toList_none, List.nil_append]
      refine ⟨trivial, out _ b p ν (by have := pLn_le hp; omega) hT2 (fun x => hK1 p b x ν ?_ hT2 ⟨hN.1.trans hN2.1, hN2.2.trans hN.2⟩)⟩
      unfold nsR
      rw [hp]
    · have hm2 := hT2.1
      unfold mL at hm2
      have hN3 : NX t m μ ν := ⟨hN.1.trans hN2.1, hN2.2.trans hN.2⟩
      have h56' : chM (am_I ν 56) t m = ch := by rw [show am_I ν 56 = am_I μ 56 from funext fun i => hN3.1.1 56 i (by unfold fNM; omega)]; exact hch
      have hr3 : ∀ j, j < i + 1 → ∀ r, r < 4 → am_I ν 58 (4 * j + r) = vLn ch (5 * j) r := fun j hj r hr4 => by
        by_cases f : j = i
        · subst f; exact g1 r hr4
        · rw [g2 _ (by omega)]; exact hr j (by omega) r hr4
      have hps := wX3_passes (d := d + 198) (x := 59) (K := fun r1 μ1 => am_nr r1 ∧ am_Wp (d + 200) mX3_nests 73 [.ref 54, .int (nI (i + 1)), .int 1, z3, z4] (r1.toList ++ []) μ1 K) hT2
      rw [h56'] at hps
      refine ⟨trivial, ?_⟩
      by_cases c59 : ch (5 * i + 4) = 59
      · rw [if_pos ⟨rfl, c59⟩] at hps
        simp only [Option.toList_none, List.nil_append, gX3_nests_64, gX3_nests_67, gX3_nests_68, gX3_nests_70, am_kill_int, am_kill_ref, am_kill_null, am_kill_F, am_kill_long, am_cat_n, am_cat_i, am_cat_r, am_cat_0, am_cat_l, am_nr_n, am_nr_i, am_nr_r, am_nr_0, am_nr_l, Option.toList_some, Option.toList_none, List.nil_append, List.cons_append, va_rf_s, va_rf_n, am_I_sR, am_I_sL, am_R_sI, am_R_sL, am_L_sI, am_L_sR, am_k_sI, am_k_sR, am_k_sL, am_n_sI, am_n_sR, am_n_sL, true_and, and_true, true_or, or_true, or_false, false_or, not_true_eq_false, not_false_eq_true, Nat.reduceLT, am_dS, am_dP, am_d1, Nat.reduceSub, Nat.reduceMul, ne_eq, Nat.reduceBEq, Nat.reduceAdd, Nat.reduceLeDiff, Nat.reduceEqDiff, and_self, and_false, false_and, if_true, if_false, am_nb, am_nb0, am_nb1, am_lc1, am_lc2, am_lc3, am_b0, am_b1, am_10, am_c8, am_c16, am_c24, am_c32, am_c40, am_c48, am_c56, am_c64, am_c72, Nat.add_zero, Bool.false_eq_true, Nat.zero_le, hm2, nI_1, hps]
        simp only [gX3_nests_73, gX3_nests_74, am_kill_int, am_kill_ref, am_kill_null, am_kill_F, am_kill_long, am_cat_n, am_cat_i, am_cat_r, am_cat_0, am_cat_l, am_nr_n, am_nr_i, am_nr_r, am_nr_0, am_nr_l, Option.toList_some, Option.toList_none, List.nil_append, List.cons_append, va_rf_s, va_rf_n, am_II, am_I_sR, am_I_sL, am_R_sI, am_RR, am_R_sL, am_L_sI, am_L_sR, am_LL, am_k_sI, am_k_sR, am_k_sL, am_n_sI, am_n_sR, am_n_sL, true_and, and_true, true_or, or_true, or_false, false_or, not_true_eq_false, not_false_eq_true, Nat.reduceLT, am_dS, am_dP, am_d1, Nat.reduceSub, Nat.reduceMul, ne_eq, Nat.reduceBEq, Nat.reduceAdd, Nat.reduceLeDiff, Nat.reduceEqDiff, and_self, and_false, false_and, if_true, if_false, am_nb, am_nb0, am_nb1, am_lc1, am_lc2, am_lc3, am_b0, am_b1, am_10, am_c8, am_c16, am_c24, am_c32, am_c40, am_c48, am_c56, am_c64, am_c72, Nat.add_zero, Bool.false_eq_true, Nat.zero_le]
        have en : nsR ch (q + 1) i = nsR ch q (i + 1) := by
          conv => lhs; unfold nsR
          rw [hp]
          exact if_pos c59
        refine ih (i + 1) _ (by omega) (hT2.go (k := 5 * i + 4 + 1) (by omega)) (hN3.I (Or.inr ⟨rfl, by omega⟩)) hN1 (fun j hj r hr4 => by rw [am_I_sI, if_neg (by omega)]; exact hr3 j hj r hr4) (fun p b n' ξ z1 => hK1 p b n' ξ (en.trans z1)) (fun k ξ z1 => hK2 k ξ (en.trans z1))
      · rw [if_neg (fun f => c59 f.2)] at hps
        simp only [Option.toList_none, List.nil_append, gX3_nests_64, gX3_nests_67, gX3_nests_68, gX3_nests_70, am_kill_int, am_kill_ref, am_kill_null, am_kill_F, am_kill_long, am_cat_n, am_cat_i, am_cat_r, am_cat_0, am_cat_l, am_nr_n, am_nr_i, am_nr_r, am_nr_0, am_nr_l, Option.toList_some, Option.toList_none, List.nil_append, List.cons_append, va_rf_s, va_rf_n, am_I_sR, am_I_sL, am_R_sI, am_R_sL, am_L_sI, am_L_sR, am_k_sI, am_k_sR, am_k_sL, am_n_sI, am_n_sR, am_n_sL, true_and, and_true, true_or, or_true, or_false, false_or, not_true_eq_false, not_false_eq_true, Nat.reduceLT, am_dS, am_dP, am_d1, Nat.reduceSub, Nat.reduceMul, ne_eq, Nat.reduceBEq, Nat.reduceAdd, Nat.reduceLeDiff, Nat.reduceEqDiff, and_self, and_false, false_and, if_true, if_false, am_nb, am_nb0, am_nb1, am_lc1, am_lc2, am_lc3, am_b0, am_b1, am_10, am_c8, am_c16, am_c24, am_c32, am_c40, am_c48, am_c56, am_c64, am_c72, Nat.add_zero, Bool.false_eq_true, Nat.zero_le, hm2, nI_1, hps]
        simp only [gX3_nests_73, gX3_nests_74, am_kill_int, am_kill_ref, am_kill_null, am_kill_F, am_kill_long, am_cat_n, am_cat_i, am_cat_r, am_cat_0, am_cat_l, am_nr_n, am_nr_i, am_nr_r, am_nr_0, am_nr_l, Option.toList_some, Option.toList_none, List.nil_append, List.cons_append, va_rf_s, va_rf_n, am_II, am_I_sR, am_I_sL, am_R_sI, am_RR, am_R_sL, am_L_sI, am_L_sR, am_LL, am_k_sI, am_k_sR, am_k_sL, am_n_sI, am_n_sR, am_n_sL, true_and, and_true, true_or, or_true, or_false, false_or, not_true_eq_false, not_false_eq_true, Nat.reduceLT, am_dS, am_dP, am_d1, Nat.reduceSub, Nat.reduceMul, ne_eq, Nat.reduceBEq, Nat.reduceAdd, Nat.reduceLeDiff, Nat.reduceEqDiff, and_self, and_false, false_and, if_true, if_false, am_nb, am_nb0, am_nb1, am_lc1, am_lc2, am_lc3, am_b0, am_b1, am_10, am_c8, am_c16, am_c24, am_c32, am_c40, am_c48, am_c56, am_c64, am_c72, Nat.add_zero, Bool.false_eq_true, Nat.zero_le]
        rw [gX3_nests_24]
        simp only [gX3_nests_25, am_kill_int, am_kill_ref, am_kill_null, am_kill_F, am_kill_long, am_cat_n, am_cat_i, am_cat_r, am_cat_0, am_cat_l, am_nr_n, am_nr_i, am_nr_r, am_nr_0, am_nr_l, Option.toList_some, Option.toList_none, List.nil_append, List.cons_append, va_rf_s, va_rf_n, am_II, am_I_sR, am_I_sL, am_R_sI, am_RR, am_R_sL, am_L_sI, am_L_sR, am_LL, am_k_sI, am_k_sR, am_k_sL, am_n_sI, am_n_sR, am_n_sL, true_and, and_true, true_or, or_true, or_false, false_or, not_true_eq_false, not_false_eq_true, Nat.reduceLT, am_dS, am_dP, am_d1, Nat.reduceSub, Nat.reduceMul, ne_eq, Nat.reduceBEq, Nat.reduceAdd, Nat.reduceLeDiff, Nat.reduceEqDiff, and_self, and_false, false_and, if_true, if_false, am_nb, am_nb0, am_nb1, am_lc1, am_lc2, am_lc3, am_b0, am_b1, am_10, am_c8, am_c16, am_c24, am_c32, am_c40, am_c48, am_c56, am_c64, am_c72, Nat.add_zero, Bool.false_eq_true, Nat.zero_le]
        have en : nsR ch (q + 1) i = .inr (i + 1) := by
          unfold nsR
          rw [hp]
          exact if_neg c59
        exact hK2 (i + 1) ν en (by rw [show 5 * (i + 1) - 1 = 5 * i + 4 by omega]; exact hT2) hN3 hr3
end NLV
