/-! the model reads products, sums, comparisons -/
set_option maxRecDepth 100000
section MH
variable {d : Nat} {μ ν : am_M} {K : Option Value → am_M → Prop} {x y z c w : Int32} {h N j i k r L a ln tp dp n m : Nat} {v : Int32}
theorem isOp_2 {x : Int32} : isOp 2 x = true ↔ (x = 42 ∨ x = 47) := by simp [isOp]
theorem isOp_1 {x : Int32} : isOp 1 x = true ↔ (x = 43 ∨ x = 45) := by simp [isOp]
theorem isOp_0 {x : Int32} : isOp 0 x = true ↔ (x = 60 ∨ x = 62 ∨ x = 61) := by simp [isOp]
theorem product_loop {T : Nat → Int32} (TT : spA mX3_thing (fun _ => [am_F, am_F]) 3 n r L ln tp T) (hdp : dp ≤ 4) : ∀ (k b : Nat) (f : PF) (v : Int32) (μ : am_M) (z3 z4 : Value), min ln tp - b ≤ k → (min ln tp - b) + 4 * (4 - dp) ≤ n → am_I μ r = T → TM r L b ln tp (-1) μ → v = f (envM μ) →
    okM K μ (pL (fun b => pP (chM T ln tp) n 3 b dp) 2 (chM T ln tp) k f b) → am_Wp (d + (n + 1) + 5) mX3_product 6 [.ref 54, .int (nI dp), .int v, z3, z4] [] μ K := by
  have hd : d + (n + 1) + 4 = d + n + 5 := by omega
  intro k
  induction k with
  | zero =>
    intro b f v μ z3 z4 hk hn hR hT hv hK
    have hmu := hT.1
    unfold mL at hmu
    have ha := hT.2.2.2.1
    have hc : chM (am_I μ r) ln tp b = -1 := by unfold chM; rw [if_neg (by omega)]
    simp only [pL, okM_inr, am_sI_self ha, ← hv] at hK
    rw [gX3_product_6]
    simp (decide := true) only [gX3_product_7, gX3_product_10, gX3_product_13, gX3_product_14, gX3_product_17, gX3_product_19, gX3_product_22, gX3_product_23, gX3_product_26, gX3_product_28, gX3_product_91, gX3_product_92, am_kill_int, am_kill_ref, am_kill_null, am_kill_F, am_kill_long, am_cat_n, am_cat_i, am_cat_r, am_cat_0, am_cat_l, am_nr_n, am_nr_i, am_nr_r, am_nr_0, am_nr_l, Option.toList_some, Option.toList_none, List.nil_append, List.cons_append, va_rf_s, va_rf_n, am_II, am_I_sR, am_I_sL, am_R_sI, am_RR, am_R_sL, am_L_sI, am_L_sR, am_LL, am_k_sI, am_k_sR, am_k_sL, am_n_sI, am_n_sR, am_n_sL, true_and, and_true, true_or, or_true, or_false, false_or, not_true_eq_false, not_false_eq_true, Nat.reduceLT, am_dS, am_dP, am_d1, Nat.reduceSub, Nat.reduceMul, ne_eq, Nat.reduceBEq, Nat.reduceAdd, Nat.reduceLeDiff, Nat.reduceEqDiff, and_self, and_false, false_and, if_true, if_false, am_nb, am_nb0, am_nb1, am_lc1, am_lc2, am_lc3, am_b0, am_b1, am_10, am_c8, am_c16, am_c24, am_c32, am_c40, am_c48, am_c56, am_c64, am_c72, Nat.add_zero, Bool.false_eq_true, Nat.zero_le, wX3_fine hT, wX3_here hT, hmu, hc]
    exact hK
  | succ k ih =>
    intro b f v μ z3 z4 hk hn hR hT hv hK
    have hmu := hT.1
    unfold mL at hmu
    have ha := hT.2.2.2.1
    have hb := hT.2.2.2.2.2.2.2.1
    subst hR
    unfold pL at hK
    rw [gX3_product_6]
    by_cases ho : isOp 2 (chM (am_I μ r) ln tp b) = true
    · have hlt := chM_lt (T := am_I μ r) (ln := ln) (tp := tp) (a := b) (by rcases isOp_2.mp ho with q | q <;> rw [q] <;> decide)
      rw [if_pos ho] at hK
      have hT2 := hT.go (k := b + 1) (by omega)
      have hp2 := pP_le (ch := chM (am_I μ r) ln tp) (e := min ln tp) (fun i q => by have := chM_lt q; omega) n 3 (b + 1) dp (by omega)
      rcases isOp_2.mp ho with hc | hc
      all_goals
        simp (decide := true) only [gX3_product_7, gX3_product_10, gX3_product_13, gX3_product_14, gX3_product_17, gX3_product_19, gX3_product_22, gX3_product_23, gX3_product_26, gX3_product_28, gX3_product_31, gX3_product_32, gX3_product_35, gX3_product_37, gX3_product_40, gX3_product_41, gX3_product_44, gX3_product_45, gX3_product_46, gX3_product_47, gX3_product_48, gX3_product_51, gX3_product_52, gX3_product_53, gX3_product_56, gX3_product_57, gX3_product_58, am_kill_int, am_kill_ref, am_kill_null, am_kill_F, am_kill_long, am_cat_n, am_cat_i, am_cat_r, am_cat_0, am_cat_l, am_nr_n, am_nr_i, am_nr_r, am_nr_0, am_nr_l, Option.toList_some, Option.toList_none, List.nil_append, List.cons_append, va_rf_s, va_rf_n, am_II, am_I_sR, am_I_sL, am_R_sI, am_RR, am_R_sL, am_L_sI, am_L_sR, am_LL, am_k_sI, am_k_sR, am_k_sL, am_n_sI, am_n_sR, am_n_sL, true_and, and_true, true_or, or_true, or_false, false_or, not_true_eq_false, not_false_eq_true, Nat.reduceLT, am_dS, am_dP, am_d1, Nat.reduceSub, Nat.reduceMul, ne_eq, Nat.reduceBEq, Nat.reduceAdd, Nat.reduceLeDiff, Nat.reduceEqDiff, and_self, and_false, false_and, if_true, if_false, am_nb, am_nb0, am_nb1, am_lc1, am_lc2, am_lc3, am_b0, am_b1, am_10, am_c8, am_c16, am_c24, am_c32, am_c40, am_c48, am_c56, am_c64, am_c72, Nat.add_zero, Bool.false_eq_true, Nat.zero_le, wX3_fine hT, wX3_here hT, hmu, hc, ha, nI_1, hd]
        refine TT d (b + 1) dp _ _ hdp hT.ch hT2 (by omega) ?_
        rw [okM_at]
        cases hp : pP (chM (am_I μ r) ln tp) n 3 (b + 1) dp with
        | inl p =>
          rw [hp] at hK hp2
          have hp3 : p ≤ min ln tp := hp2
          have hT3 := (hT.go (k := p) (by omega)).fault (x := nI p)
          have hm1 := nI_m1 (a := p) (by omega)
          rw [okM_inl] at ⊢
          simp only [okM_inl] at hK
          intro v'
          have done' : ∀ u z3 z4, am_Wp (d + (n + 1) + 5) mX3_product 6 [.ref 54, .int (nI dp), .int u, z3, z4] [] (am_sI (am_sI μ 54 11 (nI p)) 54 12 (nI p)) K := fun u z3 z4 => by
            rw [gX3_product_6]
            simp only [gX3_product_7, gX3_product_10, gX3_product_91, gX3_product_92, am_kill_int, am_kill_ref, am_kill_null, am_kill_F, am_kill_long, am_cat_n, am_cat_i, am_cat_r, am_cat_0, am_cat_l, am_nr_n, am_nr_i, am_nr_r, am_nr_0, am_nr_l, Option.toList_some, Option.toList_none, List.nil_append, List.cons_append, va_rf_s, va_rf_n, am_I_sR, am_I_sL, am_R_sI, am_R_sL, am_L_sI, am_L_sR, am_k_sI, am_k_sR, am_k_sL, am_n_sI, am_n_sR, am_n_sL, true_and, and_true, true_or, or_true, or_false, false_or, not_true_eq_false, not_false_eq_true, Nat.reduceLT, am_dS, am_dP, am_d1, Nat.reduceSub, Nat.reduceMul, ne_eq, Nat.reduceBEq, Nat.reduceAdd, Nat.reduceLeDiff, Nat.reduceEqDiff, and_self, and_false, false_and, if_true, if_false, am_nb, am_nb0, am_nb1, am_lc1, am_lc2, am_lc3, am_b0, am_b1, am_10, am_c8, am_c16, am_c24, am_c32, am_c40, am_c48, am_c56, am_c64, am_c72, Nat.add_zero, Bool.false_eq_true, Nat.zero_le, wX3_fine hT3, hm1, hmu]
            exact hK u
          by_cases hz : v' = 0
          · simp (decide := true) only [gX3_product_61, gX3_product_63, gX3_product_64, gX3_product_67, gX3_product_68, gX3_product_70, gX3_product_71, gX3_product_74, gX3_product_76, gX3_product_79, gX3_product_80, gX3_product_83, gX3_product_84, gX3_product_86, gX3_product_87, gX3_product_88, am_kill_int, am_kill_ref, am_kill_null, am_kill_F, am_kill_long, am_cat_n, am_cat_i, am_cat_r, am_cat_0, am_cat_l, am_nr_n, am_nr_i, am_nr_r, am_nr_0, am_nr_l, Option.toList_some, Option.toList_none, List.nil_append, List.cons_append, va_rf_s, va_rf_n, am_I_sR, am_I_sL, am_R_sI, am_R_sL, am_L_sI, am_L_sR, am_k_sI, am_k_sR, am_k_sL, am_n_sI, am_n_sR, am_n_sL, true_and, and_true, true_or, or_true, or_false, false_or, not_true_eq_false, not_false_eq_true, Nat.reduceLT, am_dS, am_dP, am_d1, Nat.reduceSub, Nat.reduceMul, ne_eq, Nat.reduceBEq, Nat.reduceAdd, Nat.reduceLeDiff, Nat.reduceEqDiff, and_self, and_false, false_and, if_true, if_false, am_nb, am_nb0, am_nb1, am_lc1, am_lc2, am_lc3, am_b0, am_b1, am_10, am_c8, am_c16, am_c24, am_c32, am_c40, am_c48, am_c56, am_c64, am_c72, Nat.add_zero, Bool.false_eq_true, Nat.zero_le, hz]
            exact done' _ _ _
          · simp (decide := true) only [gX3_product_61, gX3_product_63, gX3_product_64, gX3_product_67, gX3_product_68, gX3_product_70, gX3_product_71, gX3_product_74, gX3_product_76, gX3_product_79, gX3_product_80, gX3_product_83, gX3_product_84, gX3_product_86, gX3_product_87, gX3_product_88, am_kill_int, am_kill_ref, am_kill_null, am_kill_F, am_kill_long, am_cat_n, am_cat_i, am_cat_r, am_cat_0, am_cat_l, am_nr_n, am_nr_i, am_nr_r, am_nr_0, am_nr_l, Option.toList_some, Option.toList_none, List.nil_append, List.cons_append, va_rf_s, va_rf_n, am_I_sR, am_I_sL, am_R_sI, am_R_sL, am_L_sI, am_L_sR, am_k_sI, am_k_sR, am_k_sL, am_n_sI, am_n_sR, am_n_sL, true_and, and_true, true_or, or_true, or_false, false_or, not_true_eq_false, not_false_eq_true, Nat.reduceLT, am_dS, am_dP, am_d1, Nat.reduceSub, Nat.reduceMul, ne_eq, Nat.reduceBEq, Nat.reduceAdd, Nat.reduceLeDiff, Nat.reduceEqDiff, and_self, and_false, false_and, if_true, if_false, am_nb, am_nb0, am_nb1, am_lc1, am_lc2, am_lc3, am_b0, am_b1, am_10, am_c8, am_c16, am_c24, am_c32, am_c40, am_c48, am_c56, am_c64, am_c72, Nat.add_zero, Bool.false_eq_true, Nat.zero_le, hz]
            exact done' _ _ _
        | inr q =>
          rw [hp] at hK hp2
          have hp3 : q.2 ≤ min ln tp := hp2
          have hp4 := pP_ge (ch := chM (am_I μ r) ln tp) n 3 (b + 1) dp
          rw [hp] at hp4
          have hp5 : b + 1 ≤ q.2 := hp4
          have hK2 : okM K μ (pL (fun b => pP (chM (am_I μ r) ln tp) n 3 b dp) 2 (chM (am_I μ r) ln tp) k (fun e => actI (chM (am_I μ r) ln tp b) (f e) (q.1 e)) q.2) := hK
          rw [show q = (q.1, q.2) from rfl, okM_inr]
          have hT3 := hT.go (k := q.2) (by omega)
          have go := fun z3 z4 => ih q.2 (fun e => actI (chM (am_I μ r) ln tp b) (f e) (q.1 e)) (actI (chM (am_I μ r) ln tp b) v (q.1 (envM μ))) (am_sI μ 54 11 (nI q.2)) z3 z4 (by omega) (by omega) hT.ch hT3 (by rw [hv]; rfl) (by rw [okM_at]; exact hK2)
          rw [hc] at go
          by_cases hz : q.1 (envM μ) = 0
          · simp (decide := true) only [actI, hz, if_true, if_false] at go
            simp (decide := true) only [gX3_product_61, gX3_product_63, gX3_product_64, gX3_product_67, gX3_product_68, gX3_product_70, gX3_product_71, gX3_product_74, gX3_product_76, gX3_product_79, gX3_product_80, gX3_product_83, gX3_product_84, gX3_product_86, gX3_product_87, gX3_product_88, am_kill_int, am_kill_ref, am_kill_null, am_kill_F, am_kill_long, am_cat_n, am_cat_i, am_cat_r, am_cat_0, am_cat_l, am_nr_n, am_nr_i, am_nr_r, am_nr_0, am_nr_l, Option.toList_some, Option.toList_none, List.nil_append, List.cons_append, va_rf_s, va_rf_n, am_I_sR, am_I_sL, am_R_sI, am_R_sL, am_L_sI, am_L_sR, am_k_sI, am_k_sR, am_k_sL, am_n_sI, am_n_sR, am_n_sL, true_and, and_true, true_or, or_true, or_false, false_or, not_true_eq_false, not_false_eq_true, Nat.reduceLT, am_dS, am_dP, am_d1, Nat.reduceSub, Nat.reduceMul, ne_eq, Nat.reduceBEq, Nat.reduceAdd, Nat.reduceLeDiff, Nat.reduceEqDiff, and_self, and_false, false_and, if_true, if_false, am_nb, am_nb0, am_nb1, am_lc1, am_lc2, am_lc3, am_b0, am_b1, am_10, am_c8, am_c16, am_c24, am_c32, am_c40, am_c48, am_c56, am_c64, am_c72, Nat.add_zero, Bool.false_eq_true, Nat.zero_le, hz]
            exact go _ _
          · simp (decide := true) only [actI, hz, if_true, if_false] at go
            simp (decide := true) only [gX3_product_61, gX3_product_63, gX3_product_64, gX3_product_67, gX3_product_68, gX3_product_70, gX3_product_71, gX3_product_74, gX3_product_76, gX3_product_79, gX3_product_80, gX3_product_83, gX3_product_84, gX3_product_86, gX3_product_87, gX3_product_88, am_kill_int, am_kill_ref, am_kill_null, am_kill_F, am_kill_long, am_cat_n, am_cat_i, am_cat_r, am_cat_0, am_cat_l, am_nr_n, am_nr_i, am_nr_r, am_nr_0, am_nr_l, Option.toList_some, Option.toList_none, List.nil_append, List.cons_append, va_rf_s, va_rf_n, am_I_sR, am_I_sL, am_R_sI, am_R_sL, am_L_sI, am_L_sR, am_k_sI, am_k_sR, am_k_sL, am_n_sI, am_n_sR, am_n_sL, true_and, and_true, true_or, or_true, or_false, false_or, not_true_eq_false, not_false_eq_true, Nat.reduceLT, am_dS, am_dP, am_d1, Nat.reduceSub, Nat.reduceMul, ne_eq, Nat.reduceBEq, Nat.reduceAdd, Nat.reduceLeDiff, Nat.reduceEqDiff, and_self, and_false, false_and, if_true, if_false, am_nb, am_nb0, am_nb1, am_lc1, am_lc2, am_lc3, am_b0, am_b1, am_10, am_c8, am_c16, am_c24, am_c32, am_c40, am_c48, am_c56, am_c64, am_c72, Nat.add_zero, Bool.false_eq_true, Nat.zero_le, hz]
            exact go _ _
    · rw [if_neg ho, okM_inr, am_sI_self ha, ← hv] at hK
      have h1 : ¬ chM (am_I μ r) ln tp b = 42 := fun q => ho (isOp_2.mpr (Or.inl q))
      have h2 : ¬ chM (am_I μ r) ln tp b = 47 := fun q => ho (isOp_2.mpr (Or.inr q))
      simp only [gX3_product_7, gX3_product_10, gX3_product_13, gX3_product_14, gX3_product_17, gX3_product_19, gX3_product_22, gX3_product_23, gX3_product_26, gX3_product_28, gX3_product_91, gX3_product_92, am_kill_int, am_kill_ref, am_kill_null, am_kill_F, am_kill_long, am_cat_n, am_cat_i, am_cat_r, am_cat_0, am_cat_l, am_nr_n, am_nr_i, am_nr_r, am_nr_0, am_nr_l, Option.toList_some, Option.toList_none, List.nil_append, List.cons_append, va_rf_s, va_rf_n, am_II, am_I_sR, am_I_sL, am_R_sI, am_RR, am_R_sL, am_L_sI, am_L_sR, am_LL, am_k_sI, am_k_sR, am_k_sL, am_n_sI, am_n_sR, am_n_sL, true_and, and_true, true_or, or_true, or_false, false_or, not_true_eq_false, not_false_eq_true, Nat.reduceLT, am_dS, am_dP, am_d1, Nat.reduceSub, Nat.reduceMul, ne_eq, Nat.reduceBEq, Nat.reduceAdd, Nat.reduceLeDiff, Nat.reduceEqDiff, and_self, and_false, false_and, if_true, if_false, am_nb, am_nb0, am_nb1, am_lc1, am_lc2, am_lc3, am_b0, am_b1, am_10, am_c8, am_c16, am_c24, am_c32, am_c40, am_c48, am_c56, am_c64, am_c72, Nat.add_zero, Bool.false_eq_true, Nat.zero_le, wX3_fine hT, wX3_here hT, hmu, h1, h2]
      exact hK
theorem sum_loop {T : Nat → Int32} (TT : spA mX3_product (fun _ => [am_F, am_F, am_F]) 2 n r L ln tp T) (hdp : dp ≤ 4) : ∀ (k b : Nat) (f : PF) (v : Int32) (μ : am_M) (z3 z4 : Value), min ln tp - b ≤ k → (min ln tp - b) + 4 * (4 - dp) + 1 ≤ n → am_I μ r = T → TM r L b ln tp (-1) μ → v = f (envM μ) →
    okM K μ (pL (fun b => pP (chM T ln tp) n 2 b dp) 1 (chM T ln tp) k f b) → am_Wp (d + (n + 1) + 5) mX3_sum 6 [.ref 54, .int (nI dp), .int v, z3, z4] [] μ K := by
  have hd : d + (n + 1) + 4 = d + n + 5 := by omega
  intro k
  induction k with
  | zero =>
    intro b f v μ z3 z4 hk hn hR hT hv hK
    have hmu := hT.1
    unfold mL at hmu
    have ha := hT.2.2.2.1
    have hc : chM (am_I μ r) ln tp b = -1 := by unfold chM; rw [if_neg (by omega)]
    simp only [pL, okM_inr, am_sI_self ha, ← hv] at hK
    rw [gX3_sum_6]
    simp (decide := true) only [gX3_sum_7, gX3_sum_10, gX3_sum_13, gX3_sum_14, gX3_sum_17, gX3_sum_19, gX3_sum_22, gX3_sum_23, gX3_sum_26, gX3_sum_28, gX3_sum_82, gX3_sum_83, am_kill_int, am_kill_ref, am_kill_null, am_kill_F, am_kill_long, am_cat_n, am_cat_i, am_cat_r, am_cat_0, am_cat_l, am_nr_n, am_nr_i, am_nr_r, am_nr_0, am_nr_l, Option.toList_some, Option.toList_none, List.nil_append, List.cons_append, va_rf_s, va_rf_n, am_II, am_I_sR, am_I_sL, am_R_sI, am_RR, am_R_sL, am_L_sI, am_L_sR, am_LL, am_k_sI, am_k_sR, am_k_sL, am_n_sI, am_n_sR, am_n_sL, true_and, and_true, true_or, or_true, or_false, false_or, not_true_eq_false, not_false_eq_true, Nat.reduceLT, am_dS, am_dP, am_d1, Nat.reduceSub, Nat.reduceMul, ne_eq, Nat.reduceBEq, Nat.reduceAdd, Nat.reduceLeDiff, Nat.reduceEqDiff, and_self, and_false, false_and, if_true, if_false, am_nb, am_nb0, am_nb1, am_lc1, am_lc2, am_lc3, am_b0, am_b1, am_10, am_c8, am_c16, am_c24, am_c32, am_c40, am_c48, am_c56, am_c64, am_c72, Nat.add_zero, Bool.false_eq_true, Nat.zero_le, wX3_fine hT, wX3_here hT, hmu, hc]
    exact hK
  | succ k ih =>
    intro b f v μ z3 z4 hk hn hR hT hv hK
    have hmu := hT.1
    unfold mL at hmu
    have ha := hT.2.2.2.1
    have hb := hT.2.2.2.2.2.2.2.1
    subst hR
    unfold pL at hK
    rw [gX3_sum_6]
    by_cases ho : isOp 1 (chM (am_I μ r) ln tp b) = true
    · have hlt := chM_lt (T := am_I μ r) (ln := ln) (tp := tp) (a := b) (by rcases isOp_1.mp ho with q | q <;> rw [q] <;> decide)
      rw [if_pos ho] at hK
      have hT2 := hT.go (k := b + 1) (by omega)
      have hp2 := pP_le (ch := chM (am_I μ r) ln tp) (e := min ln tp) (fun i q => by have := chM_lt q; omega) n 2 (b + 1) dp (by omega)
      rcases isOp_1.mp ho with hc | hc
      all_goals
        simp (decide := true) only [gX3_sum_7, gX3_sum_10, gX3_sum_13, gX3_sum_14, gX3_sum_17, gX3_sum_19, gX3_sum_22, gX3_sum_23, gX3_sum_26, gX3_sum_28, gX3_sum_31, gX3_sum_32, gX3_sum_35, gX3_sum_37, gX3_sum_40, gX3_sum_41, gX3_sum_44, gX3_sum_45, gX3_sum_46, gX3_sum_47, gX3_sum_48, gX3_sum_51, gX3_sum_52, gX3_sum_53, gX3_sum_56, gX3_sum_57, gX3_sum_58, am_kill_int, am_kill_ref, am_kill_null, am_kill_F, am_kill_long, am_cat_n, am_cat_i, am_cat_r, am_cat_0, am_cat_l, am_nr_n, am_nr_i, am_nr_r, am_nr_0, am_nr_l, Option.toList_some, Option.toList_none, List.nil_append, List.cons_append, va_rf_s, va_rf_n, am_II, am_I_sR, am_I_sL, am_R_sI, am_RR, am_R_sL, am_L_sI, am_L_sR, am_LL, am_k_sI, am_k_sR, am_k_sL, am_n_sI, am_n_sR, am_n_sL, true_and, and_true, true_or, or_true, or_false, false_or, not_true_eq_false, not_false_eq_true, Nat.reduceLT, am_dS, am_dP, am_d1, Nat.reduceSub, Nat.reduceMul, ne_eq, Nat.reduceBEq, Nat.reduceAdd, Nat.reduceLeDiff, Nat.reduceEqDiff, and_self, and_false, false_and, if_true, if_false, am_nb, am_nb0, am_nb1, am_lc1, am_lc2, am_lc3, am_b0, am_b1, am_10, am_c8, am_c16, am_c24, am_c32, am_c40, am_c48, am_c56, am_c64, am_c72, Nat.add_zero, Bool.false_eq_true, Nat.zero_le, wX3_fine hT, wX3_here hT, hmu, hc, ha, nI_1, hd]
        refine TT d (b + 1) dp _ _ hdp hT.ch hT2 (by omega) ?_
        rw [okM_at]
        cases hp : pP (chM (am_I μ r) ln tp) n 2 (b + 1) dp with
        | inl p =>
          rw [hp] at hK hp2
          have hp3 : p ≤ min ln tp := hp2
          have hT3 := (hT.go (k := p) (by omega)).fault (x := nI p)
          have hm1 := nI_m1 (a := p) (by omega)
          rw [okM_inl] at ⊢
          simp only [okM_inl] at hK
          intro v'
          have done' : ∀ u z3 z4, am_Wp (d + (n + 1) + 5) mX3_sum 6 [.ref 54, .int (nI dp), .int u, z3, z4] [] (am_sI (am_sI μ 54 11 (nI p)) 54 12 (nI p)) K := fun u z3 z4 => by
            rw [gX3_sum_6]
            simp only [gX3_sum_7, gX3_sum_10, gX3_sum_82, gX3_sum_83, am_kill_int, am_kill_ref, am_kill_null, am_kill_F, am_kill_long, am_cat_n, am_cat_i, am_cat_r, am_cat_0, am_cat_l, am_nr_n, am_nr_i, am_nr_r, am_nr_0, am_nr_l, Option.toList_some, Option.toList_none, List.nil_append, List.cons_append, va_rf_s, va_rf_n, am_I_sR, am_I_sL, am_R_sI, am_R_sL, am_L_sI, am_L_sR, am_k_sI, am_k_sR, am_k_sL, am_n_sI, am_n_sR, am_n_sL, true_and, and_true, true_or, or_true, or_false, false_or, not_true_eq_false, not_false_eq_true, Nat.reduceLT, am_dS, am_dP, am_d1, Nat.reduceSub, Nat.reduceMul, ne_eq, Nat.reduceBEq, Nat.reduceAdd, Nat.reduceLeDiff, Nat.reduceEqDiff, and_self, and_false, false_and, if_true, if_false, am_nb, am_nb0, am_nb1, am_lc1, am_lc2, am_lc3, am_b0, am_b1, am_10, am_c8, am_c16, am_c24, am_c32, am_c40, am_c48, am_c56, am_c64, am_c72, Nat.add_zero, Bool.false_eq_true, Nat.zero_le, wX3_fine hT3, hm1, hmu]
            exact hK u
          simp (decide := true) only [gX3_sum_61, gX3_sum_63, gX3_sum_64, gX3_sum_67, gX3_sum_68, gX3_sum_70, gX3_sum_71, gX3_sum_74, gX3_sum_75, gX3_sum_77, gX3_sum_78, gX3_sum_79, am_kill_int, am_kill_ref, am_kill_null, am_kill_F, am_kill_long, am_cat_n, am_cat_i, am_cat_r, am_cat_0, am_cat_l, am_nr_n, am_nr_i, am_nr_r, am_nr_0, am_nr_l, Option.toList_some, Option.toList_none, List.nil_append, List.cons_append, va_rf_s, va_rf_n, am_I_sR, am_I_sL, am_R_sI, am_R_sL, am_L_sI, am_L_sR, am_k_sI, am_k_sR, am_k_sL, am_n_sI, am_n_sR, am_n_sL, true_and, and_true, true_or, or_true, or_false, false_or, not_true_eq_false, not_false_eq_true, Nat.reduceLT, am_dS, am_dP, am_d1, Nat.reduceSub, Nat.reduceMul, ne_eq, Nat.reduceBEq, Nat.reduceAdd, Nat.reduceLeDiff, Nat.reduceEqDiff, and_self, and_false, false_and, if_true, if_false, am_nb, am_nb0, am_nb1, am_lc1, am_lc2, am_lc3, am_b0, am_b1, am_10, am_c8, am_c16, am_c24, am_c32, am_c40, am_c48, am_c56, am_c64, am_c72, Nat.add_zero, Bool.false_eq_true, Nat.zero_le]
          exact done' _ _ _
        | inr q =>
          rw [hp] at hK hp2
          have hp3 : q.2 ≤ min ln tp := hp2
          have hp4 := pP_ge (ch := chM (am_I μ r) ln tp) n 2 (b + 1) dp
          rw [hp] at hp4
          have hp5 : b + 1 ≤ q.2 := hp4
          have hK2 : okM K μ (pL (fun b => pP (chM (am_I μ r) ln tp) n 2 b dp) 1 (chM (am_I μ r) ln tp) k (fun e => actI (chM (am_I μ r) ln tp b) (f e) (q.1 e)) q.2) := hK
          rw [show q = (q.1, q.2) from rfl, okM_inr]
          have hT3 := hT.go (k := q.2) (by omega)
          have go := fun z3 z4 => ih q.2 (fun e => actI (chM (am_I μ r) ln tp b) (f e) (q.1 e)) (actI (chM (am_I μ r) ln tp b) v (q.1 (envM μ))) (am_sI μ 54 11 (nI q.2)) z3 z4 (by omega) (by omega) hT.ch hT3 (by rw [hv]; rfl) (by rw [okM_at]; exact hK2)
          rw [hc] at go
          simp (decide := true) only [actI, if_true, if_false] at go
          simp (decide := true) only [gX3_sum_61, gX3_sum_63, gX3_sum_64, gX3_sum_67, gX3_sum_68, gX3_sum_70, gX3_sum_71, gX3_sum_74, gX3_sum_75, gX3_sum_77, gX3_sum_78, gX3_sum_79, am_kill_int, am_kill_ref, am_kill_null, am_kill_F, am_kill_long, am_cat_n, am_cat_i, am_cat_r, am_cat_0, am_cat_l, am_nr_n, am_nr_i, am_nr_r, am_nr_0, am_nr_l, Option.toList_some, Option.toList_none, List.nil_append, List.cons_append, va_rf_s, va_rf_n, am_I_sR, am_I_sL, am_R_sI, am_R_sL, am_L_sI, am_L_sR, am_k_sI, am_k_sR, am_k_sL, am_n_sI, am_n_sR, am_n_sL, true_and, and_true, true_or, or_true, or_false, false_or, not_true_eq_false, not_false_eq_true, Nat.reduceLT, am_dS, am_dP, am_d1, Nat.reduceSub, Nat.reduceMul, ne_eq, Nat.reduceBEq, Nat.reduceAdd, Nat.reduceLeDiff, Nat.reduceEqDiff, and_self, and_false, false_and, if_true, if_false, am_nb, am_nb0, am_nb1, am_lc1, am_lc2, am_lc3, am_b0, am_b1, am_10, am_c8, am_c16, am_c24, am_c32, am_c40, am_c48, am_c56, am_c64, am_c72, Nat.add_zero, Bool.false_eq_true, Nat.zero_le]
          exact go _ _
    · rw [if_neg ho, okM_inr, am_sI_self ha, ← hv] at hK
      have h1 : ¬ chM (am_I μ r) ln tp b = 43 := fun q => ho (isOp_1.mpr (Or.inl q))
      have h2 : ¬ chM (am_I μ r) ln tp b = 45 := fun q => ho (isOp_1.mpr (Or.inr q))
      simp only [gX3_sum_7, gX3_sum_10, gX3_sum_13, gX3_sum_14, gX3_sum_17, gX3_sum_19, gX3_sum_22, gX3_sum_23, gX3_sum_26, gX3_sum_28, gX3_sum_82, gX3_sum_83, am_kill_int, am_kill_ref, am_kill_null, am_kill_F, am_kill_long, am_cat_n, am_cat_i, am_cat_r, am_cat_0, am_cat_l, am_nr_n, am_nr_i, am_nr_r, am_nr_0, am_nr_l, Option.toList_some, Option.toList_none, List.nil_append, List.cons_append, va_rf_s, va_rf_n, am_II, am_I_sR, am_I_sL, am_R_sI, am_RR, am_R_sL, am_L_sI, am_L_sR, am_LL, am_k_sI, am_k_sR, am_k_sL, am_n_sI, am_n_sR, am_n_sL, true_and, and_true, true_or, or_true, or_false, false_or, not_true_eq_false, not_false_eq_true, Nat.reduceLT, am_dS, am_dP, am_d1, Nat.reduceSub, Nat.reduceMul, ne_eq, Nat.reduceBEq, Nat.reduceAdd, Nat.reduceLeDiff, Nat.reduceEqDiff, and_self, and_false, false_and, if_true, if_false, am_nb, am_nb0, am_nb1, am_lc1, am_lc2, am_lc3, am_b0, am_b1, am_10, am_c8, am_c16, am_c24, am_c32, am_c40, am_c48, am_c56, am_c64, am_c72, Nat.add_zero, Bool.false_eq_true, Nat.zero_le, wX3_fine hT, wX3_here hT, hmu, h1, h2]
      exact hK
theorem product_step {T : Nat → Int32} (TT : spA mX3_thing (fun _ => [am_F, am_F]) 3 n r L ln tp T) (h41 : tp ≤ 41) : spA mX3_product (fun _ => [am_F, am_F, am_F]) 2 (n + 1) r L ln tp T := by
  intro d a dp μ K hdp hR hT hn hK
  have hmu := hT.1
  unfold mL at hmu
  have hd : d + (n + 1) + 4 = d + n + 5 := by omega
  have hb := hT.2.2.2.2.2.2.2.1
  subst hR
  have hlo := product_loop (K := K) (d := d) TT hdp
  simp only [gX3_product_0, gX3_product_1, gX3_product_2, am_kill_int, am_kill_ref, am_kill_null, am_kill_F, am_kill_long, am_cat_n, am_cat_i, am_cat_r, am_cat_0, am_cat_l, am_nr_n, am_nr_i, am_nr_r, am_nr_0, am_nr_l, Option.toList_some, Option.toList_none, List.nil_append, List.cons_append, va_rf_s, va_rf_n, am_II, am_I_sR, am_I_sL, am_R_sI, am_RR, am_R_sL, am_L_sI, am_L_sR, am_LL, am_k_sI, am_k_sR, am_k_sL, am_n_sI, am_n_sR, am_n_sL, true_and, and_true, true_or, or_true, or_false, false_or, not_true_eq_false, not_false_eq_true, Nat.reduceLT, am_dS, am_dP, am_d1, Nat.reduceSub, Nat.reduceMul, ne_eq, Nat.reduceBEq, Nat.reduceAdd, Nat.reduceLeDiff, Nat.reduceEqDiff, and_self, and_false, false_and, if_true, if_false, am_nb, am_nb0, am_nb1, am_lc1, am_lc2, am_lc3, am_b0, am_b1, am_10, am_c8, am_c16, am_c24, am_c32, am_c40, am_c48, am_c56, am_c64, am_c72, Nat.add_zero, Bool.false_eq_true, Nat.zero_le, hmu, hd]
  have hae := hn.2
  · have hp2 := pP_le (ch := chM (am_I μ r) ln tp) (e := min ln tp) (fun i q => by have := chM_lt q; omega) n 3 a dp hae
    have hp4 := pP_ge (ch := chM (am_I μ r) ln tp) n 3 a dp
    refine TT d a dp _ _ hdp rfl hT (by omega) ?_
    have hK1 : okM K μ (match pP (chM (am_I μ r) ln tp) n 3 a dp with
      | .inl p => .inl p
      | .inr (f, b) => pL (fun b => pP (chM (am_I μ r) ln tp) n 3 b dp) 2 (chM (am_I μ r) ln tp) 41 f b) := hK
    cases hp : pP (chM (am_I μ r) ln tp) n 3 a dp with
    | inl p =>
      rw [hp] at hK1 hp2
      have hp3 : p ≤ min ln tp := hp2
      have hT3 := (hT.go (k := p) (by omega)).fault (x := nI p)
      have hm1 := nI_m1 (a := p) (by omega)
      rw [okM_inl]
      simp only [okM_inl] at hK1
      intro v'
      simp only [gX3_product_5, am_kill_int, am_kill_ref, am_kill_null, am_kill_F, am_kill_long, am_cat_n, am_cat_i, am_cat_r, am_cat_0, am_cat_l, am_nr_n, am_nr_i, am_nr_r, am_nr_0, am_nr_l, Option.toList_some, Option.toList_none, List.nil_append, List.cons_append, va_rf_s, va_rf_n, am_I_sR, am_I_sL, am_R_sI, am_R_sL, am_L_sI, am_L_sR, am_k_sI, am_k_sR, am_k_sL, am_n_sI, am_n_sR, am_n_sL, true_and, and_true, true_or, or_true, or_false, false_or, not_true_eq_false, not_false_eq_true, Nat.reduceLT, am_dS, am_dP, am_d1, Nat.reduceSub, Nat.reduceMul, ne_eq, Nat.reduceBEq, Nat.reduceAdd, Nat.reduceLeDiff, Nat.reduceEqDiff, and_self, and_false, false_and, if_true, if_false, am_nb, am_nb0, am_nb1, am_lc1, am_lc2, am_lc3, am_b0, am_b1, am_10, am_c8, am_c16, am_c24, am_c32, am_c40, am_c48, am_c56, am_c64, am_c72, Nat.add_zero, Bool.false_eq_true, Nat.zero_le]
      rw [gX3_product_6]
      simp only [gX3_product_7, gX3_product_10, gX3_product_91, gX3_product_92, am_kill_int, am_kill_ref, am_kill_null, am_kill_F, am_kill_long, am_cat_n, am_cat_i, am_cat_r, am_cat_0, am_cat_l, am_nr_n, am_nr_i, am_nr_r, am_nr_0, am_nr_l, Option.toList_some, Option.toList_none, List.nil_append, List.cons_append, va_rf_s, va_rf_n, am_I_sR, am_I_sL, am_R_sI, am_R_sL, am_L_sI, am_L_sR, am_k_sI, am_k_sR, am_k_sL, am_n_sI, am_n_sR, am_n_sL, true_and, and_true, true_or, or_true, or_false, false_or, not_true_eq_false, not_false_eq_true, Nat.reduceLT, am_dS, am_dP, am_d1, Nat.reduceSub, Nat.reduceMul, ne_eq, Nat.reduceBEq, Nat.reduceAdd, Nat.reduceLeDiff, Nat.reduceEqDiff, and_self, and_false, false_and, if_true, if_false, am_nb, am_nb0, am_nb1, am_lc1, am_lc2, am_lc3, am_b0, am_b1, am_10, am_c8, am_c16, am_c24, am_c32, am_c40, am_c48, am_c56, am_c64, am_c72, Nat.add_zero, Bool.false_eq_true, Nat.zero_le, wX3_fine hT3, hm1, hmu]
      exact hK1 v'
    | inr q =>
      rw [hp] at hK1 hp2 hp4
      have hp3 : q.2 ≤ min ln tp := hp2
      have hp5 : a ≤ q.2 := hp4
      rw [show q = (q.1, q.2) from rfl, okM_inr]
      have hT3 := hT.go (k := q.2) (by omega)
      simp only [gX3_product_5, am_kill_int, am_kill_ref, am_kill_null, am_kill_F, am_kill_long, am_cat_n, am_cat_i, am_cat_r, am_cat_0, am_cat_l, am_nr_n, am_nr_i, am_nr_r, am_nr_0, am_nr_l, Option.toList_some, Option.toList_none, List.nil_append, List.cons_append, va_rf_s, va_rf_n, am_I_sR, am_I_sL, am_R_sI, am_R_sL, am_L_sI, am_L_sR, am_k_sI, am_k_sR, am_k_sL, am_n_sI, am_n_sR, am_n_sL, true_and, and_true, true_or, or_true, or_false, false_or, not_true_eq_false, not_false_eq_true, Nat.reduceLT, am_dS, am_dP, am_d1, Nat.reduceSub, Nat.reduceMul, ne_eq, Nat.reduceBEq, Nat.reduceAdd, Nat.reduceLeDiff, Nat.reduceEqDiff, and_self, and_false, false_and, if_true, if_false, am_nb, am_nb0, am_nb1, am_lc1, am_lc2, am_lc3, am_b0, am_b1, am_10, am_c8, am_c16, am_c24, am_c32, am_c40, am_c48, am_c56, am_c64, am_c72, Nat.add_zero, Bool.false_eq_true, Nat.zero_le]
      exact hlo 41 q.2 q.1 _ _ _ _ (by omega) (by omega) hT.ch hT3 rfl (by rw [okM_at]; exact hK1)
theorem sum_step {T : Nat → Int32} (TT : spA mX3_product (fun _ => [am_F, am_F, am_F]) 2 n r L ln tp T) (h41 : tp ≤ 41) : spA mX3_sum (fun _ => [am_F, am_F, am_F]) 1 (n + 1) r L ln tp T := by
  intro d a dp μ K hdp hR hT hn hK
  have hmu := hT.1
  unfold mL at hmu
  have hd : d + (n + 1) + 4 = d + n + 5 := by omega
  have hb := hT.2.2.2.2.2.2.2.1
  subst hR
  have hlo := sum_loop (K := K) (d := d) TT hdp
  simp only [gX3_sum_0, gX3_sum_1, gX3_sum_2, am_kill_int, am_kill_ref, am_kill_null, am_kill_F, am_kill_long, am_cat_n, am_cat_i, am_cat_r, am_cat_0, am_cat_l, am_nr_n, am_nr_i, am_nr_r, am_nr_0, am_nr_l, Option.toList_some, Option.toList_none, List.nil_append, List.cons_append, va_rf_s, va_rf_n, am_II, am_I_sR, am_I_sL, am_R_sI, am_RR, am_R_sL, am_L_sI, am_L_sR, am_LL, am_k_sI, am_k_sR, am_k_sL, am_n_sI, am_n_sR, am_n_sL, true_and, and_true, true_or, or_true, or_false, false_or, not_true_eq_false, not_false_eq_true, Nat.reduceLT, am_dS, am_dP, am_d1, Nat.reduceSub, Nat.reduceMul, ne_eq, Nat.reduceBEq, Nat.reduceAdd, Nat.reduceLeDiff, Nat.reduceEqDiff, and_self, and_false, false_and, if_true, if_false, am_nb, am_nb0, am_nb1, am_lc1, am_lc2, am_lc3, am_b0, am_b1, am_10, am_c8, am_c16, am_c24, am_c32, am_c40, am_c48, am_c56, am_c64, am_c72, Nat.add_zero, Bool.false_eq_true, Nat.zero_le, hmu, hd]
  have hae := hn.2
  · have hp2 := pP_le (ch := chM (am_I μ r) ln tp) (e := min ln tp) (fun i q => by have := chM_lt q; omega) n 2 a dp hae
    have hp4 := pP_ge (ch := chM (am_I μ r) ln tp) n 2 a dp
    refine TT d a dp _ _ hdp rfl hT (by omega) ?_
    have hK1 : okM K μ (match pP (chM (am_I μ r) ln tp) n 2 a dp with
      | .inl p => .inl p
      | .inr (f, b) => pL (fun b => pP (chM (am_I μ r) ln tp) n 2 b dp) 1 (chM (am_I μ r) ln tp) 41 f b) := hK
    cases hp : pP (chM (am_I μ r) ln tp) n 2 a dp with
    | inl p =>
      rw [hp] at hK1 hp2
      have hp3 : p ≤ min ln tp := hp2
      have hT3 := (hT.go (k := p) (by omega)).fault (x := nI p)
      have hm1 := nI_m1 (a := p) (by omega)
      rw [okM_inl]
      simp only [okM_inl] at hK1
      intro v'
      simp only [gX3_sum_5, am_kill_int, am_kill_ref, am_kill_null, am_kill_F, am_kill_long, am_cat_n, am_cat_i, am_cat_r, am_cat_0, am_cat_l, am_nr_n, am_nr_i, am_nr_r, am_nr_0, am_nr_l, Option.toList_some, Option.toList_none, List.nil_append, List.cons_append, va_rf_s, va_rf_n, am_I_sR, am_I_sL, am_R_sI, am_R_sL, am_L_sI, am_L_sR, am_k_sI, am_k_sR, am_k_sL, am_n_sI, am_n_sR, am_n_sL, true_and, and_true, true_or, or_true, or_false, false_or, not_true_eq_false, not_false_eq_true, Nat.reduceLT, am_dS, am_dP, am_d1, Nat.reduceSub, Nat.reduceMul, ne_eq, Nat.reduceBEq, Nat.reduceAdd, Nat.reduceLeDiff, Nat.reduceEqDiff, and_self, and_false, false_and, if_true, if_false, am_nb, am_nb0, am_nb1, am_lc1, am_lc2, am_lc3, am_b0, am_b1, am_10, am_c8, am_c16, am_c24, am_c32, am_c40, am_c48, am_c56, am_c64, am_c72, Nat.add_zero, Bool.false_eq_true, Nat.zero_le]
      rw [gX3_sum_6]
      simp only [gX3_sum_7, gX3_sum_10, gX3_sum_82, gX3_sum_83, am_kill_int, am_kill_ref, am_kill_null, am_kill_F, am_kill_long, am_cat_n, am_cat_i, am_cat_r, am_cat_0, am_cat_l, am_nr_n, am_nr_i, am_nr_r, am_nr_0, am_nr_l, Option.toList_some, Option.toList_none, List.nil_append, List.cons_append, va_rf_s, va_rf_n, am_I_sR, am_I_sL, am_R_sI, am_R_sL, am_L_sI, am_L_sR, am_k_sI, am_k_sR, am_k_sL, am_n_sI, am_n_sR, am_n_sL, true_and, and_true, true_or, or_true, or_false, false_or, not_true_eq_false, not_false_eq_true, Nat.reduceLT, am_dS, am_dP, am_d1, Nat.reduceSub, Nat.reduceMul, ne_eq, Nat.reduceBEq, Nat.reduceAdd, Nat.reduceLeDiff, Nat.reduceEqDiff, and_self, and_false, false_and, if_true, if_false, am_nb, am_nb0, am_nb1, am_lc1, am_lc2, am_lc3, am_b0, am_b1, am_10, am_c8, am_c16, am_c24, am_c32, am_c40, am_c48, am_c56, am_c64, am_c72, Nat.add_zero, Bool.false_eq_true, Nat.zero_le, wX3_fine hT3, hm1, hmu]
      exact hK1 v'
    | inr q =>
      rw [hp] at hK1 hp2 hp4
      have hp3 : q.2 ≤ min ln tp := hp2
      have hp5 : a ≤ q.2 := hp4
      rw [show q = (q.1, q.2) from rfl, okM_inr]
      have hT3 := hT.go (k := q.2) (by omega)
      simp only [gX3_sum_5, am_kill_int, am_kill_ref, am_kill_null, am_kill_F, am_kill_long, am_cat_n, am_cat_i, am_cat_r, am_cat_0, am_cat_l, am_nr_n, am_nr_i, am_nr_r, am_nr_0, am_nr_l, Option.toList_some, Option.toList_none, List.nil_append, List.cons_append, va_rf_s, va_rf_n, am_I_sR, am_I_sL, am_R_sI, am_R_sL, am_L_sI, am_L_sR, am_k_sI, am_k_sR, am_k_sL, am_n_sI, am_n_sR, am_n_sL, true_and, and_true, true_or, or_true, or_false, false_or, not_true_eq_false, not_false_eq_true, Nat.reduceLT, am_dS, am_dP, am_d1, Nat.reduceSub, Nat.reduceMul, ne_eq, Nat.reduceBEq, Nat.reduceAdd, Nat.reduceLeDiff, Nat.reduceEqDiff, and_self, and_false, false_and, if_true, if_false, am_nb, am_nb0, am_nb1, am_lc1, am_lc2, am_lc3, am_b0, am_b1, am_10, am_c8, am_c16, am_c24, am_c32, am_c40, am_c48, am_c56, am_c64, am_c72, Nat.add_zero, Bool.false_eq_true, Nat.zero_le]
      exact hlo 41 q.2 q.1 _ _ _ _ (by omega) (by omega) hT.ch hT3 rfl (by rw [okM_at]; exact hK1)
theorem heldE1 {a0 a1 a2 : Value} : am_Wp d mX3_held 21 [a0, a1, a2] [.int y, .int x] μ K ↔ K (some (.int (if x < y then 1 else 0))) μ := by
  by_cases h : x < y
  · simp only [gX3_held_21, gX3_held_24, gX3_held_25, gX3_held_28, gX3_held_29, Int32.not_le.mpr h, h, if_true, if_false]
  · simp only [gX3_held_21, gX3_held_24, gX3_held_25, gX3_held_28, gX3_held_29, Int32.not_lt.mp h, h, if_true, if_false]
theorem heldE2 {a0 a1 a2 : Value} : am_Wp d mX3_held 45 [a0, a1, a2] [.int y, .int x] μ K ↔ K (some (.int (if y < x then 1 else 0))) μ := by
  by_cases h : y < x
  · simp only [gX3_held_45, gX3_held_48, gX3_held_49, gX3_held_52, gX3_held_53, Int32.not_le.mpr h, h, if_true, if_false]
  · simp only [gX3_held_45, gX3_held_48, gX3_held_49, gX3_held_52, gX3_held_53, Int32.not_lt.mp h, h, if_true, if_false]
theorem heldE3 {a0 a1 a2 : Value} : am_Wp d mX3_held 69 [a0, a1, a2] [.int y, .int x] μ K ↔ K (some (.int (if x = y then 1 else 0))) μ := by
  by_cases h : x = y
  · simp only [gX3_held_69, gX3_held_72, gX3_held_73, gX3_held_76, gX3_held_77, h, if_true, if_false]
  · simp only [gX3_held_69, gX3_held_72, gX3_held_73, gX3_held_76, gX3_held_77, h, if_true, if_false]
theorem held_step {T : Nat → Int32} (TT : spA mX3_sum (fun _ => [am_F, am_F, am_F]) 1 n r L ln tp T) : spA mX3_held (fun _ => [am_F]) 0 (n + 1) r L ln tp T := by
  intro d a dp μ K hdp hR hT hn hK
  have hmu := hT.1
  unfold mL at hmu
  have hd : d + (n + 1) + 4 = d + n + 5 := by omega
  have hb := hT.2.2.2.2.2.2.2.1
  subst hR
  have hch : ∀ i, 0 ≤ chM (am_I μ r) ln tp i → i < min ln tp := fun i q => by have := chM_lt q; omega
  simp only [gX3_held_0, gX3_held_1, gX3_held_2, am_kill_int, am_kill_ref, am_kill_null, am_kill_F, am_kill_long, am_cat_n, am_cat_i, am_cat_r, am_cat_0, am_cat_l, am_nr_n, am_nr_i, am_nr_r, am_nr_0, am_nr_l, Option.toList_some, Option.toList_none, List.nil_append, List.cons_append, va_rf_s, va_rf_n, am_II, am_I_sR, am_I_sL, am_R_sI, am_RR, am_R_sL, am_L_sI, am_L_sR, am_LL, am_k_sI, am_k_sR, am_k_sL, am_n_sI, am_n_sR, am_n_sL, true_and, and_true, true_or, or_true, or_false, false_or, not_true_eq_false, not_false_eq_true, Nat.reduceLT, am_dS, am_dP, am_d1, Nat.reduceSub, Nat.reduceMul, ne_eq, Nat.reduceBEq, Nat.reduceAdd, Nat.reduceLeDiff, Nat.reduceEqDiff, and_self, and_false, false_and, if_true, if_false, am_nb, am_nb0, am_nb1, am_lc1, am_lc2, am_lc3, am_b0, am_b1, am_10, am_c8, am_c16, am_c24, am_c32, am_c40, am_c48, am_c56, am_c64, am_c72, Nat.add_zero, Bool.false_eq_true, Nat.zero_le, hmu, hd]
  have hp2 := pP_le (ch := chM (am_I μ r) ln tp) (e := min ln tp) hch n 1 a dp hn.2
  have hp4 := pP_ge (ch := chM (am_I μ r) ln tp) n 1 a dp
  refine TT d a dp _ _ hdp rfl hT (by omega) ?_
  have hK1 : okM K μ (match pP (chM (am_I μ r) ln tp) n 1 a dp with
    | .inl p => .inl p
    | .inr (f, b) => pL (fun b => pP (chM (am_I μ r) ln tp) n 1 b dp) 0 (chM (am_I μ r) ln tp) 41 f b) := hK
  cases hp : pP (chM (am_I μ r) ln tp) n 1 a dp with
  | inl p =>
    rw [hp] at hK1 hp2
    have hp3 : p ≤ min ln tp := hp2
    have hT3 := (hT.go (k := p) (by omega)).fault (x := nI p)
    have hm1 := nI_m1 (a := p) (by omega)
    rw [okM_inl]
    simp only [okM_inl] at hK1
    intro v'
    simp only [gX3_held_5, gX3_held_6, gX3_held_7, gX3_held_9, gX3_held_12, gX3_held_15, gX3_held_16, gX3_held_17, gX3_held_18, gX3_held_21, gX3_held_24, gX3_held_25, gX3_held_28, gX3_held_29, gX3_held_30, gX3_held_31, gX3_held_33, gX3_held_36, gX3_held_39, gX3_held_40, gX3_held_41, gX3_held_42, gX3_held_45, gX3_held_48, gX3_held_49, gX3_held_52, gX3_held_53, gX3_held_54, gX3_held_55, gX3_held_57, gX3_held_60, gX3_held_63, gX3_held_64, gX3_held_65, gX3_held_66, gX3_held_69, gX3_held_72, gX3_held_73, gX3_held_76, gX3_held_77, gX3_held_78, gX3_held_79, am_kill_int, am_kill_ref, am_kill_null, am_kill_F, am_kill_long, am_cat_n, am_cat_i, am_cat_r, am_cat_0, am_cat_l, am_nr_n, am_nr_i, am_nr_r, am_nr_0, am_nr_l, Option.toList_some, Option.toList_none, List.nil_append, List.cons_append, va_rf_s, va_rf_n, am_I_sR, am_I_sL, am_R_sI, am_R_sL, am_L_sI, am_L_sR, am_k_sI, am_k_sR, am_k_sL, am_n_sI, am_n_sR, am_n_sL, true_and, and_true, true_or, or_true, or_false, false_or, not_true_eq_false, not_false_eq_true, Nat.reduceLT, am_dS, am_dP, am_d1, Nat.reduceSub, Nat.reduceMul, ne_eq, Nat.reduceBEq, Nat.reduceAdd, Nat.reduceLeDiff, Nat.reduceEqDiff, and_self, and_false, false_and, if_true, if_false, am_nb, am_nb0, am_nb1, am_lc1, am_lc2, am_lc3, am_b0, am_b1, am_10, am_c8, am_c16, am_c24, am_c32, am_c40, am_c48, am_c56, am_c64, am_c72, Nat.add_zero, Bool.false_eq_true, Nat.zero_le, wX3_passes hT3, hm1, hmu]
    exact hK1 v'
  | inr q =>
    rw [hp] at hK1 hp2 hp4
    have hp3 : q.2 ≤ min ln tp := hp2
    have hp5 : a ≤ q.2 := hp4
    rw [show q = (q.1, q.2) from rfl, okM_inr]
    have hT3 := hT.go (k := q.2) (by omega)
    have hK2 : okM K μ (pL (fun b => pP (chM (am_I μ r) ln tp) n 1 b dp) 0 (chM (am_I μ r) ln tp) 41 q.1 q.2) := hK1
    unfold pL at hK2
    by_cases ho : isOp 0 (chM (am_I μ r) ln tp q.2) = true
    · rw [if_pos ho] at hK2
      have hlt := hch q.2 (by rcases isOp_0.mp ho with z | z | z <;> rw [z] <;> decide)
      have hT4 := hT3.go (k := q.2 + 1) (by omega)
      rw [am_sI_sI] at hT4
      have hp6 := pP_le (ch := chM (am_I μ r) ln tp) (e := min ln tp) hch n 1 (q.2 + 1) dp (by omega)
      rcases isOp_0.mp ho with hc | hc | hc
      all_goals
        simp (decide := true) only [gX3_held_5, gX3_held_6, gX3_held_7, gX3_held_9, gX3_held_12, gX3_held_15, gX3_held_16, gX3_held_17, gX3_held_18, gX3_held_21, gX3_held_24, gX3_held_25, gX3_held_28, gX3_held_29, gX3_held_30, gX3_held_31, gX3_held_33, gX3_held_36, gX3_held_39, gX3_held_40, gX3_held_41, gX3_held_42, gX3_held_45, gX3_held_48, gX3_held_49, gX3_held_52, gX3_held_53, gX3_held_54, gX3_held_55, gX3_held_57, gX3_held_60, gX3_held_63, gX3_held_64, gX3_held_65, gX3_held_66, gX3_held_69, gX3_held_72, gX3_held_73, gX3_held_76, gX3_held_77, gX3_held_78, gX3_held_79, am_kill_int, am_kill_ref, am_kill_null, am_kill_F, am_kill_long, am_cat_n, am_cat_i, am_cat_r, am_cat_0, am_cat_l, am_nr_n, am_nr_i, am_nr_r, am_nr_0, am_nr_l, Option.toList_some, Option.toList_none, List.nil_append, List.cons_append, va_rf_s, va_rf_n, am_I_sR, am_I_sL, am_R_sI, am_R_sL, am_L_sI, am_L_sR, am_k_sI, am_k_sR, am_k_sL, am_n_sI, am_n_sR, am_n_sL, true_and, and_true, true_or, or_true, or_false, false_or, not_true_eq_false, not_false_eq_true, Nat.reduceLT, am_dS, am_dP, am_d1, Nat.reduceSub, Nat.reduceMul, ne_eq, Nat.reduceBEq, Nat.reduceAdd, Nat.reduceLeDiff, Nat.reduceEqDiff, and_self, and_false, false_and, if_true, if_false, am_nb, am_nb0, am_nb1, am_lc1, am_lc2, am_lc3, am_b0, am_b1, am_10, am_c8, am_c16, am_c24, am_c32, am_c40, am_c48, am_c56, am_c64, am_c72, Nat.add_zero, Bool.false_eq_true, Nat.zero_le, wX3_passes hT3, hT.ch, hc, hmu, hd, am_sI_sI]
        refine TT d (q.2 + 1) dp _ _ hdp hT.ch hT4 (by omega) ?_
        rw [okM_at]
        cases hp7 : pP (chM (am_I μ r) ln tp) n 1 (q.2 + 1) dp with
        | inl p =>
          rw [hp7] at hK2
          rw [okM_inl]
          simp only [okM_inl] at hK2
          intro v'
          simp only [Option.toList_some, List.nil_append, List.cons_append, am_nr_i, true_and, heldE1, heldE2, heldE3]
          exact hK2 _
        | inr q' =>
          rw [hp7] at hK2
          simp (decide := true) only [if_true, okM_inr, hc, actI, if_false] at hK2
          rw [show q' = (q'.1, q'.2) from rfl, okM_inr]
          simp only [Option.toList_some, List.nil_append, List.cons_append, am_nr_i, true_and, heldE1, heldE2, heldE3]
          exact hK2
    · rw [if_neg ho, okM_inr] at hK2
      have h1 : ¬ chM (am_I μ r) ln tp q.2 = 60 := fun z => ho (isOp_0.mpr (Or.inl z))
      have h2 : ¬ chM (am_I μ r) ln tp q.2 = 62 := fun z => ho (isOp_0.mpr (Or.inr (Or.inl z)))
      have h3 : ¬ chM (am_I μ r) ln tp q.2 = 61 := fun z => ho (isOp_0.mpr (Or.inr (Or.inr z)))
      simp only [gX3_held_5, gX3_held_6, gX3_held_7, gX3_held_9, gX3_held_12, gX3_held_15, gX3_held_16, gX3_held_17, gX3_held_18, gX3_held_21, gX3_held_24, gX3_held_25, gX3_held_28, gX3_held_29, gX3_held_30, gX3_held_31, gX3_held_33, gX3_held_36, gX3_held_39, gX3_held_40, gX3_held_41, gX3_held_42, gX3_held_45, gX3_held_48, gX3_held_49, gX3_held_52, gX3_held_53, gX3_held_54, gX3_held_55, gX3_held_57, gX3_held_60, gX3_held_63, gX3_held_64, gX3_held_65, gX3_held_66, gX3_held_69, gX3_held_72, gX3_held_73, gX3_held_76, gX3_held_77, gX3_held_78, gX3_held_79, am_kill_int, am_kill_ref, am_kill_null, am_kill_F, am_kill_long, am_cat_n, am_cat_i, am_cat_r, am_cat_0, am_cat_l, am_nr_n, am_nr_i, am_nr_r, am_nr_0, am_nr_l, Option.toList_some, Option.toList_none, List.nil_append, List.cons_append, va_rf_s, va_rf_n, am_I_sR, am_I_sL, am_R_sI, am_R_sL, am_L_sI, am_L_sR, am_k_sI, am_k_sR, am_k_sL, am_n_sI, am_n_sR, am_n_sL, true_and, and_true, true_or, or_true, or_false, false_or, not_true_eq_false, not_false_eq_true, Nat.reduceLT, am_dS, am_dP, am_d1, Nat.reduceSub, Nat.reduceMul, ne_eq, Nat.reduceBEq, Nat.reduceAdd, Nat.reduceLeDiff, Nat.reduceEqDiff, and_self, and_false, false_and, if_true, if_false, am_nb, am_nb0, am_nb1, am_lc1, am_lc2, am_lc3, am_b0, am_b1, am_10, am_c8, am_c16, am_c24, am_c32, am_c40, am_c48, am_c56, am_c64, am_c72, Nat.add_zero, Bool.false_eq_true, Nat.zero_le, wX3_passes hT3, hT.ch, h1, h2, h3, hmu]
      exact hK2
theorem sp_all {T : Nat → Int32} (h41 : tp ≤ 41) : ∀ n, spA mX3_thing (fun _ => [am_F, am_F]) 3 n r L ln tp T ∧ spA mX3_product (fun _ => [am_F, am_F, am_F]) 2 n r L ln tp T ∧ spA mX3_sum (fun _ => [am_F, am_F, am_F]) 1 n r L ln tp T ∧ spA mX3_held (fun _ => [am_F]) 0 n r L ln tp T
  | 0 => by
    refine ⟨?_, ?_, ?_, ?_⟩ <;> exact fun d a dp μ K q q1 q2 q3 => absurd q3.1 (by omega)
  | n + 1 => by
    obtain ⟨h1, h2, h3, h4⟩ := sp_all h41 n
    exact ⟨thing_step h4 h1, product_step h1 h41, sum_step h2 h41, held_step h3⟩
/-- the model reads and evaluates a rule from its start -/
theorem wX3_held {T : Nat → Int32} (h41 : tp ≤ 41) (hR : am_I μ r = T) (hT : TM r L 0 ln tp (-1) μ) (hK : okM K μ (pP (chM T ln tp) 62 0 0 0)) : am_Wp (d + 67) mX3_held 0 [.ref 54, .int 0, am_F] [] μ K := by
  have h := (sp_all (T := T) (r := r) (L := L) (ln := ln) h41 62).2.2.2 d 0 0 μ K (by omega) hR hT (by omega) hK
  exact h
end MH
