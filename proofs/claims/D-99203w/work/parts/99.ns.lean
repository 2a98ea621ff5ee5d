/-! nests read, line by line -/
set_option maxRecDepth 100000
section NSV
variable {d : Nat} {μ ν ξ μ1 ν1 : am_M} {K : Option Value → am_M → Prop} {x y z c w : Int32} {h h' N C i j k r n L M m a b e q q' t u s ln tp : Nat} {v : Int32} {ru : Option PF} {F G : Nat → Nat → Prop} {S S' T : Nat → Int32} {p : Int64} {ch : Nat → Int32} {f : PF}
def kdV (x : Int32) : Int32 := if x = 119 then 0 else if x = 112 then 1 else if x = 100 then 2 else if x = 114 then 3 else -1
def stV (x : Int32) : Int32 := if 49 ≤ x ∧ x ≤ 57 then x - 49 else -1
def owV (x : Int32) : Int32 := if 48 ≤ x ∧ x ≤ 53 then x - 48 else -1
theorem am0_8 : ∀ n : Fin 256, amF 0 (nI n.val) = kdV (nI n.val) := by decide +kernel
theorem am1_8 : ∀ n : Fin 256, amF 1 (nI n.val) = stV (nI n.val) := by decide +kernel
theorem am2_8 : ∀ n : Fin 256, amF 2 (nI n.val) = owV (nI n.val) := by decide +kernel
theorem kd_n : ∀ n : Fin 256, (kdV (nI n.val) < 0 ↔ kdV (nI n.val) = -1) ∧ (¬ kdV (nI n.val) < 0 → 0 ≤ kdV (nI n.val) ∧ kdV (nI n.val) ≤ 3) := by decide +kernel
theorem st_n : ∀ n : Fin 256, (stV (nI n.val) < 0 ↔ ¬ (49 ≤ nI n.val ∧ nI n.val ≤ 57)) ∧ (¬ stV (nI n.val) < 0 → 1 ≤ 1 + stV (nI n.val) ∧ 1 + stV (nI n.val) ≤ 9 ∧ 1 + stV (nI n.val) = nI n.val - 49 + 1) ∧ (stV (nI n.val) < 0 → 1 + stV (nI n.val) = 0) := by decide +kernel
theorem ow_n : ∀ n : Fin 256, (owV (nI n.val) < 0 ↔ ¬ (48 ≤ nI n.val ∧ nI n.val ≤ 53)) ∧ (¬ owV (nI n.val) < 0 → 0 ≤ owV (nI n.val) ∧ owV (nI n.val) ≤ 5 ∧ owV (nI n.val) = nI n.val - 48) := by decide +kernel
theorem co_n : ∀ n : Fin 256, dgB (nI n.val) = true → 0 ≤ nI n.val - 48 ∧ nI n.val - 48 ≤ 9 := by decide +kernel
def okS (x : Int32) : Prop := x = -1 ∨ ∃ n : Nat, n < 256 ∧ x = nI n
theorem am0_s (h : okS x) : amF 0 x = kdV x := by
  rcases h with f | ⟨n, hn, f⟩ <;> subst f
  · decide
  · exact am0_8 ⟨n, hn⟩
theorem am1_s (h : okS x) : amF 1 x = stV x := by
  rcases h with f | ⟨n, hn, f⟩ <;> subst f
  · decide
  · exact am1_8 ⟨n, hn⟩
theorem am2_s (h : okS x) : amF 2 x = owV x := by
  rcases h with f | ⟨n, hn, f⟩ <;> subst f
  · decide
  · exact am2_8 ⟨n, hn⟩
theorem kd_s (h : okS x) : (kdV x < 0 ↔ kdV x = -1) ∧ (¬ kdV x < 0 → 0 ≤ kdV x ∧ kdV x ≤ 3) := by
  rcases h with f | ⟨n, hn, f⟩ <;> subst f
  · decide
  · exact kd_n ⟨n, hn⟩
theorem st_s (h : okS x) : (stV x < 0 ↔ ¬ (49 ≤ x ∧ x ≤ 57)) ∧ (¬ stV x < 0 → 1 ≤ 1 + stV x ∧ 1 + stV x ≤ 9 ∧ 1 + stV x = x - 49 + 1) ∧ (stV x < 0 → 1 + stV x = 0) := by
  rcases h with f | ⟨n, hn, f⟩ <;> subst f
  · decide
  · exact st_n ⟨n, hn⟩
theorem ow_s (h : okS x) : (owV x < 0 ↔ ¬ (48 ≤ x ∧ x ≤ 53)) ∧ (¬ owV x < 0 → 0 ≤ owV x ∧ owV x ≤ 5 ∧ owV x = x - 48) := by
  rcases h with f | ⟨n, hn, f⟩ <;> subst f
  · decide
  · exact ow_n ⟨n, hn⟩
theorem co_s (h : okS x) (hd : dgB x = true) : 0 ≤ x - 48 ∧ x - 48 ≤ 9 := by
  rcases h with f | ⟨n, hn, f⟩ <;> subst f
  · exact absurd hd (by decide)
  · exact co_n ⟨n, hn⟩ hd
theorem CR.okS (hC : CR e a ch μ) (i : Nat) : okS (ch i) := by
  rcases hC.val i with f | ⟨n, hn, f⟩
  · exact Or.inl f
  · exact Or.inr ⟨n, hn, f⟩
/-- a line: its first fault -/
def pLn (ch : Nat → Int32) (a : Nat) : Option Nat := if kdV (ch a) < 0 then some a else if stV (ch (a + 1)) < 0 then some (a + 1) else if dgB (ch (a + 2)) = true then (if owV (ch (a + 3)) < 0 then some (a + 3) else none) else some (a + 2)
/-- what it says -/
def vLn (ch : Nat → Int32) (a : Nat) (r : Nat) : Int32 := if r = 0 then kdV (ch a) else if r = 1 then 1 + stV (ch (a + 1)) else if r = 2 then ch (a + 2) - 48 else if r = 3 then owV (ch (a + 3)) else if r = 4 then -1 else 0
theorem wX1_takesOf0 (hC : CR e a ch μ) : am_Wp (d + 6) mX1_takesOf 0 [.ref 0, .ref 1000000, am_F] [] μ K ↔ if kdV (ch a) < 0 then K (some (.int (kdV (ch a)))) μ else K (some (.int (kdV (ch a)))) (am_sI μ 0 7 (nI (a + 1))) := by
  have := wX1_takesOf (d := d) (K := K) hC (i := 0) (by decide)
  rw [am0_s (hC.okS a)] at this
  exact this
theorem wX1_takesOf1 (hC : CR e a ch μ) : am_Wp (d + 6) mX1_takesOf 0 [.ref 0, .ref 1000002, am_F] [] μ K ↔ if stV (ch a) < 0 then K (some (.int (stV (ch a)))) μ else K (some (.int (stV (ch a)))) (am_sI μ 0 7 (nI (a + 1))) := by
  have := wX1_takesOf (d := d) (K := K) hC (i := 1) (by decide)
  rw [am1_s (hC.okS a)] at this
  exact this
theorem wX1_takesOf2 (hC : CR e a ch μ) : am_Wp (d + 6) mX1_takesOf 0 [.ref 0, .ref 1000004, am_F] [] μ K ↔ if owV (ch a) < 0 then K (some (.int (owV (ch a)))) μ else K (some (.int (owV (ch a)))) (am_sI μ 0 7 (nI (a + 1))) := by
  have := wX1_takesOf (d := d) (K := K) hC (i := 2) (by decide)
  rw [am2_s (hC.okS a)] at this
  exact this
theorem wX1_number1 (hC : CR e a ch μ) : am_Wp (d + 2) mX1_number 0 [.ref 0, .int 1, am_F, am_F] [] μ K ↔ if dgB (ch a) = true then K (some (.int (ch a - 48))) (am_sI μ 0 7 (nI (a + 1))) else K (some (.int (-1))) μ := by
  have := wX1_number (d := d) (K := K) (D := 1) (by decide) hC
  rw [show nI 1 = 1 from rfl] at this
  rw [this]
  by_cases g : dgB (ch a) = true
  · have e : nuF ch 1 a 0 = (ch a - 48, a + 1) := by
      simp only [nuF, g, if_true]
      rw [show (10 : Int32) * 0 = 0 by decide, Int32.zero_add]
    rw [if_pos g, if_pos g, e]
  · rw [if_neg g, if_neg g]
/-- what the component's reading of nests writes -/
def fNC (a b : Nat) : Prop := (24 ≤ a ∧ a ≤ 27) ∨ (a = 0 ∧ (b = 7 ∨ b = 14))
theorem CR.fr (hC : CR e a ch μ) (hF : Fr fNC μ ν) (h7 : am_I ν 0 7 = nI b) (hb : b ≤ 1000) : CR e b ch ν := by
  obtain ⟨h1, h2, h3, h4, ⟨h5, _⟩, h6, h7'⟩ := hC
  refine ⟨hF.cL h1, fun i hi => ?_, h7, (hF.1 0 8 (by unfold fNC; omega)).trans h4, ⟨h5, hb⟩, fun i hi => ?_, h7'⟩
  · have hB : 78 ≤ am_B := by decide
    obtain ⟨w1, w2, w3, w4, w5⟩ := h2 i hi
    exact ⟨by rw [hF.2.2.2.1]; exact w1, by rw [hF.1 _ _ (by unfold fNC; omega)]; exact w2, by rw [hF.2.1 _ _ (by omega) (by omega)]; exact w3, by rw [hF.2.2.2.1]; exact w4, fun k => by rw [hF.1 _ _ (by unfold fNC; omega)]; exact w5 k⟩
  · rw [hF.1 23 i (by unfold fNC; omega)]; exact h6 i hi
theorem readsNest_8 (hk : am_k μ 0 = (0, 0)) (hm : am_I μ 0 14 = nI 8) : am_Wp (d + 8) mX1_readsNest 0 [.ref 0, am_F] [] μ K ↔ K (some (.int 0)) μ := by
  have e8 : (8 : Int32) = nI 8 := rfl
  simp only [gX1_readsNest_0, gX1_readsNest_1, gX1_readsNest_4, gX1_readsNest_5, gX1_readsNest_6, gX1_readsNest_8, gX1_readsNest_11, gX1_readsNest_12, am_kill_int, am_kill_ref, am_kill_null, am_kill_F, am_kill_long, am_cat_n, am_cat_i, am_cat_r, am_cat_0, am_cat_l, am_nr_n, am_nr_i, am_nr_r, am_nr_0, am_nr_l, Option.toList_some, Option.toList_none, List.nil_append, List.cons_append, va_rf_s, va_rf_n, am_II, am_I_sR, am_I_sL, am_R_sI, am_RR, am_R_sL, am_L_sI, am_L_sR, am_LL, am_k_sI, am_k_sR, am_k_sL, am_n_sI, am_n_sR, am_n_sL, true_and, and_true, true_or, or_true, or_false, false_or, not_true_eq_false, not_false_eq_true, Nat.reduceLT, am_dS, am_dP, am_d1, Nat.reduceSub, Nat.reduceMul, ne_eq, Nat.reduceBEq, Nat.reduceAdd, Nat.reduceLeDiff, Nat.reduceEqDiff, and_self, and_false, false_and, if_true, if_false, am_nb, am_nb0, am_nb1, am_lc1, am_lc2, am_lc3, am_b0, am_b1, am_10, am_c8, am_c16, am_c24, am_c32, am_c40, am_c48, am_c56, am_c64, am_c72, Nat.add_zero, Bool.false_eq_true, Nat.zero_le, hk, hm, e8]
theorem wX1_readsNest (hC : CR e a ch μ) (ha : a ≤ 900) (hm : am_I μ 0 14 = nI m) (hm8 : m < 8)
    (hK1 : ∀ p ν, pLn ch a = some p → Fr fNC μ ν → am_I ν 0 7 = nI p → K (some (.int 0)) ν)
    (hK2 : ∀ ν, pLn ch a = none → Fr fNC μ ν → am_I ν 0 7 = nI (a + 4) → am_I ν 0 14 = nI (m + 1) → (∀ r, r < 4 → am_I ν (24 + r) m = vLn ch a r ∧ ∀ i, i ≠ m → am_I ν (24 + r) i = am_I μ (24 + r) i) → K (some (.int 1)) ν) :
    am_Wp (d + 8) mX1_readsNest 0 [.ref 0, am_F] [] μ K := by
  have hcu := hC.1
  simp only [cL, spL, Nat.reduceAdd] at hcu
  have e8 : (8 : Int32) = nI 8 := rfl
  have hne : ¬ nI m = nI 8 := by rw [nI_inj (by omega) (by omega)]; omega
  have hin : vp_in (nI m) 8 := vp_in_nI (by omega) (by omega)
  have hcl : (nI m).toNatClampNeg = m := nI_clamp (by omega)
  have z1 : (-1 : Int32) < 0 := by decide
  have hF0 : Fr fNC μ μ := Fr.refl
  simp only [gX1_readsNest_0, gX1_readsNest_1, gX1_readsNest_4, gX1_readsNest_5, gX1_readsNest_6, gX1_readsNest_8, gX1_readsNest_11, gX1_readsNest_12, gX1_readsNest_13, gX1_readsNest_14, gX1_readsNest_17, gX1_readsNest_18, gX1_readsNest_19, am_kill_int, am_kill_ref, am_kill_null, am_kill_F, am_kill_long, am_cat_n, am_cat_i, am_cat_r, am_cat_0, am_cat_l, am_nr_n, am_nr_i, am_nr_r, am_nr_0, am_nr_l, Option.toList_some, Option.toList_none, List.nil_append, List.cons_append, va_rf_s, va_rf_n, am_II, am_I_sR, am_I_sL, am_R_sI, am_RR, am_R_sL, am_L_sI, am_L_sR, am_LL, am_k_sI, am_k_sR, am_k_sL, am_n_sI, am_n_sR, am_n_sL, true_and, and_true, true_or, or_true, or_false, false_or, not_true_eq_false, not_false_eq_true, Nat.reduceLT, am_dS, am_dP, am_d1, Nat.reduceSub, Nat.reduceMul, ne_eq, Nat.reduceBEq, Nat.reduceAdd, Nat.reduceLeDiff, Nat.reduceEqDiff, and_self, and_false, false_and, if_true, if_false, am_nb, am_nb0, am_nb1, am_lc1, am_lc2, am_lc3, am_b0, am_b1, am_10, am_c8, am_c16, am_c24, am_c32, am_c40, am_c48, am_c56, am_c64, am_c72, Nat.add_zero, Bool.false_eq_true, Nat.zero_le, hcu, hm, e8, hne, wX1_takesOf0 hC]
  by_cases h0 : kdV (ch a) < 0
  · have hr : pLn ch a = some a := by unfold pLn; rw [if_pos h0]
    simp only [gX1_readsNest_21, gX1_readsNest_24, gX1_readsNest_25, gX1_readsNest_26, gX1_readsNest_29, gX1_readsNest_30, gX1_readsNest_31, gX1_readsNest_34, gX1_readsNest_35, am_kill_int, am_kill_ref, am_kill_null, am_kill_F, am_kill_long, am_cat_n, am_cat_i, am_cat_r, am_cat_0, am_cat_l, am_nr_n, am_nr_i, am_nr_r, am_nr_0, am_nr_l, Option.toList_some, Option.toList_none, List.nil_append, List.cons_append, va_rf_s, va_rf_n, am_II, am_I_sR, am_I_sL, am_R_sI, am_RR, am_R_sL, am_L_sI, am_L_sR, am_LL, am_k_sI, am_k_sR, am_k_sL, am_n_sI, am_n_sR, am_n_sL, true_and, and_true, true_or, or_true, or_false, false_or, not_true_eq_false, not_false_eq_true, Nat.reduceLT, am_dS, am_dP, am_d1, Nat.reduceSub, Nat.reduceMul, ne_eq, Nat.reduceBEq, Nat.reduceAdd, Nat.reduceLeDiff, Nat.reduceEqDiff, and_self, and_false, false_and, if_true, if_false, am_nb, am_nb0, am_nb1, am_lc1, am_lc2, am_lc3, am_b0, am_b1, am_10, am_c8, am_c16, am_c24, am_c32, am_c40, am_c48, am_c56, am_c64, am_c72, Nat.add_zero, Bool.false_eq_true, Nat.zero_le, hcu, wX1_takesOf0 hC, h0, Int32.not_le.mpr h0, hin, hcl]
    exact hK1 a _ hr (Fr.I Fr.refl (by unfold fNC; omega)) (by rw [am_I_sI, if_neg (by omega)]; exact hC.2.2.1)
  · have hFa : Fr fNC μ (am_sI (am_sI μ 0 7 (nI (a + 1))) 24 m (kdV (ch a))) := Fr.I (Fr.I Fr.refl (by unfold fNC; omega)) (by unfold fNC; omega)
    have hCa : CR e (a + 1) ch (am_sI (am_sI μ 0 7 (nI (a + 1))) 24 m (kdV (ch a))) := hC.fr hFa (by rw [am_I_sI, if_neg (by omega), am_I_sI, if_pos ⟨rfl, rfl⟩]) (by omega)
    simp only [gX1_readsNest_21, gX1_readsNest_24, gX1_readsNest_25, gX1_readsNest_26, gX1_readsNest_29, gX1_readsNest_30, gX1_readsNest_31, gX1_readsNest_34, gX1_readsNest_35, gX1_readsNest_36, gX1_readsNest_37, gX1_readsNest_40, gX1_readsNest_41, gX1_readsNest_42, gX1_readsNest_43, am_kill_int, am_kill_ref, am_kill_null, am_kill_F, am_kill_long, am_cat_n, am_cat_i, am_cat_r, am_cat_0, am_cat_l, am_nr_n, am_nr_i, am_nr_r, am_nr_0, am_nr_l, Option.toList_some, Option.toList_none, List.nil_append, List.cons_append, va_rf_s, va_rf_n, am_II, am_I_sR, am_I_sL, am_R_sI, am_RR, am_R_sL, am_L_sI, am_L_sR, am_LL, am_k_sI, am_k_sR, am_k_sL, am_n_sI, am_n_sR, am_n_sL, true_and, and_true, true_or, or_true, or_false, false_or, not_true_eq_false, not_false_eq_true, Nat.reduceLT, am_dS, am_dP, am_d1, Nat.reduceSub, Nat.reduceMul, ne_eq, Nat.reduceBEq, Nat.reduceAdd, Nat.reduceLeDiff, Nat.reduceEqDiff, and_self, and_false, false_and, if_true, if_false, am_nb, am_nb0, am_nb1, am_lc1, am_lc2, am_lc3, am_b0, am_b1, am_10, am_c8, am_c16, am_c24, am_c32, am_c40, am_c48, am_c56, am_c64, am_c72, Nat.add_zero, Bool.false_eq_true, Nat.zero_le, hcu, wX1_takesOf0 hC, h0, Int32.not_lt.mp h0, hin, hcl]
    have ga : am_I (am_sI (am_sI μ 0 7 (nI (a + 1))) 24 m (kdV (ch a))) 24 m = kdV (ch a) := by rw [am_I_sI, if_pos ⟨rfl, rfl⟩]
    have ga2 : ∀ r i, r < 4 → ¬ (r = 0 ∧ i = m) → am_I (am_sI (am_sI μ 0 7 (nI (a + 1))) 24 m (kdV (ch a))) (24 + r) i = am_I μ (24 + r) i := fun r i z1 z2 => by rw [am_I_sI, if_neg (by omega), am_I_sI, if_neg (by omega)]
    have ma : am_I (am_sI (am_sI μ 0 7 (nI (a + 1))) 24 m (kdV (ch a))) 0 14 = nI m := by rw [am_I_sI, if_neg (by omega), am_I_sI, if_neg (by omega)]; exact hm
    generalize am_sI (am_sI μ 0 7 (nI (a + 1))) 24 m (kdV (ch a)) = μa at hFa hCa ga ga2 ma ⊢
    have hcu := hCa.1
    simp only [cL, spL, Nat.reduceAdd] at hcu
    by_cases h1 : stV (ch (a + 1)) < 0
    · have hr : pLn ch a = some (a + 1) := by unfold pLn; rw [if_neg h0, if_pos h1]
      have ez := (st_s (hCa.okS (a + 1))).2.2 h1
      simp only [gX1_readsNest_45, gX1_readsNest_48, gX1_readsNest_49, gX1_readsNest_50, gX1_readsNest_51, gX1_readsNest_54, gX1_readsNest_55, gX1_readsNest_56, gX1_readsNest_59, gX1_readsNest_60, am_kill_int, am_kill_ref, am_kill_null, am_kill_F, am_kill_long, am_cat_n, am_cat_i, am_cat_r, am_cat_0, am_cat_l, am_nr_n, am_nr_i, am_nr_r, am_nr_0, am_nr_l, Option.toList_some, Option.toList_none, List.nil_append, List.cons_append, va_rf_s, va_rf_n, am_II, am_I_sR, am_I_sL, am_R_sI, am_RR, am_R_sL, am_L_sI, am_L_sR, am_LL, am_k_sI, am_k_sR, am_k_sL, am_n_sI, am_n_sR, am_n_sL, true_and, and_true, true_or, or_true, or_false, false_or, not_true_eq_false, not_false_eq_true, Nat.reduceLT, am_dS, am_dP, am_d1, Nat.reduceSub, Nat.reduceMul, ne_eq, Nat.reduceBEq, Nat.reduceAdd, Nat.reduceLeDiff, Nat.reduceEqDiff, and_self, and_false, false_and, if_true, if_false, am_nb, am_nb0, am_nb1, am_lc1, am_lc2, am_lc3, am_b0, am_b1, am_10, am_c8, am_c16, am_c24, am_c32, am_c40, am_c48, am_c56, am_c64, am_c72, Nat.add_zero, Bool.false_eq_true, Nat.zero_le, hcu, wX1_takesOf1 hCa, h1, ez, hin, hcl]
      exact hK1 (a + 1) _ hr (Fr.I hFa (by unfold fNC; omega)) (by rw [am_I_sI, if_neg (by omega)]; exact hCa.2.2.1)
    · have hst := (st_s (hCa.okS (a + 1))).2.1 h1
      have hn0 : ¬ 1 + stV (ch (a + 1)) = 0 := fun f => by rw [f] at hst; exact absurd hst.1 (by decide)
      have hFb : Fr fNC μ (am_sI (am_sI μa 0 7 (nI (a + 1 + 1))) 25 m (1 + stV (ch (a + 1)))) := Fr.I (Fr.I hFa (by unfold fNC; omega)) (by unfold fNC; omega)
      have hCb : CR e (a + 2) ch (am_sI (am_sI μa 0 7 (nI (a + 1 + 1))) 25 m (1 + stV (ch (a + 1)))) := hC.fr hFb (by rw [am_I_sI, if_neg (by omega), am_I_sI, if_pos ⟨rfl, rfl⟩]) (by omega)
      simp only [gX1_readsNest_45, gX1_readsNest_48, gX1_readsNest_49, gX1_readsNest_50, gX1_readsNest_51, gX1_readsNest_54, gX1_readsNest_55, gX1_readsNest_56, gX1_readsNest_59, gX1_readsNest_60, gX1_readsNest_61, gX1_readsNest_62, gX1_readsNest_65, gX1_readsNest_66, gX1_readsNest_67, am_kill_int, am_kill_ref, am_kill_null, am_kill_F, am_kill_long, am_cat_n, am_cat_i, am_cat_r, am_cat_0, am_cat_l, am_nr_n, am_nr_i, am_nr_r, am_nr_0, am_nr_l, Option.toList_some, Option.toList_none, List.nil_append, List.cons_append, va_rf_s, va_rf_n, am_II, am_I_sR, am_I_sL, am_R_sI, am_RR, am_R_sL, am_L_sI, am_L_sR, am_LL, am_k_sI, am_k_sR, am_k_sL, am_n_sI, am_n_sR, am_n_sL, true_and, and_true, true_or, or_true, or_false, false_or, not_true_eq_false, not_false_eq_true, Nat.reduceLT, am_dS, am_dP, am_d1, Nat.reduceSub, Nat.reduceMul, ne_eq, Nat.reduceBEq, Nat.reduceAdd, Nat.reduceLeDiff, Nat.reduceEqDiff, and_self, and_false, false_and, if_true, if_false, am_nb, am_nb0, am_nb1, am_lc1, am_lc2, am_lc3, am_b0, am_b1, am_10, am_c8, am_c16, am_c24, am_c32, am_c40, am_c48, am_c56, am_c64, am_c72, Nat.add_zero, Bool.false_eq_true, Nat.zero_le, hcu, wX1_takesOf1 hCa, h1, hn0, hin, hcl]
      have gb : am_I (am_sI (am_sI μa 0 7 (nI (a + 1 + 1))) 25 m (1 + stV (ch (a + 1)))) 24 m = kdV (ch a) ∧ am_I (am_sI (am_sI μa 0 7 (nI (a + 1 + 1))) 25 m (1 + stV (ch (a + 1)))) 25 m = 1 + stV (ch (a + 1)) := ⟨by rw [am_I_sI, if_neg (by omega), am_I_sI, if_neg (by omega)]; exact ga, by rw [am_I_sI, if_pos ⟨rfl, rfl⟩]⟩
      have gb2 : ∀ r i, r < 4 → ¬ (r ≤ 1 ∧ i = m) → am_I (am_sI (am_sI μa 0 7 (nI (a + 1 + 1))) 25 m (1 + stV (ch (a + 1)))) (24 + r) i = am_I μ (24 + r) i := fun r i z1 z2 => by rw [am_I_sI, if_neg (by omega), am_I_sI, if_neg (by omega)]; exact ga2 r i z1 (by omega)
      have mb : am_I (am_sI (am_sI μa 0 7 (nI (a + 1 + 1))) 25 m (1 + stV (ch (a + 1)))) 0 14 = nI m := by rw [am_I_sI, if_neg (by omega), am_I_sI, if_neg (by omega)]; exact ma
      generalize am_sI (am_sI μa 0 7 (nI (a + 1 + 1))) 25 m (1 + stV (ch (a + 1))) = μb at hFb hCb gb gb2 mb ⊢
      have hcu := hCb.1
      simp only [cL, spL, Nat.reduceAdd] at hcu
      by_cases h2 : dgB (ch (a + 2)) = true
      · have hco := co_s (hCb.okS (a + 2)) h2
        have hn1 : 0 ≤ ch (a + 2) - 48 := hco.1
        have hn1' : ¬ ch (a + 2) - 48 < 0 := Int32.not_lt.mpr hn1
        have hFc : Fr fNC μ (am_sI (am_sI μb 0 7 (nI (a + 2 + 1))) 26 m (ch (a + 2) - 48)) := Fr.I (Fr.I hFb (by unfold fNC; omega)) (by unfold fNC; omega)
        have hCc : CR e (a + 3) ch (am_sI (am_sI μb 0 7 (nI (a + 2 + 1))) 26 m (ch (a + 2) - 48)) := hC.fr hFc (by rw [am_I_sI, if_neg (by omega), am_I_sI, if_pos ⟨rfl, rfl⟩]) (by omega)
        simp only [gX1_readsNest_68, gX1_readsNest_71, gX1_readsNest_72, gX1_readsNest_73, gX1_readsNest_76, gX1_readsNest_77, gX1_readsNest_78, gX1_readsNest_81, gX1_readsNest_82, gX1_readsNest_83, gX1_readsNest_84, gX1_readsNest_87, gX1_readsNest_88, gX1_readsNest_89, am_kill_int, am_kill_ref, am_kill_null, am_kill_F, am_kill_long, am_cat_n, am_cat_i, am_cat_r, am_cat_0, am_cat_l, am_nr_n, am_nr_i, am_nr_r, am_nr_0, am_nr_l, Option.toList_some, Option.toList_none, List.nil_append, List.cons_append, va_rf_s, va_rf_n, am_II, am_I_sR, am_I_sL, am_R_sI, am_RR, am_R_sL, am_L_sI, am_L_sR, am_LL, am_k_sI, am_k_sR, am_k_sL, am_n_sI, am_n_sR, am_n_sL, true_and, and_true, true_or, or_true, or_false, false_or, not_true_eq_false, not_false_eq_true, Nat.reduceLT, am_dS, am_dP, am_d1, Nat.reduceSub, Nat.reduceMul, ne_eq, Nat.reduceBEq, Nat.reduceAdd, Nat.reduceLeDiff, Nat.reduceEqDiff, and_self, and_false, false_and, if_true, if_false, am_nb, am_nb0, am_nb1, am_lc1, am_lc2, am_lc3, am_b0, am_b1, am_10, am_c8, am_c16, am_c24, am_c32, am_c40, am_c48, am_c56, am_c64, am_c72, Nat.add_zero, Bool.false_eq_true, Nat.zero_le, hcu, wX1_number1 hCb, h2, hn1, hn1', hin, hcl]
        have gc : am_I (am_sI (am_sI μb 0 7 (nI (a + 2 + 1))) 26 m (ch (a + 2) - 48)) 24 m = kdV (ch a) ∧ am_I (am_sI (am_sI μb 0 7 (nI (a + 2 + 1))) 26 m (ch (a + 2) - 48)) 25 m = 1 + stV (ch (a + 1)) ∧ am_I (am_sI (am_sI μb 0 7 (nI (a + 2 + 1))) 26 m (ch (a + 2) - 48)) 26 m = ch (a + 2) - 48 := ⟨by rw [am_I_sI, if_neg (by omega), am_I_sI, if_neg (by omega)]; exact gb.1, by rw [am_I_sI, if_neg (by omega), am_I_sI, if_neg (by omega)]; exact gb.2, by rw [am_I_sI, if_pos ⟨rfl, rfl⟩]⟩
        have gc2 : ∀ r i, r < 4 → ¬ (r ≤ 2 ∧ i = m) → am_I (am_sI (am_sI μb 0 7 (nI (a + 2 + 1))) 26 m (ch (a + 2) - 48)) (24 + r) i = am_I μ (24 + r) i := fun r i z1 z2 => by rw [am_I_sI, if_neg (by omega), am_I_sI, if_neg (by omega)]; exact gb2 r i z1 (by omega)
        have mc : am_I (am_sI (am_sI μb 0 7 (nI (a + 2 + 1))) 26 m (ch (a + 2) - 48)) 0 14 = nI m := by rw [am_I_sI, if_neg (by omega), am_I_sI, if_neg (by omega)]; exact mb
        generalize am_sI (am_sI μb 0 7 (nI (a + 2 + 1))) 26 m (ch (a + 2) - 48) = μc at hFc hCc gc gc2 mc ⊢
        have hcu := hCc.1
        simp only [cL, spL, Nat.reduceAdd] at hcu
        by_cases h3 : owV (ch (a + 3)) < 0
        · have hr : pLn ch a = some (a + 3) := by unfold pLn; rw [if_neg h0, if_neg h1, if_pos h2, if_pos h3]
          have h3' : ¬ 0 ≤ owV (ch (a + 3)) := Int32.not_le.mpr h3
          simp only [gX1_readsNest_91, gX1_readsNest_94, gX1_readsNest_95, gX1_readsNest_96, gX1_readsNest_97, gX1_readsNest_100, gX1_readsNest_101, gX1_readsNest_102, gX1_readsNest_105, gX1_readsNest_106, gX1_readsNest_109, gX1_readsNest_110, gX1_readsNest_111, gX1_readsNest_114, gX1_readsNest_115, gX1_readsNest_118, gX1_readsNest_119, am_kill_int, am_kill_ref, am_kill_null, am_kill_F, am_kill_long, am_cat_n, am_cat_i, am_cat_r, am_cat_0, am_cat_l, am_nr_n, am_nr_i, am_nr_r, am_nr_0, am_nr_l, Option.toList_some, Option.toList_none, List.nil_append, List.cons_append, va_rf_s, va_rf_n, am_II, am_I_sR, am_I_sL, am_R_sI, am_RR, am_R_sL, am_L_sI, am_L_sR, am_LL, am_k_sI, am_k_sR, am_k_sL, am_n_sI, am_n_sR, am_n_sL, true_and, and_true, true_or, or_true, or_false, false_or, not_true_eq_false, not_false_eq_true, Nat.reduceLT, am_dS, am_dP, am_d1, Nat.reduceSub, Nat.reduceMul, ne_eq, Nat.reduceBEq, Nat.reduceAdd, Nat.reduceLeDiff, Nat.reduceEqDiff, and_self, and_false, false_and, if_true, if_false, am_nb, am_nb0, am_nb1, am_lc1, am_lc2, am_lc3, am_b0, am_b1, am_10, am_c8, am_c16, am_c24, am_c32, am_c40, am_c48, am_c56, am_c64, am_c72, Nat.add_zero, Bool.false_eq_true, Nat.zero_le, hcu, wX1_takesOf2 hCc, h3, h3', hin, hcl, mc]
          exact hK1 (a + 3) _ hr (Fr.I (Fr.I hFc (by unfold fNC; omega)) (by unfold fNC; omega)) (by rw [am_I_sI, if_neg (by omega), am_I_sI, if_neg (by omega)]; exact hCc.2.2.1)
        · have hr : pLn ch a = none := by unfold pLn; rw [if_neg h0, if_neg h1, if_pos h2, if_neg h3]
          have h3' : 0 ≤ owV (ch (a + 3)) := Int32.not_lt.mp h3
          simp only [gX1_readsNest_91, gX1_readsNest_94, gX1_readsNest_95, gX1_readsNest_96, gX1_readsNest_97, gX1_readsNest_100, gX1_readsNest_101, gX1_readsNest_102, gX1_readsNest_105, gX1_readsNest_106, gX1_readsNest_109, gX1_readsNest_110, gX1_readsNest_111, gX1_readsNest_114, gX1_readsNest_115, gX1_readsNest_118, gX1_readsNest_119, am_kill_int, am_kill_ref, am_kill_null, am_kill_F, am_kill_long, am_cat_n, am_cat_i, am_cat_r, am_cat_0, am_cat_l, am_nr_n, am_nr_i, am_nr_r, am_nr_0, am_nr_l, Option.toList_some, Option.toList_none, List.nil_append, List.cons_append, va_rf_s, va_rf_n, am_II, am_I_sR, am_I_sL, am_R_sI, am_RR, am_R_sL, am_L_sI, am_L_sR, am_LL, am_k_sI, am_k_sR, am_k_sL, am_n_sI, am_n_sR, am_n_sL, true_and, and_true, true_or, or_true, or_false, false_or, not_true_eq_false, not_false_eq_true, Nat.reduceLT, am_dS, am_dP, am_d1, Nat.reduceSub, Nat.reduceMul, ne_eq, Nat.reduceBEq, Nat.reduceAdd, Nat.reduceLeDiff, Nat.reduceEqDiff, and_self, and_false, false_and, if_true, if_false, am_nb, am_nb0, am_nb1, am_lc1, am_lc2, am_lc3, am_b0, am_b1, am_10, am_c8, am_c16, am_c24, am_c32, am_c40, am_c48, am_c56, am_c64, am_c72, Nat.add_zero, Bool.false_eq_true, Nat.zero_le, hcu, wX1_takesOf2 hCc, h3, h3', hin, hcl, mc, nI_1]
          refine hK2 _ hr (Fr.I (Fr.I (Fr.I hFc (by unfold fNC; omega)) (by unfold fNC; omega)) (by unfold fNC; omega)) ?_ ?_ (fun r hr4 => ⟨?_, fun i hi => ?_⟩)
          · rw [am_I_sI, if_neg (by omega), am_I_sI, if_neg (by omega), am_I_sI, if_pos ⟨rfl, rfl⟩]
          · rw [am_I_sI, if_pos ⟨rfl, rfl⟩]
          · rcases (by omega : r = 0 ∨ r = 1 ∨ r = 2 ∨ r = 3) with f | f | f | f <;> subst f
            · rw [am_I_sI, if_neg (by omega), am_I_sI, if_neg (by omega), am_I_sI, if_neg (by omega)]; exact gc.1
            · rw [am_I_sI, if_neg (by omega), am_I_sI, if_neg (by omega), am_I_sI, if_neg (by omega)]; exact gc.2.1
            · rw [am_I_sI, if_neg (by omega), am_I_sI, if_neg (by omega), am_I_sI, if_neg (by omega)]; exact gc.2.2
            · rw [am_I_sI, if_neg (by omega), am_I_sI, if_pos ⟨rfl, rfl⟩]; rfl
          · rw [am_I_sI, if_neg (by omega), am_I_sI, if_neg (by omega), am_I_sI, if_neg (by omega)]
            exact gc2 r i hr4 (by omega)
      · have hr : pLn ch a = some (a + 2) := by unfold pLn; rw [if_neg h0, if_neg h1, if_neg h2]
        have z1' : ¬ (0 : Int32) ≤ -1 := by decide
        simp only [gX1_readsNest_68, gX1_readsNest_71, gX1_readsNest_72, gX1_readsNest_73, gX1_readsNest_76, gX1_readsNest_77, gX1_readsNest_78, gX1_readsNest_81, gX1_readsNest_82, am_kill_int, am_kill_ref, am_kill_null, am_kill_F, am_kill_long, am_cat_n, am_cat_i, am_cat_r, am_cat_0, am_cat_l, am_nr_n, am_nr_i, am_nr_r, am_nr_0, am_nr_l, Option.toList_some, Option.toList_none, List.nil_append, List.cons_append, va_rf_s, va_rf_n, am_II, am_I_sR, am_I_sL, am_R_sI, am_RR, am_R_sL, am_L_sI, am_L_sR, am_LL, am_k_sI, am_k_sR, am_k_sL, am_n_sI, am_n_sR, am_n_sL, true_and, and_true, true_or, or_true, or_false, false_or, not_true_eq_false, not_false_eq_true, Nat.reduceLT, am_dS, am_dP, am_d1, Nat.reduceSub, Nat.reduceMul, ne_eq, Nat.reduceBEq, Nat.reduceAdd, Nat.reduceLeDiff, Nat.reduceEqDiff, and_self, and_false, false_and, if_true, if_false, am_nb, am_nb0, am_nb1, am_lc1, am_lc2, am_lc3, am_b0, am_b1, am_10, am_c8, am_c16, am_c24, am_c32, am_c40, am_c48, am_c56, am_c64, am_c72, Nat.add_zero, Bool.false_eq_true, Nat.zero_le, hcu, wX1_number1 hCb, h2, z1, z1', hin, hcl]
        exact hK1 (a + 2) _ hr (Fr.I hFb (by unfold fNC; omega)) (by rw [am_I_sI, if_neg (by omega)]; exact hCb.2.2.1)
end NSV
