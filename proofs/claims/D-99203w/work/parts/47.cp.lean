/-! the component reads a rule: a tree of what the pure parser says -/
set_option maxRecDepth 100000
section CPV
variable {d : Nat} {μ ν ξ : am_M} {K : Option Value → am_M → Prop} {x y z c w : Int32} {h N j i k a a0 e n b q m dp s : Nat} {v : Int32} {ch : Nat → Int32} {f g : PF} {t : Nat × Nat} {r : Option Nat}
theorem am_I_new : am_I (am_new μ t s) h k = if h = am_n μ then 0 else am_I μ h k := id rfl
theorem am_R_new : am_R (am_new μ t s) h k = if h = am_n μ then none else am_R μ h k := id rfl
theorem am_k_new : am_k (am_new μ t s) h = if h = am_n μ then t else am_k μ h := id rfl
theorem am_n_new : am_n (am_new μ t s) = am_n μ + 1 := id rfl
/-- what reading does to the memory: new cells, the place, the depth -/
def AF (μ ν : am_M) (q : Nat) : Prop := (∀ h b, (h < am_n μ ∨ am_B ≤ h) → ¬ (h = 0 ∧ (b = 7 ∨ b = 9)) → am_I ν h b = am_I μ h b) ∧ (∀ h b, (h < am_n μ ∨ am_B ≤ h) → am_R ν h b = am_R μ h b) ∧ (∀ h b, (h < am_n μ ∨ am_B ≤ h) → am_L ν h b = am_L μ h b) ∧ (∀ h, (h < am_n μ ∨ am_B ≤ h) → am_k ν h = am_k μ h) ∧ (am_n μ ≤ am_n ν ∧ am_n ν ≤ am_n μ + q) ∧ am_c ν ≤ am_c μ + q ∧ am_s ν ≤ am_s μ + 6 * q
theorem AF.refl : AF μ μ q := ⟨fun _ _ _ _ => rfl, fun _ _ _ => rfl, fun _ _ _ => rfl, fun _ _ => rfl, ⟨Nat.le_refl _, Nat.le_add_right _ _⟩, Nat.le_add_right _ _, Nat.le_add_right _ _⟩
theorem AF.trans {q1 q2 : Nat} (h1 : AF μ ν q1) (h2 : AF ν ξ q2) (hq : q1 + q2 ≤ q) : AF μ ξ q := by
  obtain ⟨a1, a2, a3, a4, a5, a6, a7⟩ := h1
  obtain ⟨b1, b2, b3, b4, b5, b6, b7⟩ := h2
  have up : ∀ h, (h < am_n μ ∨ am_B ≤ h) → (h < am_n ν ∨ am_B ≤ h) := fun h => Or.imp (fun z => Nat.lt_of_lt_of_le z a5.1) id
  exact ⟨fun h b z w => (b1 h b (up h z) w).trans (a1 h b z w), fun h b z => (b2 h b (up h z)).trans (a2 h b z), fun h b z => (b3 h b (up h z)).trans (a3 h b z), fun h z => (b4 h (up h z)).trans (a4 h z), ⟨Nat.le_trans a5.1 b5.1, by omega⟩, by omega, by omega⟩
theorem AF.at (h1 : AF μ ν q) (h0 : 0 < am_n μ) : AF μ (am_sI ν 0 7 x) q := by
  obtain ⟨a1, a2, a3, a4, a5, a6, a7⟩ := h1
  exact ⟨fun h b z w => by rw [am_I_sI, if_neg (fun e => w ⟨e.1, Or.inl e.2⟩)]; exact a1 h b z w, a2, a3, a4, a5, a6, a7⟩
theorem AF.ne (h1 : AF μ ν q) : AF μ (am_sI ν 0 9 x) q := by
  obtain ⟨a1, a2, a3, a4, a5, a6, a7⟩ := h1
  exact ⟨fun h b z w => by rw [am_I_sI, if_neg (fun e => w ⟨e.1, Or.inr e.2⟩)]; exact a1 h b z w, a2, a3, a4, a5, a6, a7⟩
theorem AF.new (h1 : AF μ ν q) (hs : s ≤ 6) (hB : am_n ν < am_B) : AF μ (am_new ν t s) (q + 1) := by
  obtain ⟨a1, a2, a3, a4, a5, a6, a7⟩ := h1
  have ne : ∀ h, (h < am_n μ ∨ am_B ≤ h) → ¬ h = am_n ν := fun h z e => by omega
  refine ⟨fun h b z w => by rw [am_I_new, if_neg (ne h z)]; exact a1 h b z w, fun h b z => by rw [am_R_new, if_neg (ne h z)]; exact a2 h b z, fun h b z => ?_, fun h z => by rw [am_k_new, if_neg (ne h z)]; exact a4 h z, ?_, ?_, ?_⟩
  · show (if h = am_n ν then 0 else am_L ν h b) = _
    rw [if_neg (ne h z)]; exact a3 h b z
  · rw [am_n_new]; omega
  · show am_c ν + 1 ≤ _
    omega
  · show am_s ν + s ≤ _
    omega
theorem AF.sI (h1 : AF μ ν q) (hh : am_n μ ≤ h) (hB : h < am_B) : AF μ (am_sI ν h k v) q := by
  obtain ⟨a1, a2, a3, a4, a5, a6, a7⟩ := h1
  exact ⟨fun g b z w => by rw [am_I_sI, if_neg (by omega)]; exact a1 g b z w, a2, a3, a4, a5, a6, a7⟩
theorem AF.sR (h1 : AF μ ν q) (hh : am_n μ ≤ h) (hB : h < am_B) : AF μ (am_sR ν h k r) q := by
  obtain ⟨a1, a2, a3, a4, a5, a6, a7⟩ := h1
  exact ⟨a1, fun g b z => by rw [am_R_sR, if_neg (by omega)]; exact a2 g b z, a3, a4, a5, a6, a7⟩
theorem AF.node (h1 : AF μ ν q) (h0 : 0 < am_n μ) : nodeEq μ ν := by
  obtain ⟨a1, a2, a3, a4, a5, a6, a7⟩ := h1
  exact ⟨a5.1, fun h z1 z2 _ _ => ⟨a4 h (Or.inl z2), fun i => a1 h i (Or.inl z2) (by omega), fun i => a2 h i (Or.inl z2)⟩⟩
theorem cL_congr2 {k k' : Nat → Nat × Nat} {R R' : Nat → Nat → Option Nat} (h : cL k R) (hk : ∀ a, a < 54 → k' a = k a) (hr : ∀ a b, a < 54 → R' a b = R a b) : cL k' R' := by
  unfold cL spL at h ⊢
  have e : ∀ a b, a < 54 → R a b = R' a b := fun a b q => (hr a b q).symm
  have e2 : ∀ a, a < 54 → k a = k' a := fun a q => (hk a q).symm
  simpa (disch := omega) only [e, e2] using h
theorem AF.cr (h1 : AF μ ν q) (hC : CR e a ch μ) (h0 : 78 ≤ am_n μ) (h7 : am_I ν 0 7 = nI b) (hb : b ≤ 1000) : CR e b ch ν := by
  obtain ⟨a1, a2, a3, a4, a5, a6, a7⟩ := h1
  obtain ⟨c1, c2, c3, c4, c5, c6, c7⟩ := hC
  refine ⟨cL_congr2 c1 (fun a z => a4 a (Or.inl (by omega))) (fun a b z => a2 a b (Or.inl (by omega))), fun i hi => ?_, h7, ?_, ⟨c5.1, hb⟩, fun i hi => ⟨?_, (c6 i hi).2⟩, c7⟩
  · obtain ⟨g1, g2, g3, g4, g5⟩ := c2 i hi
    have hB : am_B ≤ am_B + 2 * i := Nat.le_add_right _ _
    have hB2 : am_B ≤ am_B + 2 * i + 1 := by omega
    have z0 : ∀ h, am_B ≤ h → ¬ h = 0 := fun h z => by unfold am_B at z; omega
    exact ⟨by rw [a4 _ (Or.inr hB)]; exact g1, by rw [a1 _ _ (Or.inr hB) (fun z => z0 _ hB z.1)]; exact g2, by rw [a2 _ _ (Or.inr hB)]; exact g3, by rw [a4 _ (Or.inr hB2)]; exact g4, fun k => by rw [a1 _ _ (Or.inr hB2) (fun z => z0 _ hB2 z.1)]; exact g5 k⟩
  · rw [a1 _ _ (Or.inl (by omega)) (by omega)]; exact c4
  · rw [a1 _ _ (Or.inl (by omega)) (by omega)]; exact (c6 i hi).1
theorem wX4_init (hk : 3 ≤ (am_k μ h).1 ∧ (am_k μ h).1 < 7) (hR : am_R μ h (am_N (am_k μ h).1 - 2) = some a) : am_Wp (d + 1) mX4_init 0 [.ref h, .ref a] [] μ K ↔ K none μ := by
  have hf : am_flg mX4_init = 1 := rfl
  simp only [gX4_init_0, gX4_init_1, gX4_init_1n, gX4_init_2, gX4_init_5, gX4_init_6, gX4_init_9, am_kill_int, am_kill_ref, am_kill_null, am_kill_F, am_kill_long, am_cat_n, am_cat_i, am_cat_r, am_cat_0, am_cat_l, am_nr_n, am_nr_i, am_nr_r, am_nr_0, am_nr_l, Option.toList_some, Option.toList_none, List.nil_append, List.cons_append, va_rf_s, va_rf_n, am_II, am_I_sR, am_I_sL, am_R_sI, am_RR, am_R_sL, am_L_sI, am_L_sR, am_LL, am_k_sI, am_k_sR, am_k_sL, am_n_sI, am_n_sR, am_n_sL, true_and, and_true, true_or, or_true, or_false, false_or, not_true_eq_false, not_false_eq_true, Nat.reduceLT, am_dS, am_dP, am_d1, Nat.reduceSub, Nat.reduceMul, ne_eq, Nat.reduceBEq, Nat.reduceAdd, Nat.reduceLeDiff, Nat.reduceEqDiff, and_self, and_false, false_and, if_true, if_false, am_nb, am_nb0, am_nb1, am_lc1, am_lc2, am_lc3, am_b0, am_b1, am_10, am_c8, am_c16, am_c24, am_c32, am_c40, am_c48, am_c56, am_c64, am_c72, Nat.add_zero, Bool.false_eq_true, Nat.zero_le, hk, hR, hf]
theorem wX6_init (hk : (am_k μ h).1 = 3) : am_Wp (d + 2) mX6_init 0 [.ref h, .ref 0, .int x] [] μ K ↔ K none (am_sI (am_sR μ h 1 (some 0)) h 0 x) := by
  have hB : 0 < am_B := by decide
  have e := wX4_init (d := d) (μ := am_sR μ h 1 (some 0)) (h := h) (a := 0) (K := fun r1 μ1 => am_nr r1 ∧ am_Wp (d + 2) mX6_init 10 [.ref h, .ref 0, .int x] (r1.toList ++ []) μ1 K) (by show 3 ≤ (am_k μ h).1 ∧ (am_k μ h).1 < 7; omega) (by
    show am_R (am_sR μ h 1 (some 0)) h (am_N (am_k μ h).1 - 2) = some 0
    rw [hk, am_R_sR, if_pos ⟨rfl, rfl⟩])
  simp only [gX6_init_0, gX6_init_1, gX6_init_1n, gX6_init_2, gX6_init_5, gX6_init_6, gX6_init_6n, gX6_init_7, am_kill_int, am_kill_ref, am_kill_null, am_kill_F, am_kill_long, am_cat_n, am_cat_i, am_cat_r, am_cat_0, am_cat_l, am_nr_n, am_nr_i, am_nr_r, am_nr_0, am_nr_l, Option.toList_some, Option.toList_none, List.nil_append, List.cons_append, va_rf_s, va_rf_n, am_II, am_I_sR, am_I_sL, am_R_sI, am_RR, am_R_sL, am_L_sI, am_L_sR, am_LL, am_k_sI, am_k_sR, am_k_sL, am_n_sI, am_n_sR, am_n_sL, true_and, and_true, true_or, or_true, or_false, false_or, not_true_eq_false, not_false_eq_true, Nat.reduceLT, am_dS, am_dP, am_d1, Nat.reduceSub, Nat.reduceMul, ne_eq, Nat.reduceBEq, Nat.reduceAdd, Nat.reduceLeDiff, Nat.reduceEqDiff, and_self, and_false, false_and, if_true, if_false, am_nb, am_nb0, am_nb1, am_lc1, am_lc2, am_lc3, am_b0, am_b1, am_10, am_c8, am_c16, am_c24, am_c32, am_c40, am_c48, am_c56, am_c64, am_c72, Nat.add_zero, Bool.false_eq_true, Nat.zero_le, hk, hB]
  rw [e]
  simp only [gX6_init_10, gX6_init_11, gX6_init_12, gX6_init_15, am_kill_int, am_kill_ref, am_kill_null, am_kill_F, am_kill_long, am_cat_n, am_cat_i, am_cat_r, am_cat_0, am_cat_l, am_nr_n, am_nr_i, am_nr_r, am_nr_0, am_nr_l, Option.toList_some, Option.toList_none, List.nil_append, List.cons_append, va_rf_s, va_rf_n, am_II, am_I_sR, am_I_sL, am_R_sI, am_RR, am_R_sL, am_L_sI, am_L_sR, am_LL, am_k_sI, am_k_sR, am_k_sL, am_n_sI, am_n_sR, am_n_sL, true_and, and_true, true_or, or_true, or_false, false_or, not_true_eq_false, not_false_eq_true, Nat.reduceLT, am_dS, am_dP, am_d1, Nat.reduceSub, Nat.reduceMul, ne_eq, Nat.reduceBEq, Nat.reduceAdd, Nat.reduceLeDiff, Nat.reduceEqDiff, and_self, and_false, false_and, if_true, if_false, am_nb, am_nb0, am_nb1, am_lc1, am_lc2, am_lc3, am_b0, am_b1, am_10, am_c8, am_c16, am_c24, am_c32, am_c40, am_c48, am_c56, am_c64, am_c72, Nat.add_zero, Bool.false_eq_true, Nat.zero_le, hk]
theorem wX7_init (hk : (am_k μ h).1 = 4) : am_Wp (d + 2) mX7_init 0 [.ref h, .ref 0, .int x] [] μ K ↔ K none (am_sI (am_sR μ h 1 (some 0)) h 0 x) := by
  have hB : 0 < am_B := by decide
  have e := wX4_init (d := d) (μ := am_sR μ h 1 (some 0)) (h := h) (a := 0) (K := fun r1 μ1 => am_nr r1 ∧ am_Wp (d + 2) mX7_init 10 [.ref h, .ref 0, .int x] (r1.toList ++ []) μ1 K) (by show 3 ≤ (am_k μ h).1 ∧ (am_k μ h).1 < 7; omega) (by
    show am_R (am_sR μ h 1 (some 0)) h (am_N (am_k μ h).1 - 2) = some 0
    rw [hk, am_R_sR, if_pos ⟨rfl, rfl⟩])
  simp only [gX7_init_0, gX7_init_1, gX7_init_1n, gX7_init_2, gX7_init_5, gX7_init_6, gX7_init_6n, gX7_init_7, am_kill_int, am_kill_ref, am_kill_null, am_kill_F, am_kill_long, am_cat_n, am_cat_i, am_cat_r, am_cat_0, am_cat_l, am_nr_n, am_nr_i, am_nr_r, am_nr_0, am_nr_l, Option.toList_some, Option.toList_none, List.nil_append, List.cons_append, va_rf_s, va_rf_n, am_II, am_I_sR, am_I_sL, am_R_sI, am_RR, am_R_sL, am_L_sI, am_L_sR, am_LL, am_k_sI, am_k_sR, am_k_sL, am_n_sI, am_n_sR, am_n_sL, true_and, and_true, true_or, or_true, or_false, false_or, not_true_eq_false, not_false_eq_true, Nat.reduceLT, am_dS, am_dP, am_d1, Nat.reduceSub, Nat.reduceMul, ne_eq, Nat.reduceBEq, Nat.reduceAdd, Nat.reduceLeDiff, Nat.reduceEqDiff, and_self, and_false, false_and, if_true, if_false, am_nb, am_nb0, am_nb1, am_lc1, am_lc2, am_lc3, am_b0, am_b1, am_10, am_c8, am_c16, am_c24, am_c32, am_c40, am_c48, am_c56, am_c64, am_c72, Nat.add_zero, Bool.false_eq_true, Nat.zero_le, hk, hB]
  rw [e]
  simp only [gX7_init_10, gX7_init_11, gX7_init_12, gX7_init_15, am_kill_int, am_kill_ref, am_kill_null, am_kill_F, am_kill_long, am_cat_n, am_cat_i, am_cat_r, am_cat_0, am_cat_l, am_nr_n, am_nr_i, am_nr_r, am_nr_0, am_nr_l, Option.toList_some, Option.toList_none, List.nil_append, List.cons_append, va_rf_s, va_rf_n, am_II, am_I_sR, am_I_sL, am_R_sI, am_RR, am_R_sL, am_L_sI, am_L_sR, am_LL, am_k_sI, am_k_sR, am_k_sL, am_n_sI, am_n_sR, am_n_sL, true_and, and_true, true_or, or_true, or_false, false_or, not_true_eq_false, not_false_eq_true, Nat.reduceLT, am_dS, am_dP, am_d1, Nat.reduceSub, Nat.reduceMul, ne_eq, Nat.reduceBEq, Nat.reduceAdd, Nat.reduceLeDiff, Nat.reduceEqDiff, and_self, and_false, false_and, if_true, if_false, am_nb, am_nb0, am_nb1, am_lc1, am_lc2, am_lc3, am_b0, am_b1, am_10, am_c8, am_c16, am_c24, am_c32, am_c40, am_c48, am_c56, am_c64, am_c72, Nat.add_zero, Bool.false_eq_true, Nat.zero_le, hk]
theorem wX5_init (hk : (am_k μ h).1 = 5) (ha : a < am_B) : am_Wp (d + 2) mX5_init 0 [.ref h, .ref 0, .ref a] [] μ K ↔ K none (am_sR (am_sR μ h 1 (some 0)) h 0 (some a)) := by
  have hB : 0 < am_B := by decide
  have e := wX4_init (d := d) (μ := am_sR μ h 1 (some 0)) (h := h) (a := 0) (K := fun r1 μ1 => am_nr r1 ∧ am_Wp (d + 2) mX5_init 10 [.ref h, .ref 0, .ref a] (r1.toList ++ []) μ1 K) (by show 3 ≤ (am_k μ h).1 ∧ (am_k μ h).1 < 7; omega) (by
    show am_R (am_sR μ h 1 (some 0)) h (am_N (am_k μ h).1 - 2) = some 0
    rw [hk, am_R_sR, if_pos ⟨rfl, rfl⟩])
  simp only [gX5_init_0, gX5_init_1, gX5_init_1n, gX5_init_2, gX5_init_5, gX5_init_6, gX5_init_6n, gX5_init_7, am_kill_int, am_kill_ref, am_kill_null, am_kill_F, am_kill_long, am_cat_n, am_cat_i, am_cat_r, am_cat_0, am_cat_l, am_nr_n, am_nr_i, am_nr_r, am_nr_0, am_nr_l, Option.toList_some, Option.toList_none, List.nil_append, List.cons_append, va_rf_s, va_rf_n, am_II, am_I_sR, am_I_sL, am_R_sI, am_RR, am_R_sL, am_L_sI, am_L_sR, am_LL, am_k_sI, am_k_sR, am_k_sL, am_n_sI, am_n_sR, am_n_sL, true_and, and_true, true_or, or_true, or_false, false_or, not_true_eq_false, not_false_eq_true, Nat.reduceLT, am_dS, am_dP, am_d1, Nat.reduceSub, Nat.reduceMul, ne_eq, Nat.reduceBEq, Nat.reduceAdd, Nat.reduceLeDiff, Nat.reduceEqDiff, and_self, and_false, false_and, if_true, if_false, am_nb, am_nb0, am_nb1, am_lc1, am_lc2, am_lc3, am_b0, am_b1, am_10, am_c8, am_c16, am_c24, am_c32, am_c40, am_c48, am_c56, am_c64, am_c72, Nat.add_zero, Bool.false_eq_true, Nat.zero_le, hk, hB]
  rw [e]
  simp only [gX5_init_10, gX5_init_11, gX5_init_11n, gX5_init_12, gX5_init_15, am_kill_int, am_kill_ref, am_kill_null, am_kill_F, am_kill_long, am_cat_n, am_cat_i, am_cat_r, am_cat_0, am_cat_l, am_nr_n, am_nr_i, am_nr_r, am_nr_0, am_nr_l, Option.toList_some, Option.toList_none, List.nil_append, List.cons_append, va_rf_s, va_rf_n, am_II, am_I_sR, am_I_sL, am_R_sI, am_RR, am_R_sL, am_L_sI, am_L_sR, am_LL, am_k_sI, am_k_sR, am_k_sL, am_n_sI, am_n_sR, am_n_sL, true_and, and_true, true_or, or_true, or_false, false_or, not_true_eq_false, not_false_eq_true, Nat.reduceLT, am_dS, am_dP, am_d1, Nat.reduceSub, Nat.reduceMul, ne_eq, Nat.reduceBEq, Nat.reduceAdd, Nat.reduceLeDiff, Nat.reduceEqDiff, and_self, and_false, false_and, if_true, if_false, am_nb, am_nb0, am_nb1, am_lc1, am_lc2, am_lc3, am_b0, am_b1, am_10, am_c8, am_c16, am_c24, am_c32, am_c40, am_c48, am_c56, am_c64, am_c72, Nat.add_zero, Bool.false_eq_true, Nat.zero_le, hk, ha]
theorem wX8_init {a' : Nat} (hk : (am_k μ h).1 = 6) (ha : a < am_B) (ha' : a' < am_B) (hx : narrow .char (.int x) = .int x ∧ fits .char (.int x) = true) : am_Wp (d + 2) mX8_init 0 [.ref h, .ref 0, .int x, .ref a, .ref a'] [] μ K ↔ K none (am_sR (am_sR (am_sI (am_sR μ h 3 (some 0)) h 0 x) h 1 (some a)) h 2 (some a')) := by
  have hB : 0 < am_B := by decide
  have e := wX4_init (d := d) (μ := am_sR μ h 3 (some 0)) (h := h) (a := 0) (K := fun r1 μ1 => am_nr r1 ∧ am_Wp (d + 2) mX8_init 10 [.ref h, .ref 0, .int x, .ref a, .ref a'] (r1.toList ++ []) μ1 K) (by show 3 ≤ (am_k μ h).1 ∧ (am_k μ h).1 < 7; omega) (by
    show am_R (am_sR μ h 3 (some 0)) h (am_N (am_k μ h).1 - 2) = some 0
    rw [hk, am_R_sR, if_pos ⟨rfl, rfl⟩])
  simp only [gX8_init_0, gX8_init_1, gX8_init_1n, gX8_init_2, gX8_init_5, gX8_init_6, gX8_init_6n, gX8_init_7, am_kill_int, am_kill_ref, am_kill_null, am_kill_F, am_kill_long, am_cat_n, am_cat_i, am_cat_r, am_cat_0, am_cat_l, am_nr_n, am_nr_i, am_nr_r, am_nr_0, am_nr_l, Option.toList_some, Option.toList_none, List.nil_append, List.cons_append, va_rf_s, va_rf_n, am_II, am_I_sR, am_I_sL, am_R_sI, am_RR, am_R_sL, am_L_sI, am_L_sR, am_LL, am_k_sI, am_k_sR, am_k_sL, am_n_sI, am_n_sR, am_n_sL, true_and, and_true, true_or, or_true, or_false, false_or, not_true_eq_false, not_false_eq_true, Nat.reduceLT, am_dS, am_dP, am_d1, Nat.reduceSub, Nat.reduceMul, ne_eq, Nat.reduceBEq, Nat.reduceAdd, Nat.reduceLeDiff, Nat.reduceEqDiff, and_self, and_false, false_and, if_true, if_false, am_nb, am_nb0, am_nb1, am_lc1, am_lc2, am_lc3, am_b0, am_b1, am_10, am_c8, am_c16, am_c24, am_c32, am_c40, am_c48, am_c56, am_c64, am_c72, Nat.add_zero, Bool.false_eq_true, Nat.zero_le, hk, hB]
  rw [e]
  simp only [gX8_init_10, gX8_init_11, gX8_init_12, gX8_init_15, gX8_init_16, gX8_init_16n, gX8_init_17, gX8_init_20, gX8_init_21, gX8_init_21n, gX8_init_23, gX8_init_26, am_kill_int, am_kill_ref, am_kill_null, am_kill_F, am_kill_long, am_cat_n, am_cat_i, am_cat_r, am_cat_0, am_cat_l, am_nr_n, am_nr_i, am_nr_r, am_nr_0, am_nr_l, Option.toList_some, Option.toList_none, List.nil_append, List.cons_append, va_rf_s, va_rf_n, am_II, am_I_sR, am_I_sL, am_R_sI, am_RR, am_R_sL, am_L_sI, am_L_sR, am_LL, am_k_sI, am_k_sR, am_k_sL, am_n_sI, am_n_sR, am_n_sL, true_and, and_true, true_or, or_true, or_false, false_or, not_true_eq_false, not_false_eq_true, Nat.reduceLT, am_dS, am_dP, am_d1, Nat.reduceSub, Nat.reduceMul, ne_eq, Nat.reduceBEq, Nat.reduceAdd, Nat.reduceLeDiff, Nat.reduceEqDiff, and_self, and_false, false_and, if_true, if_false, am_nb, am_nb0, am_nb1, am_lc1, am_lc2, am_lc3, am_b0, am_b1, am_10, am_c8, am_c16, am_c24, am_c32, am_c40, am_c48, am_c56, am_c64, am_c72, Nat.add_zero, Bool.false_eq_true, Nat.zero_le, hk, ha, ha', hx]
end CPV
