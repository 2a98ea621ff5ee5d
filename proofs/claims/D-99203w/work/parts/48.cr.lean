/-! the component reads a rule, step by step -/
set_option maxRecDepth 100000
section CRV
variable {d : Nat} {μ ν ξ : am_M} {K : Option Value → am_M → Prop} {x y z c w : Int32} {h N j i k a a' a0 e n b q m dp s : Nat} {v : Int32} {ch : Nat → Int32} {f g : PF} {p : PR}
def okC (e : Nat) (K : Option Value → am_M → Prop) (μ : am_M) (a0 a : Nat) (p : PR) : Prop := match p with
  | .inl p => ∀ ν, AF μ ν (e - a) → am_I ν 0 7 = nI p → K (some .null) ν
  | .inr (f, b) => ∀ ν h, AF μ ν (b - a) → am_I ν 0 7 = nI b → am_I ν 0 9 = am_I μ 0 9 → Tr (b - a0) ν h f → K (some (.ref h)) ν
theorem okC_inl {p : Nat} : okC e K μ a0 a (.inl p) = ∀ ν, AF μ ν (e - a) → am_I ν 0 7 = nI p → K (some .null) ν := rfl
theorem okC_inr : okC e K μ a0 a (.inr (f, b)) = ∀ ν h, AF μ ν (b - a) → am_I ν 0 7 = nI b → am_I ν 0 9 = am_I μ 0 9 → Tr (b - a0) ν h f → K (some (.ref h)) ν := rfl
theorem okC.go (hK : okC e K μ a0 a p) (hA : AF μ ν (a' - a)) (h9 : am_I ν 0 9 = am_I μ 0 9) (haa : a ≤ a') (hae : a' ≤ e) (hg : okG a' p) : okC e K ν a0 a' p := by
  cases p with
  | inl p => exact fun ξ q1 q2 => hK ξ (hA.trans q1 (by omega)) q2
  | inr q =>
    have hg' : a' ≤ q.2 := hg
    exact fun ξ h q1 q2 q3 q4 => hK ξ h (hA.trans q1 (by omega)) q2 (q3.trans h9) q4
def spT (n e : Nat) (ch : Nat → Int32) : Prop := ∀ (d a dp : Nat) (μ : am_M) (K : Option Value → am_M → Prop), dp ≤ 4 → CR e a ch μ → am_I μ 0 9 = nI dp → 78 ≤ am_n μ ∧ am_n μ + (e - a) ≤ 400000 → ((e - a) + 4 * (4 - dp) + 1 ≤ n ∧ a ≤ e) → okC e K μ a a (pP ch n 3 a dp) → am_Wp (d + 2 * n + 8) mX1_readsThing 0 [.ref 0, am_F] [] μ K
def spR (m n e : Nat) (ch : Nat → Int32) : Prop := ∀ (d a dp : Nat) (μ : am_M) (K : Option Value → am_M → Prop), dp ≤ 4 → CR e a ch μ → am_I μ 0 9 = nI dp → 78 ≤ am_n μ ∧ am_n μ + (e - a) ≤ 400000 → ((e - a) + 4 * (4 - dp) + (3 - m) + 1 ≤ n ∧ a ≤ e) → okC e K μ a a (pP ch n m a dp) → am_Wp (d + 2 * n + 9) mX1_reads 0 [.ref 0, .int (nI m), am_F, am_F, am_F, am_F] [] μ K
theorem CR.val (hC : CR e a ch μ) (i : Nat) : ch i = -1 ∨ ∃ n : Nat, n < 256 ∧ ch i = nI n := by
  rcases Nat.lt_or_ge i e with q | q
  · exact Or.inr (hC.2.2.2.2.2.1 i q).2
  · exact Or.inl (hC.2.2.2.2.2.2 i q)
theorem CR.ne (hC : CR e a ch μ) : CR e a ch (am_sI μ 0 9 x) := by
  obtain ⟨hc, hs, ha, he, hb, h1, h2⟩ := hC
  exact ⟨hc, hs.sI (by decide), by rw [am_I_sI, if_neg (by omega)]; exact ha, by rw [am_I_sI, if_neg (by omega)]; exact he, hb, fun i hi => ⟨by rw [am_I_sI, if_neg (by omega)]; exact (h1 i hi).1, (h1 i hi).2⟩, h2⟩
theorem amL8 : ∀ n : Fin 256, decide (amF 3 (nI n.val) < 0) = !isLt (nI n.val) := by decide +kernel
theorem amO8 : ∀ m : Fin 3, ∀ n : Fin 256, decide (amF (4 + m.val) (nI n.val) < 0) = !isOp m.val (nI n.val) := by decide +kernel
theorem amL3m : decide (amF 3 (-1) < 0) = !isLt (-1) := by decide
theorem amOm : ∀ m : Fin 3, decide (amF (4 + m.val) (-1) < 0) = !isOp m.val (-1) := by decide
theorem CR.amL (hC : CR e a ch μ) (i : Nat) : (amF 3 (ch i) < 0) = ¬ (isLt (ch i) = true) := by
  have : decide (amF 3 (ch i) < 0) = !isLt (ch i) := by
    rcases hC.val i with q | ⟨n, hn, q⟩
    · rw [q]; exact amL3m
    · rw [q]; exact amL8 ⟨n, hn⟩
  rw [Bool.not_eq_true, ← Bool.not_eq_true', ← this, decide_eq_true_eq]
theorem CR.amO (hC : CR e a ch μ) (i : Nat) (hm : m < 3) : (amF (4 + m) (ch i) < 0) = ¬ (isOp m (ch i) = true) := by
  have : decide (amF (4 + m) (ch i) < 0) = !isOp m (ch i) := by
    rcases hC.val i with q | ⟨n, hn, q⟩
    · rw [q]; exact amOm ⟨m, hm⟩
    · rw [q]; exact amO8 ⟨m, hm⟩ ⟨n, hn⟩
  rw [Bool.not_eq_true, ← Bool.not_eq_true', ← this, decide_eq_true_eq]
theorem wX1_among3 (hC : CR e a ch μ) : am_Wp (d + 5) mX1_among 0 [.ref 0, .ref 1000006] [] μ K ↔ K (some (.int (amF 3 (ch a)))) μ := wX1_among hC (i := 3) (by decide)
theorem thingC (HH : spR 0 n e ch) (TT : spT n e ch) : spT (n + 1) e ch := by
  intro d a dp μ K hdp hC h9 hN hn hK
  have hcu := hC.1
  simp only [cL, spL, Nat.reduceAdd] at hcu
  have ha := hC.2.2.1
  have hd : d + 2 * (n + 1) + 8 = d + 2 * n + 9 + 1 := by omega
  have hd2 : d + 2 * n + 9 = d + 1 + 2 * n + 8 := by omega
  have he80 := hC.2.2.2.2.1.1
  have hch : ∀ i, 0 ≤ ch i → i < e := fun i q => hC.lt q
  have k45 : (0 : Int32) ≤ 45 := by decide
  have k40 : (0 : Int32) ≤ 40 := by decide
  have k41 : (0 : Int32) ≤ 41 := by decide
  rw [hd]
  simp only [pP, if_true, pT] at hK
  by_cases c1 : ch a = 45
  · have hlt := hch a (by rw [c1]; decide)
    simp only [c1, if_true] at hK
    have hC2 := hC.go (k := a + 1) (by omega)
    have hA1 : AF μ (am_sI μ 0 7 (nI (a + 1))) (a + 1 - (a + 1)) := AF.refl.at (by omega)
    rw [gX1_readsThing_0]
    simp only [gX1_readsThing_1, gX1_readsThing_3, gX1_readsThing_6, gX1_readsThing_9, gX1_readsThing_10, am_kill_int, am_kill_ref, am_kill_null, am_kill_F, am_kill_long, am_cat_n, am_cat_i, am_cat_r, am_cat_0, am_cat_l, am_nr_n, am_nr_i, am_nr_r, am_nr_0, am_nr_l, Option.toList_some, Option.toList_none, List.nil_append, List.cons_append, va_rf_s, va_rf_n, am_II, am_I_sR, am_I_sL, am_R_sI, am_RR, am_R_sL, am_L_sI, am_L_sR, am_LL, am_k_sI, am_k_sR, am_k_sL, am_n_sI, am_n_sR, am_n_sL, true_and, and_true, true_or, or_true, or_false, false_or, not_true_eq_false, not_false_eq_true, Nat.reduceLT, am_dS, am_dP, am_d1, Nat.reduceSub, Nat.reduceMul, ne_eq, Nat.reduceBEq, Nat.reduceAdd, Nat.reduceLeDiff, Nat.reduceEqDiff, and_self, and_false, false_and, if_true, if_false, am_nb, am_nb0, am_nb1, am_lc1, am_lc2, am_lc3, am_b0, am_b1, am_10, am_c8, am_c16, am_c24, am_c32, am_c40, am_c48, am_c56, am_c64, am_c72, Nat.add_zero, Bool.false_eq_true, Nat.zero_le, wX1_takes hC k45, hcu, c1]
    have TT1 := TT (d + 1) (a + 1) dp
    rw [← hd2] at TT1
    refine TT1 _ _ hdp hC2 h9 ⟨hN.1, by show am_n μ + _ ≤ _; omega⟩ (by omega) ?_
    cases hp : pP ch n 3 (a + 1) dp with
    | inl p =>
      rw [hp] at hK
      rw [okC_inl] at hK ⊢
      intro ν q1 q2
      simp only [gX1_readsThing_13, gX1_readsThing_13n, gX1_readsThing_14, gX1_readsThing_14n, gX1_readsThing_15, gX1_readsThing_15n, gX1_readsThing_18, gX1_readsThing_19, gX1_readsThing_22, gX1_readsThing_25, gX1_readsThing_26, gX1_readsThing_27, gX1_readsThing_27n, gX1_readsThing_28, gX1_readsThing_31, gX1_readsThing_31n, am_kill_int, am_kill_ref, am_kill_null, am_kill_F, am_kill_long, am_cat_n, am_cat_i, am_cat_r, am_cat_0, am_cat_l, am_nr_n, am_nr_i, am_nr_r, am_nr_0, am_nr_l, Option.toList_some, Option.toList_none, List.nil_append, List.cons_append, va_rf_s, va_rf_n, am_I_sR, am_I_sL, am_R_sI, am_R_sL, am_L_sI, am_L_sR, am_k_sI, am_k_sR, am_k_sL, am_n_sI, am_n_sR, am_n_sL, true_and, and_true, true_or, or_true, or_false, false_or, not_true_eq_false, not_false_eq_true, Nat.reduceLT, am_dS, am_dP, am_d1, Nat.reduceSub, Nat.reduceMul, ne_eq, Nat.reduceBEq, Nat.reduceAdd, Nat.reduceLeDiff, Nat.reduceEqDiff, and_self, and_false, false_and, if_true, if_false, am_nb, am_nb0, am_nb1, am_lc1, am_lc2, am_lc3, am_b0, am_b1, am_10, am_c8, am_c16, am_c24, am_c32, am_c40, am_c48, am_c56, am_c64, am_c72, Nat.add_zero, Bool.false_eq_true, Nat.zero_le]
      exact hK ν (hA1.trans q1 (by omega)) q2
    | inr r =>
      have hle := pP_le hch n 3 (a + 1) dp (by omega)
      have hge := pP_ge (ch := ch) n 3 (a + 1) dp
      rw [hp] at hK hle hge
      have hle' : r.2 ≤ e := hle
      have hge' : a + 1 ≤ r.2 := hge
      rw [show r = (r.1, r.2) from rfl, okC_inr]
      rw [show r = (r.1, r.2) from rfl] at hK
      simp only [okC_inr] at hK
      intro ν h q1 q2 q3 q4
      have q5 := hA1.trans q1 (q := r.2 - (a + 1)) (by omega)
      have hnν : am_n ν < 400000 := by have := q5.2.2.2.2.1.2; omega
      have hB : am_n ν < am_B := Nat.lt_of_lt_of_le hnν (by decide)
      have hk5 : (am_k (am_new ν (5, 0) 3) (am_n ν)).1 = 5 := by rw [am_k_new, if_pos rfl]
      have hh : h < am_n ν := by
        cases hr : r.2 - (a + 1) with
        | zero => rw [hr] at q4; exact q4.elim
        | succ k => rw [hr] at q4; exact q4.1.2
      have hge2 := q5.2.2.2.2.1.1
      have hhB : h < am_B := Nat.lt_trans hh hB
      simp only [gX1_readsThing_13, gX1_readsThing_13n, gX1_readsThing_14, gX1_readsThing_14n, gX1_readsThing_15, gX1_readsThing_15n, gX1_readsThing_18, gX1_readsThing_19, gX1_readsThing_22, gX1_readsThing_25, gX1_readsThing_26, gX1_readsThing_27, gX1_readsThing_27n, gX1_readsThing_28, am_kill_int, am_kill_ref, am_kill_null, am_kill_F, am_kill_long, am_cat_n, am_cat_i, am_cat_r, am_cat_0, am_cat_l, am_nr_n, am_nr_i, am_nr_r, am_nr_0, am_nr_l, Option.toList_some, Option.toList_none, List.nil_append, List.cons_append, va_rf_s, va_rf_n, am_I_sR, am_I_sL, am_R_sI, am_R_sL, am_L_sI, am_L_sR, am_k_sI, am_k_sR, am_k_sL, am_n_sI, am_n_sR, am_n_sL, true_and, and_true, true_or, or_true, or_false, false_or, not_true_eq_false, not_false_eq_true, Nat.reduceLT, am_dS, am_dP, am_d1, Nat.reduceSub, Nat.reduceMul, ne_eq, Nat.reduceBEq, Nat.reduceAdd, Nat.reduceLeDiff, Nat.reduceEqDiff, and_self, and_false, false_and, if_true, if_false, am_nb, am_nb0, am_nb1, am_lc1, am_lc2, am_lc3, am_b0, am_b1, am_10, am_c8, am_c16, am_c24, am_c32, am_c40, am_c48, am_c56, am_c64, am_c72, Nat.add_zero, Bool.false_eq_true, Nat.zero_le, hnν, wX5_init (d := d + 2 * n + 7) hk5 hhB]
      simp only [gX1_readsThing_31, gX1_readsThing_31n, am_kill_int, am_kill_ref, am_kill_null, am_kill_F, am_kill_long, am_cat_n, am_cat_i, am_cat_r, am_cat_0, am_cat_l, am_nr_n, am_nr_i, am_nr_r, am_nr_0, am_nr_l, Option.toList_some, Option.toList_none, List.nil_append, List.cons_append, va_rf_s, va_rf_n, am_I_sR, am_I_sL, am_R_sI, am_R_sL, am_L_sI, am_L_sR, am_k_sI, am_k_sR, am_k_sL, am_n_sI, am_n_sR, am_n_sL, true_and, and_true, true_or, or_true, or_false, false_or, not_true_eq_false, not_false_eq_true, Nat.reduceLT, am_dS, am_dP, am_d1, Nat.reduceSub, Nat.reduceMul, ne_eq, Nat.reduceBEq, Nat.reduceAdd, Nat.reduceLeDiff, Nat.reduceEqDiff, and_self, and_false, false_and, if_true, if_false, am_nb, am_nb0, am_nb1, am_lc1, am_lc2, am_lc3, am_b0, am_b1, am_10, am_c8, am_c16, am_c24, am_c32, am_c40, am_c48, am_c56, am_c64, am_c72, Nat.add_zero, Bool.false_eq_true, Nat.zero_le]
      have hA : AF ν (am_sR (am_sR (am_new ν (5, 0) 3) (am_n ν) 1 (some 0)) (am_n ν) 0 (some h)) 1 := ((AF.refl (q := 0)).new (by decide) hB |>.sR (Nat.le_refl _) hB).sR (Nat.le_refl _) hB
      refine hK _ _ (q5.trans hA (by omega)) ?_ ?_ ?_
      · rw [am_I_sR, am_I_sR, am_I_new, if_neg (by omega)]; exact q2
      · rw [am_I_sR, am_I_sR, am_I_new, if_neg (by omega)]; exact q3
      · have e1 : r.2 - a = (r.2 - (a + 1)) + 1 := by omega
        rw [e1]
        refine ⟨⟨by omega, Nat.lt_succ_self _⟩, Or.inr (Or.inr (Or.inl ⟨hk5, h, r.1, ?_, q4.mono (hA.node (by omega)), rfl⟩))⟩
        rw [am_R_sR, if_pos ⟨rfl, rfl⟩]
  · simp only [c1, if_false] at hK
    rw [gX1_readsThing_0]
    by_cases c2 : dgB (ch a) = true
    · have hlt := hch a (dgB_0 c2)
      simp only [c2, if_true] at hK
      rw [okC_inr] at hK
      have hnμ : am_n μ < 400000 := by omega
      have hB : am_n μ < am_B := Nat.lt_of_lt_of_le hnμ (by decide)
      have hA1 : AF μ (am_new μ (3, 0) 3) 1 := (AF.refl (q := 0)).new (by decide) hB
      have h7' : am_I (am_new μ (3, 0) 3) 0 7 = nI a := by rw [am_I_new, if_neg (by omega)]; exact ha
      have hC1 := hA1.cr hC hN.1 h7' (by omega)
      have e3 : (3 : Int32) = nI 3 := by decide
      have enu : nuF ch 3 a 0 = nuF ch 2 (a + 1) (ch a - 48) := by
        rw [show nuF ch 3 a 0 = if dgB (ch a) = true then nuF ch 2 (a + 1) (10 * 0 + (ch a - 48)) else (0, a) from rfl, if_pos c2, Int32.mul_zero, Int32.zero_add]
      have hz : ¬ 0 = am_n μ := by omega
      have hk0 : am_k (am_new μ (3, 0) 3) 0 = am_k μ 0 := by rw [am_k_new, if_neg hz]
      have hk3 : (am_k (am_sI (am_new μ (3, 0) 3) 0 7 (nI (nuF ch 3 a 0).2)) (am_n μ)).1 = 3 := by rw [am_k_sI, am_k_new, if_pos rfl]
      have hgn := nuF_ge (ch := ch) 2 (a + 1) (ch a - 48)
      have wn : ∀ (K' : Option Value → am_M → Prop), K' (some (.int (nuF ch 3 a 0).1)) (am_sI (am_new μ (3, 0) 3) 0 7 (nI (nuF ch 3 a 0).2)) → am_Wp (d + 2 * n + 9) mX1_number 0 [.ref 0, .int 3, am_F, am_F] [] (am_new μ (3, 0) 3) K' := fun K' hK' => by
        have := (wX1_number (d := d + 2 * n + 7) (K := K') (D := 3) (by decide) hC1).mpr (by rw [if_pos c2]; exact hK')
        exact this
      simp only [gX1_readsThing_1, gX1_readsThing_3, gX1_readsThing_6, gX1_readsThing_9, gX1_readsThing_10, gX1_readsThing_13, gX1_readsThing_13n, gX1_readsThing_14, gX1_readsThing_14n, gX1_readsThing_15, gX1_readsThing_15n, gX1_readsThing_18, gX1_readsThing_19, gX1_readsThing_22, gX1_readsThing_25, gX1_readsThing_26, gX1_readsThing_27, gX1_readsThing_27n, gX1_readsThing_28, gX1_readsThing_31, gX1_readsThing_31n, gX1_readsThing_32, gX1_readsThing_33, gX1_readsThing_36, gX1_readsThing_39, gX1_readsThing_42, gX1_readsThing_43, gX1_readsThing_44, gX1_readsThing_45, gX1_readsThing_46, am_kill_int, am_kill_ref, am_kill_null, am_kill_F, am_kill_long, am_cat_n, am_cat_i, am_cat_r, am_cat_0, am_cat_l, am_nr_n, am_nr_i, am_nr_r, am_nr_0, am_nr_l, Option.toList_some, Option.toList_none, List.nil_append, List.cons_append, va_rf_s, va_rf_n, am_I_sR, am_I_sL, am_R_sI, am_R_sL, am_L_sI, am_L_sR, am_k_sI, am_k_sR, am_k_sL, am_n_sI, am_n_sR, am_n_sL, true_and, and_true, true_or, or_true, or_false, false_or, not_true_eq_false, not_false_eq_true, Nat.reduceLT, am_dS, am_dP, am_d1, Nat.reduceSub, Nat.reduceMul, ne_eq, Nat.reduceBEq, Nat.reduceAdd, Nat.reduceLeDiff, Nat.reduceEqDiff, and_self, and_false, false_and, if_true, if_false, am_nb, am_nb0, am_nb1, am_lc1, am_lc2, am_lc3, am_b0, am_b1, am_10, am_c8, am_c16, am_c24, am_c32, am_c40, am_c48, am_c56, am_c64, am_c72, Nat.add_zero, Bool.false_eq_true, Nat.zero_le, wX1_takes hC k45, wX1_isDigit hC, hcu, c1, c2, hnμ, hk0]
      refine wn _ ?_
      simp only [gX1_readsThing_49, am_kill_int, am_kill_ref, am_kill_null, am_kill_F, am_kill_long, am_cat_n, am_cat_i, am_cat_r, am_cat_0, am_cat_l, am_nr_n, am_nr_i, am_nr_r, am_nr_0, am_nr_l, Option.toList_some, Option.toList_none, List.nil_append, List.cons_append, va_rf_s, va_rf_n, am_I_sR, am_I_sL, am_R_sI, am_R_sL, am_L_sI, am_L_sR, am_k_sI, am_k_sR, am_k_sL, am_n_sI, am_n_sR, am_n_sL, true_and, and_true, true_or, or_true, or_false, false_or, not_true_eq_false, not_false_eq_true, Nat.reduceLT, am_dS, am_dP, am_d1, Nat.reduceSub, Nat.reduceMul, ne_eq, Nat.reduceBEq, Nat.reduceAdd, Nat.reduceLeDiff, Nat.reduceEqDiff, and_self, and_false, false_and, if_true, if_false, am_nb, am_nb0, am_nb1, am_lc1, am_lc2, am_lc3, am_b0, am_b1, am_10, am_c8, am_c16, am_c24, am_c32, am_c40, am_c48, am_c56, am_c64, am_c72, Nat.add_zero, Bool.false_eq_true, Nat.zero_le, wX6_init (d := d + 2 * n + 7) hk3]
      simp only [gX1_readsThing_52, gX1_readsThing_52n, am_kill_int, am_kill_ref, am_kill_null, am_kill_F, am_kill_long, am_cat_n, am_cat_i, am_cat_r, am_cat_0, am_cat_l, am_nr_n, am_nr_i, am_nr_r, am_nr_0, am_nr_l, Option.toList_some, Option.toList_none, List.nil_append, List.cons_append, va_rf_s, va_rf_n, am_I_sR, am_I_sL, am_R_sI, am_R_sL, am_L_sI, am_L_sR, am_k_sI, am_k_sR, am_k_sL, am_n_sI, am_n_sR, am_n_sL, true_and, and_true, true_or, or_true, or_false, false_or, not_true_eq_false, not_false_eq_true, Nat.reduceLT, am_dS, am_dP, am_d1, Nat.reduceSub, Nat.reduceMul, ne_eq, Nat.reduceBEq, Nat.reduceAdd, Nat.reduceLeDiff, Nat.reduceEqDiff, and_self, and_false, false_and, if_true, if_false, am_nb, am_nb0, am_nb1, am_lc1, am_lc2, am_lc3, am_b0, am_b1, am_10, am_c8, am_c16, am_c24, am_c32, am_c40, am_c48, am_c56, am_c64, am_c72, Nat.add_zero, Bool.false_eq_true, Nat.zero_le]
      refine hK _ _ (((((AF.refl (q := 0)).new (by decide) hB).at (by omega)).sR (Nat.le_refl _) hB |>.sI (Nat.le_refl _) hB).trans (AF.refl (q := 0)) (by omega)) ?_ ?_ ?_
      · rw [am_I_sI, if_neg (by omega), am_I_sR, am_I_sI, if_pos ⟨rfl, rfl⟩, enu]
      · rw [am_I_sI, if_neg (by omega), am_I_sR, am_I_sI, if_neg (by omega), am_I_new, if_neg hz]
      · refine Tr.le (n := 1) (by omega) ⟨⟨hN.1, Nat.lt_succ_self _⟩, Or.inl ⟨hk3, ?_⟩⟩
        rw [am_I_sI, if_pos ⟨rfl, rfl⟩, enu]
    · have c2' : dgB (ch a) = false := eq_false_of_ne_true c2
      simp only [c2', Bool.false_eq_true, if_false] at hK
      by_cases c3 : isLt (ch a) = true
      · have hlt := hch a (by unfold isLt at c3; rcases of_decide_eq_true c3 with q | q | q | q | q | q | q | q <;> rw [q] <;> decide)
        simp only [c3, if_true] at hK
        rw [okC_inr] at hK
        have hnμ : am_n μ < 400000 := by omega
        have hB : am_n μ < am_B := Nat.lt_of_lt_of_le hnμ (by decide)
        have hz : ¬ 0 = am_n μ := by omega
        have hz23 : ¬ 23 = am_n μ := by omega
        have hl : ¬ amF 3 (ch a) < 0 := by rw [hC.amL a]; exact fun q => q c3
        have hin : vp_in (nI a) 80 := vp_in_nI (by omega) (by omega)
        have hcl : (nI a).toNatClampNeg = a := nI_clamp (by omega)
        have ht := (hC.2.2.2.2.2.1 a hlt).1
        have hnM : am_n (am_sI μ 0 7 (nI (a + 1))) = am_n μ := rfl
        have hk4 : (am_k (am_new (am_sI μ 0 7 (nI (a + 1))) (4, 0) 3) (am_n μ)).1 = 4 := by simp only [am_k_new, am_n_sI, if_true]
        simp only [gX1_readsThing_1, gX1_readsThing_3, gX1_readsThing_6, gX1_readsThing_9, gX1_readsThing_10, gX1_readsThing_13, gX1_readsThing_13n, gX1_readsThing_14, gX1_readsThing_14n, gX1_readsThing_15, gX1_readsThing_15n, gX1_readsThing_18, gX1_readsThing_19, gX1_readsThing_22, gX1_readsThing_25, gX1_readsThing_26, gX1_readsThing_27, gX1_readsThing_27n, gX1_readsThing_28, gX1_readsThing_31, gX1_readsThing_31n, gX1_readsThing_32, gX1_readsThing_33, gX1_readsThing_36, gX1_readsThing_39, gX1_readsThing_42, gX1_readsThing_43, gX1_readsThing_44, gX1_readsThing_45, gX1_readsThing_46, gX1_readsThing_49, gX1_readsThing_52, gX1_readsThing_52n, gX1_readsThing_53, gX1_readsThing_54, gX1_readsThing_56, gX1_readsThing_59, gX1_readsThing_62, gX1_readsThing_63, gX1_readsThing_64, gX1_readsThing_67, gX1_readsThing_68, gX1_readsThing_69, gX1_readsThing_72, gX1_readsThing_75, gX1_readsThing_76, gX1_readsThing_77, gX1_readsThing_78, gX1_readsThing_81, gX1_readsThing_82, gX1_readsThing_85, gX1_readsThing_86, gX1_readsThing_87, gX1_readsThing_88, am_kill_int, am_kill_ref, am_kill_null, am_kill_F, am_kill_long, am_cat_n, am_cat_i, am_cat_r, am_cat_0, am_cat_l, am_nr_n, am_nr_i, am_nr_r, am_nr_0, am_nr_l, Option.toList_some, Option.toList_none, List.nil_append, List.cons_append, va_rf_s, va_rf_n, am_I_sR, am_I_sL, am_R_sI, am_R_sL, am_L_sI, am_L_sR, am_k_sI, am_k_sR, am_k_sL, am_n_sI, am_n_sR, am_n_sL, true_and, and_true, true_or, or_true, or_false, false_or, not_true_eq_false, not_false_eq_true, Nat.reduceLT, am_dS, am_dP, am_d1, Nat.reduceSub, Nat.reduceMul, ne_eq, Nat.reduceBEq, Nat.reduceAdd, Nat.reduceLeDiff, Nat.reduceEqDiff, and_self, and_false, false_and, if_true, if_false, am_nb, am_nb0, am_nb1, am_lc1, am_lc2, am_lc3, am_b0, am_b1, am_10, am_c8, am_c16, am_c24, am_c32, am_c40, am_c48, am_c56, am_c64, am_c72, Nat.add_zero, Bool.false_eq_true, Nat.zero_le, am_II, wX1_takes hC k45, wX1_isDigit hC, wX1_among3 hC, hcu, c1, c2', hl, ha, nI_1, nI_pred, hnM, hnμ, am_I_new, am_R_new, am_k_new, hz, hz23, hin, hcl, ht]
        simp only [wX7_init (d := d + 2 * n + 7) hk4, am_nr_n, Option.toList_none, List.nil_append, true_and]
        simp only [gX1_readsThing_91, gX1_readsThing_91n]
        refine hK _ _ (((((AF.refl (q := 0)).at (by omega)).new (by decide) hB).sR (Nat.le_refl _) hB |>.sI (Nat.le_refl _) hB).trans (AF.refl (q := 0)) (by omega)) ?_ ?_ ?_
        · rw [am_I_sI, if_neg (by omega), am_I_sR, am_I_new, am_n_sI, if_neg hz, am_I_sI, if_pos ⟨rfl, rfl⟩]
        · rw [am_I_sI, if_neg (by omega), am_I_sR, am_I_new, am_n_sI, if_neg hz, am_I_sI, if_neg (by omega)]
        · refine Tr.le (n := 1) (by omega) ⟨⟨hN.1, Nat.lt_succ_self _⟩, Or.inr (Or.inl ⟨hk4, ?_, ?_⟩)⟩
          · rw [am_R_sI, am_R_sR, if_pos ⟨rfl, rfl⟩]
          · rw [am_I_sI, if_pos ⟨rfl, rfl⟩]
      · have c3' : isLt (ch a) = false := eq_false_of_ne_true c3
        have hl : amF 3 (ch a) < 0 := by rw [hC.amL a]; exact c3
        simp only [c3', Bool.false_eq_true, if_false] at hK
        have e4 : (4 : Int32) = nI 4 := by decide
        have e4' : (nI dp = nI 4) = (dp = 4) := propext ⟨fun q => by
          have h1 := nI_clamp (n := dp) (by omega)
          rw [q, nI_clamp (by omega)] at h1
          exact h1.symm, fun q => by rw [q]⟩
        by_cases c4 : ch a = 40 ∧ dp < 4
        · have hlt := hch a (by rw [c4.1]; decide)
          rw [if_pos c4] at hK
          have hdp4 : ¬ dp = 4 := by omega
          have hC2 := (hC.go (k := a + 1) (by omega)).ne (x := nI (dp + 1))
          have hA1 : AF μ (am_sI (am_sI μ 0 7 (nI (a + 1))) 0 9 (nI (dp + 1))) (a + 1 - (a + 1)) := (AF.refl.at (by omega)).ne
          simp only [gX1_readsThing_1, gX1_readsThing_3, gX1_readsThing_6, gX1_readsThing_9, gX1_readsThing_10, gX1_readsThing_13, gX1_readsThing_13n, gX1_readsThing_14, gX1_readsThing_14n, gX1_readsThing_15, gX1_readsThing_15n, gX1_readsThing_18, gX1_readsThing_19, gX1_readsThing_22, gX1_readsThing_25, gX1_readsThing_26, gX1_readsThing_27, gX1_readsThing_27n, gX1_readsThing_28, gX1_readsThing_31, gX1_readsThing_31n, gX1_readsThing_32, gX1_readsThing_33, gX1_readsThing_36, gX1_readsThing_39, gX1_readsThing_42, gX1_readsThing_43, gX1_readsThing_44, gX1_readsThing_45, gX1_readsThing_46, gX1_readsThing_49, gX1_readsThing_52, gX1_readsThing_52n, gX1_readsThing_53, gX1_readsThing_54, gX1_readsThing_56, gX1_readsThing_59, gX1_readsThing_62, gX1_readsThing_63, gX1_readsThing_64, gX1_readsThing_67, gX1_readsThing_68, gX1_readsThing_69, gX1_readsThing_72, gX1_readsThing_75, gX1_readsThing_76, gX1_readsThing_77, gX1_readsThing_78, gX1_readsThing_81, gX1_readsThing_82, gX1_readsThing_85, gX1_readsThing_86, gX1_readsThing_87, gX1_readsThing_88, gX1_readsThing_91, gX1_readsThing_91n, gX1_readsThing_92, gX1_readsThing_93, gX1_readsThing_95, gX1_readsThing_98, gX1_readsThing_101, gX1_readsThing_102, gX1_readsThing_105, gX1_readsThing_106, gX1_readsThing_109, gX1_readsThing_110, gX1_readsThing_110n, gX1_readsThing_111, gX1_readsThing_112, gX1_readsThing_113, gX1_readsThing_116, gX1_readsThing_117, gX1_readsThing_118, gX1_readsThing_121, gX1_readsThing_122, gX1_readsThing_123, gX1_readsThing_126, gX1_readsThing_127, gX1_readsThing_128, gX1_readsThing_131, gX1_readsThing_132, gX1_readsThing_133, am_kill_int, am_kill_ref, am_kill_null, am_kill_F, am_kill_long, am_cat_n, am_cat_i, am_cat_r, am_cat_0, am_cat_l, am_nr_n, am_nr_i, am_nr_r, am_nr_0, am_nr_l, Option.toList_some, Option.toList_none, List.nil_append, List.cons_append, va_rf_s, va_rf_n, am_I_sR, am_I_sL, am_R_sI, am_R_sL, am_L_sI, am_L_sR, am_k_sI, am_k_sR, am_k_sL, am_n_sI, am_n_sR, am_n_sL, true_and, and_true, true_or, or_true, or_false, false_or, not_true_eq_false, not_false_eq_true, Nat.reduceLT, am_dS, am_dP, am_d1, Nat.reduceSub, Nat.reduceMul, ne_eq, Nat.reduceBEq, Nat.reduceAdd, Nat.reduceLeDiff, Nat.reduceEqDiff, and_self, and_false, false_and, if_true, if_false, am_nb, am_nb0, am_nb1, am_lc1, am_lc2, am_lc3, am_b0, am_b1, am_10, am_c8, am_c16, am_c24, am_c32, am_c40, am_c48, am_c56, am_c64, am_c72, Nat.add_zero, Bool.false_eq_true, Nat.zero_le, am_II, wX1_takes hC k45, wX1_isDigit hC, wX1_among3 hC, wX1_isAt hC k40, hcu, c1, c2', hl, c4.1, ha, h9, e4, e4', hdp4, nI_1]
          rw [← nI_0]
          refine HH d (a + 1) (dp + 1) _ _ (by omega) hC2 (by rw [am_I_sI, if_pos ⟨rfl, rfl⟩]) ⟨hN.1, by show am_n μ + _ ≤ _; omega⟩ (by omega) ?_
          cases hp : pP ch n 0 (a + 1) (dp + 1) with
          | inl p =>
            rw [hp] at hK
            simp only [okC_inl] at hK
            rw [okC_inl]
            intro ν q1 q2
            simp only [gX1_readsThing_136, gX1_readsThing_136n, gX1_readsThing_137, gX1_readsThing_137n, gX1_readsThing_138, gX1_readsThing_138n, gX1_readsThing_141, gX1_readsThing_142, gX1_readsThing_144, gX1_readsThing_147, gX1_readsThing_150, gX1_readsThing_151, gX1_readsThing_151n, am_kill_int, am_kill_ref, am_kill_null, am_kill_F, am_kill_long, am_cat_n, am_cat_i, am_cat_r, am_cat_0, am_cat_l, am_nr_n, am_nr_i, am_nr_r, am_nr_0, am_nr_l, Option.toList_some, Option.toList_none, List.nil_append, List.cons_append, va_rf_s, va_rf_n, am_I_sR, am_I_sL, am_R_sI, am_R_sL, am_L_sI, am_L_sR, am_k_sI, am_k_sR, am_k_sL, am_n_sI, am_n_sR, am_n_sL, true_and, and_true, true_or, or_true, or_false, false_or, not_true_eq_false, not_false_eq_true, Nat.reduceLT, am_dS, am_dP, am_d1, Nat.reduceSub, Nat.reduceMul, ne_eq, Nat.reduceBEq, Nat.reduceAdd, Nat.reduceLeDiff, Nat.reduceEqDiff, and_self, and_false, false_and, if_true, if_false, am_nb, am_nb0, am_nb1, am_lc1, am_lc2, am_lc3, am_b0, am_b1, am_10, am_c8, am_c16, am_c24, am_c32, am_c40, am_c48, am_c56, am_c64, am_c72, Nat.add_zero, Bool.false_eq_true, Nat.zero_le]
            exact hK ν (hA1.trans q1 (by omega)) q2
          | inr r =>
            have hle := pP_le hch n 0 (a + 1) (dp + 1) (by omega)
            have hge := pP_ge (ch := ch) n 0 (a + 1) (dp + 1)
            rw [hp] at hK hle hge
            have hle' : r.2 ≤ e := hle
            have hge' : a + 1 ≤ r.2 := hge
            rw [show r = (r.1, r.2) from rfl, okC_inr]
            rw [show r = (r.1, r.2) from rfl] at hK
            simp only at hK
            intro ν h q1 q2 q3 q4
            have q5 := hA1.trans q1 (q := r.2 - (a + 1)) (by omega)
            have hCν := q5.cr hC hN.1 q2 (by omega)
            have hcν := hCν.1.c
            have hge2 := q5.2.2.2.2.1.1
            rw [am_I_sI, if_pos ⟨rfl, rfl⟩] at q3
            by_cases c5 : ch r.2 = 41
            · rw [if_pos c5, okC_inr] at hK
              have hlt2 := hch r.2 (by rw [c5]; decide)
              simp only [gX1_readsThing_136, gX1_readsThing_136n, gX1_readsThing_137, gX1_readsThing_137n, gX1_readsThing_138, gX1_readsThing_138n, gX1_readsThing_141, gX1_readsThing_142, gX1_readsThing_144, gX1_readsThing_147, gX1_readsThing_150, gX1_readsThing_151, gX1_readsThing_151n, gX1_readsThing_152, gX1_readsThing_153, gX1_readsThing_154, gX1_readsThing_157, gX1_readsThing_158, gX1_readsThing_159, gX1_readsThing_162, gX1_readsThing_162n, gX1_readsThing_163, gX1_readsThing_163n, am_kill_int, am_kill_ref, am_kill_null, am_kill_F, am_kill_long, am_cat_n, am_cat_i, am_cat_r, am_cat_0, am_cat_l, am_nr_n, am_nr_i, am_nr_r, am_nr_0, am_nr_l, Option.toList_some, Option.toList_none, List.nil_append, List.cons_append, va_rf_s, va_rf_n, am_I_sR, am_I_sL, am_R_sI, am_R_sL, am_L_sI, am_L_sR, am_k_sI, am_k_sR, am_k_sL, am_n_sI, am_n_sR, am_n_sL, true_and, and_true, true_or, or_true, or_false, false_or, not_true_eq_false, not_false_eq_true, Nat.reduceLT, am_dS, am_dP, am_d1, Nat.reduceSub, Nat.reduceMul, ne_eq, Nat.reduceBEq, Nat.reduceAdd, Nat.reduceLeDiff, Nat.reduceEqDiff, and_self, and_false, false_and, if_true, if_false, am_nb, am_nb0, am_nb1, am_lc1, am_lc2, am_lc3, am_b0, am_b1, am_10, am_c8, am_c16, am_c24, am_c32, am_c40, am_c48, am_c56, am_c64, am_c72, Nat.add_zero, Bool.false_eq_true, Nat.zero_le, am_II, hcν, wX1_takes hCν k41, c5, q3, nI_pred]
              refine hK _ _ ((q5.at (by omega)).ne.trans (AF.refl (q := 0)) (by omega)) ?_ ?_ ?_
              · rw [am_I_sI, if_neg (by omega), am_I_sI, if_pos ⟨rfl, rfl⟩]
              · rw [am_I_sI, if_pos ⟨rfl, rfl⟩]; exact h9.symm
              · have hA2 : AF ν (am_sI (am_sI ν 0 7 (nI (r.2 + 1))) 0 9 (nI dp)) 0 := (AF.refl.at (by omega)).ne
                exact (q4.mono (hA2.node (by omega))).le (by omega)
            · rw [if_neg c5, okC_inl] at hK
              simp only [gX1_readsThing_136, gX1_readsThing_136n, gX1_readsThing_137, gX1_readsThing_137n, gX1_readsThing_138, gX1_readsThing_138n, gX1_readsThing_141, gX1_readsThing_142, gX1_readsThing_144, gX1_readsThing_147, gX1_readsThing_150, gX1_readsThing_151, gX1_readsThing_151n, gX1_readsThing_152, gX1_readsThing_153, gX1_readsThing_154, gX1_readsThing_157, gX1_readsThing_158, gX1_readsThing_159, gX1_readsThing_162, gX1_readsThing_162n, gX1_readsThing_163, gX1_readsThing_163n, am_kill_int, am_kill_ref, am_kill_null, am_kill_F, am_kill_long, am_cat_n, am_cat_i, am_cat_r, am_cat_0, am_cat_l, am_nr_n, am_nr_i, am_nr_r, am_nr_0, am_nr_l, Option.toList_some, Option.toList_none, List.nil_append, List.cons_append, va_rf_s, va_rf_n, am_I_sR, am_I_sL, am_R_sI, am_R_sL, am_L_sI, am_L_sR, am_k_sI, am_k_sR, am_k_sL, am_n_sI, am_n_sR, am_n_sL, true_and, and_true, true_or, or_true, or_false, false_or, not_true_eq_false, not_false_eq_true, Nat.reduceLT, am_dS, am_dP, am_d1, Nat.reduceSub, Nat.reduceMul, ne_eq, Nat.reduceBEq, Nat.reduceAdd, Nat.reduceLeDiff, Nat.reduceEqDiff, and_self, and_false, false_and, if_true, if_false, am_nb, am_nb0, am_nb1, am_lc1, am_lc2, am_lc3, am_b0, am_b1, am_10, am_c8, am_c16, am_c24, am_c32, am_c40, am_c48, am_c56, am_c64, am_c72, Nat.add_zero, Bool.false_eq_true, Nat.zero_le, hcν, wX1_takes hCν k41, c5]
              exact hK ν (q5.trans (AF.refl (q := 0)) (by omega)) q2
        · rw [if_neg c4, okC_inl] at hK
          by_cases c5 : ch a = 40
          · have hdp4' : ¬ dp < 4 := fun q => c4 ⟨c5, q⟩
            have hdp4 : dp = 4 := by omega
            simp only [gX1_readsThing_1, gX1_readsThing_3, gX1_readsThing_6, gX1_readsThing_9, gX1_readsThing_10, gX1_readsThing_13, gX1_readsThing_13n, gX1_readsThing_14, gX1_readsThing_14n, gX1_readsThing_15, gX1_readsThing_15n, gX1_readsThing_18, gX1_readsThing_19, gX1_readsThing_22, gX1_readsThing_25, gX1_readsThing_26, gX1_readsThing_27, gX1_readsThing_27n, gX1_readsThing_28, gX1_readsThing_31, gX1_readsThing_31n, gX1_readsThing_32, gX1_readsThing_33, gX1_readsThing_36, gX1_readsThing_39, gX1_readsThing_42, gX1_readsThing_43, gX1_readsThing_44, gX1_readsThing_45, gX1_readsThing_46, gX1_readsThing_49, gX1_readsThing_52, gX1_readsThing_52n, gX1_readsThing_53, gX1_readsThing_54, gX1_readsThing_56, gX1_readsThing_59, gX1_readsThing_62, gX1_readsThing_63, gX1_readsThing_64, gX1_readsThing_67, gX1_readsThing_68, gX1_readsThing_69, gX1_readsThing_72, gX1_readsThing_75, gX1_readsThing_76, gX1_readsThing_77, gX1_readsThing_78, gX1_readsThing_81, gX1_readsThing_82, gX1_readsThing_85, gX1_readsThing_86, gX1_readsThing_87, gX1_readsThing_88, gX1_readsThing_91, gX1_readsThing_91n, gX1_readsThing_92, gX1_readsThing_93, gX1_readsThing_95, gX1_readsThing_98, gX1_readsThing_101, gX1_readsThing_102, gX1_readsThing_105, gX1_readsThing_106, gX1_readsThing_109, gX1_readsThing_110, gX1_readsThing_110n, am_kill_int, am_kill_ref, am_kill_null, am_kill_F, am_kill_long, am_cat_n, am_cat_i, am_cat_r, am_cat_0, am_cat_l, am_nr_n, am_nr_i, am_nr_r, am_nr_0, am_nr_l, Option.toList_some, Option.toList_none, List.nil_append, List.cons_append, va_rf_s, va_rf_n, am_I_sR, am_I_sL, am_R_sI, am_R_sL, am_L_sI, am_L_sR, am_k_sI, am_k_sR, am_k_sL, am_n_sI, am_n_sR, am_n_sL, true_and, and_true, true_or, or_true, or_false, false_or, not_true_eq_false, not_false_eq_true, Nat.reduceLT, am_dS, am_dP, am_d1, Nat.reduceSub, Nat.reduceMul, ne_eq, Nat.reduceBEq, Nat.reduceAdd, Nat.reduceLeDiff, Nat.reduceEqDiff, and_self, and_false, false_and, if_true, if_false, am_nb, am_nb0, am_nb1, am_lc1, am_lc2, am_lc3, am_b0, am_b1, am_10, am_c8, am_c16, am_c24, am_c32, am_c40, am_c48, am_c56, am_c64, am_c72, Nat.add_zero, Bool.false_eq_true, Nat.zero_le, wX1_takes hC k45, wX1_isDigit hC, wX1_among3 hC, wX1_isAt hC k40, hcu, c1, c2', hl, c5, h9, e4, e4', hdp4]
            exact hK μ AF.refl ha
          · simp only [gX1_readsThing_1, gX1_readsThing_3, gX1_readsThing_6, gX1_readsThing_9, gX1_readsThing_10, gX1_readsThing_13, gX1_readsThing_13n, gX1_readsThing_14, gX1_readsThing_14n, gX1_readsThing_15, gX1_readsThing_15n, gX1_readsThing_18, gX1_readsThing_19, gX1_readsThing_22, gX1_readsThing_25, gX1_readsThing_26, gX1_readsThing_27, gX1_readsThing_27n, gX1_readsThing_28, gX1_readsThing_31, gX1_readsThing_31n, gX1_readsThing_32, gX1_readsThing_33, gX1_readsThing_36, gX1_readsThing_39, gX1_readsThing_42, gX1_readsThing_43, gX1_readsThing_44, gX1_readsThing_45, gX1_readsThing_46, gX1_readsThing_49, gX1_readsThing_52, gX1_readsThing_52n, gX1_readsThing_53, gX1_readsThing_54, gX1_readsThing_56, gX1_readsThing_59, gX1_readsThing_62, gX1_readsThing_63, gX1_readsThing_64, gX1_readsThing_67, gX1_readsThing_68, gX1_readsThing_69, gX1_readsThing_72, gX1_readsThing_75, gX1_readsThing_76, gX1_readsThing_77, gX1_readsThing_78, gX1_readsThing_81, gX1_readsThing_82, gX1_readsThing_85, gX1_readsThing_86, gX1_readsThing_87, gX1_readsThing_88, gX1_readsThing_91, gX1_readsThing_91n, gX1_readsThing_92, gX1_readsThing_93, gX1_readsThing_95, gX1_readsThing_98, gX1_readsThing_101, gX1_readsThing_102, gX1_readsThing_105, gX1_readsThing_106, gX1_readsThing_109, gX1_readsThing_110, gX1_readsThing_110n, am_kill_int, am_kill_ref, am_kill_null, am_kill_F, am_kill_long, am_cat_n, am_cat_i, am_cat_r, am_cat_0, am_cat_l, am_nr_n, am_nr_i, am_nr_r, am_nr_0, am_nr_l, Option.toList_some, Option.toList_none, List.nil_append, List.cons_append, va_rf_s, va_rf_n, am_I_sR, am_I_sL, am_R_sI, am_R_sL, am_L_sI, am_L_sR, am_k_sI, am_k_sR, am_k_sL, am_n_sI, am_n_sR, am_n_sL, true_and, and_true, true_or, or_true, or_false, false_or, not_true_eq_false, not_false_eq_true, Nat.reduceLT, am_dS, am_dP, am_d1, Nat.reduceSub, Nat.reduceMul, ne_eq, Nat.reduceBEq, Nat.reduceAdd, Nat.reduceLeDiff, Nat.reduceEqDiff, and_self, and_false, false_and, if_true, if_false, am_nb, am_nb0, am_nb1, am_lc1, am_lc2, am_lc3, am_b0, am_b1, am_10, am_c8, am_c16, am_c24, am_c32, am_c40, am_c48, am_c56, am_c64, am_c72, Nat.add_zero, Bool.false_eq_true, Nat.zero_le, wX1_takes hC k45, wX1_isDigit hC, wX1_among3 hC, wX1_isAt hC k40, hcu, c1, c2', hl, c5]
            exact hK μ AF.refl ha
end CRV
