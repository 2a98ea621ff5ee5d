/-! acts of a spring, read -/
set_option maxRecDepth 100000
section SAV
variable {d : Nat} {μ ν ξ μ1 ν1 : am_M} {K : Option Value → am_M → Prop} {x y z c w : Int32} {h h' N C i j k r n L M m a b e q q' t u s ln tp : Nat} {v : Int32} {ru : Option PF} {F G : Nat → Nat → Prop} {S S' T : Nat → Int32} {p : Int64} {ch : Nat → Int32} {f : PF} {st : Nat → Nat}
def isA (x : Int32) : Bool := decide (x = 110 ∨ x = 114 ∨ x = 108 ∨ x = 116 ∨ x = 120 ∨ x = 100)
def is2 (x : Int32) : Bool := decide (x = 108 ∨ x = 116 ∨ x = 120)
theorem am7_8 : ∀ n : Fin 256, decide (amF 7 (nI n.val) < 0) = !isA (nI n.val) := by decide +kernel
theorem am7_s (h : okS x) : (amF 7 x < 0) = ¬ (isA x = true) := by
  have e : decide (amF 7 x < 0) = !isA x := by
    rcases h with f | ⟨n, hn, f⟩ <;> subst f
    · decide
    · exact am7_8 ⟨n, hn⟩
  by_cases g : isA x = true
  · rw [g] at e
    exact eq_false (of_decide_eq_false e) |>.trans (by simp [g])
  · have g2 : isA x = false := by cases hz : isA x with
      | true => exact absurd hz g
      | false => rfl
    rw [g2] at e
    exact eq_true (of_decide_eq_true e) |>.trans (by simp [g2])
/-- an act at a place: a fault's place, or the next place -/
def pAc (ch : Nat → Int32) (a : Nat) : Nat ⊕ Nat := if isA (ch a) = true then (if dgB (ch (a + 1)) = true then (if is2 (ch a) = true then (if dgB (ch (a + 2)) = true then .inr (a + 3) else .inl (a + 2)) else .inr (a + 2)) else .inl (a + 1)) else .inl a
theorem pAc_r (h : pAc ch a = .inr b) : isA (ch a) = true ∧ dgB (ch (a + 1)) = true ∧ (is2 (ch a) = true → dgB (ch (a + 2)) = true ∧ b = a + 3) ∧ (¬ is2 (ch a) = true → b = a + 2) := by
  unfold pAc at h
  split at h
  · split at h
    · split at h
      · split at h
        · cases h; exact ⟨by assumption, by assumption, fun _ => ⟨by assumption, rfl⟩, fun z => absurd (by assumption) z⟩
        · cases h
      · cases h; exact ⟨by assumption, by assumption, fun z => absurd z (by assumption), fun _ => rfl⟩
    · cases h
  · cases h
theorem pAc_l (h : pAc ch a = .inl b) : b ≤ a + 2 := by
  unfold pAc at h
  split at h
  · split at h
    · split at h
      · split at h
        · cases h
        · cases h; omega
      · cases h
    · cases h; omega
  · cases h; omega
/-- the acts up to a place e: a fault's place, or how many, where they begin, the end -/
def spA2 (ch : Nat → Int32) (e : Nat) : Nat → Nat → Nat → (Nat → Nat) → Nat ⊕ (Nat × (Nat → Nat) × Nat)
  | 0, a, _, _ => .inl a
  | f + 1, a, k, st => if a < e then (match pAc ch a with
    | .inl p => .inl p
    | .inr b => spA2 ch e f b (k + 1) (fun i => if i = k then a else st i)) else .inr (k, st, a)
theorem spA2_ok (hch : ∀ i, 0 ≤ ch i → i < e) : ∀ (f a k : Nat) (st : Nat → Nat), e < a + f → a ≤ e → 2 * k ≤ a → (∀ i, i < k → isA (ch (st i)) = true ∧ dgB (ch (st i + 1)) = true ∧ (is2 (ch (st i)) = true → dgB (ch (st i + 2)) = true)) →
    (∀ p, spA2 ch e f a k st = .inl p → p ≤ e + 2) ∧ ∀ n st' b, spA2 ch e f a k st = .inr (n, st', b) → 2 * n ≤ b ∧ b = e ∧ (∀ i, i < n → isA (ch (st' i)) = true ∧ dgB (ch (st' i + 1)) = true ∧ (is2 (ch (st' i)) = true → dgB (ch (st' i + 2)) = true))
  | 0, a, k, st, h1, h2, h3, h4 => by omega
  | f + 1, a, k, st, h1, h2, h3, h4 => by
    unfold spA2
    by_cases g : a < e
    · rw [if_pos g]
      cases hp : pAc ch a with
      | inl p =>
        refine ⟨fun p' hh => ?_, fun n st' b hh => by cases hh⟩
        have := pAc_l hp
        cases hh; omega
      | inr b =>
        obtain ⟨q1, q2, q3, q4⟩ := pAc_r hp
        have hb : b ≤ e ∧ a + 2 ≤ b := by
          by_cases g2 : is2 (ch a) = true
          · obtain ⟨w1, w2⟩ := q3 g2
            have := hch _ (dgB_0 w1)
            omega
          · have w2 := q4 g2
            have := hch _ (dgB_0 q2)
            omega
        exact spA2_ok hch f b (k + 1) _ (by omega) hb.1 (by omega) (fun i hi => by
          by_cases g3 : i = k
          · subst g3
            simp only [if_true]
            exact ⟨q1, q2, fun z => (q3 z).1⟩
          · simp only [g3, if_false]
            exact h4 i (by omega))
    · rw [if_neg g]
      refine ⟨fun p hh => (by cases hh), fun n st' b hh => ?_⟩
      cases hh
      exact ⟨h3, by omega, h4⟩
def fSC (a b : Nat) : Prop := (41 ≤ a ∧ a ≤ 43) ∨ (a = 0 ∧ (b = 7 ∨ b = 26))
theorem dg_48 (hd : dgB x = true) : 0 ≤ x - 48 ∧ x - 48 ≤ 9 := by
  unfold dgB at hd
  have h := of_decide_eq_true hd
  obtain ⟨k, hk, e⟩ := rngI (M := 57) (by decide) (Int32.le_trans (by decide) h.1) h.2
  have e2 : ∀ k : Fin 58, 48 ≤ nI k.val → 0 ≤ nI k.val - 48 ∧ nI k.val - 48 ≤ 9 := by decide
  rw [e]
  exact e2 ⟨k, by omega⟩ (by rw [← e]; exact h.1)
/-- an act read by the component -/
theorem wX1_readsAct (hC : CR e a ch μ) (hea : a < e) (hm : am_I μ 0 26 = nI k) (hk : k < 60)
    (hK1 : ∀ p ν, pAc ch a = .inl p → Fr fSC μ ν → am_I ν 0 7 = nI p → K (some (.int 0)) ν)
    (hK2 : ∀ b ν, pAc ch a = .inr b → Fr fSC μ ν → am_I ν 0 7 = nI b → am_I ν 0 26 = nI (k + 1) → (am_I ν 41 k = ch a ∧ am_I ν 42 k = ch (a + 1) - 48 ∧ (is2 (ch a) = true → am_I ν 43 k = ch (a + 2) - 48)) → (∀ h i, (h = 41 ∨ h = 42 ∨ h = 43) → i ≠ k → am_I ν h i = am_I μ h i) → K (some (.int 1)) ν) :
    am_Wp (d + 8) mX1_readsAct 0 [.ref 0, am_F, am_F] [] μ K := by
  have hcu := hC.1
  simp only [cL, spL, Nat.reduceAdd] at hcu
  have he := hC.2.2.2.2.1.1
  have hat := hC.2.2.1
  have hin : vp_in (nI k) 60 := vp_in_nI (by omega) (by omega)
  have hcl : (nI k).toNatClampNeg = k := nI_clamp (by omega)
  have hina : vp_in (nI a) 80 := vp_in_nI (by omega) (by omega)
  have hcla : (nI a).toNatClampNeg = a := nI_clamp (by omega)
  have e23 : am_I μ 23 a = ch a := (hC.2.2.2.2.2.1 a hea).1
  have ham := wX1_among (d := d + 2) (i := 7) (K := fun r1 μ1 => am_nr r1 ∧ am_Wp (d + 8) mX1_readsAct 12 [.ref 0, .int (nI k), am_F] (r1.toList ++ []) μ1 K) hC (by decide)
  have hs7 := am7_s (hC.okS a)
  simp only [gX1_readsAct_0, gX1_readsAct_1, gX1_readsAct_4, gX1_readsAct_5, gX1_readsAct_6, am_kill_int, am_kill_ref, am_kill_null, am_kill_F, am_kill_long, am_cat_n, am_cat_i, am_cat_r, am_cat_0, am_cat_l, am_nr_n, am_nr_i, am_nr_r, am_nr_0, am_nr_l, Option.toList_some, Option.toList_none, List.nil_append, List.cons_append, va_rf_s, va_rf_n, am_II, am_I_sR, am_I_sL, am_R_sI, am_RR, am_R_sL, am_L_sI, am_L_sR, am_LL, am_k_sI, am_k_sR, am_k_sL, am_n_sI, am_n_sR, am_n_sL, true_and, and_true, true_or, or_true, or_false, false_or, not_true_eq_false, not_false_eq_true, Nat.reduceLT, am_dS, am_dP, am_d1, Nat.reduceSub, Nat.reduceMul, ne_eq, Nat.reduceBEq, Nat.reduceAdd, Nat.reduceLeDiff, Nat.reduceEqDiff, and_self, and_false, false_and, if_true, if_false, am_nb, am_nb0, am_nb1, am_lc1, am_lc2, am_lc3, am_b0, am_b1, am_10, am_c8, am_c16, am_c24, am_c32, am_c40, am_c48, am_c56, am_c64, am_c72, Nat.add_zero, Bool.false_eq_true, Nat.zero_le, hcu, hm]
  rw [gX1_readsAct_9]
  refine ⟨⟨by decide, by simp only [hcu]⟩, Nat.succ_pos _, ?_⟩
  refine ham.mpr ⟨trivial, ?_⟩
  by_cases f1 : isA (ch a) = true
  · have n7 : ¬ amF 7 (ch a) < 0 := by rw [hs7]; exact fun z => z f1
    have p7 : 0 ≤ amF 7 (ch a) := Int32.not_lt.mp n7
    have hnu := fun (μ' : am_M) (hC' : CR e (a + 1) ch μ') (K : Option Value → am_M → Prop) => wX1_number1 (d := d + 5) (K := K) hC'
    have hFa : Fr fSC μ (am_sI (am_sI (am_sI μ 41 k (ch a)) 0 7 (nI (a + 1))) 0 26 (nI (k + 1))) := Fr.I (Fr.I (Fr.I Fr.refl (by unfold fSC; omega)) (by unfold fSC; omega)) (by unfold fSC; omega)
    have hCa : CR e (a + 1) ch (am_sI (am_sI (am_sI μ 41 k (ch a)) 0 7 (nI (a + 1))) 0 26 (nI (k + 1))) := hC.gen hFa (fun a b z => by unfold fSC at z; omega) (by rw [am_I_sI, if_neg (by omega), am_I_sI, if_pos ⟨rfl, rfl⟩]) (by omega)
    have g41 : am_I (am_sI (am_sI (am_sI μ 41 k (ch a)) 0 7 (nI (a + 1))) 0 26 (nI (k + 1))) 41 k = ch a := by rw [am_I_sI, if_neg (by omega), am_I_sI, if_neg (by omega), am_I_sI, if_pos ⟨rfl, rfl⟩]
    have g26 : am_I (am_sI (am_sI (am_sI μ 41 k (ch a)) 0 7 (nI (a + 1))) 0 26 (nI (k + 1))) 0 26 = nI (k + 1) := by rw [am_I_sI, if_pos ⟨rfl, rfl⟩]
    have go : ∀ h i, (h = 41 ∨ h = 42 ∨ h = 43) → i ≠ k → am_I (am_sI (am_sI (am_sI μ 41 k (ch a)) 0 7 (nI (a + 1))) 0 26 (nI (k + 1))) h i = am_I μ h i := fun h i z1 z2 => by rw [am_I_sI, if_neg (by omega), am_I_sI, if_neg (by omega), am_I_sI, if_neg (by omega)]
    simp only [Option.toList_some, List.cons_append, List.nil_append, gX1_readsAct_12, gX1_readsAct_17, gX1_readsAct_18, gX1_readsAct_21, gX1_readsAct_22, gX1_readsAct_25, gX1_readsAct_26, gX1_readsAct_27, gX1_readsAct_28, gX1_readsAct_31, gX1_readsAct_32, gX1_readsAct_33, gX1_readsAct_34, gX1_readsAct_35, gX1_readsAct_36, gX1_readsAct_39, gX1_readsAct_40, gX1_readsAct_41, gX1_readsAct_44, gX1_readsAct_45, gX1_readsAct_46, gX1_readsAct_49, gX1_readsAct_50, gX1_readsAct_51, gX1_readsAct_54, gX1_readsAct_55, gX1_readsAct_58, gX1_readsAct_59, gX1_readsAct_60, am_kill_int, am_kill_ref, am_kill_null, am_kill_F, am_kill_long, am_cat_n, am_cat_i, am_cat_r, am_cat_0, am_cat_l, am_nr_n, am_nr_i, am_nr_r, am_nr_0, am_nr_l, Option.toList_some, Option.toList_none, List.nil_append, List.cons_append, va_rf_s, va_rf_n, am_II, am_I_sR, am_I_sL, am_R_sI, am_RR, am_R_sL, am_L_sI, am_L_sR, am_LL, am_k_sI, am_k_sR, am_k_sL, am_n_sI, am_n_sR, am_n_sL, true_and, and_true, true_or, or_true, or_false, false_or, not_true_eq_false, not_false_eq_true, Nat.reduceLT, am_dS, am_dP, am_d1, Nat.reduceSub, Nat.reduceMul, ne_eq, Nat.reduceBEq, Nat.reduceAdd, Nat.reduceLeDiff, Nat.reduceEqDiff, and_self, and_false, false_and, if_true, if_false, am_nb, am_nb0, am_nb1, am_lc1, am_lc2, am_lc3, am_b0, am_b1, am_10, am_c8, am_c16, am_c24, am_c32, am_c40, am_c48, am_c56, am_c64, am_c72, Nat.add_zero, Bool.false_eq_true, Nat.zero_le, hcu, hm, hat, hina, hcla, hin, hcl, e23, n7, p7, nI_1]
    generalize am_sI (am_sI (am_sI μ 41 k (ch a)) 0 7 (nI (a + 1))) 0 26 (nI (k + 1)) = μa at hFa hCa g41 g26 go ⊢
    have hcu := hCa.1
    simp only [cL, spL, Nat.reduceAdd] at hcu
    rw [gX1_readsAct_61]
    refine ⟨⟨by show 2 ≤ 8; decide, by simp only [hcu]⟩, Nat.succ_pos _, ?_⟩
    refine (hnu _ hCa _).mpr ?_
    by_cases f2 : dgB (ch (a + 1)) = true
    · have hd := dg_48 f2
      have hd' : ¬ ch (a + 1) - 48 < 0 := Int32.not_lt.mpr hd.1
      rw [if_pos f2]
      refine ⟨trivial, ?_⟩
      have hFb : Fr fSC μ (am_sI (am_sI μa 0 7 (nI (a + 1 + 1))) 42 k (ch (a + 1) - 48)) := Fr.I (Fr.I hFa (by unfold fSC; omega)) (by unfold fSC; omega)
      have hCb : CR e (a + 2) ch (am_sI (am_sI μa 0 7 (nI (a + 1 + 1))) 42 k (ch (a + 1) - 48)) := hC.gen hFb (fun a b z => by unfold fSC at z; omega) (by rw [am_I_sI, if_neg (by omega), am_I_sI, if_pos ⟨rfl, rfl⟩]) (by omega)
      have h41 : am_I (am_sI (am_sI μa 0 7 (nI (a + 1 + 1))) 42 k (ch (a + 1) - 48)) 41 k = ch a := by rw [am_I_sI, if_neg (by omega), am_I_sI, if_neg (by omega)]; exact g41
      have h42 : am_I (am_sI (am_sI μa 0 7 (nI (a + 1 + 1))) 42 k (ch (a + 1) - 48)) 42 k = ch (a + 1) - 48 := by rw [am_I_sI, if_pos ⟨rfl, rfl⟩]
      have h26 : am_I (am_sI (am_sI μa 0 7 (nI (a + 1 + 1))) 42 k (ch (a + 1) - 48)) 0 26 = nI (k + 1) := by rw [am_I_sI, if_neg (by omega), am_I_sI, if_neg (by omega)]; exact g26
      have ho : ∀ h i, (h = 41 ∨ h = 42 ∨ h = 43) → i ≠ k → am_I (am_sI (am_sI μa 0 7 (nI (a + 1 + 1))) 42 k (ch (a + 1) - 48)) h i = am_I μ h i := fun h i z1 z2 => by rw [am_I_sI, if_neg (by omega), am_I_sI, if_neg (by omega)]; exact go h i z1 z2
      by_cases f3 : is2 (ch a) = true
      · have n3 : ¬ ch a = 110 ∧ ¬ ch a = 114 ∧ ¬ ch a = 100 := by
          unfold is2 at f3
          have := of_decide_eq_true f3
          rcases this with z | z | z <;> rw [z] <;> decide
        simp only [Option.toList_some, List.cons_append, List.nil_append, gX1_readsAct_64, gX1_readsAct_65, gX1_readsAct_66, gX1_readsAct_69, gX1_readsAct_70, gX1_readsAct_71, gX1_readsAct_74, gX1_readsAct_75, gX1_readsAct_77, gX1_readsAct_80, gX1_readsAct_81, gX1_readsAct_83, gX1_readsAct_86, gX1_readsAct_87, gX1_readsAct_89, gX1_readsAct_107, gX1_readsAct_108, gX1_readsAct_111, gX1_readsAct_112, gX1_readsAct_113, am_kill_int, am_kill_ref, am_kill_null, am_kill_F, am_kill_long, am_cat_n, am_cat_i, am_cat_r, am_cat_0, am_cat_l, am_nr_n, am_nr_i, am_nr_r, am_nr_0, am_nr_l, Option.toList_some, Option.toList_none, List.nil_append, List.cons_append, va_rf_s, va_rf_n, am_II, am_I_sR, am_I_sL, am_R_sI, am_RR, am_R_sL, am_L_sI, am_L_sR, am_LL, am_k_sI, am_k_sR, am_k_sL, am_n_sI, am_n_sR, am_n_sL, true_and, and_true, true_or, or_true, or_false, false_or, not_true_eq_false, not_false_eq_true, Nat.reduceLT, am_dS, am_dP, am_d1, Nat.reduceSub, Nat.reduceMul, ne_eq, Nat.reduceBEq, Nat.reduceAdd, Nat.reduceLeDiff, Nat.reduceEqDiff, and_self, and_false, false_and, if_true, if_false, am_nb, am_nb0, am_nb1, am_lc1, am_lc2, am_lc3, am_b0, am_b1, am_10, am_c8, am_c16, am_c24, am_c32, am_c40, am_c48, am_c56, am_c64, am_c72, Nat.add_zero, Bool.false_eq_true, Nat.zero_le, hcu, hin, hcl, hd', n3]
        generalize am_sI (am_sI μa 0 7 (nI (a + 1 + 1))) 42 k (ch (a + 1) - 48) = μb at hFb hCb h41 h42 h26 ho ⊢
        have hcu := hCb.1
        simp only [cL, spL, Nat.reduceAdd] at hcu
        rw [gX1_readsAct_114]
        refine ⟨⟨by show 2 ≤ 8; decide, by simp only [hcu]⟩, Nat.succ_pos _, ?_⟩
        refine (wX1_number1 (d := d + 5) hCb).mpr ?_
        by_cases f4 : dgB (ch (a + 2)) = true
        · have hd2 := dg_48 f4
          have hd2' : ¬ ch (a + 2) - 48 < 0 := Int32.not_lt.mpr hd2.1
          have hp : pAc ch a = .inr (a + 3) := by unfold pAc; rw [if_pos f1, if_pos f2, if_pos f3, if_pos f4]
          rw [if_pos f4]
          refine ⟨trivial, ?_⟩
          simp only [Option.toList_some, List.cons_append, List.nil_append, gX1_readsAct_117, gX1_readsAct_118, gX1_readsAct_119, gX1_readsAct_122, gX1_readsAct_123, gX1_readsAct_124, gX1_readsAct_127, gX1_readsAct_128, gX1_readsAct_131, gX1_readsAct_132, am_kill_int, am_kill_ref, am_kill_null, am_kill_F, am_kill_long, am_cat_n, am_cat_i, am_cat_r, am_cat_0, am_cat_l, am_nr_n, am_nr_i, am_nr_r, am_nr_0, am_nr_l, Option.toList_some, Option.toList_none, List.nil_append, List.cons_append, va_rf_s, va_rf_n, am_II, am_I_sR, am_I_sL, am_R_sI, am_RR, am_R_sL, am_L_sI, am_L_sR, am_LL, am_k_sI, am_k_sR, am_k_sL, am_n_sI, am_n_sR, am_n_sL, true_and, and_true, true_or, or_true, or_false, false_or, not_true_eq_false, not_false_eq_true, Nat.reduceLT, am_dS, am_dP, am_d1, Nat.reduceSub, Nat.reduceMul, ne_eq, Nat.reduceBEq, Nat.reduceAdd, Nat.reduceLeDiff, Nat.reduceEqDiff, and_self, and_false, false_and, if_true, if_false, am_nb, am_nb0, am_nb1, am_lc1, am_lc2, am_lc3, am_b0, am_b1, am_10, am_c8, am_c16, am_c24, am_c32, am_c40, am_c48, am_c56, am_c64, am_c72, Nat.add_zero, Bool.false_eq_true, Nat.zero_le, hcu, hin, hcl, hd2']
          refine hK2 (a + 3) _ hp (Fr.I (Fr.I hFb (by unfold fSC; omega)) (by unfold fSC; omega)) ?_ ?_ ⟨?_, ?_, fun _ => ?_⟩ (fun h i z1 z2 => ?_)
          · rw [am_I_sI, if_neg (by omega), am_I_sI, if_pos ⟨rfl, rfl⟩]
          · rw [am_I_sI, if_neg (by omega), am_I_sI, if_neg (by omega)]; exact h26
          · rw [am_I_sI, if_neg (by omega), am_I_sI, if_neg (by omega)]; exact h41
          · rw [am_I_sI, if_neg (by omega), am_I_sI, if_neg (by omega)]; exact h42
          · rw [am_I_sI, if_pos ⟨rfl, rfl⟩]
          · rw [am_I_sI, if_neg (by omega), am_I_sI, if_neg (by omega)]; exact ho h i z1 z2
        · have hp : pAc ch a = .inl (a + 2) := by unfold pAc; rw [if_pos f1, if_pos f2, if_pos f3, if_neg f4]
          have m1 : (-1 : Int32) < 0 := by decide
          rw [if_neg f4]
          refine ⟨trivial, ?_⟩
          simp only [Option.toList_some, List.cons_append, List.nil_append, gX1_readsAct_117, gX1_readsAct_118, gX1_readsAct_119, gX1_readsAct_122, gX1_readsAct_123, gX1_readsAct_124, gX1_readsAct_127, gX1_readsAct_128, gX1_readsAct_131, gX1_readsAct_132, am_kill_int, am_kill_ref, am_kill_null, am_kill_F, am_kill_long, am_cat_n, am_cat_i, am_cat_r, am_cat_0, am_cat_l, am_nr_n, am_nr_i, am_nr_r, am_nr_0, am_nr_l, Option.toList_some, Option.toList_none, List.nil_append, List.cons_append, va_rf_s, va_rf_n, am_II, am_I_sR, am_I_sL, am_R_sI, am_RR, am_R_sL, am_L_sI, am_L_sR, am_LL, am_k_sI, am_k_sR, am_k_sL, am_n_sI, am_n_sR, am_n_sL, true_and, and_true, true_or, or_true, or_false, false_or, not_true_eq_false, not_false_eq_true, Nat.reduceLT, am_dS, am_dP, am_d1, Nat.reduceSub, Nat.reduceMul, ne_eq, Nat.reduceBEq, Nat.reduceAdd, Nat.reduceLeDiff, Nat.reduceEqDiff, and_self, and_false, false_and, if_true, if_false, am_nb, am_nb0, am_nb1, am_lc1, am_lc2, am_lc3, am_b0, am_b1, am_10, am_c8, am_c16, am_c24, am_c32, am_c40, am_c48, am_c56, am_c64, am_c72, Nat.add_zero, Bool.false_eq_true, Nat.zero_le, hcu, hin, hcl, m1]
          exact hK1 (a + 2) _ hp (Fr.I hFb (by unfold fSC; omega)) (by rw [am_I_sI, if_neg (by omega)]; exact hCb.2.2.1)
      · have hp : pAc ch a = .inr (a + 2) := by unfold pAc; rw [if_pos f1, if_pos f2, if_neg f3]
        have n3 : ch a = 110 ∨ ch a = 114 ∨ ch a = 100 := by
          unfold isA at f1
          unfold is2 at f3
          have h1 := of_decide_eq_true f1
          have h2 := of_decide_eq_false (p := ch a = 108 ∨ ch a = 116 ∨ ch a = 120) (by cases hz : decide (ch a = 108 ∨ ch a = 116 ∨ ch a = 120) with
            | true => exact absurd hz f3
            | false => rfl)
          rcases h1 with z | z | z | z | z | z
          · exact Or.inl z
          · exact Or.inr (Or.inl z)
          · exact absurd (Or.inl z) h2
          · exact absurd (Or.inr (Or.inl z)) h2
          · exact absurd (Or.inr (Or.inr z)) h2
          · exact Or.inr (Or.inr z)
        have fin := hK2 (a + 2) _ hp hFb hCb.2.2.1 h26 ⟨h41, h42, fun z => absurd z f3⟩ ho
        rcases n3 with z | z | z
        · simp only [Option.toList_some, List.cons_append, List.nil_append, gX1_readsAct_64, gX1_readsAct_65, gX1_readsAct_66, gX1_readsAct_69, gX1_readsAct_70, gX1_readsAct_71, gX1_readsAct_74, gX1_readsAct_75, gX1_readsAct_77, gX1_readsAct_92, gX1_readsAct_93, gX1_readsAct_96, gX1_readsAct_97, gX1_readsAct_98, gX1_readsAct_101, gX1_readsAct_102, gX1_readsAct_105, gX1_readsAct_106, am_kill_int, am_kill_ref, am_kill_null, am_kill_F, am_kill_long, am_cat_n, am_cat_i, am_cat_r, am_cat_0, am_cat_l, am_nr_n, am_nr_i, am_nr_r, am_nr_0, am_nr_l, Option.toList_some, Option.toList_none, List.nil_append, List.cons_append, va_rf_s, va_rf_n, am_II, am_I_sR, am_I_sL, am_R_sI, am_RR, am_R_sL, am_L_sI, am_L_sR, am_LL, am_k_sI, am_k_sR, am_k_sL, am_n_sI, am_n_sR, am_n_sL, true_and, and_true, true_or, or_true, or_false, false_or, not_true_eq_false, not_false_eq_true, Nat.reduceLT, am_dS, am_dP, am_d1, Nat.reduceSub, Nat.reduceMul, ne_eq, Nat.reduceBEq, Nat.reduceAdd, Nat.reduceLeDiff, Nat.reduceEqDiff, and_self, and_false, false_and, if_true, if_false, am_nb, am_nb0, am_nb1, am_lc1, am_lc2, am_lc3, am_b0, am_b1, am_10, am_c8, am_c16, am_c24, am_c32, am_c40, am_c48, am_c56, am_c64, am_c72, Nat.add_zero, Bool.false_eq_true, Nat.zero_le, hcu, hin, hcl, hd', z]
          exact fin
        · have q1 : ¬ (114 : Int32) = 110 := by decide
          simp only [Option.toList_some, List.cons_append, List.nil_append, gX1_readsAct_64, gX1_readsAct_65, gX1_readsAct_66, gX1_readsAct_69, gX1_readsAct_70, gX1_readsAct_71, gX1_readsAct_74, gX1_readsAct_75, gX1_readsAct_77, gX1_readsAct_80, gX1_readsAct_81, gX1_readsAct_83, gX1_readsAct_86, gX1_readsAct_87, gX1_readsAct_89, gX1_readsAct_92, gX1_readsAct_93, gX1_readsAct_96, gX1_readsAct_97, gX1_readsAct_98, gX1_readsAct_101, gX1_readsAct_102, gX1_readsAct_105, gX1_readsAct_106, am_kill_int, am_kill_ref, am_kill_null, am_kill_F, am_kill_long, am_cat_n, am_cat_i, am_cat_r, am_cat_0, am_cat_l, am_nr_n, am_nr_i, am_nr_r, am_nr_0, am_nr_l, Option.toList_some, Option.toList_none, List.nil_append, List.cons_append, va_rf_s, va_rf_n, am_II, am_I_sR, am_I_sL, am_R_sI, am_RR, am_R_sL, am_L_sI, am_L_sR, am_LL, am_k_sI, am_k_sR, am_k_sL, am_n_sI, am_n_sR, am_n_sL, true_and, and_true, true_or, or_true, or_false, false_or, not_true_eq_false, not_false_eq_true, Nat.reduceLT, am_dS, am_dP, am_d1, Nat.reduceSub, Nat.reduceMul, ne_eq, Nat.reduceBEq, Nat.reduceAdd, Nat.reduceLeDiff, Nat.reduceEqDiff, and_self, and_false, false_and, if_true, if_false, am_nb, am_nb0, am_nb1, am_lc1, am_lc2, am_lc3, am_b0, am_b1, am_10, am_c8, am_c16, am_c24, am_c32, am_c40, am_c48, am_c56, am_c64, am_c72, Nat.add_zero, Bool.false_eq_true, Nat.zero_le, hcu, hin, hcl, hd', z, q1]
          exact fin
        · have q1 : ¬ (100 : Int32) = 110 := by decide
          have q2 : ¬ (100 : Int32) = 114 := by decide
          simp only [Option.toList_some, List.cons_append, List.nil_append, gX1_readsAct_64, gX1_readsAct_65, gX1_readsAct_66, gX1_readsAct_69, gX1_readsAct_70, gX1_readsAct_71, gX1_readsAct_74, gX1_readsAct_75, gX1_readsAct_77, gX1_readsAct_80, gX1_readsAct_81, gX1_readsAct_83, gX1_readsAct_86, gX1_readsAct_87, gX1_readsAct_89, gX1_readsAct_92, gX1_readsAct_93, gX1_readsAct_96, gX1_readsAct_97, gX1_readsAct_98, gX1_readsAct_101, gX1_readsAct_102, gX1_readsAct_105, gX1_readsAct_106, am_kill_int, am_kill_ref, am_kill_null, am_kill_F, am_kill_long, am_cat_n, am_cat_i, am_cat_r, am_cat_0, am_cat_l, am_nr_n, am_nr_i, am_nr_r, am_nr_0, am_nr_l, Option.toList_some, Option.toList_none, List.nil_append, List.cons_append, va_rf_s, va_rf_n, am_II, am_I_sR, am_I_sL, am_R_sI, am_RR, am_R_sL, am_L_sI, am_L_sR, am_LL, am_k_sI, am_k_sR, am_k_sL, am_n_sI, am_n_sR, am_n_sL, true_and, and_true, true_or, or_true, or_false, false_or, not_true_eq_false, not_false_eq_true, Nat.reduceLT, am_dS, am_dP, am_d1, Nat.reduceSub, Nat.reduceMul, ne_eq, Nat.reduceBEq, Nat.reduceAdd, Nat.reduceLeDiff, Nat.reduceEqDiff, and_self, and_false, false_and, if_true, if_false, am_nb, am_nb0, am_nb1, am_lc1, am_lc2, am_lc3, am_b0, am_b1, am_10, am_c8, am_c16, am_c24, am_c32, am_c40, am_c48, am_c56, am_c64, am_c72, Nat.add_zero, Bool.false_eq_true, Nat.zero_le, hcu, hin, hcl, hd', z, q1, q2]
          exact fin
    · have hp : pAc ch a = .inl (a + 1) := by unfold pAc; rw [if_pos f1, if_neg f2]
      have m1 : (-1 : Int32) < 0 := by decide
      rw [if_neg f2]
      refine ⟨trivial, ?_⟩
      simp only [Option.toList_some, List.cons_append, List.nil_append, gX1_readsAct_64, gX1_readsAct_65, gX1_readsAct_66, gX1_readsAct_69, gX1_readsAct_70, gX1_readsAct_71, gX1_readsAct_92, gX1_readsAct_93, gX1_readsAct_96, gX1_readsAct_97, gX1_readsAct_98, gX1_readsAct_101, gX1_readsAct_102, gX1_readsAct_105, gX1_readsAct_106, am_kill_int, am_kill_ref, am_kill_null, am_kill_F, am_kill_long, am_cat_n, am_cat_i, am_cat_r, am_cat_0, am_cat_l, am_nr_n, am_nr_i, am_nr_r, am_nr_0, am_nr_l, Option.toList_some, Option.toList_none, List.nil_append, List.cons_append, va_rf_s, va_rf_n, am_II, am_I_sR, am_I_sL, am_R_sI, am_RR, am_R_sL, am_L_sI, am_L_sR, am_LL, am_k_sI, am_k_sR, am_k_sL, am_n_sI, am_n_sR, am_n_sL, true_and, and_true, true_or, or_true, or_false, false_or, not_true_eq_false, not_false_eq_true, Nat.reduceLT, am_dS, am_dP, am_d1, Nat.reduceSub, Nat.reduceMul, ne_eq, Nat.reduceBEq, Nat.reduceAdd, Nat.reduceLeDiff, Nat.reduceEqDiff, and_self, and_false, false_and, if_true, if_false, am_nb, am_nb0, am_nb1, am_lc1, am_lc2, am_lc3, am_b0, am_b1, am_10, am_c8, am_c16, am_c24, am_c32, am_c40, am_c48, am_c56, am_c64, am_c72, Nat.add_zero, Bool.false_eq_true, Nat.zero_le, hcu, hin, hcl, m1]
      exact hK1 (a + 1) _ hp (Fr.I hFa (by unfold fSC; omega)) (by rw [am_I_sI, if_neg (by omega)]; exact hCa.2.2.1)
  · have n7 : amF 7 (ch a) < 0 := by rw [hs7]; exact f1
    have p7 : ¬ 0 ≤ amF 7 (ch a) := Int32.not_le.mpr n7
    have hp : pAc ch a = .inl a := by unfold pAc; rw [if_neg f1]
    simp only [Option.toList_some, List.cons_append, List.nil_append, gX1_readsAct_12, gX1_readsAct_15, gX1_readsAct_16, am_kill_int, am_kill_ref, am_kill_null, am_kill_F, am_kill_long, am_cat_n, am_cat_i, am_cat_r, am_cat_0, am_cat_l, am_nr_n, am_nr_i, am_nr_r, am_nr_0, am_nr_l, Option.toList_some, Option.toList_none, List.nil_append, List.cons_append, va_rf_s, va_rf_n, am_II, am_I_sR, am_I_sL, am_R_sI, am_RR, am_R_sL, am_L_sI, am_L_sR, am_LL, am_k_sI, am_k_sR, am_k_sL, am_n_sI, am_n_sR, am_n_sL, true_and, and_true, true_or, or_true, or_false, false_or, not_true_eq_false, not_false_eq_true, Nat.reduceLT, am_dS, am_dP, am_d1, Nat.reduceSub, Nat.reduceMul, ne_eq, Nat.reduceBEq, Nat.reduceAdd, Nat.reduceLeDiff, Nat.reduceEqDiff, and_self, and_false, false_and, if_true, if_false, am_nb, am_nb0, am_nb1, am_lc1, am_lc2, am_lc3, am_b0, am_b1, am_10, am_c8, am_c16, am_c24, am_c32, am_c40, am_c48, am_c56, am_c64, am_c72, Nat.add_zero, Bool.false_eq_true, Nat.zero_le, n7, p7]
    exact hK1 a μ hp Fr.refl hat
end SAV
