/-! leavers -/
set_option maxRecDepth 100000
section LXV
variable {d : Nat} {μ ν ξ μ1 ν1 : am_M} {K : Option Value → am_M → Prop} {x y z c w : Int32} {h h' N C i j k r n L R M m a b e q q' t u s f B ln tp : Nat} {v : Int32} {ru : Option PF} {F G : Nat → Nat → Prop} {S S' T : Nat → Int32} {cf : Nat → Int32} {dl : Nat → Nat → Int32} {p : Nat → Bool} {lo dv : Nat → Nat} {ch : Nat → Int32} {ps : Option (List Int64)} {mc mm : am_MI} {lc lm : List Value}
theorem TM.gen (hT : TM r L a ln tp w μ) (hF : Fr F μ ν) (h9 : ¬ F 54 9) (h10 : ¬ F 54 10) (hr : ∀ b, ¬ F r b) (hR : am_R ν 54 8 = am_R μ 54 8) (h11 : am_I ν 54 11 = nI b) (hb : b ≤ 1000) (h12 : am_I ν 54 12 = z) : TM r L b ln tp z ν := by
  obtain ⟨q1, q2, q3, q4, q5, q6, q7, ⟨_, q8⟩, q9, q10⟩ := hT
  refine ⟨hF.mLk q1, hR.trans q2, by rw [hF.2.2.2.1]; exact q3, h11, (hF.1 54 9 h9).trans q5, (hF.1 54 10 h10).trans q6, h12, ⟨hb, q8⟩, q9, fun i hi => ?_⟩
  rw [hF.1 r i (hr i)]; exact q10 i hi
theorem CR.gen {e : Nat} (hC : CR e a ch μ) (hF : Fr F μ ν) (hs : ∀ a b, F a b → a < 78 ∧ a ≠ 23 ∧ ¬ (a = 0 ∧ b = 8)) (h7 : am_I ν 0 7 = nI b) (hb : b ≤ 1000) : CR e b ch ν := by
  obtain ⟨h1, h2, h3, h4, ⟨h5, _⟩, h6, h7'⟩ := hC
  refine ⟨hF.cL h1, h2.fw hF.toW (fun a b z => (hs a b z).1), h7, (hF.1 0 8 (fun z => (hs _ _ z).2.2 ⟨rfl, rfl⟩)).trans h4, ⟨h5, hb⟩, fun i hi => ?_, h7'⟩
  rw [hF.1 23 i (fun z => (hs _ _ z).2.1 rfl)]; exact h6 i hi
def dvL (ch : Nat → Int32) (k : Nat) : Nat := (ch k - 48).toNatClampNeg
/-- the nests told: a fault's place -/
def leF (ch : Nat → Int32) (N : Nat) : Nat → Nat → Nat → Option Nat
  | 0, _, _ => none
  | m + 1, k, B => if isN (ch k - 48) N = true ∧ B.testBit (dvL ch k) = false then leF ch N m (k + 1) (B ||| 2 ^ dvL ch k) else some k
theorem dg_all : ∀ n : Fin 256, ∀ N : Fin 9, isN (nI n.val - 48) N.val = true → dgB (nI n.val) = true := by decide +kernel
theorem dg_m1 : ∀ N : Fin 9, isN ((-1 : Int32) - 48) N.val = true → dgB (-1) = true := by decide
theorem dg_is (hx : okS x) (hN : N ≤ 8) (h : isN (x - 48) N = true) : dgB x = true := by
  rcases hx with f | ⟨n, hn, f⟩ <;> subst f
  · exact dg_m1 ⟨N, by omega⟩ h
  · exact dg_all ⟨n, hn⟩ ⟨N, by omega⟩ h
theorem leF_lt : ∀ (m k B : Nat) (p : Nat), leF ch N m k B = some p → p < k + m
  | 0, k, B, p, h => by cases h
  | m + 1, k, B, p, h => by
    unfold leF at h
    split at h
    · have := leF_lt m (k + 1) _ p h; omega
    · cases h; omega
theorem leF_ok : ∀ (m k B : Nat), leF ch N m k B = none → ∀ j, k ≤ j → j < k + m → isN (ch j - 48) N = true
  | 0, k, B, h, j, h1, h2 => by omega
  | m + 1, k, B, h, j, h1, h2 => by
    unfold leF at h
    split at h
    · rename_i g
      by_cases f : j = k
      · subst f; exact g.1
      · exact leF_ok m (k + 1) _ h j (by omega) (by omega)
    · cases h
theorem dvL_s (hN : N ≤ 8) (h : isN (ch k - 48) N = true) : ch k - 48 = nI (dvL ch k) ∧ dvL ch k < N := by
  obtain ⟨j, hj, e⟩ := isN_of (by omega) h
  have : dvL ch k = j := by unfold dvL; rw [e]; exact nI_clamp (by omega)
  rw [this]; exact ⟨e, hj⟩
def fLC (a b : Nat) : Prop := a = 48 ∨ (a = 0 ∧ b = 7)
theorem lxC_loop {e : Nat} (hC : CC N ru c μ) (he : e ≤ 80) (hs : CR e 0 ch μ) : ∀ (m k B : Nat) (ρ : am_M) (z3 z4 : Value), m + k = N → CR e k ch ρ → Fr fLC μ ρ → B < 256 → (∀ j, j < k → am_I ρ 48 j = nI (dvL ch j)) →
    (∀ p ν, leF ch N m k B = some p → Fr fLC μ ν → K (some (.int (-1 - nI p))) ν) →
    (∀ B' z3' ν, leF ch N m k B = none → Fr fLC μ ν → am_I ν 0 7 = nI N → (∀ j, j < N → am_I ν 48 j = nI (dvL ch j)) → am_Wp (d + 200) mX1_leavers 109 [.ref 0, .int (nI B'), .int (nI N), z3', z4] [] ν K) →
    am_Wp (d + 200) mX1_leavers 11 [.ref 0, .int (nI B), .int (nI k), z3, z4] [] ρ K := by
  intro m
  have h8 := hC.2.2.1
  have o10 : ¬ (1 : Int32) = 0 := by decide
  induction m with
  | zero =>
    intro k B ρ z3 z4 hm hCR hF hB hr hK1 hK2
    have hCρ : CC N ru c ρ := hC.fr hF (fun a b z => by unfold fLC at z; omega)
    have hk := hCρ.1.c
    have hN := hCρ.2.1
    have e1 : k = N := by omega
    subst e1
    rw [gX1_leavers_11]
    simp only [gX1_leavers_12, gX1_leavers_13, gX1_leavers_16, am_kill_int, am_kill_ref, am_kill_null, am_kill_F, am_kill_long, am_cat_n, am_cat_i, am_cat_r, am_cat_0, am_cat_l, am_nr_n, am_nr_i, am_nr_r, am_nr_0, am_nr_l, Option.toList_some, Option.toList_none, List.nil_append, List.cons_append, va_rf_s, va_rf_n, am_II, am_I_sR, am_I_sL, am_R_sI, am_RR, am_R_sL, am_L_sI, am_L_sR, am_LL, am_k_sI, am_k_sR, am_k_sL, am_n_sI, am_n_sR, am_n_sL, true_and, and_true, true_or, or_true, or_false, false_or, not_true_eq_false, not_false_eq_true, Nat.reduceLT, am_dS, am_dP, am_d1, Nat.reduceSub, Nat.reduceMul, ne_eq, Nat.reduceBEq, Nat.reduceAdd, Nat.reduceLeDiff, Nat.reduceEqDiff, and_self, and_false, false_and, if_true, if_false, am_nb, am_nb0, am_nb1, am_lc1, am_lc2, am_lc3, am_b0, am_b1, am_10, am_c8, am_c16, am_c24, am_c32, am_c40, am_c48, am_c56, am_c64, am_c72, Nat.add_zero, Bool.false_eq_true, Nat.zero_le, hk, hN, Int32.le_refl]
    exact hK2 B z3 ρ rfl hF hCR.2.2.1 hr
  | succ m ih =>
    intro k B ρ z3 z4 hm hCR hF hB hr hK1 hK2
    have hCρ : CC N ru c ρ := hC.fr hF (fun a b z => by unfold fLC at z; omega)
    have hcu := hCρ.1
    simp only [cL, spL, Nat.reduceAdd] at hcu
    have hk := hCρ.1.c
    have hN := hCρ.2.1
    have hlt : ¬ nI N ≤ nI k := nI_ge (by omega) (by omega)
    have hat := hCR.2.2.1
    have bad : leF ch N (m + 1) k B = some k → am_Wp (d + 200) mX1_leavers 69 [.ref 0, .int (nI B), .int (nI k), z3, z4] [.int 0] ρ K := fun hl => by
      simp only [gX1_leavers_69, gX1_leavers_70, gX1_leavers_71, gX1_leavers_74, gX1_leavers_75, gX1_leavers_76, gX1_leavers_79, gX1_leavers_80, am_kill_int, am_kill_ref, am_kill_null, am_kill_F, am_kill_long, am_cat_n, am_cat_i, am_cat_r, am_cat_0, am_cat_l, am_nr_n, am_nr_i, am_nr_r, am_nr_0, am_nr_l, Option.toList_some, Option.toList_none, List.nil_append, List.cons_append, va_rf_s, va_rf_n, am_II, am_I_sR, am_I_sL, am_R_sI, am_RR, am_R_sL, am_L_sI, am_L_sR, am_LL, am_k_sI, am_k_sR, am_k_sL, am_n_sI, am_n_sR, am_n_sL, true_and, and_true, true_or, or_true, or_false, false_or, not_true_eq_false, not_false_eq_true, Nat.reduceLT, am_dS, am_dP, am_d1, Nat.reduceSub, Nat.reduceMul, ne_eq, Nat.reduceBEq, Nat.reduceAdd, Nat.reduceLeDiff, Nat.reduceEqDiff, and_self, and_false, false_and, if_true, if_false, am_nb, am_nb0, am_nb1, am_lc1, am_lc2, am_lc3, am_b0, am_b1, am_10, am_c8, am_c16, am_c24, am_c32, am_c40, am_c48, am_c56, am_c64, am_c72, Nat.add_zero, Bool.false_eq_true, Nat.zero_le, hk, hat]
      exact hK1 k ρ hl hF
    have hdi := wX1_isDigit (d := d + 198) (K := fun r1 μ1 => am_nr r1 ∧ am_Wp (d + 200) mX1_leavers 23 [.ref 0, .int (nI B), .int (nI k), z3, z4] (r1.toList ++ []) μ1 K) hCR
    rw [gX1_leavers_11]
    simp only [gX1_leavers_12, gX1_leavers_13, gX1_leavers_16, gX1_leavers_19, gX1_leavers_20, am_kill_int, am_kill_ref, am_kill_null, am_kill_F, am_kill_long, am_cat_n, am_cat_i, am_cat_r, am_cat_0, am_cat_l, am_nr_n, am_nr_i, am_nr_r, am_nr_0, am_nr_l, Option.toList_some, Option.toList_none, List.nil_append, List.cons_append, va_rf_s, va_rf_n, am_II, am_I_sR, am_I_sL, am_R_sI, am_RR, am_R_sL, am_L_sI, am_L_sR, am_LL, am_k_sI, am_k_sR, am_k_sL, am_n_sI, am_n_sR, am_n_sL, true_and, and_true, true_or, or_true, or_false, false_or, not_true_eq_false, not_false_eq_true, Nat.reduceLT, am_dS, am_dP, am_d1, Nat.reduceSub, Nat.reduceMul, ne_eq, Nat.reduceBEq, Nat.reduceAdd, Nat.reduceLeDiff, Nat.reduceEqDiff, and_self, and_false, false_and, if_true, if_false, am_nb, am_nb0, am_nb1, am_lc1, am_lc2, am_lc3, am_b0, am_b1, am_10, am_c8, am_c16, am_c24, am_c32, am_c40, am_c48, am_c56, am_c64, am_c72, Nat.add_zero, Bool.false_eq_true, Nat.zero_le, hk, hN, hlt]
    rw [hdi]
    refine ⟨trivial, ?_⟩
    by_cases f1 : dgB (ch k) = true
    · have hke : k < e := hCR.lt (dgB_0 f1)
      have e23 : am_I ρ 23 k = ch k := (hCR.2.2.2.2.2.1 k hke).1
      have hin : vp_in (nI k) 80 := vp_in_nI (by omega) (by omega)
      have hcl : (nI k).toNatClampNeg = k := nI_clamp (by omega)
      by_cases f2 : isN (ch k - 48) N = true
      · obtain ⟨g1, g2⟩ := dvL_s h8 f2
        have hb : ((nI B >>> (nI (dvL ch k) &&& 31)) &&& 1 = 1) = (B.testBit (dvL ch k) = true) := bt_has ⟨B, hB⟩ ⟨dvL ch k, by omega⟩
        by_cases f3 : B.testBit (dvL ch k) = true
        · have hl : leF ch N (m + 1) k B = some k := by unfold leF; rw [if_neg (fun z => by rw [z.2] at f3; cases f3)]
          rw [g1] at f2
          simp only [Option.toList_some, List.cons_append, List.nil_append, f1, gX1_leavers_23, gX1_leavers_26, gX1_leavers_27, gX1_leavers_28, gX1_leavers_31, gX1_leavers_32, gX1_leavers_35, gX1_leavers_36, gX1_leavers_38, gX1_leavers_39, gX1_leavers_42, gX1_leavers_45, gX1_leavers_46, gX1_leavers_47, gX1_leavers_50, gX1_leavers_51, gX1_leavers_54, gX1_leavers_55, gX1_leavers_57, gX1_leavers_58, gX1_leavers_61, gX1_leavers_68, am_kill_int, am_kill_ref, am_kill_null, am_kill_F, am_kill_long, am_cat_n, am_cat_i, am_cat_r, am_cat_0, am_cat_l, am_nr_n, am_nr_i, am_nr_r, am_nr_0, am_nr_l, Option.toList_some, Option.toList_none, List.nil_append, List.cons_append, va_rf_s, va_rf_n, am_II, am_I_sR, am_I_sL, am_R_sI, am_RR, am_R_sL, am_L_sI, am_L_sR, am_LL, am_k_sI, am_k_sR, am_k_sL, am_n_sI, am_n_sR, am_n_sL, true_and, and_true, true_or, or_true, or_false, false_or, not_true_eq_false, not_false_eq_true, Nat.reduceLT, am_dS, am_dP, am_d1, Nat.reduceSub, Nat.reduceMul, ne_eq, Nat.reduceBEq, Nat.reduceAdd, Nat.reduceLeDiff, Nat.reduceEqDiff, and_self, and_false, false_and, if_true, if_false, am_nb, am_nb0, am_nb1, am_lc1, am_lc2, am_lc3, am_b0, am_b1, am_10, am_c8, am_c16, am_c24, am_c32, am_c40, am_c48, am_c56, am_c64, am_c72, Nat.add_zero, Bool.false_eq_true, Nat.zero_le, hcu, hat, hin, hcl, e23, g1, wX1_isNest hN h8 hk, wX1_has, hb, f2, f3, o10]
          exact bad hl
        · have f3' : B.testBit (dvL ch k) = false := by
            cases hz : B.testBit (dvL ch k) with
            | true => exact absurd hz f3
            | false => rfl
          have hl : leF ch N (m + 1) k B = leF ch N m (k + 1) (B ||| 2 ^ dvL ch k) := by
            conv => lhs; unfold leF
            exact if_pos ⟨f2, f3'⟩
          rw [hl] at hK1 hK2
          have hnu := wX1_number1 (d := d + 197) (K := fun r1 μ1 => am_nr r1 ∧ am_Wp (d + 200) mX1_leavers 91 [.ref 0, .int (nI B), .int (nI k), .int 1, z4] (r1.toList ++ [.int (nI k), .ref 48]) μ1 K) hCR
          rw [if_pos f1, g1] at hnu
          rw [g1] at f2
          have hin8 : vp_in (nI k) 8 := vp_in_nI (by omega) (by omega)
          have hor : nI B ||| 1 <<< (nI (dvL ch k) &&& 31) = nI (B ||| 2 ^ dvL ch k) := bt_or' hB (by omega)
          simp only [Option.toList_some, List.cons_append, List.nil_append, f1, gX1_leavers_23, gX1_leavers_26, gX1_leavers_27, gX1_leavers_28, gX1_leavers_31, gX1_leavers_32, gX1_leavers_35, gX1_leavers_36, gX1_leavers_38, gX1_leavers_39, gX1_leavers_42, gX1_leavers_45, gX1_leavers_46, gX1_leavers_47, gX1_leavers_50, gX1_leavers_51, gX1_leavers_54, gX1_leavers_55, gX1_leavers_57, gX1_leavers_58, gX1_leavers_61, gX1_leavers_64, gX1_leavers_65, am_kill_int, am_kill_ref, am_kill_null, am_kill_F, am_kill_long, am_cat_n, am_cat_i, am_cat_r, am_cat_0, am_cat_l, am_nr_n, am_nr_i, am_nr_r, am_nr_0, am_nr_l, Option.toList_some, Option.toList_none, List.nil_append, List.cons_append, va_rf_s, va_rf_n, am_II, am_I_sR, am_I_sL, am_R_sI, am_RR, am_R_sL, am_L_sI, am_L_sR, am_LL, am_k_sI, am_k_sR, am_k_sL, am_n_sI, am_n_sR, am_n_sL, true_and, and_true, true_or, or_true, or_false, false_or, not_true_eq_false, not_false_eq_true, Nat.reduceLT, am_dS, am_dP, am_d1, Nat.reduceSub, Nat.reduceMul, ne_eq, Nat.reduceBEq, Nat.reduceAdd, Nat.reduceLeDiff, Nat.reduceEqDiff, and_self, and_false, false_and, if_true, if_false, am_nb, am_nb0, am_nb1, am_lc1, am_lc2, am_lc3, am_b0, am_b1, am_10, am_c8, am_c16, am_c24, am_c32, am_c40, am_c48, am_c56, am_c64, am_c72, Nat.add_zero, Bool.false_eq_true, Nat.zero_le, hcu, hat, hin, hcl, e23, g1, wX1_isNest hN h8 hk, wX1_has, hb, f2, f3, o10]
          simp only [gX1_leavers_69, gX1_leavers_70, gX1_leavers_71, gX1_leavers_81, gX1_leavers_82, gX1_leavers_85, gX1_leavers_86, gX1_leavers_87, gX1_leavers_88, am_kill_int, am_kill_ref, am_kill_null, am_kill_F, am_kill_long, am_cat_n, am_cat_i, am_cat_r, am_cat_0, am_cat_l, am_nr_n, am_nr_i, am_nr_r, am_nr_0, am_nr_l, Option.toList_some, Option.toList_none, List.nil_append, List.cons_append, va_rf_s, va_rf_n, am_II, am_I_sR, am_I_sL, am_R_sI, am_RR, am_R_sL, am_L_sI, am_L_sR, am_LL, am_k_sI, am_k_sR, am_k_sL, am_n_sI, am_n_sR, am_n_sL, true_and, and_true, true_or, or_true, or_false, false_or, not_true_eq_false, not_false_eq_true, Nat.reduceLT, am_dS, am_dP, am_d1, Nat.reduceSub, Nat.reduceMul, ne_eq, Nat.reduceBEq, Nat.reduceAdd, Nat.reduceLeDiff, Nat.reduceEqDiff, and_self, and_false, false_and, if_true, if_false, am_nb, am_nb0, am_nb1, am_lc1, am_lc2, am_lc3, am_b0, am_b1, am_10, am_c8, am_c16, am_c24, am_c32, am_c40, am_c48, am_c56, am_c64, am_c72, Nat.add_zero, Bool.false_eq_true, Nat.zero_le, hcu, o10]
          rw [hnu]
          simp only [gX1_leavers_91, gX1_leavers_92, gX1_leavers_93, gX1_leavers_94, gX1_leavers_95, gX1_leavers_98, gX1_leavers_99, gX1_leavers_100, gX1_leavers_101, gX1_leavers_102, gX1_leavers_103, gX1_leavers_106, am_kill_int, am_kill_ref, am_kill_null, am_kill_F, am_kill_long, am_cat_n, am_cat_i, am_cat_r, am_cat_0, am_cat_l, am_nr_n, am_nr_i, am_nr_r, am_nr_0, am_nr_l, Option.toList_some, Option.toList_none, List.nil_append, List.cons_append, va_rf_s, va_rf_n, am_II, am_I_sR, am_I_sL, am_R_sI, am_RR, am_R_sL, am_L_sI, am_L_sR, am_LL, am_k_sI, am_k_sR, am_k_sL, am_n_sI, am_n_sR, am_n_sL, true_and, and_true, true_or, or_true, or_false, false_or, not_true_eq_false, not_false_eq_true, Nat.reduceLT, am_dS, am_dP, am_d1, Nat.reduceSub, Nat.reduceMul, ne_eq, Nat.reduceBEq, Nat.reduceAdd, Nat.reduceLeDiff, Nat.reduceEqDiff, and_self, and_false, false_and, if_true, if_false, am_nb, am_nb0, am_nb1, am_lc1, am_lc2, am_lc3, am_b0, am_b1, am_10, am_c8, am_c16, am_c24, am_c32, am_c40, am_c48, am_c56, am_c64, am_c72, Nat.add_zero, Bool.false_eq_true, Nat.zero_le, hcu, hin8, hcl, hor, nI_1]
          refine ih (k + 1) _ _ _ _ (by omega) (hCR.gen (F := fLC) (Fr.I (Fr.I Fr.refl (by unfold fLC; omega)) (by unfold fLC; omega)) (fun a b z => by unfold fLC at z; omega) (by rw [am_I_sI, if_neg (by omega), am_I_sI, if_pos ⟨rfl, rfl⟩]) (by omega)) (Fr.I (Fr.I hF (by unfold fLC; omega)) (by unfold fLC; omega)) (or_256 hB (by omega)) (fun j hj => ?_) hK1 hK2
          by_cases g : j = k
          · subst g; rw [am_I_sI, if_pos ⟨rfl, rfl⟩]
          · rw [am_I_sI, if_neg (by omega), am_I_sI, if_neg (by omega)]; exact hr j (by omega)
      · have hl : leF ch N (m + 1) k B = some k := by unfold leF; rw [if_neg (fun z => f2 z.1)]
        simp only [Option.toList_some, List.cons_append, List.nil_append, f1, gX1_leavers_23, gX1_leavers_26, gX1_leavers_27, gX1_leavers_28, gX1_leavers_31, gX1_leavers_32, gX1_leavers_35, gX1_leavers_36, gX1_leavers_38, gX1_leavers_39, gX1_leavers_42, gX1_leavers_68, am_kill_int, am_kill_ref, am_kill_null, am_kill_F, am_kill_long, am_cat_n, am_cat_i, am_cat_r, am_cat_0, am_cat_l, am_nr_n, am_nr_i, am_nr_r, am_nr_0, am_nr_l, Option.toList_some, Option.toList_none, List.nil_append, List.cons_append, va_rf_s, va_rf_n, am_II, am_I_sR, am_I_sL, am_R_sI, am_RR, am_R_sL, am_L_sI, am_L_sR, am_LL, am_k_sI, am_k_sR, am_k_sL, am_n_sI, am_n_sR, am_n_sL, true_and, and_true, true_or, or_true, or_false, false_or, not_true_eq_false, not_false_eq_true, Nat.reduceLT, am_dS, am_dP, am_d1, Nat.reduceSub, Nat.reduceMul, ne_eq, Nat.reduceBEq, Nat.reduceAdd, Nat.reduceLeDiff, Nat.reduceEqDiff, and_self, and_false, false_and, if_true, if_false, am_nb, am_nb0, am_nb1, am_lc1, am_lc2, am_lc3, am_b0, am_b1, am_10, am_c8, am_c16, am_c24, am_c32, am_c40, am_c48, am_c56, am_c64, am_c72, Nat.add_zero, Bool.false_eq_true, Nat.zero_le, hcu, hat, hin, hcl, e23, wX1_isNest hN h8 hk, f2, o10]
        exact bad hl
    · have f2 : ¬ isN (ch k - 48) N = true := fun z => f1 (dg_is (hCR.okS k) h8 z)
      have hl : leF ch N (m + 1) k B = some k := by unfold leF; rw [if_neg (fun z => f2 z.1)]
      simp only [Option.toList_some, List.cons_append, List.nil_append, f1, gX1_leavers_23, gX1_leavers_68, am_kill_int, am_kill_ref, am_kill_null, am_kill_F, am_kill_long, am_cat_n, am_cat_i, am_cat_r, am_cat_0, am_cat_l, am_nr_n, am_nr_i, am_nr_r, am_nr_0, am_nr_l, Option.toList_some, Option.toList_none, List.nil_append, List.cons_append, va_rf_s, va_rf_n, am_II, am_I_sR, am_I_sL, am_R_sI, am_RR, am_R_sL, am_L_sI, am_L_sR, am_LL, am_k_sI, am_k_sR, am_k_sL, am_n_sI, am_n_sR, am_n_sL, true_and, and_true, true_or, or_true, or_false, false_or, not_true_eq_false, not_false_eq_true, Nat.reduceLT, am_dS, am_dP, am_d1, Nat.reduceSub, Nat.reduceMul, ne_eq, Nat.reduceBEq, Nat.reduceAdd, Nat.reduceLeDiff, Nat.reduceEqDiff, and_self, and_false, false_and, if_true, if_false, am_nb, am_nb0, am_nb1, am_lc1, am_lc2, am_lc3, am_b0, am_b1, am_10, am_c8, am_c16, am_c24, am_c32, am_c40, am_c48, am_c56, am_c64, am_c72, Nat.add_zero, Bool.false_eq_true, Nat.zero_le]
      exact bad hl
def fLM (a b : Nat) : Prop := a = 71 ∨ (a = 54 ∧ (b = 11 ∨ b = 12))
theorem lxM_loop (hC : MC N c μ) (ht : t ≤ 80) (hch : ∀ k, k < N → chM (am_I μ 56) t N k = ch k) : ∀ (m k B : Nat) (ρ : am_M) (z3 z4 : Value), m + k = N → TM 56 80 k t N (-1) ρ → Fr fLM μ ρ → B < 256 → (∀ j, j < k → am_I ρ 71 j = nI (dvL ch j)) →
    (∀ p b z1 z2 z3' ν, leF ch N m k B = some p → TM 56 80 b t N (nI p) ν → Fr fLM μ ν → am_Wp (d + 200) mX3_leavers 96 [.ref 54, .int z1, z2, z3', z4] [] ν K) →
    (∀ B' z3' ν, leF ch N m k B = none → TM 56 80 N t N (-1) ν → Fr fLM μ ν → (∀ j, j < N → am_I ν 71 j = nI (dvL ch j)) → am_Wp (d + 200) mX3_leavers 96 [.ref 54, .int (nI B'), .int (nI N), z3', z4] [] ν K) →
    am_Wp (d + 200) mX3_leavers 17 [.ref 54, .int (nI B), .int (nI k), z3, z4] [] ρ K := by
  intro m
  have h8 := hC.2.2.1
  have o10 : ¬ (1 : Int32) = 0 := by decide
  induction m with
  | zero =>
    intro k B ρ z3 z4 hm hT hF hB hr hK1 hK2
    have hMρ : MC N c ρ := hC.fr hF (fun a b z => by unfold fLM at z; omega)
    have hN := hMρ.2.1
    have hmu := hMρ.1
    unfold mL at hmu
    have e1 : k = N := by omega
    subst e1
    rw [gX3_leavers_17]
    simp only [gX3_leavers_18, gX3_leavers_19, gX3_leavers_22, am_kill_int, am_kill_ref, am_kill_null, am_kill_F, am_kill_long, am_cat_n, am_cat_i, am_cat_r, am_cat_0, am_cat_l, am_nr_n, am_nr_i, am_nr_r, am_nr_0, am_nr_l, Option.toList_some, Option.toList_none, List.nil_append, List.cons_append, va_rf_s, va_rf_n, am_II, am_I_sR, am_I_sL, am_R_sI, am_RR, am_R_sL, am_L_sI, am_L_sR, am_LL, am_k_sI, am_k_sR, am_k_sL, am_n_sI, am_n_sR, am_n_sL, true_and, and_true, true_or, or_true, or_false, false_or, not_true_eq_false, not_false_eq_true, Nat.reduceLT, am_dS, am_dP, am_d1, Nat.reduceSub, Nat.reduceMul, ne_eq, Nat.reduceBEq, Nat.reduceAdd, Nat.reduceLeDiff, Nat.reduceEqDiff, and_self, and_false, false_and, if_true, if_false, am_nb, am_nb0, am_nb1, am_lc1, am_lc2, am_lc3, am_b0, am_b1, am_10, am_c8, am_c16, am_c24, am_c32, am_c40, am_c48, am_c56, am_c64, am_c72, Nat.add_zero, Bool.false_eq_true, Nat.zero_le, hmu, hN, Int32.le_refl]
    exact hK2 B z3 ρ rfl hT hF hr
  | succ m ih =>
    intro k B ρ z3 z4 hm hT hF hB hr hK1 hK2
    have hMρ : MC N c ρ := hC.fr hF (fun a b z => by unfold fLM at z; omega)
    have hN := hMρ.2.1
    have hmu := hMρ.1
    unfold mL at hmu
    have hlt : ¬ nI N ≤ nI k := nI_ge (by omega) (by omega)
    have hat := hT.2.2.2.1
    have hfi := wX3_fine (d := d + 199) (K := fun r1 μ1 => am_nr r1 ∧ am_Wp (d + 200) mX3_leavers 29 [.ref 54, .int (nI B), .int (nI k), z3, z4] (r1.toList ++ []) μ1 K) hT
    rw [if_pos rfl] at hfi
    have hhe := wX3_here (d := d + 199) (K := fun r1 μ1 => am_nr r1 ∧ am_Wp (d + 200) mX3_leavers 36 [.ref 54, .int (nI B), .int (nI k), z3, z4] (r1.toList ++ []) μ1 K) hT
    have e56 : chM (am_I ρ 56) t N k = ch k := by rw [show am_I ρ 56 = am_I μ 56 from funext fun i => hF.1 56 i (by unfold fLM; omega)]; exact hch k (by omega)
    rw [e56] at hhe
    have bad : leF ch N (m + 1) k B = some k → am_Wp (d + 200) mX3_leavers 56 [.ref 54, .int (nI B), .int (nI k), .int (ch k - 48), z4] [] ρ K := fun hl => by
      have hfa := wX3_fault (d := d + 198) (x := nI k) (K := fun r1 μ1 => am_nr r1 ∧ am_Wp (d + 200) mX3_leavers 64 [.ref 54, .int (nI B), .int (nI k), .int (ch k - 48), z4] (r1.toList ++ []) μ1 K) hT
      rw [if_pos rfl] at hfa
      have hT2 := hT.fault (x := nI k)
      have hF2 : Fr fLM μ (am_sI ρ 54 12 (nI k)) := Fr.I hF (by unfold fLM; omega)
      have hM2 : MC N c (am_sI ρ 54 12 (nI k)) := hC.fr hF2 (fun a b z => by unfold fLM at z; omega)
      have hfi2 := wX3_fine (d := d + 199) (K := fun r1 μ1 => am_nr r1 ∧ am_Wp (d + 200) mX3_leavers 29 [.ref 54, .int (nI B), .int (nI (k + 1)), .int (ch k - 48), z4] (r1.toList ++ []) μ1 K) hT2
      rw [if_neg (nI_m1 (by omega))] at hfi2
      simp only [gX3_leavers_56, gX3_leavers_57, gX3_leavers_58, gX3_leavers_61, am_kill_int, am_kill_ref, am_kill_null, am_kill_F, am_kill_long, am_cat_n, am_cat_i, am_cat_r, am_cat_0, am_cat_l, am_nr_n, am_nr_i, am_nr_r, am_nr_0, am_nr_l, Option.toList_some, Option.toList_none, List.nil_append, List.cons_append, va_rf_s, va_rf_n, am_I_sR, am_I_sL, am_R_sI, am_R_sL, am_L_sI, am_L_sR, am_k_sI, am_k_sR, am_k_sL, am_n_sI, am_n_sR, am_n_sL, true_and, and_true, true_or, or_true, or_false, false_or, not_true_eq_false, not_false_eq_true, Nat.reduceLT, am_dS, am_dP, am_d1, Nat.reduceSub, Nat.reduceMul, ne_eq, Nat.reduceBEq, Nat.reduceAdd, Nat.reduceLeDiff, Nat.reduceEqDiff, and_self, and_false, false_and, if_true, if_false, am_nb, am_nb0, am_nb1, am_lc1, am_lc2, am_lc3, am_b0, am_b1, am_10, am_c8, am_c16, am_c24, am_c32, am_c40, am_c48, am_c56, am_c64, am_c72, Nat.add_zero, Bool.false_eq_true, Nat.zero_le, hmu, hat]
      rw [hfa]
      have hN2 := hM2.2.1
      have hmu2 := hM2.1
      unfold mL at hmu2
      simp only [gX3_leavers_64, gX3_leavers_90, gX3_leavers_93, am_kill_int, am_kill_ref, am_kill_null, am_kill_F, am_kill_long, am_cat_n, am_cat_i, am_cat_r, am_cat_0, am_cat_l, am_nr_n, am_nr_i, am_nr_r, am_nr_0, am_nr_l, Option.toList_some, Option.toList_none, List.nil_append, List.cons_append, va_rf_s, va_rf_n, am_I_sR, am_I_sL, am_R_sI, am_R_sL, am_L_sI, am_L_sR, am_k_sI, am_k_sR, am_k_sL, am_n_sI, am_n_sR, am_n_sL, true_and, and_true, true_or, or_true, or_false, false_or, not_true_eq_false, not_false_eq_true, Nat.reduceLT, am_dS, am_dP, am_d1, Nat.reduceSub, Nat.reduceMul, ne_eq, Nat.reduceBEq, Nat.reduceAdd, Nat.reduceLeDiff, Nat.reduceEqDiff, and_self, and_false, false_and, if_true, if_false, am_nb, am_nb0, am_nb1, am_lc1, am_lc2, am_lc3, am_b0, am_b1, am_10, am_c8, am_c16, am_c24, am_c32, am_c40, am_c48, am_c56, am_c64, am_c72, Nat.add_zero, Bool.false_eq_true, Nat.zero_le, nI_1]
      generalize am_sI ρ 54 12 (nI k) = ρ2 at hT2 hF2 hfi2 hN2 hmu2 ⊢
      rw [gX3_leavers_17]
      by_cases g : k + 1 = N
      · have hle : nI N ≤ nI (k + 1) := nI_le (by omega) (by omega)
        simp only [gX3_leavers_18, gX3_leavers_19, gX3_leavers_22, am_kill_int, am_kill_ref, am_kill_null, am_kill_F, am_kill_long, am_cat_n, am_cat_i, am_cat_r, am_cat_0, am_cat_l, am_nr_n, am_nr_i, am_nr_r, am_nr_0, am_nr_l, Option.toList_some, Option.toList_none, List.nil_append, List.cons_append, va_rf_s, va_rf_n, am_I_sR, am_I_sL, am_R_sI, am_R_sL, am_L_sI, am_L_sR, am_k_sI, am_k_sR, am_k_sL, am_n_sI, am_n_sR, am_n_sL, true_and, and_true, true_or, or_true, or_false, false_or, not_true_eq_false, not_false_eq_true, Nat.reduceLT, am_dS, am_dP, am_d1, Nat.reduceSub, Nat.reduceMul, ne_eq, Nat.reduceBEq, Nat.reduceAdd, Nat.reduceLeDiff, Nat.reduceEqDiff, and_self, and_false, false_and, if_true, if_false, am_nb, am_nb0, am_nb1, am_lc1, am_lc2, am_lc3, am_b0, am_b1, am_10, am_c8, am_c16, am_c24, am_c32, am_c40, am_c48, am_c56, am_c64, am_c72, Nat.add_zero, Bool.false_eq_true, Nat.zero_le, hmu2, hN2, hle]
        exact hK1 k k _ _ _ _ hl hT2 hF2
      · have hlt2 : ¬ nI N ≤ nI (k + 1) := nI_ge (by omega) (by omega)
        simp only [gX3_leavers_18, gX3_leavers_19, gX3_leavers_22, gX3_leavers_25, gX3_leavers_26, am_kill_int, am_kill_ref, am_kill_null, am_kill_F, am_kill_long, am_cat_n, am_cat_i, am_cat_r, am_cat_0, am_cat_l, am_nr_n, am_nr_i, am_nr_r, am_nr_0, am_nr_l, Option.toList_some, Option.toList_none, List.nil_append, List.cons_append, va_rf_s, va_rf_n, am_I_sR, am_I_sL, am_R_sI, am_R_sL, am_L_sI, am_L_sR, am_k_sI, am_k_sR, am_k_sL, am_n_sI, am_n_sR, am_n_sL, true_and, and_true, true_or, or_true, or_false, false_or, not_true_eq_false, not_false_eq_true, Nat.reduceLT, am_dS, am_dP, am_d1, Nat.reduceSub, Nat.reduceMul, ne_eq, Nat.reduceBEq, Nat.reduceAdd, Nat.reduceLeDiff, Nat.reduceEqDiff, and_self, and_false, false_and, if_true, if_false, am_nb, am_nb0, am_nb1, am_lc1, am_lc2, am_lc3, am_b0, am_b1, am_10, am_c8, am_c16, am_c24, am_c32, am_c40, am_c48, am_c56, am_c64, am_c72, Nat.add_zero, Bool.false_eq_true, Nat.zero_le, hmu2, hN2, hlt2]
        rw [hfi2]
        simp only [gX3_leavers_29, am_kill_int, am_kill_ref, am_kill_null, am_kill_F, am_kill_long, am_cat_n, am_cat_i, am_cat_r, am_cat_0, am_cat_l, am_nr_n, am_nr_i, am_nr_r, am_nr_0, am_nr_l, Option.toList_some, Option.toList_none, List.nil_append, List.cons_append, va_rf_s, va_rf_n, am_II, am_I_sR, am_I_sL, am_R_sI, am_RR, am_R_sL, am_L_sI, am_L_sR, am_LL, am_k_sI, am_k_sR, am_k_sL, am_n_sI, am_n_sR, am_n_sL, true_and, and_true, true_or, or_true, or_false, false_or, not_true_eq_false, not_false_eq_true, Nat.reduceLT, am_dS, am_dP, am_d1, Nat.reduceSub, Nat.reduceMul, ne_eq, Nat.reduceBEq, Nat.reduceAdd, Nat.reduceLeDiff, Nat.reduceEqDiff, and_self, and_false, false_and, if_true, if_false, am_nb, am_nb0, am_nb1, am_lc1, am_lc2, am_lc3, am_b0, am_b1, am_10, am_c8, am_c16, am_c24, am_c32, am_c40, am_c48, am_c56, am_c64, am_c72, Nat.add_zero, Bool.false_eq_true, Nat.zero_le]
        exact hK1 k k _ _ _ _ hl hT2 hF2
    rw [gX3_leavers_17]
    simp only [gX3_leavers_18, gX3_leavers_19, gX3_leavers_22, gX3_leavers_25, gX3_leavers_26, am_kill_int, am_kill_ref, am_kill_null, am_kill_F, am_kill_long, am_cat_n, am_cat_i, am_cat_r, am_cat_0, am_cat_l, am_nr_n, am_nr_i, am_nr_r, am_nr_0, am_nr_l, Option.toList_some, Option.toList_none, List.nil_append, List.cons_append, va_rf_s, va_rf_n, am_I_sR, am_I_sL, am_R_sI, am_R_sL, am_L_sI, am_L_sR, am_k_sI, am_k_sR, am_k_sL, am_n_sI, am_n_sR, am_n_sL, true_and, and_true, true_or, or_true, or_false, false_or, not_true_eq_false, not_false_eq_true, Nat.reduceLT, am_dS, am_dP, am_d1, Nat.reduceSub, Nat.reduceMul, ne_eq, Nat.reduceBEq, Nat.reduceAdd, Nat.reduceLeDiff, Nat.reduceEqDiff, and_self, and_false, false_and, if_true, if_false, am_nb, am_nb0, am_nb1, am_lc1, am_lc2, am_lc3, am_b0, am_b1, am_10, am_c8, am_c16, am_c24, am_c32, am_c40, am_c48, am_c56, am_c64, am_c72, Nat.add_zero, Bool.false_eq_true, Nat.zero_le, hmu, hN, hlt, hfi]
    simp only [gX3_leavers_29, gX3_leavers_32, gX3_leavers_33, am_kill_int, am_kill_ref, am_kill_null, am_kill_F, am_kill_long, am_cat_n, am_cat_i, am_cat_r, am_cat_0, am_cat_l, am_nr_n, am_nr_i, am_nr_r, am_nr_0, am_nr_l, Option.toList_some, Option.toList_none, List.nil_append, List.cons_append, va_rf_s, va_rf_n, am_I_sR, am_I_sL, am_R_sI, am_R_sL, am_L_sI, am_L_sR, am_k_sI, am_k_sR, am_k_sL, am_n_sI, am_n_sR, am_n_sL, true_and, and_true, true_or, or_true, or_false, false_or, not_true_eq_false, not_false_eq_true, Nat.reduceLT, am_dS, am_dP, am_d1, Nat.reduceSub, Nat.reduceMul, ne_eq, Nat.reduceBEq, Nat.reduceAdd, Nat.reduceLeDiff, Nat.reduceEqDiff, and_self, and_false, false_and, if_true, if_false, am_nb, am_nb0, am_nb1, am_lc1, am_lc2, am_lc3, am_b0, am_b1, am_10, am_c8, am_c16, am_c24, am_c32, am_c40, am_c48, am_c56, am_c64, am_c72, Nat.add_zero, Bool.false_eq_true, Nat.zero_le, hmu, o10, hhe]
    by_cases f2 : isN (ch k - 48) N = true
    · obtain ⟨g1, g2⟩ := dvL_s h8 f2
      have hb : ((nI B >>> (nI (dvL ch k) &&& 31)) &&& 1 = 1) = (B.testBit (dvL ch k) = true) := bt_has ⟨B, hB⟩ ⟨dvL ch k, by omega⟩
      by_cases f3 : B.testBit (dvL ch k) = true
      · have hl : leF ch N (m + 1) k B = some k := by unfold leF; rw [if_neg (fun z => by rw [z.2] at f3; cases f3)]
        have bd := bad hl
        rw [g1] at f2 bd
        simp only [gX3_leavers_36, gX3_leavers_38, gX3_leavers_39, gX3_leavers_40, gX3_leavers_41, gX3_leavers_42, gX3_leavers_45, gX3_leavers_48, gX3_leavers_49, gX3_leavers_50, gX3_leavers_53, am_kill_int, am_kill_ref, am_kill_null, am_kill_F, am_kill_long, am_cat_n, am_cat_i, am_cat_r, am_cat_0, am_cat_l, am_nr_n, am_nr_i, am_nr_r, am_nr_0, am_nr_l, Option.toList_some, Option.toList_none, List.nil_append, List.cons_append, va_rf_s, va_rf_n, am_I_sR, am_I_sL, am_R_sI, am_R_sL, am_L_sI, am_L_sR, am_k_sI, am_k_sR, am_k_sL, am_n_sI, am_n_sR, am_n_sL, true_and, and_true, true_or, or_true, or_false, false_or, not_true_eq_false, not_false_eq_true, Nat.reduceLT, am_dS, am_dP, am_d1, Nat.reduceSub, Nat.reduceMul, ne_eq, Nat.reduceBEq, Nat.reduceAdd, Nat.reduceLeDiff, Nat.reduceEqDiff, and_self, and_false, false_and, if_true, if_false, am_nb, am_nb0, am_nb1, am_lc1, am_lc2, am_lc3, am_b0, am_b1, am_10, am_c8, am_c16, am_c24, am_c32, am_c40, am_c48, am_c56, am_c64, am_c72, Nat.add_zero, Bool.false_eq_true, Nat.zero_le, hmu, g1, wX3_isNest hMρ, wX3_has, hb, f2, f3, o10]
        exact bd
      · have f3' : B.testBit (dvL ch k) = false := by
          cases hz : B.testBit (dvL ch k) with
          | true => exact absurd hz f3
          | false => rfl
        have hl : leF ch N (m + 1) k B = leF ch N m (k + 1) (B ||| 2 ^ dvL ch k) := by
          conv => lhs; unfold leF
          exact if_pos ⟨f2, f3'⟩
        rw [hl] at hK1 hK2
        rw [g1] at f2
        have hin8 : vp_in (nI k) 8 := vp_in_nI (by omega) (by omega)
        have hcl : (nI k).toNatClampNeg = k := nI_clamp (by omega)
        have hor : nI B ||| 1 <<< (nI (dvL ch k) &&& 31) = nI (B ||| 2 ^ dvL ch k) := bt_or' hB (by omega)
        simp only [gX3_leavers_36, gX3_leavers_38, gX3_leavers_39, gX3_leavers_40, gX3_leavers_41, gX3_leavers_42, gX3_leavers_45, gX3_leavers_48, gX3_leavers_49, gX3_leavers_50, gX3_leavers_53, am_kill_int, am_kill_ref, am_kill_null, am_kill_F, am_kill_long, am_cat_n, am_cat_i, am_cat_r, am_cat_0, am_cat_l, am_nr_n, am_nr_i, am_nr_r, am_nr_0, am_nr_l, Option.toList_some, Option.toList_none, List.nil_append, List.cons_append, va_rf_s, va_rf_n, am_I_sR, am_I_sL, am_R_sI, am_R_sL, am_L_sI, am_L_sR, am_k_sI, am_k_sR, am_k_sL, am_n_sI, am_n_sR, am_n_sL, true_and, and_true, true_or, or_true, or_false, false_or, not_true_eq_false, not_false_eq_true, Nat.reduceLT, am_dS, am_dP, am_d1, Nat.reduceSub, Nat.reduceMul, ne_eq, Nat.reduceBEq, Nat.reduceAdd, Nat.reduceLeDiff, Nat.reduceEqDiff, and_self, and_false, false_and, if_true, if_false, am_nb, am_nb0, am_nb1, am_lc1, am_lc2, am_lc3, am_b0, am_b1, am_10, am_c8, am_c16, am_c24, am_c32, am_c40, am_c48, am_c56, am_c64, am_c72, Nat.add_zero, Bool.false_eq_true, Nat.zero_le, hmu, g1, wX3_isNest hMρ, wX3_has, hb, f2, f3, o10]
        simp only [gX3_leavers_67, gX3_leavers_68, gX3_leavers_69, gX3_leavers_72, gX3_leavers_73, gX3_leavers_74, gX3_leavers_77, gX3_leavers_78, gX3_leavers_81, gX3_leavers_82, gX3_leavers_83, gX3_leavers_84, gX3_leavers_85, gX3_leavers_86, gX3_leavers_87, gX3_leavers_88, gX3_leavers_89, gX3_leavers_90, gX3_leavers_93, am_kill_int, am_kill_ref, am_kill_null, am_kill_F, am_kill_long, am_cat_n, am_cat_i, am_cat_r, am_cat_0, am_cat_l, am_nr_n, am_nr_i, am_nr_r, am_nr_0, am_nr_l, Option.toList_some, Option.toList_none, List.nil_append, List.cons_append, va_rf_s, va_rf_n, am_II, am_I_sR, am_I_sL, am_R_sI, am_RR, am_R_sL, am_L_sI, am_L_sR, am_LL, am_k_sI, am_k_sR, am_k_sL, am_n_sI, am_n_sR, am_n_sL, true_and, and_true, true_or, or_true, or_false, false_or, not_true_eq_false, not_false_eq_true, Nat.reduceLT, am_dS, am_dP, am_d1, Nat.reduceSub, Nat.reduceMul, ne_eq, Nat.reduceBEq, Nat.reduceAdd, Nat.reduceLeDiff, Nat.reduceEqDiff, and_self, and_false, false_and, if_true, if_false, am_nb, am_nb0, am_nb1, am_lc1, am_lc2, am_lc3, am_b0, am_b1, am_10, am_c8, am_c16, am_c24, am_c32, am_c40, am_c48, am_c56, am_c64, am_c72, Nat.add_zero, Bool.false_eq_true, Nat.zero_le, hmu, hat, hin8, hcl, hor, nI_1]
        refine ih (k + 1) _ _ _ _ (by omega) (hT.gen (F := fLM) (Fr.I (Fr.I Fr.refl (by unfold fLM; omega)) (by unfold fLM; omega)) (by unfold fLM; omega) (by unfold fLM; omega) (fun b => by unfold fLM; omega) rfl (by rw [am_I_sI, if_neg (by omega), am_I_sI, if_pos ⟨rfl, rfl⟩]) (by omega) (by rw [am_I_sI, if_neg (by omega), am_I_sI, if_neg (by omega)]; exact hT.2.2.2.2.2.2.1)) (Fr.I (Fr.I hF (by unfold fLM; omega)) (by unfold fLM; omega)) (or_256 hB (by omega)) (fun j hj => ?_) hK1 hK2
        by_cases g : j = k
        · subst g; rw [am_I_sI, if_pos ⟨rfl, rfl⟩]
        · rw [am_I_sI, if_neg (by omega), am_I_sI, if_neg (by omega)]; exact hr j (by omega)
    · have hl : leF ch N (m + 1) k B = some k := by unfold leF; rw [if_neg (fun z => f2 z.1)]
      simp only [gX3_leavers_36, gX3_leavers_38, gX3_leavers_39, gX3_leavers_40, gX3_leavers_41, gX3_leavers_42, gX3_leavers_45, am_kill_int, am_kill_ref, am_kill_null, am_kill_F, am_kill_long, am_cat_n, am_cat_i, am_cat_r, am_cat_0, am_cat_l, am_nr_n, am_nr_i, am_nr_r, am_nr_0, am_nr_l, Option.toList_some, Option.toList_none, List.nil_append, List.cons_append, va_rf_s, va_rf_n, am_I_sR, am_I_sL, am_R_sI, am_R_sL, am_L_sI, am_L_sR, am_k_sI, am_k_sR, am_k_sL, am_n_sI, am_n_sR, am_n_sL, true_and, and_true, true_or, or_true, or_false, false_or, not_true_eq_false, not_false_eq_true, Nat.reduceLT, am_dS, am_dP, am_d1, Nat.reduceSub, Nat.reduceMul, ne_eq, Nat.reduceBEq, Nat.reduceAdd, Nat.reduceLeDiff, Nat.reduceEqDiff, and_self, and_false, false_and, if_true, if_false, am_nb, am_nb0, am_nb1, am_lc1, am_lc2, am_lc3, am_b0, am_b1, am_10, am_c8, am_c16, am_c24, am_c32, am_c40, am_c48, am_c56, am_c64, am_c72, Nat.add_zero, Bool.false_eq_true, Nat.zero_le, hmu, wX3_isNest hMρ, f2]
      exact bad hl
/-- what leavers answers -/
def vLv (N : Nat) (S : Nat → Int32) (ch : Nat → Int32) (t : Nat) : Int32 := match leF ch N N 0 0 with
  | some p => -1 - nI p
  | none => if N < t then -1 - nI N else orB (lvP (fun o n => dlV (cfS S o) n) (dvL ch) N) N
def pLv (N : Nat) (S : Nat → Int32) (ch : Nat → Int32) (t : Nat) : Option (List Int64) := match leF ch N N 0 0 with
  | some _ => none
  | none => if N < t then none else some [(bcI (orB (lvP (fun o n => dlV (cfS S o) n) (dvL ch) N) N)).toInt64]
theorem qc_leavers (hP : Per N C ru c μ) (t1 : t ≤ 80) (t2 : am_I μ 0 6 = nI t) : QCt mX1_leavers [.ref 0, am_F, am_F, am_F, am_F] μ (vLv N (cS μ 1) (chM (am_I μ 56) t 80) t) (pLv N (cS μ 1) (chM (am_I μ 56) t 80) t) := by
  intro d K hK
  have hC := hP.1.1
  have hcu := hC.1
  simp only [cL, spL, Nat.reduceAdd] at hcu
  have hN := hC.2.1
  have h8 := hC.2.2.1
  have hk := hC.1.c
  have hst : stL μ := hP.1.2.2.1
  have hpt : pTx μ := hP.2.2.2.1
  have e80 : (80 : Int32) = nI 80 := rfl
  have hb := wX1_begins (d := d + 198) (m := 80) (K := fun r1 μ1 => am_nr r1 ∧ am_Wp (d + 200) mX1_leavers 6 [.ref 0, am_F, am_F, am_F, am_F] (r1.toList ++ []) μ1 K) hk t2 t1 (by decide)
  have hCR := CR_begin (t := t) (m := 80) hC hst hpt t1 (by decide)
  have hCb : CC N ru c (bgC 80 t μ) := hC.fr bgC_Fr (fun a b z => by omega)
  have hmt : min t 80 = t := by omega
  rw [hmt] at hCR
  simp only [gX1_leavers_0, gX1_leavers_1, gX1_leavers_3, am_kill_int, am_kill_ref, am_kill_null, am_kill_F, am_kill_long, am_cat_n, am_cat_i, am_cat_r, am_cat_0, am_cat_l, am_nr_n, am_nr_i, am_nr_r, am_nr_0, am_nr_l, Option.toList_some, Option.toList_none, List.nil_append, List.cons_append, va_rf_s, va_rf_n, am_II, am_I_sR, am_I_sL, am_R_sI, am_RR, am_R_sL, am_L_sI, am_L_sR, am_LL, am_k_sI, am_k_sR, am_k_sL, am_n_sI, am_n_sR, am_n_sL, true_and, and_true, true_or, or_true, or_false, false_or, not_true_eq_false, not_false_eq_true, Nat.reduceLT, am_dS, am_dP, am_d1, Nat.reduceSub, Nat.reduceMul, ne_eq, Nat.reduceBEq, Nat.reduceAdd, Nat.reduceLeDiff, Nat.reduceEqDiff, and_self, and_false, false_and, if_true, if_false, am_nb, am_nb0, am_nb1, am_lc1, am_lc2, am_lc3, am_b0, am_b1, am_10, am_c8, am_c16, am_c24, am_c32, am_c40, am_c48, am_c56, am_c64, am_c72, Nat.add_zero, Bool.false_eq_true, Nat.zero_le, hk, e80]
  rw [hb]
  simp only [gX1_leavers_6, gX1_leavers_7, gX1_leavers_8, gX1_leavers_9, gX1_leavers_10, am_kill_int, am_kill_ref, am_kill_null, am_kill_F, am_kill_long, am_cat_n, am_cat_i, am_cat_r, am_cat_0, am_cat_l, am_nr_n, am_nr_i, am_nr_r, am_nr_0, am_nr_l, Option.toList_some, Option.toList_none, List.nil_append, List.cons_append, va_rf_s, va_rf_n, am_II, am_I_sR, am_I_sL, am_R_sI, am_RR, am_R_sL, am_L_sI, am_L_sR, am_LL, am_k_sI, am_k_sR, am_k_sL, am_n_sI, am_n_sR, am_n_sL, true_and, and_true, true_or, or_true, or_false, false_or, not_true_eq_false, not_false_eq_true, Nat.reduceLT, am_dS, am_dP, am_d1, Nat.reduceSub, Nat.reduceMul, ne_eq, Nat.reduceBEq, Nat.reduceAdd, Nat.reduceLeDiff, Nat.reduceEqDiff, and_self, and_false, false_and, if_true, if_false, am_nb, am_nb0, am_nb1, am_lc1, am_lc2, am_lc3, am_b0, am_b1, am_10, am_c8, am_c16, am_c24, am_c32, am_c40, am_c48, am_c56, am_c64, am_c72, Nat.add_zero, Bool.false_eq_true, Nat.zero_le]
  have hfr : ∀ ν, Fr fLC (bgC 80 t μ) ν → Fw sCt μ ν := fun ν hF => (bgC_Fr.toW.le fun a b z => by unfold sCt sC; omega).trans (hF.toW.le fun a b z => by unfold fLC at z; unfold sCt sC; omega)
  have h6 : ∀ ν, Fr fLC (bgC 80 t μ) ν → am_I ν 0 6 = 0 := fun ν hF => (hF.1 0 6 (by unfold fLC; omega)).trans rfl
  refine lxC_loop (ch := chM (am_I μ 56) t 80) hCb t1 hCR N 0 0 _ _ _ (by omega) hCR Fr.refl (by omega) (fun j hj => absurd hj (Nat.not_lt_zero j)) (fun p ν hl hF => ?_) (fun B' z3' ν hl hF h7 hr => ?_)
  · unfold vLv pLv at hK
    rw [hl] at hK
    exact hK ν (hfr ν hF) (h6 ν hF) ⟨(hF.1 0 40 (by unfold fLC; omega)).trans rfl, fun i => hF.L⟩ (fun i => hF.L)
  · have hCν : CC N ru c ν := hCb.fr hF (fun a b z => by unfold fLC at z; omega)
    have hkν := hCν.1.c
    have h8' : am_I ν 0 8 = nI t := (hF.1 0 8 (by unfold fLC; omega)).trans (show am_I (bgC 80 t μ) 0 8 = nI t from congrArg nI hmt)
    unfold vLv pLv at hK
    rw [hl] at hK
    by_cases g : N < t
    · have hlt : ¬ nI t ≤ nI N := nI_ge g (by omega)
      simp only [if_pos g] at hK
      simp only [gX1_leavers_109, gX1_leavers_110, gX1_leavers_113, gX1_leavers_114, gX1_leavers_117, gX1_leavers_120, gX1_leavers_121, gX1_leavers_122, gX1_leavers_125, gX1_leavers_126, am_kill_int, am_kill_ref, am_kill_null, am_kill_F, am_kill_long, am_cat_n, am_cat_i, am_cat_r, am_cat_0, am_cat_l, am_nr_n, am_nr_i, am_nr_r, am_nr_0, am_nr_l, Option.toList_some, Option.toList_none, List.nil_append, List.cons_append, va_rf_s, va_rf_n, am_II, am_I_sR, am_I_sL, am_R_sI, am_RR, am_R_sL, am_L_sI, am_L_sR, am_LL, am_k_sI, am_k_sR, am_k_sL, am_n_sI, am_n_sR, am_n_sL, true_and, and_true, true_or, or_true, or_false, false_or, not_true_eq_false, not_false_eq_true, Nat.reduceLT, am_dS, am_dP, am_d1, Nat.reduceSub, Nat.reduceMul, ne_eq, Nat.reduceBEq, Nat.reduceAdd, Nat.reduceLeDiff, Nat.reduceEqDiff, and_self, and_false, false_and, if_true, if_false, am_nb, am_nb0, am_nb1, am_lc1, am_lc2, am_lc3, am_b0, am_b1, am_10, am_c8, am_c16, am_c24, am_c32, am_c40, am_c48, am_c56, am_c64, am_c72, Nat.add_zero, Bool.false_eq_true, Nat.zero_le, hkν, h7, h8', hlt]
      exact hK ν (hfr ν hF) (h6 ν hF) ⟨(hF.1 0 40 (by unfold fLC; omega)).trans rfl, fun i => hF.L⟩ (fun i => hF.L)
    · have hle : nI t ≤ nI N := nI_le (by omega) (by omega)
      simp only [if_neg g] at hK
      have hS1 : cS ν 1 = cS μ 1 := (cS_Fr hF fun a b z1 z2 z3 => by unfold fLC at z3; omega).trans (cS_Fr bgC_Fr fun a b z1 z2 z3 => by omega)
      have hcuν := hCν.1
      simp only [cL, spL, Nat.reduceAdd] at hcuν
      simp only [gX1_leavers_109, gX1_leavers_110, gX1_leavers_113, gX1_leavers_114, gX1_leavers_117, gX1_leavers_127, gX1_leavers_128, gX1_leavers_129, gX1_leavers_130, am_kill_int, am_kill_ref, am_kill_null, am_kill_F, am_kill_long, am_cat_n, am_cat_i, am_cat_r, am_cat_0, am_cat_l, am_nr_n, am_nr_i, am_nr_r, am_nr_0, am_nr_l, Option.toList_some, Option.toList_none, List.nil_append, List.cons_append, va_rf_s, va_rf_n, am_II, am_I_sR, am_I_sL, am_R_sI, am_RR, am_R_sL, am_L_sI, am_L_sR, am_LL, am_k_sI, am_k_sR, am_k_sL, am_n_sI, am_n_sR, am_n_sL, true_and, and_true, true_or, or_true, or_false, false_or, not_true_eq_false, not_false_eq_true, Nat.reduceLT, am_dS, am_dP, am_d1, Nat.reduceSub, Nat.reduceMul, ne_eq, Nat.reduceBEq, Nat.reduceAdd, Nat.reduceLeDiff, Nat.reduceEqDiff, and_self, and_false, false_and, if_true, if_false, am_nb, am_nb0, am_nb1, am_lc1, am_lc2, am_lc3, am_b0, am_b1, am_10, am_c8, am_c16, am_c24, am_c32, am_c40, am_c48, am_c56, am_c64, am_c72, Nat.add_zero, Bool.false_eq_true, Nat.zero_le, hkν, h7, h8', hle]
      rw [← nI_0]
      refine leC_loop (d := d) (cf := cfS (cS μ 1)) (dv := dvL (chM (am_I μ 56) t 80)) hCν (fun o _ => by rw [hS1]; rfl) hr (fun j hj => (dvL_s h8 (leF_ok N 0 0 hl j (by omega) (by omega))).2) _ _ (fun z4' => ?_)
      simp only [gX1_leavers_229, gX1_leavers_230, gX1_leavers_231, gX1_leavers_234, gX1_leavers_235, gX1_leavers_236, gX1_leavers_239, gX1_leavers_240, gX1_leavers_243, gX1_leavers_244, am_kill_int, am_kill_ref, am_kill_null, am_kill_F, am_kill_long, am_cat_n, am_cat_i, am_cat_r, am_cat_0, am_cat_l, am_nr_n, am_nr_i, am_nr_r, am_nr_0, am_nr_l, Option.toList_some, Option.toList_none, List.nil_append, List.cons_append, va_rf_s, va_rf_n, am_II, am_I_sR, am_I_sL, am_R_sI, am_RR, am_R_sL, am_L_sI, am_L_sR, am_LL, am_k_sI, am_k_sR, am_k_sL, am_n_sI, am_n_sR, am_n_sL, true_and, and_true, true_or, or_true, or_false, false_or, not_true_eq_false, not_false_eq_true, Nat.reduceLT, am_dS, am_dP, am_d1, Nat.reduceSub, Nat.reduceMul, ne_eq, Nat.reduceBEq, Nat.reduceAdd, Nat.reduceLeDiff, Nat.reduceEqDiff, and_self, and_false, false_and, if_true, if_false, am_nb, am_nb0, am_nb1, am_lc1, am_lc2, am_lc3, am_b0, am_b1, am_10, am_c8, am_c16, am_c24, am_c32, am_c40, am_c48, am_c56, am_c64, am_c72, Nat.add_zero, Bool.false_eq_true, Nat.zero_le, hcuν, wX1_tells0, wJ10_bitCount]
      refine hK _ ((((hfr ν hF).I (by unfold sCt sC; omega)).L (Or.inl rfl)).I (by unfold sCt sC; omega)) ?_ (TC1 ?_ ?_) (fun i => ?_)
      · simp only [am_II, am_I_sL, Nat.reduceEqDiff, and_false, if_false]; exact h6 ν hF
      · simp only [am_II, and_self, if_true]
      · simp only [am_L_sI, am_LL, and_self, if_true]
      · simp only [am_L_sI, am_LL, Nat.reduceEqDiff, false_and, if_false]; exact hF.L
theorem q5_leavers (hP : Per N C ru c ν) (t1 : t ≤ 80) (t3 : am_I ν 54 4 = nI t) (hs : Sim N S (am_I ν 55)) (h56 : am_I ν 56 = T) : QMt mX3_leavers [.ref 54, am_F, am_F, am_F, am_F] ν (vLv N S (chM T t 80) t) (pLv N S (chM T t 80) t) := by
  intro d K hK
  have hS := hP.1.2.1
  have hMC := hS.1
  have hmu := hMC.1
  unfold mL at hmu
  have h8 := hMC.2.2.1
  have hpt : pTx ν := hP.2.2.2.1
  have o10 : ¬ (1 : Int32) = 0 := by decide
  have e4' : am_I (am_sI ν 54 7 0) 54 4 = nI t := by rw [am_I_sI, if_neg (by omega)]; exact t3
  have hm' : mL (am_k (am_sI ν 54 7 0)) (am_R (am_sI ν 54 7 0)) := hMC.1
  have hp' : pTx (am_sI ν 54 7 0) := fun i hi => by
    rw [am_row_o (by decide), am_row_o (by decide)]; exact hpt i hi
  have hbt := wX3_beginText' (d := d + 198) (m := N) (K := fun r1 μ1 => am_nr r1 ∧ am_Wp (d + 200) mX3_leavers 13 [.ref 54, am_F, am_F, am_F, am_F] (r1.toList ++ []) μ1 K) hm' e4'
  have hN0 : am_I (am_sI ν 54 7 0) 54 1 = nI N := by rw [am_I_sI, if_neg (by omega)]; exact hMC.2.1
  have hT := bgT_TM (t := t) (m := N) hm' hp' t1 (by omega)
  have hFb : Fr (fun a b => a = 54 ∧ (b = 4 ∨ b = 7 ∨ b = 9 ∨ b = 10 ∨ b = 11 ∨ b = 12)) ν (bgT N t (am_sI ν 54 7 0)) := ((Fr.I Fr.refl (by omega)) : Fr _ ν (am_sI ν 54 7 0)).trans (bgT_Fr.le fun a b z => by omega)
  have hMb : MC N c (bgT N t (am_sI ν 54 7 0)) := hMC.fr hFb (fun a b z => by omega)
  have r56 : am_I (bgT N t (am_sI ν 54 7 0)) 56 = T := by rw [bgT_56, am_row_o (by decide)]; exact h56
  have hch : ∀ k, k < N → chM (am_I (bgT N t (am_sI ν 54 7 0)) 56) t N k = chM T t 80 k := fun k hk => by
    rw [r56]; unfold chM
    by_cases z : k < t
    · rw [if_pos ⟨z, hk⟩, if_pos ⟨z, by omega⟩]
    · rw [if_neg (fun f => z f.1), if_neg (fun f => z f.1)]
  simp only [gX3_leavers_0, gX3_leavers_1, gX3_leavers_2, am_kill_int, am_kill_ref, am_kill_null, am_kill_F, am_kill_long, am_cat_n, am_cat_i, am_cat_r, am_cat_0, am_cat_l, am_nr_n, am_nr_i, am_nr_r, am_nr_0, am_nr_l, Option.toList_some, Option.toList_none, List.nil_append, List.cons_append, va_rf_s, va_rf_n, am_I_sR, am_I_sL, am_R_sI, am_R_sL, am_L_sI, am_L_sR, am_k_sI, am_k_sR, am_k_sL, am_n_sI, am_n_sR, am_n_sL, true_and, and_true, true_or, or_true, or_false, false_or, not_true_eq_false, not_false_eq_true, Nat.reduceLT, am_dS, am_dP, am_d1, Nat.reduceSub, Nat.reduceMul, ne_eq, Nat.reduceBEq, Nat.reduceAdd, Nat.reduceLeDiff, Nat.reduceEqDiff, and_self, and_false, false_and, if_true, if_false, am_nb, am_nb0, am_nb1, am_lc1, am_lc2, am_lc3, am_b0, am_b1, am_10, am_c8, am_c16, am_c24, am_c32, am_c40, am_c48, am_c56, am_c64, am_c72, Nat.add_zero, Bool.false_eq_true, Nat.zero_le, hmu]
  have hk54 : am_k (am_sI ν 54 7 0) 54 = (2, 0) := hmu.1.1
  simp only [gX3_leavers_5, gX3_leavers_6, gX3_leavers_7, gX3_leavers_10, am_kill_int, am_kill_ref, am_kill_null, am_kill_F, am_kill_long, am_cat_n, am_cat_i, am_cat_r, am_cat_0, am_cat_l, am_nr_n, am_nr_i, am_nr_r, am_nr_0, am_nr_l, Option.toList_some, Option.toList_none, List.nil_append, List.cons_append, va_rf_s, va_rf_n, am_I_sR, am_I_sL, am_R_sI, am_R_sL, am_L_sI, am_L_sR, am_k_sI, am_k_sR, am_k_sL, am_n_sI, am_n_sR, am_n_sL, true_and, and_true, true_or, or_true, or_false, false_or, not_true_eq_false, not_false_eq_true, Nat.reduceLT, am_dS, am_dP, am_d1, Nat.reduceSub, Nat.reduceMul, ne_eq, Nat.reduceBEq, Nat.reduceAdd, Nat.reduceLeDiff, Nat.reduceEqDiff, and_self, and_false, false_and, if_true, if_false, am_nb, am_nb0, am_nb1, am_lc1, am_lc2, am_lc3, am_b0, am_b1, am_10, am_c8, am_c16, am_c24, am_c32, am_c40, am_c48, am_c56, am_c64, am_c72, Nat.add_zero, Bool.false_eq_true, Nat.zero_le, hk54, hN0, hmu]
  rw [hbt]
  simp only [gX3_leavers_13, gX3_leavers_14, gX3_leavers_15, gX3_leavers_16, am_kill_int, am_kill_ref, am_kill_null, am_kill_F, am_kill_long, am_cat_n, am_cat_i, am_cat_r, am_cat_0, am_cat_l, am_nr_n, am_nr_i, am_nr_r, am_nr_0, am_nr_l, Option.toList_some, Option.toList_none, List.nil_append, List.cons_append, va_rf_s, va_rf_n, am_II, am_I_sR, am_I_sL, am_R_sI, am_RR, am_R_sL, am_L_sI, am_L_sR, am_LL, am_k_sI, am_k_sR, am_k_sL, am_n_sI, am_n_sR, am_n_sL, true_and, and_true, true_or, or_true, or_false, false_or, not_true_eq_false, not_false_eq_true, Nat.reduceLT, am_dS, am_dP, am_d1, Nat.reduceSub, Nat.reduceMul, ne_eq, Nat.reduceBEq, Nat.reduceAdd, Nat.reduceLeDiff, Nat.reduceEqDiff, and_self, and_false, false_and, if_true, if_false, am_nb, am_nb0, am_nb1, am_lc1, am_lc2, am_lc3, am_b0, am_b1, am_10, am_c8, am_c16, am_c24, am_c32, am_c40, am_c48, am_c56, am_c64, am_c72, Nat.add_zero, Bool.false_eq_true, Nat.zero_le]
  have h4 : ∀ ξ, Fr fLM (bgT N t (am_sI ν 54 7 0)) ξ → am_I ξ 54 4 = 0 := fun ξ hF => (hF.1 54 4 (by unfold fLM; omega)).trans rfl
  have hfr : ∀ ξ, Fr fLM (bgT N t (am_sI ν 54 7 0)) ξ → Fw sMt ν ξ := fun ξ hF => (hFb.toW.le fun a b z => by unfold sMt sM; omega).trans (hF.toW.le fun a b z => by unfold fLM at z; unfold sMt sM; omega)
  have h17 : ∀ ξ, Fr fLM (bgT N t (am_sI ν 54 7 0)) ξ → am_I ξ 54 17 = 0 := fun ξ hF => (hF.1 54 17 (by unfold fLM; omega)).trans ((hFb.1 54 17 (by omega)).trans hP.h17)
  have hL : ∀ ξ, Fr fLM (bgT N t (am_sI ν 54 7 0)) ξ → ∀ a i, am_L ξ a i = am_L ν a i := fun ξ hF a i => hF.L.trans hFb.L
  have hnone : ∀ ξ, Fr fLM (bgT N t (am_sI ν 54 7 0)) ξ → TN ν ξ none := fun ξ hF => ⟨(hF.1 54 6 (by unfold fLM; omega)).trans (hFb.1 54 6 (by omega)), fun i => hL ξ hF 57 i⟩
  -- behind reading
  have wr : ∀ (b : Nat) (w z1 : Int32) (z2 z3 : Value) (ξ : am_M), TM 56 80 b t N w ξ → (¬ (w = -1 ∧ ¬ b < t) → ∀ ξ', Fr (fun a b => a = 54 ∧ b = 12) ξ ξ' → K (some (.int (-1 - (if w = -1 then nI b else w)))) ξ') → (w = -1 ∧ ¬ b < t → am_Wp (d + 200) mX3_leavers 110 [.ref 54, .int z1, z2, z3, am_F] [] ξ K) → am_Wp (d + 200) mX3_leavers 96 [.ref 54, .int z1, z2, z3, am_F] [] ξ K := fun b w z1 z2 z3 ξ hT g1 g2 => by
    have hmξ := hT.1
    unfold mL at hmξ
    have ww := wX3_wasRight (d := d + 197) (K := fun r1 μ1 => am_nr r1 ∧ am_Wp (d + 200) mX3_leavers 100 [.ref 54, .int z1, z2, z3, am_F] (r1.toList ++ []) μ1 K) hT
    by_cases hw : w = -1 ∧ ¬ b < t
    · have hw2 : ¬ (w = -1 ∧ b < t) := fun f => hw.2 f.2
      rw [if_pos hw, if_neg hw2] at ww
      simp only [gX3_leavers_96, gX3_leavers_97, am_kill_int, am_kill_ref, am_kill_null, am_kill_F, am_kill_long, am_cat_n, am_cat_i, am_cat_r, am_cat_0, am_cat_l, am_nr_n, am_nr_i, am_nr_r, am_nr_0, am_nr_l, Option.toList_some, Option.toList_none, List.nil_append, List.cons_append, va_rf_s, va_rf_n, am_I_sR, am_I_sL, am_R_sI, am_R_sL, am_L_sI, am_L_sR, am_k_sI, am_k_sR, am_k_sL, am_n_sI, am_n_sR, am_n_sL, true_and, and_true, true_or, or_true, or_false, false_or, not_true_eq_false, not_false_eq_true, Nat.reduceLT, am_dS, am_dP, am_d1, Nat.reduceSub, Nat.reduceMul, ne_eq, Nat.reduceBEq, Nat.reduceAdd, Nat.reduceLeDiff, Nat.reduceEqDiff, and_self, and_false, false_and, if_true, if_false, am_nb, am_nb0, am_nb1, am_lc1, am_lc2, am_lc3, am_b0, am_b1, am_10, am_c8, am_c16, am_c24, am_c32, am_c40, am_c48, am_c56, am_c64, am_c72, Nat.add_zero, Bool.false_eq_true, Nat.zero_le, hmξ, ww]
      simp only [gX3_leavers_100, am_kill_int, am_kill_ref, am_kill_null, am_kill_F, am_kill_long, am_cat_n, am_cat_i, am_cat_r, am_cat_0, am_cat_l, am_nr_n, am_nr_i, am_nr_r, am_nr_0, am_nr_l, Option.toList_some, Option.toList_none, List.nil_append, List.cons_append, va_rf_s, va_rf_n, am_I_sR, am_I_sL, am_R_sI, am_R_sL, am_L_sI, am_L_sR, am_k_sI, am_k_sR, am_k_sL, am_n_sI, am_n_sR, am_n_sL, true_and, and_true, true_or, or_true, or_false, false_or, not_true_eq_false, not_false_eq_true, Nat.reduceLT, am_dS, am_dP, am_d1, Nat.reduceSub, Nat.reduceMul, ne_eq, Nat.reduceBEq, Nat.reduceAdd, Nat.reduceLeDiff, Nat.reduceEqDiff, and_self, and_false, false_and, if_true, if_false, am_nb, am_nb0, am_nb1, am_lc1, am_lc2, am_lc3, am_b0, am_b1, am_10, am_c8, am_c16, am_c24, am_c32, am_c40, am_c48, am_c56, am_c64, am_c72, Nat.add_zero, Bool.false_eq_true, Nat.zero_le, o10]
      exact g2 hw
    · rw [if_neg hw] at ww
      by_cases hw2 : w = -1 ∧ b < t
      · rw [if_pos hw2] at ww
        have e12 : am_I (am_sI ξ 54 12 (nI b)) 54 12 = nI b := by rw [am_I_sI, if_pos ⟨rfl, rfl⟩]
        simp only [gX3_leavers_96, gX3_leavers_97, am_kill_int, am_kill_ref, am_kill_null, am_kill_F, am_kill_long, am_cat_n, am_cat_i, am_cat_r, am_cat_0, am_cat_l, am_nr_n, am_nr_i, am_nr_r, am_nr_0, am_nr_l, Option.toList_some, Option.toList_none, List.nil_append, List.cons_append, va_rf_s, va_rf_n, am_I_sR, am_I_sL, am_R_sI, am_R_sL, am_L_sI, am_L_sR, am_k_sI, am_k_sR, am_k_sL, am_n_sI, am_n_sR, am_n_sL, true_and, and_true, true_or, or_true, or_false, false_or, not_true_eq_false, not_false_eq_true, Nat.reduceLT, am_dS, am_dP, am_d1, Nat.reduceSub, Nat.reduceMul, ne_eq, Nat.reduceBEq, Nat.reduceAdd, Nat.reduceLeDiff, Nat.reduceEqDiff, and_self, and_false, false_and, if_true, if_false, am_nb, am_nb0, am_nb1, am_lc1, am_lc2, am_lc3, am_b0, am_b1, am_10, am_c8, am_c16, am_c24, am_c32, am_c40, am_c48, am_c56, am_c64, am_c72, Nat.add_zero, Bool.false_eq_true, Nat.zero_le, hmξ, ww]
        simp only [gX3_leavers_100, gX3_leavers_103, gX3_leavers_104, gX3_leavers_105, gX3_leavers_108, gX3_leavers_109, am_kill_int, am_kill_ref, am_kill_null, am_kill_F, am_kill_long, am_cat_n, am_cat_i, am_cat_r, am_cat_0, am_cat_l, am_nr_n, am_nr_i, am_nr_r, am_nr_0, am_nr_l, Option.toList_some, Option.toList_none, List.nil_append, List.cons_append, va_rf_s, va_rf_n, am_I_sR, am_I_sL, am_R_sI, am_R_sL, am_L_sI, am_L_sR, am_k_sI, am_k_sR, am_k_sL, am_n_sI, am_n_sR, am_n_sL, true_and, and_true, true_or, or_true, or_false, false_or, not_true_eq_false, not_false_eq_true, Nat.reduceLT, am_dS, am_dP, am_d1, Nat.reduceSub, Nat.reduceMul, ne_eq, Nat.reduceBEq, Nat.reduceAdd, Nat.reduceLeDiff, Nat.reduceEqDiff, and_self, and_false, false_and, if_true, if_false, am_nb, am_nb0, am_nb1, am_lc1, am_lc2, am_lc3, am_b0, am_b1, am_10, am_c8, am_c16, am_c24, am_c32, am_c40, am_c48, am_c56, am_c64, am_c72, Nat.add_zero, Bool.false_eq_true, Nat.zero_le, hmξ, e12]
        have := g1 hw (am_sI ξ 54 12 (nI b)) (Fr.I Fr.refl ⟨rfl, rfl⟩)
        rw [if_pos hw2.1] at this
        exact this
      · have hw3 : ¬ w = -1 := fun f => by
          by_cases z : b < t
          · exact hw2 ⟨f, z⟩
          · exact hw ⟨f, z⟩
        rw [if_neg hw2] at ww
        have e12 : am_I ξ 54 12 = w := hT.2.2.2.2.2.2.1
        simp only [gX3_leavers_96, gX3_leavers_97, am_kill_int, am_kill_ref, am_kill_null, am_kill_F, am_kill_long, am_cat_n, am_cat_i, am_cat_r, am_cat_0, am_cat_l, am_nr_n, am_nr_i, am_nr_r, am_nr_0, am_nr_l, Option.toList_some, Option.toList_none, List.nil_append, List.cons_append, va_rf_s, va_rf_n, am_I_sR, am_I_sL, am_R_sI, am_R_sL, am_L_sI, am_L_sR, am_k_sI, am_k_sR, am_k_sL, am_n_sI, am_n_sR, am_n_sL, true_and, and_true, true_or, or_true, or_false, false_or, not_true_eq_false, not_false_eq_true, Nat.reduceLT, am_dS, am_dP, am_d1, Nat.reduceSub, Nat.reduceMul, ne_eq, Nat.reduceBEq, Nat.reduceAdd, Nat.reduceLeDiff, Nat.reduceEqDiff, and_self, and_false, false_and, if_true, if_false, am_nb, am_nb0, am_nb1, am_lc1, am_lc2, am_lc3, am_b0, am_b1, am_10, am_c8, am_c16, am_c24, am_c32, am_c40, am_c48, am_c56, am_c64, am_c72, Nat.add_zero, Bool.false_eq_true, Nat.zero_le, hmξ, ww]
        simp only [gX3_leavers_100, gX3_leavers_103, gX3_leavers_104, gX3_leavers_105, gX3_leavers_108, gX3_leavers_109, am_kill_int, am_kill_ref, am_kill_null, am_kill_F, am_kill_long, am_cat_n, am_cat_i, am_cat_r, am_cat_0, am_cat_l, am_nr_n, am_nr_i, am_nr_r, am_nr_0, am_nr_l, Option.toList_some, Option.toList_none, List.nil_append, List.cons_append, va_rf_s, va_rf_n, am_I_sR, am_I_sL, am_R_sI, am_R_sL, am_L_sI, am_L_sR, am_k_sI, am_k_sR, am_k_sL, am_n_sI, am_n_sR, am_n_sL, true_and, and_true, true_or, or_true, or_false, false_or, not_true_eq_false, not_false_eq_true, Nat.reduceLT, am_dS, am_dP, am_d1, Nat.reduceSub, Nat.reduceMul, ne_eq, Nat.reduceBEq, Nat.reduceAdd, Nat.reduceLeDiff, Nat.reduceEqDiff, and_self, and_false, false_and, if_true, if_false, am_nb, am_nb0, am_nb1, am_lc1, am_lc2, am_lc3, am_b0, am_b1, am_10, am_c8, am_c16, am_c24, am_c32, am_c40, am_c48, am_c56, am_c64, am_c72, Nat.add_zero, Bool.false_eq_true, Nat.zero_le, hmξ, e12]
        have := g1 hw ξ Fr.refl
        rw [if_neg hw3] at this
        exact this
  refine lxM_loop (ch := chM T t 80) hMb t1 hch N 0 0 _ _ _ (by omega) hT Fr.refl (by omega) (fun j hj => absurd hj (Nat.not_lt_zero j)) (fun p b z1 z2 z3' ξ hl hT2 hF => ?_) (fun B' z3' ξ hl hT2 hF hr => ?_)
  · have hp := leF_lt N 0 0 p hl
    have hm1 : ¬ nI p = -1 := nI_m1 (by omega)
    unfold vLv pLv at hK
    rw [hl] at hK
    refine wr b (nI p) z1 z2 z3' ξ hT2 (fun _ ξ' g1 => ?_) (fun f => absurd f.1 hm1)
    rw [if_neg hm1]
    have hF' : Fr fLM (bgT N t (am_sI ν 54 7 0)) ξ' := hF.trans (g1.le fun a b z => by unfold fLM; omega)
    exact hK ξ' (hfr ξ' hF') (h17 ξ' hF') (h4 ξ' hF') (hnone ξ' hF') (fun i => hL ξ' hF' 53 i)
  · unfold vLv pLv at hK
    rw [hl] at hK
    refine wr N (-1) (nI B') (.int (nI N)) z3' ξ hT2 (fun hn ξ' g1 => ?_) (fun hn => ?_)
    · have g : N < t := Classical.not_not.mp fun f => hn ⟨rfl, f⟩
      simp only [if_pos g] at hK
      have hF' : Fr fLM (bgT N t (am_sI ν 54 7 0)) ξ' := hF.trans (g1.le fun a b z => by unfold fLM; omega)
      exact hK ξ' (hfr ξ' hF') (h17 ξ' hF') (h4 ξ' hF') (hnone ξ' hF') (fun i => hL ξ' hF' 53 i)
    · simp only [if_neg hn.2] at hK
      have hMξ : MC N c ξ := hMb.fr hF (fun a b z => by unfold fLM at z; omega)
      have hmξ := hMξ.1
      unfold mL at hmξ
      simp only [gX3_leavers_110, gX3_leavers_111, gX3_leavers_112, gX3_leavers_113, am_kill_int, am_kill_ref, am_kill_null, am_kill_F, am_kill_long, am_cat_n, am_cat_i, am_cat_r, am_cat_0, am_cat_l, am_nr_n, am_nr_i, am_nr_r, am_nr_0, am_nr_l, Option.toList_some, Option.toList_none, List.nil_append, List.cons_append, va_rf_s, va_rf_n, am_II, am_I_sR, am_I_sL, am_R_sI, am_RR, am_R_sL, am_L_sI, am_L_sR, am_LL, am_k_sI, am_k_sR, am_k_sL, am_n_sI, am_n_sR, am_n_sL, true_and, and_true, true_or, or_true, or_false, false_or, not_true_eq_false, not_false_eq_true, Nat.reduceLT, am_dS, am_dP, am_d1, Nat.reduceSub, Nat.reduceMul, ne_eq, Nat.reduceBEq, Nat.reduceAdd, Nat.reduceLeDiff, Nat.reduceEqDiff, and_self, and_false, false_and, if_true, if_false, am_nb, am_nb0, am_nb1, am_lc1, am_lc2, am_lc3, am_b0, am_b1, am_10, am_c8, am_c16, am_c24, am_c32, am_c40, am_c48, am_c56, am_c64, am_c72, Nat.add_zero, Bool.false_eq_true, Nat.zero_le]
      rw [← nI_0]
      refine leM_loop (d := d) (cf := cfS S) (dv := dvL (chM T t 80)) hMξ (fun o ho => ?_) hr (fun j hj => (dvL_s h8 (leF_ok N 0 0 hl j (by omega) (by omega))).2) _ _ (fun z4' => ?_)
      · rw [hF.1 55 _ (by unfold fLM; omega), hFb.1 55 _ (by omega)]; exact (hs.r2 ho).symm
      · simp only [gX3_leavers_240, gX3_leavers_241, gX3_leavers_242, gX3_leavers_245, gX3_leavers_246, gX3_leavers_247, gX3_leavers_250, gX3_leavers_251, gX3_leavers_254, gX3_leavers_255, am_kill_int, am_kill_ref, am_kill_null, am_kill_F, am_kill_long, am_cat_n, am_cat_i, am_cat_r, am_cat_0, am_cat_l, am_nr_n, am_nr_i, am_nr_r, am_nr_0, am_nr_l, Option.toList_some, Option.toList_none, List.nil_append, List.cons_append, va_rf_s, va_rf_n, am_II, am_I_sR, am_I_sL, am_R_sI, am_RR, am_R_sL, am_L_sI, am_L_sR, am_LL, am_k_sI, am_k_sR, am_k_sL, am_n_sI, am_n_sR, am_n_sL, true_and, and_true, true_or, or_true, or_false, false_or, not_true_eq_false, not_false_eq_true, Nat.reduceLT, am_dS, am_dP, am_d1, Nat.reduceSub, Nat.reduceMul, ne_eq, Nat.reduceBEq, Nat.reduceAdd, Nat.reduceLeDiff, Nat.reduceEqDiff, and_self, and_false, false_and, if_true, if_false, am_nb, am_nb0, am_nb1, am_lc1, am_lc2, am_lc3, am_b0, am_b1, am_10, am_c8, am_c16, am_c24, am_c32, am_c40, am_c48, am_c56, am_c64, am_c72, Nat.add_zero, Bool.false_eq_true, Nat.zero_le, hmξ, wX3_tell0, wJ10_bitCount]
        refine hK _ ((((hfr ξ hF).I (by unfold sMt sM; omega)).L (Or.inr rfl)).I (by unfold sMt sM; omega)) ?_ ?_ (TN1 ?_ ?_) (fun i => ?_)
        · simp only [am_II, am_I_sL, Nat.reduceEqDiff, and_false, if_false]; exact h17 ξ hF
        · simp only [am_II, am_I_sL, Nat.reduceEqDiff, and_false, if_false]; exact h4 ξ hF
        · simp only [am_II, and_self, if_true]
        · simp only [am_L_sI, am_LL, and_self, if_true]
        · simp only [am_L_sI, am_LL, Nat.reduceEqDiff, false_and, if_false]; exact hL ξ hF 53 i
theorem op_leavers (hI : Inv q μ) : OP q mX1_leavers mX3_leavers [.ref 0, am_F, am_F, am_F, am_F] [.ref 54, am_F, am_F, am_F, am_F] μ :=
  op_T (fun N C ru c t μ hP _ t1 t2 t3 => ⟨_, _, qc_leavers hP t1 t2, fun ν hF hPν t4 => q5_leavers hPν t1 t4 (by rw [show am_I ν 55 = am_I μ 55 from funext fun b => hF.1 55 b (by unfold sCt sC; omega)]; exact hP.2.1) (funext fun b => hF.1 56 b (by unfold sCt sC; omega))⟩) hI
end LXV
