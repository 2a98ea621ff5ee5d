/-! acts of a spring, read by the model; both loops -/
set_option maxRecDepth 100000
section SBV
variable {d : Nat} {μ ν ξ μ1 ν1 : am_M} {K : Option Value → am_M → Prop} {x y z c w : Int32} {h h' N C i j k r n L M m a b e q q' t u s ln tp : Nat} {v : Int32} {ru : Option PF} {F G : Nat → Nat → Prop} {S S' T : Nat → Int32} {p : Int64} {ch : Nat → Int32} {f : PF} {st : Nat → Nat}
def fSM (a b : Nat) : Prop := a = 66 ∨ (a = 54 ∧ (b = 11 ∨ b = 12))
theorem TM.sm (hT : TM 56 80 a t m w μ) (hF : Fr fSM μ ν) (hR : am_R ν 54 8 = am_R μ 54 8) (h11 : am_I ν 54 11 = nI b) (hb : b ≤ 1000) (h12 : am_I ν 54 12 = z) : TM 56 80 b t m z ν :=
  hT.gen hF (by unfold fSM; omega) (by unfold fSM; omega) (fun b => by unfold fSM; omega) hR h11 hb h12
/-- an act's numbers read by the model -/
theorem readAct60 (two : Bool) (hT : TM 56 80 a t m (-1) μ) (hk : k + 3 ≤ 240) (ha : a ≤ 900) (hch : chM (am_I μ 56) t m = ch)
    (hK1 : ∀ p b ν, (dgB (ch (a + 1)) = true → two = true ∧ ¬ dgB (ch (a + 2)) = true ∧ p = a + 2) → (¬ dgB (ch (a + 1)) = true → p = a + 1) → ¬ (dgB (ch (a + 1)) = true ∧ (two = true → dgB (ch (a + 2)) = true)) → TM 56 80 b t m (nI p) ν → Fr fSM μ ν → am_R ν 54 8 = am_R μ 54 8 → K none ν)
    (hK2 : ∀ ν, dgB (ch (a + 1)) = true → (two = true → dgB (ch (a + 2)) = true) → TM 56 80 (if two = true then a + 3 else a + 2) t m (-1) ν → Fr fSM μ ν → am_R ν 54 8 = am_R μ 54 8 → am_I ν 66 k = ch a → am_I ν 66 (k + 1) = ch (a + 1) - 48 → (two = true → am_I ν 66 (k + 2) = ch (a + 2) - 48) → (∀ i, (i < k ∨ k + 3 ≤ i) → am_I ν 66 i = am_I μ 66 i) → K none ν) :
    am_Wp (d + 3) mX3_readAct 60 [.ref 54, .int (nI k), .int (ch a), .int (if two = true then 1 else 0)] [] μ K := by
  have hmu := hT.1
  unfold mL at hmu
  have h11 := hT.2.2.2.1
  have hin0 : vp_in (nI k) 240 := vp_in_nI (by omega) (by omega)
  have hcl0 : (nI k).toNatClampNeg = k := nI_clamp (by omega)
  have hin1 : vp_in (nI (k + 1)) 240 := vp_in_nI (by omega) (by omega)
  have hcl1 : (nI (k + 1)).toNatClampNeg = k + 1 := nI_clamp (by omega)
  have hin2 : vp_in (nI (k + 2)) 240 := vp_in_nI (by omega) (by omega)
  have hcl2 : (nI (k + 2)).toNatClampNeg = k + 2 := nI_clamp (by omega)
  have e2 : nI k + 2 = nI (k + 2) := by rw [show (2 : Int32) = nI 2 from rfl, nI_add]
  have o10 : ¬ (1 : Int32) = 0 := by decide
  have hF1 : Fr fSM μ (am_sI (am_sI μ 54 11 (nI (a + 1))) 66 k (ch a)) := Fr.I (Fr.I Fr.refl (by unfold fSM; omega)) (by unfold fSM; omega)
  have hT1 : TM 56 80 (a + 1) t m (-1) (am_sI (am_sI μ 54 11 (nI (a + 1))) 66 k (ch a)) := hT.sm hF1 rfl (by rw [am_I_sI, if_neg (by omega), am_I_sI, if_pos ⟨rfl, rfl⟩]) (by omega) (by rw [am_I_sI, if_neg (by omega), am_I_sI, if_neg (by omega)]; exact hT.2.2.2.2.2.2.1)
  have g66 : ∀ i, am_I (am_sI (am_sI μ 54 11 (nI (a + 1))) 66 k (ch a)) 66 i = if i = k then ch a else am_I μ 66 i := fun i => by
    rw [am_I_sI]
    by_cases f : i = k
    · rw [if_pos ⟨rfl, f⟩, if_pos f]
    · rw [if_neg (by omega), if_neg f, am_I_sI, if_neg (by omega)]
  have hR1 : am_R (am_sI (am_sI μ 54 11 (nI (a + 1))) 66 k (ch a)) 54 8 = am_R μ 54 8 := rfl
  have h56 : chM (am_I (am_sI (am_sI μ 54 11 (nI (a + 1))) 66 k (ch a)) 56) t m = ch := by rw [am_row_o (by decide), am_row_o (by decide)]; exact hch
  simp only [gX3_readAct_60, gX3_readAct_61, gX3_readAct_62, gX3_readAct_65, gX3_readAct_66, gX3_readAct_67, gX3_readAct_70, gX3_readAct_71, gX3_readAct_74, gX3_readAct_75, gX3_readAct_76, am_kill_int, am_kill_ref, am_kill_null, am_kill_F, am_kill_long, am_cat_n, am_cat_i, am_cat_r, am_cat_0, am_cat_l, am_nr_n, am_nr_i, am_nr_r, am_nr_0, am_nr_l, Option.toList_some, Option.toList_none, List.nil_append, List.cons_append, va_rf_s, va_rf_n, am_II, am_I_sR, am_I_sL, am_R_sI, am_RR, am_R_sL, am_L_sI, am_L_sR, am_LL, am_k_sI, am_k_sR, am_k_sL, am_n_sI, am_n_sR, am_n_sL, true_and, and_true, true_or, or_true, or_false, false_or, not_true_eq_false, not_false_eq_true, Nat.reduceLT, am_dS, am_dP, am_d1, Nat.reduceSub, Nat.reduceMul, ne_eq, Nat.reduceBEq, Nat.reduceAdd, Nat.reduceLeDiff, Nat.reduceEqDiff, and_self, and_false, false_and, if_true, if_false, am_nb, am_nb0, am_nb1, am_lc1, am_lc2, am_lc3, am_b0, am_b1, am_10, am_c8, am_c16, am_c24, am_c32, am_c40, am_c48, am_c56, am_c64, am_c72, Nat.add_zero, Bool.false_eq_true, Nat.zero_le, hmu, h11, hin0, hcl0, nI_1]
  generalize am_sI (am_sI μ 54 11 (nI (a + 1))) 66 k (ch a) = μ1 at hF1 hT1 g66 hR1 h56 ⊢
  have hm1 := hT1.1
  unfold mL at hm1
  have o := wX3_oneOf (d := d) (K := fun r1 ν1 => am_nr r1 ∧ am_Wp (d + 3) mX3_readAct 92 [.ref 54, .int (nI k), .int (ch a), .int (if two = true then 1 else 0)] (r1.toList ++ [.int (nI (k + 1)), .ref 66]) ν1 K) hT1 (x := 48) (y := 10) (by decide) (by decide)
  rw [if_pos rfl, h56, show (48 : Int32) + 10 - 1 = 57 by decide] at o
  have dg : ∀ x, (48 ≤ x ∧ x ≤ 57) = (dgB x = true) := fun x => by unfold dgB; rw [decide_eq_true_eq]
  simp only [dg] at o
  simp only [gX3_readAct_77, gX3_readAct_78, gX3_readAct_81, gX3_readAct_82, gX3_readAct_83, gX3_readAct_84, gX3_readAct_85, gX3_readAct_87, gX3_readAct_89, am_kill_int, am_kill_ref, am_kill_null, am_kill_F, am_kill_long, am_cat_n, am_cat_i, am_cat_r, am_cat_0, am_cat_l, am_nr_n, am_nr_i, am_nr_r, am_nr_0, am_nr_l, Option.toList_some, Option.toList_none, List.nil_append, List.cons_append, va_rf_s, va_rf_n, am_I_sR, am_I_sL, am_R_sI, am_R_sL, am_L_sI, am_L_sR, am_k_sI, am_k_sR, am_k_sL, am_n_sI, am_n_sR, am_n_sL, true_and, and_true, true_or, or_true, or_false, false_or, not_true_eq_false, not_false_eq_true, Nat.reduceLT, am_dS, am_dP, am_d1, Nat.reduceSub, Nat.reduceMul, ne_eq, Nat.reduceBEq, Nat.reduceAdd, Nat.reduceLeDiff, Nat.reduceEqDiff, and_self, and_false, false_and, if_true, if_false, am_nb, am_nb0, am_nb1, am_lc1, am_lc2, am_lc3, am_b0, am_b1, am_10, am_c8, am_c16, am_c24, am_c32, am_c40, am_c48, am_c56, am_c64, am_c72, Nat.add_zero, Bool.false_eq_true, Nat.zero_le, hm1, nI_1, o]
  by_cases f1 : dgB (ch (a + 1)) = true
  · rw [if_pos f1]
    have hF2 : Fr fSM μ (am_sI (am_sI μ1 54 11 (nI (a + 1 + 1))) 66 (k + 1) (ch (a + 1) - 48)) := Fr.I (Fr.I hF1 (by unfold fSM; omega)) (by unfold fSM; omega)
    have hT2 : TM 56 80 (a + 2) t m (-1) (am_sI (am_sI μ1 54 11 (nI (a + 1 + 1))) 66 (k + 1) (ch (a + 1) - 48)) := hT.sm hF2 hR1 (by rw [am_I_sI, if_neg (by omega), am_I_sI, if_pos ⟨rfl, rfl⟩]) (by omega) (by rw [am_I_sI, if_neg (by omega), am_I_sI, if_neg (by omega)]; exact hT1.2.2.2.2.2.2.1)
    have k66 : ∀ i, am_I (am_sI (am_sI μ1 54 11 (nI (a + 1 + 1))) 66 (k + 1) (ch (a + 1) - 48)) 66 i = if i = k + 1 then ch (a + 1) - 48 else if i = k then ch a else am_I μ 66 i := fun i => by
      rw [am_I_sI]
      by_cases f : i = k + 1
      · rw [if_pos ⟨rfl, f⟩, if_pos f]
      · rw [if_neg (by omega), if_neg f, am_I_sI, if_neg (by omega), g66]
    have hR2 : am_R (am_sI (am_sI μ1 54 11 (nI (a + 1 + 1))) 66 (k + 1) (ch (a + 1) - 48)) 54 8 = am_R μ 54 8 := hR1
    have h562 : chM (am_I (am_sI (am_sI μ1 54 11 (nI (a + 1 + 1))) 66 (k + 1) (ch (a + 1) - 48)) 56) t m = ch := by rw [am_row_o (by decide), am_row_o (by decide)]; exact h56
    simp only [Option.toList_some, List.cons_append, List.nil_append, gX3_readAct_92, am_kill_int, am_kill_ref, am_kill_null, am_kill_F, am_kill_long, am_cat_n, am_cat_i, am_cat_r, am_cat_0, am_cat_l, am_nr_n, am_nr_i, am_nr_r, am_nr_0, am_nr_l, Option.toList_some, Option.toList_none, List.nil_append, List.cons_append, va_rf_s, va_rf_n, am_I_sR, am_I_sL, am_R_sI, am_R_sL, am_L_sI, am_L_sR, am_k_sI, am_k_sR, am_k_sL, am_n_sI, am_n_sR, am_n_sL, true_and, and_true, true_or, or_true, or_false, false_or, not_true_eq_false, not_false_eq_true, Nat.reduceLT, am_dS, am_dP, am_d1, Nat.reduceSub, Nat.reduceMul, ne_eq, Nat.reduceBEq, Nat.reduceAdd, Nat.reduceLeDiff, Nat.reduceEqDiff, and_self, and_false, false_and, if_true, if_false, am_nb, am_nb0, am_nb1, am_lc1, am_lc2, am_lc3, am_b0, am_b1, am_10, am_c8, am_c16, am_c24, am_c32, am_c40, am_c48, am_c56, am_c64, am_c72, Nat.add_zero, Bool.false_eq_true, Nat.zero_le, hm1, hin1, hcl1]
    generalize am_sI (am_sI μ1 54 11 (nI (a + 1 + 1))) 66 (k + 1) (ch (a + 1) - 48) = μ2 at hF2 hT2 k66 hR2 h562 ⊢
    have hm2 := hT2.1
    unfold mL at hm2
    cases two with
    | false =>
      simp only [Bool.false_eq_true, if_false, gX3_readAct_93, gX3_readAct_94, gX3_readAct_113, am_kill_int, am_kill_ref, am_kill_null, am_kill_F, am_kill_long, am_cat_n, am_cat_i, am_cat_r, am_cat_0, am_cat_l, am_nr_n, am_nr_i, am_nr_r, am_nr_0, am_nr_l, Option.toList_some, Option.toList_none, List.nil_append, List.cons_append, va_rf_s, va_rf_n, am_I_sR, am_I_sL, am_R_sI, am_R_sL, am_L_sI, am_L_sR, am_k_sI, am_k_sR, am_k_sL, am_n_sI, am_n_sR, am_n_sL, true_and, and_true, true_or, or_true, or_false, false_or, not_true_eq_false, not_false_eq_true, Nat.reduceLT, am_dS, am_dP, am_d1, Nat.reduceSub, Nat.reduceMul, ne_eq, Nat.reduceBEq, Nat.reduceAdd, Nat.reduceLeDiff, Nat.reduceEqDiff, and_self, and_false, false_and, if_true, if_false, am_nb, am_nb0, am_nb1, am_lc1, am_lc2, am_lc3, am_b0, am_b1, am_10, am_c8, am_c16, am_c24, am_c32, am_c40, am_c48, am_c56, am_c64, am_c72, Nat.add_zero, Bool.false_eq_true, Nat.zero_le]
      refine hK2 μ2 f1 (fun z => by cases z) hT2 hF2 hR2 ?_ ?_ (fun z => by cases z) (fun i hi => ?_)
      · rw [k66, if_neg (by omega), if_pos rfl]
      · rw [k66, if_pos rfl]
      · rw [k66, if_neg (by omega), if_neg (by omega)]
    | true =>
      have o := wX3_oneOf (d := d) (K := fun r1 ν1 => am_nr r1 ∧ am_Wp (d + 3) mX3_readAct 112 [.ref 54, .int (nI k), .int (ch a), .int 1] (r1.toList ++ [.int (nI (k + 2)), .ref 66]) ν1 K) hT2 (x := 48) (y := 10) (by decide) (by decide)
      rw [if_pos rfl, h562, show (48 : Int32) + 10 - 1 = 57 by decide] at o
      simp only [dg] at o
      simp only [if_true, gX3_readAct_93, gX3_readAct_94, gX3_readAct_97, gX3_readAct_98, gX3_readAct_101, gX3_readAct_102, gX3_readAct_103, gX3_readAct_104, gX3_readAct_105, gX3_readAct_107, gX3_readAct_109, am_kill_int, am_kill_ref, am_kill_null, am_kill_F, am_kill_long, am_cat_n, am_cat_i, am_cat_r, am_cat_0, am_cat_l, am_nr_n, am_nr_i, am_nr_r, am_nr_0, am_nr_l, Option.toList_some, Option.toList_none, List.nil_append, List.cons_append, va_rf_s, va_rf_n, am_I_sR, am_I_sL, am_R_sI, am_R_sL, am_L_sI, am_L_sR, am_k_sI, am_k_sR, am_k_sL, am_n_sI, am_n_sR, am_n_sL, true_and, and_true, true_or, or_true, or_false, false_or, not_true_eq_false, not_false_eq_true, Nat.reduceLT, am_dS, am_dP, am_d1, Nat.reduceSub, Nat.reduceMul, ne_eq, Nat.reduceBEq, Nat.reduceAdd, Nat.reduceLeDiff, Nat.reduceEqDiff, and_self, and_false, false_and, if_true, if_false, am_nb, am_nb0, am_nb1, am_lc1, am_lc2, am_lc3, am_b0, am_b1, am_10, am_c8, am_c16, am_c24, am_c32, am_c40, am_c48, am_c56, am_c64, am_c72, Nat.add_zero, Bool.false_eq_true, Nat.zero_le, hm2, o10, e2, o]
      by_cases f2 : dgB (ch (a + 2)) = true
      · rw [if_pos f2]
        simp only [Option.toList_some, List.cons_append, List.nil_append, gX3_readAct_112, gX3_readAct_113, am_kill_int, am_kill_ref, am_kill_null, am_kill_F, am_kill_long, am_cat_n, am_cat_i, am_cat_r, am_cat_0, am_cat_l, am_nr_n, am_nr_i, am_nr_r, am_nr_0, am_nr_l, Option.toList_some, Option.toList_none, List.nil_append, List.cons_append, va_rf_s, va_rf_n, am_I_sR, am_I_sL, am_R_sI, am_R_sL, am_L_sI, am_L_sR, am_k_sI, am_k_sR, am_k_sL, am_n_sI, am_n_sR, am_n_sL, true_and, and_true, true_or, or_true, or_false, false_or, not_true_eq_false, not_false_eq_true, Nat.reduceLT, am_dS, am_dP, am_d1, Nat.reduceSub, Nat.reduceMul, ne_eq, Nat.reduceBEq, Nat.reduceAdd, Nat.reduceLeDiff, Nat.reduceEqDiff, and_self, and_false, false_and, if_true, if_false, am_nb, am_nb0, am_nb1, am_lc1, am_lc2, am_lc3, am_b0, am_b1, am_10, am_c8, am_c16, am_c24, am_c32, am_c40, am_c48, am_c56, am_c64, am_c72, Nat.add_zero, Bool.false_eq_true, Nat.zero_le, hm2, hin2, hcl2]
        have hF3 : Fr fSM μ (am_sI (am_sI μ2 54 11 (nI (a + 2 + 1))) 66 (k + 2) (ch (a + 2) - 48)) := Fr.I (Fr.I hF2 (by unfold fSM; omega)) (by unfold fSM; omega)
        refine hK2 _ f1 (fun _ => f2) (hT.sm hF3 hR2 (by rw [am_I_sI, if_neg (by omega), am_I_sI, if_pos ⟨rfl, rfl⟩]; rfl) (by simp only [if_true]; omega) (by rw [am_I_sI, if_neg (by omega), am_I_sI, if_neg (by omega)]; exact hT2.2.2.2.2.2.2.1)) hF3 hR2 ?_ ?_ (fun _ => ?_) (fun i hi => ?_)
        · rw [am_I_sI, if_neg (by omega), am_I_sI, if_neg (by omega), k66, if_neg (by omega), if_pos rfl]
        · rw [am_I_sI, if_neg (by omega), am_I_sI, if_neg (by omega), k66, if_pos rfl]
        · rw [am_I_sI, if_pos ⟨rfl, rfl⟩]
        · rw [am_I_sI, if_neg (by omega), am_I_sI, if_neg (by omega), k66, if_neg (by omega), if_neg (by omega)]
      · rw [if_neg f2]
        simp only [Option.toList_some, List.cons_append, List.nil_append, gX3_readAct_112, gX3_readAct_113, am_kill_int, am_kill_ref, am_kill_null, am_kill_F, am_kill_long, am_cat_n, am_cat_i, am_cat_r, am_cat_0, am_cat_l, am_nr_n, am_nr_i, am_nr_r, am_nr_0, am_nr_l, Option.toList_some, Option.toList_none, List.nil_append, List.cons_append, va_rf_s, va_rf_n, am_I_sR, am_I_sL, am_R_sI, am_R_sL, am_L_sI, am_L_sR, am_k_sI, am_k_sR, am_k_sL, am_n_sI, am_n_sR, am_n_sL, true_and, and_true, true_or, or_true, or_false, false_or, not_true_eq_false, not_false_eq_true, Nat.reduceLT, am_dS, am_dP, am_d1, Nat.reduceSub, Nat.reduceMul, ne_eq, Nat.reduceBEq, Nat.reduceAdd, Nat.reduceLeDiff, Nat.reduceEqDiff, and_self, and_false, false_and, if_true, if_false, am_nb, am_nb0, am_nb1, am_lc1, am_lc2, am_lc3, am_b0, am_b1, am_10, am_c8, am_c16, am_c24, am_c32, am_c40, am_c48, am_c56, am_c64, am_c72, Nat.add_zero, Bool.false_eq_true, Nat.zero_le, hm2, hin2, hcl2]
        have hT3 := hT2.fault (x := nI (a + 2))
        have hF3 : Fr fSM μ (am_sI (am_sI μ2 54 12 (nI (a + 2))) 66 (k + 2) 0) := Fr.I (Fr.I hF2 (by unfold fSM; omega)) (by unfold fSM; omega)
        exact hK1 (a + 2) (a + 2) _ (fun _ => ⟨rfl, f2, rfl⟩) (fun z => absurd f1 z) (fun z => f2 (z.2 rfl)) (hT.sm hF3 hR2 (by rw [am_I_sI, if_neg (by omega), am_I_sI, if_neg (by omega)]; exact hT2.2.2.2.1) (by omega) (by rw [am_I_sI, if_neg (by omega), am_I_sI, if_pos ⟨rfl, rfl⟩])) hF3 hR2
  · rw [if_neg f1]
    have hT2 := hT1.fault (x := nI (a + 1))
    have hF2 : Fr fSM μ (am_sI (am_sI μ1 54 12 (nI (a + 1))) 66 (k + 1) 0) := Fr.I (Fr.I hF1 (by unfold fSM; omega)) (by unfold fSM; omega)
    have hT3 : TM 56 80 (a + 1) t m (nI (a + 1)) (am_sI (am_sI μ1 54 12 (nI (a + 1))) 66 (k + 1) 0) := hT.sm hF2 hR1 (by rw [am_I_sI, if_neg (by omega), am_I_sI, if_neg (by omega)]; exact hT1.2.2.2.1) (by omega) (by rw [am_I_sI, if_neg (by omega), am_I_sI, if_pos ⟨rfl, rfl⟩])
    simp only [Option.toList_some, List.cons_append, List.nil_append, gX3_readAct_92, am_kill_int, am_kill_ref, am_kill_null, am_kill_F, am_kill_long, am_cat_n, am_cat_i, am_cat_r, am_cat_0, am_cat_l, am_nr_n, am_nr_i, am_nr_r, am_nr_0, am_nr_l, Option.toList_some, Option.toList_none, List.nil_append, List.cons_append, va_rf_s, va_rf_n, am_I_sR, am_I_sL, am_R_sI, am_R_sL, am_L_sI, am_L_sR, am_k_sI, am_k_sR, am_k_sL, am_n_sI, am_n_sR, am_n_sL, true_and, and_true, true_or, or_true, or_false, false_or, not_true_eq_false, not_false_eq_true, Nat.reduceLT, am_dS, am_dP, am_d1, Nat.reduceSub, Nat.reduceMul, ne_eq, Nat.reduceBEq, Nat.reduceAdd, Nat.reduceLeDiff, Nat.reduceEqDiff, and_self, and_false, false_and, if_true, if_false, am_nb, am_nb0, am_nb1, am_lc1, am_lc2, am_lc3, am_b0, am_b1, am_10, am_c8, am_c16, am_c24, am_c32, am_c40, am_c48, am_c56, am_c64, am_c72, Nat.add_zero, Bool.false_eq_true, Nat.zero_le, hm1, hin1, hcl1]
    have hR2 : am_R (am_sI (am_sI μ1 54 12 (nI (a + 1))) 66 (k + 1) 0) 54 8 = am_R μ 54 8 := hR1
    generalize am_sI (am_sI μ1 54 12 (nI (a + 1))) 66 (k + 1) 0 = μ2 at hF2 hT3 hR2 ⊢
    have hm2 := hT3.1
    unfold mL at hm2
    cases two with
    | false =>
      simp only [Bool.false_eq_true, if_false, gX3_readAct_93, gX3_readAct_94, gX3_readAct_113, am_kill_int, am_kill_ref, am_kill_null, am_kill_F, am_kill_long, am_cat_n, am_cat_i, am_cat_r, am_cat_0, am_cat_l, am_nr_n, am_nr_i, am_nr_r, am_nr_0, am_nr_l, Option.toList_some, Option.toList_none, List.nil_append, List.cons_append, va_rf_s, va_rf_n, am_I_sR, am_I_sL, am_R_sI, am_R_sL, am_L_sI, am_L_sR, am_k_sI, am_k_sR, am_k_sL, am_n_sI, am_n_sR, am_n_sL, true_and, and_true, true_or, or_true, or_false, false_or, not_true_eq_false, not_false_eq_true, Nat.reduceLT, am_dS, am_dP, am_d1, Nat.reduceSub, Nat.reduceMul, ne_eq, Nat.reduceBEq, Nat.reduceAdd, Nat.reduceLeDiff, Nat.reduceEqDiff, and_self, and_false, false_and, if_true, if_false, am_nb, am_nb0, am_nb1, am_lc1, am_lc2, am_lc3, am_b0, am_b1, am_10, am_c8, am_c16, am_c24, am_c32, am_c40, am_c48, am_c56, am_c64, am_c72, Nat.add_zero, Bool.false_eq_true, Nat.zero_le]
      exact hK1 (a + 1) (a + 1) _ (fun z => absurd z f1) (fun _ => rfl) (fun z => f1 z.1) hT3 hF2 hR2
    | true =>
      have o := wX3_oneOf (d := d) (K := fun r1 ν1 => am_nr r1 ∧ am_Wp (d + 3) mX3_readAct 112 [.ref 54, .int (nI k), .int (ch a), .int 1] (r1.toList ++ [.int (nI (k + 2)), .ref 66]) ν1 K) hT3 (x := 48) (y := 10) (by decide) (by decide)
      rw [if_neg (nI_m1 (by omega))] at o
      simp only [if_true, gX3_readAct_93, gX3_readAct_94, gX3_readAct_97, gX3_readAct_98, gX3_readAct_101, gX3_readAct_102, gX3_readAct_103, gX3_readAct_104, gX3_readAct_105, gX3_readAct_107, gX3_readAct_109, am_kill_int, am_kill_ref, am_kill_null, am_kill_F, am_kill_long, am_cat_n, am_cat_i, am_cat_r, am_cat_0, am_cat_l, am_nr_n, am_nr_i, am_nr_r, am_nr_0, am_nr_l, Option.toList_some, Option.toList_none, List.nil_append, List.cons_append, va_rf_s, va_rf_n, am_I_sR, am_I_sL, am_R_sI, am_R_sL, am_L_sI, am_L_sR, am_k_sI, am_k_sR, am_k_sL, am_n_sI, am_n_sR, am_n_sL, true_and, and_true, true_or, or_true, or_false, false_or, not_true_eq_false, not_false_eq_true, Nat.reduceLT, am_dS, am_dP, am_d1, Nat.reduceSub, Nat.reduceMul, ne_eq, Nat.reduceBEq, Nat.reduceAdd, Nat.reduceLeDiff, Nat.reduceEqDiff, and_self, and_false, false_and, if_true, if_false, am_nb, am_nb0, am_nb1, am_lc1, am_lc2, am_lc3, am_b0, am_b1, am_10, am_c8, am_c16, am_c24, am_c32, am_c40, am_c48, am_c56, am_c64, am_c72, Nat.add_zero, Bool.false_eq_true, Nat.zero_le, hm2, o10, e2, o]
      simp only [gX3_readAct_112, gX3_readAct_113, am_kill_int, am_kill_ref, am_kill_null, am_kill_F, am_kill_long, am_cat_n, am_cat_i, am_cat_r, am_cat_0, am_cat_l, am_nr_n, am_nr_i, am_nr_r, am_nr_0, am_nr_l, Option.toList_some, Option.toList_none, List.nil_append, List.cons_append, va_rf_s, va_rf_n, am_I_sR, am_I_sL, am_R_sI, am_R_sL, am_L_sI, am_L_sR, am_k_sI, am_k_sR, am_k_sL, am_n_sI, am_n_sR, am_n_sL, true_and, and_true, true_or, or_true, or_false, false_or, not_true_eq_false, not_false_eq_true, Nat.reduceLT, am_dS, am_dP, am_d1, Nat.reduceSub, Nat.reduceMul, ne_eq, Nat.reduceBEq, Nat.reduceAdd, Nat.reduceLeDiff, Nat.reduceEqDiff, and_self, and_false, false_and, if_true, if_false, am_nb, am_nb0, am_nb1, am_lc1, am_lc2, am_lc3, am_b0, am_b1, am_10, am_c8, am_c16, am_c24, am_c32, am_c40, am_c48, am_c56, am_c64, am_c72, Nat.add_zero, Bool.false_eq_true, Nat.zero_le, hm2, hin2, hcl2]
      have hF3 : Fr fSM μ (am_sI μ2 66 (k + 2) 0) := Fr.I hF2 (by unfold fSM; omega)
      exact hK1 (a + 1) (a + 1) _ (fun z => absurd z f1) (fun _ => rfl) (fun z => f1 z.1) (hT.sm hF3 hR2 (by rw [am_I_sI, if_neg (by omega)]; exact hT3.2.2.2.1) (by omega) (by rw [am_I_sI, if_neg (by omega)]; exact hT3.2.2.2.2.2.2.1)) hF3 hR2
theorem isA_c (h : isA x = true) : x = 110 ∨ x = 114 ∨ x = 108 ∨ x = 116 ∨ x = 120 ∨ x = 100 := by unfold isA at h; exact of_decide_eq_true h
theorem isA_n (h : ¬ isA x = true) : ¬ x = 110 ∧ ¬ x = 114 ∧ ¬ x = 108 ∧ ¬ x = 116 ∧ ¬ x = 120 ∧ ¬ x = 100 := by
  unfold isA at h
  rw [decide_eq_true_eq] at h
  exact ⟨fun z => h (Or.inl z), fun z => h (Or.inr (Or.inl z)), fun z => h (Or.inr (Or.inr (Or.inl z))), fun z => h (Or.inr (Or.inr (Or.inr (Or.inl z)))), fun z => h (Or.inr (Or.inr (Or.inr (Or.inr (Or.inl z))))), fun z => h (Or.inr (Or.inr (Or.inr (Or.inr (Or.inr z)))))⟩
theorem wX3_readAct (hT : TM 56 80 a t m (-1) μ) (hk : k + 3 ≤ 240) (ha : a ≤ 900) (hch : chM (am_I μ 56) t m = ch)
    (hK1 : ∀ p b ν, pAc ch a = .inl p → TM 56 80 b t m (nI p) ν → Fr fSM μ ν → am_R ν 54 8 = am_R μ 54 8 → K none ν)
    (hK2 : ∀ b ν, pAc ch a = .inr b → TM 56 80 b t m (-1) ν → Fr fSM μ ν → am_R ν 54 8 = am_R μ 54 8 → am_I ν 66 k = ch a → am_I ν 66 (k + 1) = ch (a + 1) - 48 → (is2 (ch a) = true → am_I ν 66 (k + 2) = ch (a + 2) - 48) → (∀ i, (i < k ∨ k + 3 ≤ i) → am_I ν 66 i = am_I μ 66 i) → K none ν) :
    am_Wp (d + 3) mX3_readAct 0 [.ref 54, .int (nI k), am_F, am_F] [] μ K := by
  have hmu := hT.1
  unfold mL at hmu
  have h11 := hT.2.2.2.1
  have hhe := wX3_here (d := d + 2) (K := fun r1 μ1 => am_nr r1 ∧ am_Wp (d + 3) mX3_readAct 4 [.ref 54, .int (nI k), am_F, am_F] (r1.toList ++ []) μ1 K) hT
  rw [hch] at hhe
  simp only [gX3_readAct_0, gX3_readAct_1, am_kill_int, am_kill_ref, am_kill_null, am_kill_F, am_kill_long, am_cat_n, am_cat_i, am_cat_r, am_cat_0, am_cat_l, am_nr_n, am_nr_i, am_nr_r, am_nr_0, am_nr_l, Option.toList_some, Option.toList_none, List.nil_append, List.cons_append, va_rf_s, va_rf_n, am_I_sR, am_I_sL, am_R_sI, am_R_sL, am_L_sI, am_L_sR, am_k_sI, am_k_sR, am_k_sL, am_n_sI, am_n_sR, am_n_sL, true_and, and_true, true_or, or_true, or_false, false_or, not_true_eq_false, not_false_eq_true, Nat.reduceLT, am_dS, am_dP, am_d1, Nat.reduceSub, Nat.reduceMul, ne_eq, Nat.reduceBEq, Nat.reduceAdd, Nat.reduceLeDiff, Nat.reduceEqDiff, and_self, and_false, false_and, if_true, if_false, am_nb, am_nb0, am_nb1, am_lc1, am_lc2, am_lc3, am_b0, am_b1, am_10, am_c8, am_c16, am_c24, am_c32, am_c40, am_c48, am_c56, am_c64, am_c72, Nat.add_zero, Bool.false_eq_true, Nat.zero_le, hmu, hhe]
  by_cases f1 : isA (ch a) = true
  · have main : am_Wp (d + 3) mX3_readAct 60 [.ref 54, .int (nI k), .int (ch a), .int (if is2 (ch a) = true then 1 else 0)] [] μ K := by
      refine readAct60 (is2 (ch a)) hT hk ha hch (fun p b ν z1 z2 z3 z4 z5 z6 => ?_) (fun ν z1 z2 z3 z4 z5 z6 z7 z8 z9 => ?_)
      · refine hK1 p b ν ?_ z4 z5 z6
        unfold pAc
        rw [if_pos f1]
        by_cases g : dgB (ch (a + 1)) = true
        · obtain ⟨y1, y2, y3⟩ := z1 g
          rw [if_pos g, if_pos y1, if_neg y2, y3]
        · rw [if_neg g, z2 g]
      · refine hK2 _ ν ?_ z3 z4 z5 z6 z7 z8 z9
        unfold pAc
        rw [if_pos f1, if_pos z1]
        by_cases g : is2 (ch a) = true
        · rw [if_pos g, if_pos (z2 g), if_pos g]
        · rw [if_neg g, if_neg g]
    have o10 : ¬ (1 : Int32) = 0 := by decide
    rcases isA_c f1 with z | z | z | z | z | z <;> rw [z] at main ⊢
    · have e : is2 110 = false := by decide
      have q1 : ¬ (110 : Int32) = 108 := by decide
      have q2 : ¬ (110 : Int32) = 116 := by decide
      have q3 : ¬ (110 : Int32) = 120 := by decide
      simp only [e, Bool.false_eq_true, if_false] at main
      simp only [gX3_readAct_4, gX3_readAct_5, gX3_readAct_6, gX3_readAct_8, gX3_readAct_11, gX3_readAct_12, gX3_readAct_14, gX3_readAct_17, gX3_readAct_18, gX3_readAct_20, gX3_readAct_23, gX3_readAct_24, gX3_readAct_27, gX3_readAct_28, gX3_readAct_29, gX3_readAct_30, gX3_readAct_33, gX3_readAct_34, gX3_readAct_36, am_kill_int, am_kill_ref, am_kill_null, am_kill_F, am_kill_long, am_cat_n, am_cat_i, am_cat_r, am_cat_0, am_cat_l, am_nr_n, am_nr_i, am_nr_r, am_nr_0, am_nr_l, Option.toList_some, Option.toList_none, List.nil_append, List.cons_append, va_rf_s, va_rf_n, am_I_sR, am_I_sL, am_R_sI, am_R_sL, am_L_sI, am_L_sR, am_k_sI, am_k_sR, am_k_sL, am_n_sI, am_n_sR, am_n_sL, true_and, and_true, true_or, or_true, or_false, false_or, not_true_eq_false, not_false_eq_true, Nat.reduceLT, am_dS, am_dP, am_d1, Nat.reduceSub, Nat.reduceMul, ne_eq, Nat.reduceBEq, Nat.reduceAdd, Nat.reduceLeDiff, Nat.reduceEqDiff, and_self, and_false, false_and, if_true, if_false, am_nb, am_nb0, am_nb1, am_lc1, am_lc2, am_lc3, am_b0, am_b1, am_10, am_c8, am_c16, am_c24, am_c32, am_c40, am_c48, am_c56, am_c64, am_c72, Nat.add_zero, Bool.false_eq_true, Nat.zero_le, q1, q2, q3]
      exact main
    · have e : is2 114 = false := by decide
      have q1 : ¬ (114 : Int32) = 108 := by decide
      have q2 : ¬ (114 : Int32) = 116 := by decide
      have q3 : ¬ (114 : Int32) = 120 := by decide
      have q4 : ¬ (114 : Int32) = 110 := by decide
      simp only [e, Bool.false_eq_true, if_false] at main
      simp only [gX3_readAct_4, gX3_readAct_5, gX3_readAct_6, gX3_readAct_8, gX3_readAct_11, gX3_readAct_12, gX3_readAct_14, gX3_readAct_17, gX3_readAct_18, gX3_readAct_20, gX3_readAct_23, gX3_readAct_24, gX3_readAct_27, gX3_readAct_28, gX3_readAct_29, gX3_readAct_30, gX3_readAct_33, gX3_readAct_34, gX3_readAct_36, gX3_readAct_39, gX3_readAct_40, gX3_readAct_42, am_kill_int, am_kill_ref, am_kill_null, am_kill_F, am_kill_long, am_cat_n, am_cat_i, am_cat_r, am_cat_0, am_cat_l, am_nr_n, am_nr_i, am_nr_r, am_nr_0, am_nr_l, Option.toList_some, Option.toList_none, List.nil_append, List.cons_append, va_rf_s, va_rf_n, am_I_sR, am_I_sL, am_R_sI, am_R_sL, am_L_sI, am_L_sR, am_k_sI, am_k_sR, am_k_sL, am_n_sI, am_n_sR, am_n_sL, true_and, and_true, true_or, or_true, or_false, false_or, not_true_eq_false, not_false_eq_true, Nat.reduceLT, am_dS, am_dP, am_d1, Nat.reduceSub, Nat.reduceMul, ne_eq, Nat.reduceBEq, Nat.reduceAdd, Nat.reduceLeDiff, Nat.reduceEqDiff, and_self, and_false, false_and, if_true, if_false, am_nb, am_nb0, am_nb1, am_lc1, am_lc2, am_lc3, am_b0, am_b1, am_10, am_c8, am_c16, am_c24, am_c32, am_c40, am_c48, am_c56, am_c64, am_c72, Nat.add_zero, Bool.false_eq_true, Nat.zero_le, q1, q2, q3, q4]
      exact main
    · have e : is2 108 = true := by decide
      simp only [e, if_true] at main
      simp only [gX3_readAct_4, gX3_readAct_5, gX3_readAct_6, gX3_readAct_8, gX3_readAct_23, gX3_readAct_24, gX3_readAct_27, gX3_readAct_28, gX3_readAct_29, gX3_readAct_30, am_kill_int, am_kill_ref, am_kill_null, am_kill_F, am_kill_long, am_cat_n, am_cat_i, am_cat_r, am_cat_0, am_cat_l, am_nr_n, am_nr_i, am_nr_r, am_nr_0, am_nr_l, Option.toList_some, Option.toList_none, List.nil_append, List.cons_append, va_rf_s, va_rf_n, am_I_sR, am_I_sL, am_R_sI, am_R_sL, am_L_sI, am_L_sR, am_k_sI, am_k_sR, am_k_sL, am_n_sI, am_n_sR, am_n_sL, true_and, and_true, true_or, or_true, or_false, false_or, not_true_eq_false, not_false_eq_true, Nat.reduceLT, am_dS, am_dP, am_d1, Nat.reduceSub, Nat.reduceMul, ne_eq, Nat.reduceBEq, Nat.reduceAdd, Nat.reduceLeDiff, Nat.reduceEqDiff, and_self, and_false, false_and, if_true, if_false, am_nb, am_nb0, am_nb1, am_lc1, am_lc2, am_lc3, am_b0, am_b1, am_10, am_c8, am_c16, am_c24, am_c32, am_c40, am_c48, am_c56, am_c64, am_c72, Nat.add_zero, Bool.false_eq_true, Nat.zero_le, o10]
      exact main
    · have e : is2 116 = true := by decide
      have q1 : ¬ (116 : Int32) = 108 := by decide
      simp only [e, if_true] at main
      simp only [gX3_readAct_4, gX3_readAct_5, gX3_readAct_6, gX3_readAct_8, gX3_readAct_11, gX3_readAct_12, gX3_readAct_14, gX3_readAct_23, gX3_readAct_24, gX3_readAct_27, gX3_readAct_28, gX3_readAct_29, gX3_readAct_30, am_kill_int, am_kill_ref, am_kill_null, am_kill_F, am_kill_long, am_cat_n, am_cat_i, am_cat_r, am_cat_0, am_cat_l, am_nr_n, am_nr_i, am_nr_r, am_nr_0, am_nr_l, Option.toList_some, Option.toList_none, List.nil_append, List.cons_append, va_rf_s, va_rf_n, am_I_sR, am_I_sL, am_R_sI, am_R_sL, am_L_sI, am_L_sR, am_k_sI, am_k_sR, am_k_sL, am_n_sI, am_n_sR, am_n_sL, true_and, and_true, true_or, or_true, or_false, false_or, not_true_eq_false, not_false_eq_true, Nat.reduceLT, am_dS, am_dP, am_d1, Nat.reduceSub, Nat.reduceMul, ne_eq, Nat.reduceBEq, Nat.reduceAdd, Nat.reduceLeDiff, Nat.reduceEqDiff, and_self, and_false, false_and, if_true, if_false, am_nb, am_nb0, am_nb1, am_lc1, am_lc2, am_lc3, am_b0, am_b1, am_10, am_c8, am_c16, am_c24, am_c32, am_c40, am_c48, am_c56, am_c64, am_c72, Nat.add_zero, Bool.false_eq_true, Nat.zero_le, o10, q1]
      exact main
    · have e : is2 120 = true := by decide
      have q1 : ¬ (120 : Int32) = 108 := by decide
      have q2 : ¬ (120 : Int32) = 116 := by decide
      simp only [e, if_true] at main
      simp only [gX3_readAct_4, gX3_readAct_5, gX3_readAct_6, gX3_readAct_8, gX3_readAct_11, gX3_readAct_12, gX3_readAct_14, gX3_readAct_17, gX3_readAct_18, gX3_readAct_20, gX3_readAct_23, gX3_readAct_24, gX3_readAct_27, gX3_readAct_28, gX3_readAct_29, gX3_readAct_30, am_kill_int, am_kill_ref, am_kill_null, am_kill_F, am_kill_long, am_cat_n, am_cat_i, am_cat_r, am_cat_0, am_cat_l, am_nr_n, am_nr_i, am_nr_r, am_nr_0, am_nr_l, Option.toList_some, Option.toList_none, List.nil_append, List.cons_append, va_rf_s, va_rf_n, am_I_sR, am_I_sL, am_R_sI, am_R_sL, am_L_sI, am_L_sR, am_k_sI, am_k_sR, am_k_sL, am_n_sI, am_n_sR, am_n_sL, true_and, and_true, true_or, or_true, or_false, false_or, not_true_eq_false, not_false_eq_true, Nat.reduceLT, am_dS, am_dP, am_d1, Nat.reduceSub, Nat.reduceMul, ne_eq, Nat.reduceBEq, Nat.reduceAdd, Nat.reduceLeDiff, Nat.reduceEqDiff, and_self, and_false, false_and, if_true, if_false, am_nb, am_nb0, am_nb1, am_lc1, am_lc2, am_lc3, am_b0, am_b1, am_10, am_c8, am_c16, am_c24, am_c32, am_c40, am_c48, am_c56, am_c64, am_c72, Nat.add_zero, Bool.false_eq_true, Nat.zero_le, o10, q1, q2]
      exact main
    · have e : is2 100 = false := by decide
      have q1 : ¬ (100 : Int32) = 108 := by decide
      have q2 : ¬ (100 : Int32) = 116 := by decide
      have q3 : ¬ (100 : Int32) = 120 := by decide
      have q4 : ¬ (100 : Int32) = 110 := by decide
      have q5 : ¬ (100 : Int32) = 114 := by decide
      simp only [e, Bool.false_eq_true, if_false] at main
      simp only [gX3_readAct_4, gX3_readAct_5, gX3_readAct_6, gX3_readAct_8, gX3_readAct_11, gX3_readAct_12, gX3_readAct_14, gX3_readAct_17, gX3_readAct_18, gX3_readAct_20, gX3_readAct_23, gX3_readAct_24, gX3_readAct_27, gX3_readAct_28, gX3_readAct_29, gX3_readAct_30, gX3_readAct_33, gX3_readAct_34, gX3_readAct_36, gX3_readAct_39, gX3_readAct_40, gX3_readAct_42, gX3_readAct_45, gX3_readAct_46, gX3_readAct_48, am_kill_int, am_kill_ref, am_kill_null, am_kill_F, am_kill_long, am_cat_n, am_cat_i, am_cat_r, am_cat_0, am_cat_l, am_nr_n, am_nr_i, am_nr_r, am_nr_0, am_nr_l, Option.toList_some, Option.toList_none, List.nil_append, List.cons_append, va_rf_s, va_rf_n, am_I_sR, am_I_sL, am_R_sI, am_R_sL, am_L_sI, am_L_sR, am_k_sI, am_k_sR, am_k_sL, am_n_sI, am_n_sR, am_n_sL, true_and, and_true, true_or, or_true, or_false, false_or, not_true_eq_false, not_false_eq_true, Nat.reduceLT, am_dS, am_dP, am_d1, Nat.reduceSub, Nat.reduceMul, ne_eq, Nat.reduceBEq, Nat.reduceAdd, Nat.reduceLeDiff, Nat.reduceEqDiff, and_self, and_false, false_and, if_true, if_false, am_nb, am_nb0, am_nb1, am_lc1, am_lc2, am_lc3, am_b0, am_b1, am_10, am_c8, am_c16, am_c24, am_c32, am_c40, am_c48, am_c56, am_c64, am_c72, Nat.add_zero, Bool.false_eq_true, Nat.zero_le, q1, q2, q3, q4, q5]
      exact main
  · have hp : pAc ch a = .inl a := by unfold pAc; rw [if_neg f1]
    have hn := isA_n f1
    have hfa := wX3_fault (d := d + 1) (x := nI a) (K := fun r1 μ1 => am_nr r1 ∧ am_Wp (d + 3) mX3_readAct 59 [.ref 54, .int (nI k), .int (ch a), .int 0] (r1.toList ++ []) μ1 K) hT
    rw [if_pos rfl] at hfa
    simp only [gX3_readAct_4, gX3_readAct_5, gX3_readAct_6, gX3_readAct_8, gX3_readAct_11, gX3_readAct_12, gX3_readAct_14, gX3_readAct_17, gX3_readAct_18, gX3_readAct_20, gX3_readAct_23, gX3_readAct_24, gX3_readAct_27, gX3_readAct_28, gX3_readAct_29, gX3_readAct_30, gX3_readAct_33, gX3_readAct_34, gX3_readAct_36, gX3_readAct_39, gX3_readAct_40, gX3_readAct_42, gX3_readAct_45, gX3_readAct_46, gX3_readAct_48, gX3_readAct_51, gX3_readAct_52, gX3_readAct_53, gX3_readAct_56, am_kill_int, am_kill_ref, am_kill_null, am_kill_F, am_kill_long, am_cat_n, am_cat_i, am_cat_r, am_cat_0, am_cat_l, am_nr_n, am_nr_i, am_nr_r, am_nr_0, am_nr_l, Option.toList_some, Option.toList_none, List.nil_append, List.cons_append, va_rf_s, va_rf_n, am_I_sR, am_I_sL, am_R_sI, am_R_sL, am_L_sI, am_L_sR, am_k_sI, am_k_sR, am_k_sL, am_n_sI, am_n_sR, am_n_sL, true_and, and_true, true_or, or_true, or_false, false_or, not_true_eq_false, not_false_eq_true, Nat.reduceLT, am_dS, am_dP, am_d1, Nat.reduceSub, Nat.reduceMul, ne_eq, Nat.reduceBEq, Nat.reduceAdd, Nat.reduceLeDiff, Nat.reduceEqDiff, and_self, and_false, false_and, if_true, if_false, am_nb, am_nb0, am_nb1, am_lc1, am_lc2, am_lc3, am_b0, am_b1, am_10, am_c8, am_c16, am_c24, am_c32, am_c40, am_c48, am_c56, am_c64, am_c72, Nat.add_zero, Bool.false_eq_true, Nat.zero_le, hmu, h11, hn, hfa]
    simp only [gX3_readAct_59, am_kill_int, am_kill_ref, am_kill_null, am_kill_F, am_kill_long, am_cat_n, am_cat_i, am_cat_r, am_cat_0, am_cat_l, am_nr_n, am_nr_i, am_nr_r, am_nr_0, am_nr_l, Option.toList_some, Option.toList_none, List.nil_append, List.cons_append, va_rf_s, va_rf_n, am_I_sR, am_I_sL, am_R_sI, am_R_sL, am_L_sI, am_L_sR, am_k_sI, am_k_sR, am_k_sL, am_n_sI, am_n_sR, am_n_sL, true_and, and_true, true_or, or_true, or_false, false_or, not_true_eq_false, not_false_eq_true, Nat.reduceLT, am_dS, am_dP, am_d1, Nat.reduceSub, Nat.reduceMul, ne_eq, Nat.reduceBEq, Nat.reduceAdd, Nat.reduceLeDiff, Nat.reduceEqDiff, and_self, and_false, false_and, if_true, if_false, am_nb, am_nb0, am_nb1, am_lc1, am_lc2, am_lc3, am_b0, am_b1, am_10, am_c8, am_c16, am_c24, am_c32, am_c40, am_c48, am_c56, am_c64, am_c72, Nat.add_zero, Bool.false_eq_true, Nat.zero_le]
    exact hK1 a a _ hp (hT.fault (x := nI a)) (Fr.I Fr.refl (by unfold fSM; omega)) rfl
/-- both loops -/
def roC (ch : Nat → Int32) (st : Nat → Nat) (n : Nat) (μ : am_M) : Prop := ∀ i, i < n → am_I μ 41 i = ch (st i) ∧ am_I μ 42 i = ch (st i + 1) - 48 ∧ (is2 (ch (st i)) = true → am_I μ 43 i = ch (st i + 2) - 48)
def roM (ch : Nat → Int32) (st : Nat → Nat) (n : Nat) (μ : am_M) : Prop := ∀ i, i < n → am_I μ 66 (3 * i) = ch (st i) ∧ am_I μ 66 (3 * i + 1) = ch (st i + 1) - 48 ∧ (is2 (ch (st i)) = true → am_I μ 66 (3 * i + 2) = ch (st i + 2) - 48)
theorem pAc_le (hch : ∀ i, 0 ≤ ch i → i < e) (h : pAc ch a = .inr b) : b ≤ e ∧ a + 2 ≤ b := by
  obtain ⟨q1, q2, q3, q4⟩ := pAc_r h
  by_cases g2 : is2 (ch a) = true
  · obtain ⟨w1, w2⟩ := q3 g2
    have := hch _ (dgB_0 w1)
    omega
  · have w2 := q4 g2
    have := hch _ (dgB_0 q2)
    omega
theorem spC_loop (he : e ≤ 60) (z3 z4 : Value) : ∀ (f a k : Nat) (st : Nat → Nat) (ρ : am_M), e < a + f → a ≤ e → 2 * k ≤ a → CR e a ch ρ → Fr fSC μ ρ → am_I ρ 0 26 = nI k → roC ch st k ρ →
    (∀ p ν, spA2 ch e f a k st = .inl p → Fr fSC μ ν → am_I ν 0 7 = nI p → am_Wp (d + 200) mX1_spring 37 [.ref 0, .int (nI t), .int 0, z3, z4] [] ν K) →
    (∀ n st' b ν, spA2 ch e f a k st = .inr (n, st', b) → Fr fSC μ ν → am_I ν 0 7 = nI b → am_I ν 0 26 = nI n → roC ch st' n ν → am_Wp (d + 200) mX1_spring 37 [.ref 0, .int (nI t), .int 1, z3, z4] [] ν K) →
    am_Wp (d + 200) mX1_spring 14 [.ref 0, .int (nI t), .int 1, z3, z4] [] ρ K := by
  intro f
  have o10 : ¬ (1 : Int32) = 0 := by decide
  induction f with
  | zero => intro a k st ρ h1 h2; omega
  | succ f ih =>
    intro a k st ρ h1 h2 h3 hC hF h26 hr hK1 hK2
    have hk0 := hC.1.c
    have hat := hC.2.2.1
    have h8 := hC.2.2.2.1
    have hch : ∀ i, 0 ≤ ch i → i < e := fun i hi => hC.lt hi
    rw [gX1_spring_14]
    by_cases g : a < e
    · have hlt : ¬ nI e ≤ nI a := nI_ge g (by omega)
      simp only [gX1_spring_15, gX1_spring_18, gX1_spring_19, gX1_spring_22, gX1_spring_23, gX1_spring_26, gX1_spring_29, gX1_spring_30, am_kill_int, am_kill_ref, am_kill_null, am_kill_F, am_kill_long, am_cat_n, am_cat_i, am_cat_r, am_cat_0, am_cat_l, am_nr_n, am_nr_i, am_nr_r, am_nr_0, am_nr_l, Option.toList_some, Option.toList_none, List.nil_append, List.cons_append, va_rf_s, va_rf_n, am_II, am_I_sR, am_I_sL, am_R_sI, am_RR, am_R_sL, am_L_sI, am_L_sR, am_LL, am_k_sI, am_k_sR, am_k_sL, am_n_sI, am_n_sR, am_n_sL, true_and, and_true, true_or, or_true, or_false, false_or, not_true_eq_false, not_false_eq_true, Nat.reduceLT, am_dS, am_dP, am_d1, Nat.reduceSub, Nat.reduceMul, ne_eq, Nat.reduceBEq, Nat.reduceAdd, Nat.reduceLeDiff, Nat.reduceEqDiff, and_self, and_false, false_and, if_true, if_false, am_nb, am_nb0, am_nb1, am_lc1, am_lc2, am_lc3, am_b0, am_b1, am_10, am_c8, am_c16, am_c24, am_c32, am_c40, am_c48, am_c56, am_c64, am_c72, Nat.add_zero, Bool.false_eq_true, Nat.zero_le, hk0, o10, hat, h8, hlt]
      refine wX1_readsAct (d := d + 191) hC g h26 (by omega) (fun p ν hp hF2 h7 => ?_) (fun b ν hp hF2 h7 h26' hrow hold => ?_)
      · refine ⟨trivial, ?_⟩
        simp only [Option.toList_some, List.cons_append, List.nil_append, gX1_spring_33, gX1_spring_34, am_kill_int, am_kill_ref, am_kill_null, am_kill_F, am_kill_long, am_cat_n, am_cat_i, am_cat_r, am_cat_0, am_cat_l, am_nr_n, am_nr_i, am_nr_r, am_nr_0, am_nr_l, Option.toList_some, Option.toList_none, List.nil_append, List.cons_append, va_rf_s, va_rf_n, am_II, am_I_sR, am_I_sL, am_R_sI, am_RR, am_R_sL, am_L_sI, am_L_sR, am_LL, am_k_sI, am_k_sR, am_k_sL, am_n_sI, am_n_sR, am_n_sL, true_and, and_true, true_or, or_true, or_false, false_or, not_true_eq_false, not_false_eq_true, Nat.reduceLT, am_dS, am_dP, am_d1, Nat.reduceSub, Nat.reduceMul, ne_eq, Nat.reduceBEq, Nat.reduceAdd, Nat.reduceLeDiff, Nat.reduceEqDiff, and_self, and_false, false_and, if_true, if_false, am_nb, am_nb0, am_nb1, am_lc1, am_lc2, am_lc3, am_b0, am_b1, am_10, am_c8, am_c16, am_c24, am_c32, am_c40, am_c48, am_c56, am_c64, am_c72, Nat.add_zero, Bool.false_eq_true, Nat.zero_le]
        rw [gX1_spring_14]
        simp only [gX1_spring_15, am_kill_int, am_kill_ref, am_kill_null, am_kill_F, am_kill_long, am_cat_n, am_cat_i, am_cat_r, am_cat_0, am_cat_l, am_nr_n, am_nr_i, am_nr_r, am_nr_0, am_nr_l, Option.toList_some, Option.toList_none, List.nil_append, List.cons_append, va_rf_s, va_rf_n, am_II, am_I_sR, am_I_sL, am_R_sI, am_RR, am_R_sL, am_L_sI, am_L_sR, am_LL, am_k_sI, am_k_sR, am_k_sL, am_n_sI, am_n_sR, am_n_sL, true_and, and_true, true_or, or_true, or_false, false_or, not_true_eq_false, not_false_eq_true, Nat.reduceLT, am_dS, am_dP, am_d1, Nat.reduceSub, Nat.reduceMul, ne_eq, Nat.reduceBEq, Nat.reduceAdd, Nat.reduceLeDiff, Nat.reduceEqDiff, and_self, and_false, false_and, if_true, if_false, am_nb, am_nb0, am_nb1, am_lc1, am_lc2, am_lc3, am_b0, am_b1, am_10, am_c8, am_c16, am_c24, am_c32, am_c40, am_c48, am_c56, am_c64, am_c72, Nat.add_zero, Bool.false_eq_true, Nat.zero_le]
        refine hK1 p ν ?_ (hF.trans hF2) h7
        unfold spA2
        rw [if_pos g, hp]
      · have hb := pAc_le hch hp
        refine ⟨trivial, ?_⟩
        simp only [Option.toList_some, List.cons_append, List.nil_append, gX1_spring_33, gX1_spring_34, am_kill_int, am_kill_ref, am_kill_null, am_kill_F, am_kill_long, am_cat_n, am_cat_i, am_cat_r, am_cat_0, am_cat_l, am_nr_n, am_nr_i, am_nr_r, am_nr_0, am_nr_l, Option.toList_some, Option.toList_none, List.nil_append, List.cons_append, va_rf_s, va_rf_n, am_II, am_I_sR, am_I_sL, am_R_sI, am_RR, am_R_sL, am_L_sI, am_L_sR, am_LL, am_k_sI, am_k_sR, am_k_sL, am_n_sI, am_n_sR, am_n_sL, true_and, and_true, true_or, or_true, or_false, false_or, not_true_eq_false, not_false_eq_true, Nat.reduceLT, am_dS, am_dP, am_d1, Nat.reduceSub, Nat.reduceMul, ne_eq, Nat.reduceBEq, Nat.reduceAdd, Nat.reduceLeDiff, Nat.reduceEqDiff, and_self, and_false, false_and, if_true, if_false, am_nb, am_nb0, am_nb1, am_lc1, am_lc2, am_lc3, am_b0, am_b1, am_10, am_c8, am_c16, am_c24, am_c32, am_c40, am_c48, am_c56, am_c64, am_c72, Nat.add_zero, Bool.false_eq_true, Nat.zero_le]
        have en : spA2 ch e (f + 1) a k st = spA2 ch e f b (k + 1) (fun i => if i = k then a else st i) := by
          conv => lhs; unfold spA2
          rw [if_pos g, hp]
        refine ih b (k + 1) _ ν (by omega) hb.1 (by omega) (hC.gen hF2 (fun a b z => by unfold fSC at z; omega) h7 (by omega)) (hF.trans hF2) h26' (fun i hi => ?_) (fun p ξ z => hK1 p ξ (en.trans z)) (fun n st' b' ξ z => hK2 n st' b' ξ (en.trans z))
        by_cases g3 : i = k
        · subst g3; simp only [if_true]; exact hrow
        · simp only [g3, if_false]
          rw [hold 41 i (Or.inl rfl) g3, hold 42 i (Or.inr (Or.inl rfl)) g3, hold 43 i (Or.inr (Or.inr rfl)) g3]
          exact hr i (by omega)
    · have hle : nI e ≤ nI a := nI_le (by omega) (by omega)
      simp only [gX1_spring_15, gX1_spring_18, gX1_spring_19, gX1_spring_22, gX1_spring_23, gX1_spring_26, am_kill_int, am_kill_ref, am_kill_null, am_kill_F, am_kill_long, am_cat_n, am_cat_i, am_cat_r, am_cat_0, am_cat_l, am_nr_n, am_nr_i, am_nr_r, am_nr_0, am_nr_l, Option.toList_some, Option.toList_none, List.nil_append, List.cons_append, va_rf_s, va_rf_n, am_II, am_I_sR, am_I_sL, am_R_sI, am_RR, am_R_sL, am_L_sI, am_L_sR, am_LL, am_k_sI, am_k_sR, am_k_sL, am_n_sI, am_n_sR, am_n_sL, true_and, and_true, true_or, or_true, or_false, false_or, not_true_eq_false, not_false_eq_true, Nat.reduceLT, am_dS, am_dP, am_d1, Nat.reduceSub, Nat.reduceMul, ne_eq, Nat.reduceBEq, Nat.reduceAdd, Nat.reduceLeDiff, Nat.reduceEqDiff, and_self, and_false, false_and, if_true, if_false, am_nb, am_nb0, am_nb1, am_lc1, am_lc2, am_lc3, am_b0, am_b1, am_10, am_c8, am_c16, am_c24, am_c32, am_c40, am_c48, am_c56, am_c64, am_c72, Nat.add_zero, Bool.false_eq_true, Nat.zero_le, hk0, o10, hat, h8, hle]
      refine hK2 k st a ρ ?_ hF hat h26 hr
      unfold spA2
      rw [if_neg g]
theorem spM_loop (ht : t ≤ 80) (hch56 : chM (am_I μ 56) t 60 = ch) (z2 : Value) : ∀ (f a k : Nat) (st : Nat → Nat) (ρ : am_M), min t 60 < a + f → a ≤ min t 60 → 2 * k ≤ a → TM 56 80 a t 60 (-1) ρ → Fr fSM μ ρ → am_R ρ 54 8 = am_R μ 54 8 → roM ch st k ρ →
    (∀ p b n' ν, (spA2 ch (min t 60) f a k st = .inl p ∨ ∃ n st', spA2 ch (min t 60) f a k st = .inr (n, st', p) ∧ p < t) → p ≤ 100 → TM 56 80 b t 60 (nI p) ν → Fr fSM μ ν → am_Wp (d + 200) mX3_spring 44 [.ref 54, .int n', z2] [] ν K) →
    (∀ n st' b ν, spA2 ch (min t 60) f a k st = .inr (n, st', b) → ¬ b < t → TM 56 80 b t 60 (-1) ν → Fr fSM μ ν → roM ch st' n ν → am_Wp (d + 200) mX3_spring 44 [.ref 54, .int (nI n), z2] [] ν K) →
    am_Wp (d + 200) mX3_spring 13 [.ref 54, .int (nI k), z2] [] ρ K := by
  intro f
  have o10 : ¬ (1 : Int32) = 0 := by decide
  have hch : ∀ i, 0 ≤ ch i → i < min t 60 := fun i hi => by
    rw [← hch56] at hi
    have := chM_lt hi
    omega
  have out : ∀ (p b n' : Nat) (ν : am_M), p ≤ 100 → TM 56 80 b t 60 (nI p) ν → (am_Wp (d + 200) mX3_spring 44 [.ref 54, .int (nI n'), z2] [] ν K) → am_Wp (d + 200) mX3_spring 13 [.ref 54, .int (nI n'), z2] [] ν K := fun p b n' ν hp hT hK => by
    have hmu := hT.1
    unfold mL at hmu
    have hfi := wX3_fine (d := d + 199) (K := fun r1 μ1 => am_nr r1 ∧ am_Wp (d + 200) mX3_spring 17 [.ref 54, .int (nI n'), z2] (r1.toList ++ []) μ1 K) hT
    rw [if_neg (nI_m1 (by omega))] at hfi
    have hfi2 : am_Wp (d + 200) mX3_spring 14 [.ref 54, .int (nI n'), z2] [.ref 54] ν K := by
      simp only [gX3_spring_14, am_kill_int, am_kill_ref, am_kill_null, am_kill_F, am_kill_long, am_cat_n, am_cat_i, am_cat_r, am_cat_0, am_cat_l, am_nr_n, am_nr_i, am_nr_r, am_nr_0, am_nr_l, Option.toList_some, Option.toList_none, List.nil_append, List.cons_append, va_rf_s, va_rf_n, am_I_sR, am_I_sL, am_R_sI, am_R_sL, am_L_sI, am_L_sR, am_k_sI, am_k_sR, am_k_sL, am_n_sI, am_n_sR, am_n_sL, true_and, and_true, true_or, or_true, or_false, false_or, not_true_eq_false, not_false_eq_true, Nat.reduceLT, am_dS, am_dP, am_d1, Nat.reduceSub, Nat.reduceMul, ne_eq, Nat.reduceBEq, Nat.reduceAdd, Nat.reduceLeDiff, Nat.reduceEqDiff, and_self, and_false, false_and, if_true, if_false, am_nb, am_nb0, am_nb1, am_lc1, am_lc2, am_lc3, am_b0, am_b1, am_10, am_c8, am_c16, am_c24, am_c32, am_c40, am_c48, am_c56, am_c64, am_c72, Nat.add_zero, Bool.false_eq_true, Nat.zero_le, hmu, hfi]
      simp only [gX3_spring_17, am_kill_int, am_kill_ref, am_kill_null, am_kill_F, am_kill_long, am_cat_n, am_cat_i, am_cat_r, am_cat_0, am_cat_l, am_nr_n, am_nr_i, am_nr_r, am_nr_0, am_nr_l, Option.toList_some, Option.toList_none, List.nil_append, List.cons_append, va_rf_s, va_rf_n, am_I_sR, am_I_sL, am_R_sI, am_R_sL, am_L_sI, am_L_sR, am_k_sI, am_k_sR, am_k_sL, am_n_sI, am_n_sR, am_n_sL, true_and, and_true, true_or, or_true, or_false, false_or, not_true_eq_false, not_false_eq_true, Nat.reduceLT, am_dS, am_dP, am_d1, Nat.reduceSub, Nat.reduceMul, ne_eq, Nat.reduceBEq, Nat.reduceAdd, Nat.reduceLeDiff, Nat.reduceEqDiff, and_self, and_false, false_and, if_true, if_false, am_nb, am_nb0, am_nb1, am_lc1, am_lc2, am_lc3, am_b0, am_b1, am_10, am_c8, am_c16, am_c24, am_c32, am_c40, am_c48, am_c56, am_c64, am_c72, Nat.add_zero, Bool.false_eq_true, Nat.zero_le]
      exact hK
    rw [gX3_spring_13]
    exact hfi2
  induction f with
  | zero => intro a k st ρ h1 h2; omega
  | succ f ih =>
    intro a k st ρ h1 h2 h3 hT hF hR hr hK1 hK2
    have hmu := hT.1
    unfold mL at hmu
    have hat := hT.2.2.2.1
    have h9 := hT.2.2.2.2.1
    have hfi := wX3_fine (d := d + 199) (K := fun r1 μ1 => am_nr r1 ∧ am_Wp (d + 200) mX3_spring 17 [.ref 54, .int (nI k), z2] (r1.toList ++ []) μ1 K) hT
    rw [if_pos rfl] at hfi
    have h56 : chM (am_I ρ 56) t 60 = ch := by rw [show am_I ρ 56 = am_I μ 56 from funext fun i => hF.1 56 i (by unfold fSM; omega)]; exact hch56
    have e3 : (3 : Int32) * nI k = nI (3 * k) := by rw [show (3 : Int32) = nI 3 from rfl]; exact nI_mul
    rw [gX3_spring_13]
    simp only [gX3_spring_14, am_kill_int, am_kill_ref, am_kill_null, am_kill_F, am_kill_long, am_cat_n, am_cat_i, am_cat_r, am_cat_0, am_cat_l, am_nr_n, am_nr_i, am_nr_r, am_nr_0, am_nr_l, Option.toList_some, Option.toList_none, List.nil_append, List.cons_append, va_rf_s, va_rf_n, am_I_sR, am_I_sL, am_R_sI, am_R_sL, am_L_sI, am_L_sR, am_k_sI, am_k_sR, am_k_sL, am_n_sI, am_n_sR, am_n_sL, true_and, and_true, true_or, or_true, or_false, false_or, not_true_eq_false, not_false_eq_true, Nat.reduceLT, am_dS, am_dP, am_d1, Nat.reduceSub, Nat.reduceMul, ne_eq, Nat.reduceBEq, Nat.reduceAdd, Nat.reduceLeDiff, Nat.reduceEqDiff, and_self, and_false, false_and, if_true, if_false, am_nb, am_nb0, am_nb1, am_lc1, am_lc2, am_lc3, am_b0, am_b1, am_10, am_c8, am_c16, am_c24, am_c32, am_c40, am_c48, am_c56, am_c64, am_c72, Nat.add_zero, Bool.false_eq_true, Nat.zero_le, hmu, hfi]
    by_cases g0 : a < t
    · have hlt : ¬ nI t ≤ nI a := nI_ge g0 (by omega)
      simp only [gX3_spring_17, gX3_spring_20, gX3_spring_21, gX3_spring_24, gX3_spring_25, gX3_spring_28, gX3_spring_31, gX3_spring_32, gX3_spring_33, gX3_spring_34, gX3_spring_35, am_kill_int, am_kill_ref, am_kill_null, am_kill_F, am_kill_long, am_cat_n, am_cat_i, am_cat_r, am_cat_0, am_cat_l, am_nr_n, am_nr_i, am_nr_r, am_nr_0, am_nr_l, Option.toList_some, Option.toList_none, List.nil_append, List.cons_append, va_rf_s, va_rf_n, am_I_sR, am_I_sL, am_R_sI, am_R_sL, am_L_sI, am_L_sR, am_k_sI, am_k_sR, am_k_sL, am_n_sI, am_n_sR, am_n_sL, true_and, and_true, true_or, or_true, or_false, false_or, not_true_eq_false, not_false_eq_true, Nat.reduceLT, am_dS, am_dP, am_d1, Nat.reduceSub, Nat.reduceMul, ne_eq, Nat.reduceBEq, Nat.reduceAdd, Nat.reduceLeDiff, Nat.reduceEqDiff, and_self, and_false, false_and, if_true, if_false, am_nb, am_nb0, am_nb1, am_lc1, am_lc2, am_lc3, am_b0, am_b1, am_10, am_c8, am_c16, am_c24, am_c32, am_c40, am_c48, am_c56, am_c64, am_c72, Nat.add_zero, Bool.false_eq_true, Nat.zero_le, hmu, o10, hat, h9, hlt, e3]
      refine wX3_readAct (d := d + 196) hT (by omega) (by omega) h56 (fun p b ν hp hT2 hF2 hR2 => ?_) (fun b ν hp hT2 hF2 hR2 g1 g2 g3 g4 => ?_)
      · have hple := pAc_l hp
        refine ⟨trivial, ?_⟩
        simp only [Option.toList_none, List.nil_append, gX3_spring_38, gX3_spring_41, am_kill_int, am_kill_ref, am_kill_null, am_kill_F, am_kill_long, am_cat_n, am_cat_i, am_cat_r, am_cat_0, am_cat_l, am_nr_n, am_nr_i, am_nr_r, am_nr_0, am_nr_l, Option.toList_some, Option.toList_none, List.nil_append, List.cons_append, va_rf_s, va_rf_n, am_I_sR, am_I_sL, am_R_sI, am_R_sL, am_L_sI, am_L_sR, am_k_sI, am_k_sR, am_k_sL, am_n_sI, am_n_sR, am_n_sL, true_and, and_true, true_or, or_true, or_false, false_or, not_true_eq_false, not_false_eq_true, Nat.reduceLT, am_dS, am_dP, am_d1, Nat.reduceSub, Nat.reduceMul, ne_eq, Nat.reduceBEq, Nat.reduceAdd, Nat.reduceLeDiff, Nat.reduceEqDiff, and_self, and_false, false_and, if_true, if_false, am_nb, am_nb0, am_nb1, am_lc1, am_lc2, am_lc3, am_b0, am_b1, am_10, am_c8, am_c16, am_c24, am_c32, am_c40, am_c48, am_c56, am_c64, am_c72, Nat.add_zero, Bool.false_eq_true, Nat.zero_le, nI_1]
        refine out p b (k + 1) ν (by omega) hT2 (hK1 p b _ ν ?_ (by omega) hT2 (hF.trans hF2))
        by_cases g : a < min t 60
        · refine Or.inl ?_
          unfold spA2
          rw [if_pos g, hp]
        · -- beyond the end: no sign
          have hm : ch a = -1 ∨ ¬ 0 ≤ ch a := Or.inr fun z => g (hch a z)
          have hna : ¬ isA (ch a) = true := fun z => by
            have : 0 ≤ ch a := by rcases isA_c z with y | y | y | y | y | y <;> rw [y] <;> decide
            exact g (hch a this)
          have hp2 : pAc ch a = .inl a := by unfold pAc; rw [if_neg hna]
          rw [hp2] at hp
          cases hp
          refine Or.inr ⟨k, st, ?_, g0⟩
          unfold spA2
          rw [if_neg g]
      · have hb := pAc_le hch hp
        have g : a < min t 60 := by omega
        refine ⟨trivial, ?_⟩
        simp only [Option.toList_none, List.nil_append, gX3_spring_38, gX3_spring_41, am_kill_int, am_kill_ref, am_kill_null, am_kill_F, am_kill_long, am_cat_n, am_cat_i, am_cat_r, am_cat_0, am_cat_l, am_nr_n, am_nr_i, am_nr_r, am_nr_0, am_nr_l, Option.toList_some, Option.toList_none, List.nil_append, List.cons_append, va_rf_s, va_rf_n, am_I_sR, am_I_sL, am_R_sI, am_R_sL, am_L_sI, am_L_sR, am_k_sI, am_k_sR, am_k_sL, am_n_sI, am_n_sR, am_n_sL, true_and, and_true, true_or, or_true, or_false, false_or, not_true_eq_false, not_false_eq_true, Nat.reduceLT, am_dS, am_dP, am_d1, Nat.reduceSub, Nat.reduceMul, ne_eq, Nat.reduceBEq, Nat.reduceAdd, Nat.reduceLeDiff, Nat.reduceEqDiff, and_self, and_false, false_and, if_true, if_false, am_nb, am_nb0, am_nb1, am_lc1, am_lc2, am_lc3, am_b0, am_b1, am_10, am_c8, am_c16, am_c24, am_c32, am_c40, am_c48, am_c56, am_c64, am_c72, Nat.add_zero, Bool.false_eq_true, Nat.zero_le, nI_1]
        have en : spA2 ch (min t 60) (f + 1) a k st = spA2 ch (min t 60) f b (k + 1) (fun i => if i = k then a else st i) := by
          conv => lhs; unfold spA2
          rw [if_pos g, hp]
        refine ih b (k + 1) _ ν (by omega) hb.1 (by omega) hT2 (hF.trans hF2) (hR2.trans hR) (fun i hi => ?_) (fun p b' n' ξ z => hK1 p b' n' ξ (z.elim (fun y => Or.inl (en.trans y)) (fun ⟨n, st', y, y2⟩ => Or.inr ⟨n, st', en.trans y, y2⟩))) (fun n st' b' ξ z => hK2 n st' b' ξ (en.trans z))
        by_cases g5 : i = k
        · subst g5; simp only [if_true]; exact ⟨g1, g2, g3⟩
        · simp only [g5, if_false]
          rw [g4 (3 * i) (by omega), g4 (3 * i + 1) (by omega), g4 (3 * i + 2) (by omega)]
          exact hr i (by omega)
    · have hle : nI t ≤ nI a := nI_le (by omega) (by omega)
      simp only [gX3_spring_17, gX3_spring_20, gX3_spring_21, gX3_spring_24, gX3_spring_25, gX3_spring_28, am_kill_int, am_kill_ref, am_kill_null, am_kill_F, am_kill_long, am_cat_n, am_cat_i, am_cat_r, am_cat_0, am_cat_l, am_nr_n, am_nr_i, am_nr_r, am_nr_0, am_nr_l, Option.toList_some, Option.toList_none, List.nil_append, List.cons_append, va_rf_s, va_rf_n, am_I_sR, am_I_sL, am_R_sI, am_R_sL, am_L_sI, am_L_sR, am_k_sI, am_k_sR, am_k_sL, am_n_sI, am_n_sR, am_n_sL, true_and, and_true, true_or, or_true, or_false, false_or, not_true_eq_false, not_false_eq_true, Nat.reduceLT, am_dS, am_dP, am_d1, Nat.reduceSub, Nat.reduceMul, ne_eq, Nat.reduceBEq, Nat.reduceAdd, Nat.reduceLeDiff, Nat.reduceEqDiff, and_self, and_false, false_and, if_true, if_false, am_nb, am_nb0, am_nb1, am_lc1, am_lc2, am_lc3, am_b0, am_b1, am_10, am_c8, am_c16, am_c24, am_c32, am_c40, am_c48, am_c56, am_c64, am_c72, Nat.add_zero, Bool.false_eq_true, Nat.zero_le, hmu, o10, hat, h9, hle]
      refine hK2 k st a ρ ?_ g0 hT hF hr
      unfold spA2
      rw [if_neg (by omega)]
end SBV
