/-! calls that ask: eldest -/
set_option maxRecDepth 100000
section OIV
variable {d : Nat} {μ ν ξ : am_M} {K : Option Value → am_M → Prop} {x y z c w : Int32} {h h' N C j i k r n M b q m : Nat} {v : Int32} {ru : Option PF} {A o o' : Nat → Int32} {S a : Nat → Int32} {g p p' : Nat → Bool}
/-- the first of the most among some -/
def optA (g : Nat → Bool) (A : Nat → Int32) : Nat → Option Nat
  | 0 => none
  | n + 1 => if g n = true then (match optA g A n with
    | none => some n
    | some b => if A b < A n then some n else some b) else optA g A n
theorem optA_lt : ∀ {n b : Nat}, optA g A n = some b → b < n ∧ g b = true
  | 0, _, h => by cases h
  | n + 1, b, h => by
    unfold optA at h
    by_cases q : g n = true
    · rw [if_pos q] at h
      cases e : optA g A n with
      | none => rw [e] at h; cases h; exact ⟨by omega, q⟩
      | some b' =>
        rw [e] at h
        have := optA_lt e
        by_cases q2 : A b' < A n
        · simp only [if_pos q2] at h; cases h; exact ⟨by omega, q⟩
        · simp only [if_neg q2] at h; cases h; exact ⟨by omega, this.2⟩
    · rw [if_neg q] at h
      have := optA_lt h
      exact ⟨by omega, this.2⟩
def moF (A : Nat → Int32) (b : Option Nat) : Int32 := match b with
  | none => -1
  | some b => A b
def gEl (S : Nat → Int32) (n : Nat) : Bool := !decide (S (48 + n) = 0)
def oEl (N : Nat) (S : Nat → Int32) : Option Nat := optA (gEl S) (fun n => S (64 + n)) N
def pEl (N : Nat) (ru : Option PF) (S : Nat → Int32) : Option (List Int64) := match oEl N S with
  | none => none
  | some b => some [(S (64 + b)).toInt64, (fliC N ru b 60 1 S).1.toInt64]
theorem nI_m2 {b : Nat} (hb : b < 1000) : ¬ nI b = -2 := fun q => by
  have h1 := nI_toInt (n := b) (by omega)
  rw [q] at h1
  have h2 : (-2 : Int32).toInt = -2 := by decide
  omega
theorem qc_eldest (hP : Per N C ru c μ) : QC mX1_eldest [.ref 0, am_F, am_F, am_F] μ (bvF (oEl N (cS μ 1))) (pEl N ru (cS μ 1)) := by
  intro d K hK
  have hC := hP.1.1
  have hcu := hC.1
  simp only [cL, spL, Nat.reduceAdd] at hcu
  have hN := hC.2.1
  have h8 := hC.2.2.1
  have hk := hC.1.c
  unfold pEl at hK
  have hmo : ∀ n, n < N → ¬ cS μ 1 (64 + n) ≤ -1 := fun n hn => by
    have := (hP.2.1.cg hn).2.2.2.2.2.1.1
    rw [col8] at this
    exact fun e => absurd (Int32.le_trans this e) (by decide)
  simp only [gX1_eldest_0, gX1_eldest_2, gX1_eldest_3, gX1_eldest_4, gX1_eldest_5, gX1_eldest_6, am_kill_int, am_kill_ref, am_kill_null, am_kill_F, am_kill_long, am_cat_n, am_cat_i, am_cat_r, am_cat_0, am_cat_l, am_nr_n, am_nr_i, am_nr_r, am_nr_0, am_nr_l, Option.toList_some, Option.toList_none, List.nil_append, List.cons_append, va_rf_s, va_rf_n, am_II, am_I_sR, am_I_sL, am_R_sI, am_RR, am_R_sL, am_L_sI, am_L_sR, am_LL, am_k_sI, am_k_sR, am_k_sL, am_n_sI, am_n_sR, am_n_sL, true_and, and_true, true_or, or_true, or_false, false_or, not_true_eq_false, not_false_eq_true, Nat.reduceLT, am_dS, am_dP, am_d1, Nat.reduceSub, Nat.reduceMul, ne_eq, Nat.reduceBEq, Nat.reduceAdd, Nat.reduceLeDiff, Nat.reduceEqDiff, and_self, and_false, false_and, if_true, if_false, am_nb, am_nb0, am_nb1, am_lc1, am_lc2, am_lc3, am_b0, am_b1, am_10, am_c8, am_c16, am_c24, am_c32, am_c40, am_c48, am_c56, am_c64, am_c72, Nat.add_zero, Bool.false_eq_true, Nat.zero_le]
  unfold oEl at hK
  refine am_for (N := N) (fun n ls ν => ls = [.ref 0, .int (bvF (optA (gEl (cS μ 1)) (fun n => cS μ 1 (64 + n)) n)), .int (moF (fun n => cS μ 1 (64 + n)) (optA (gEl (cS μ 1)) (fun n => cS μ 1 (64 + n)) n)), .int (nI n)] ∧ ν = μ) ?_ ?_ N 0 _ _ (by omega) ⟨rfl, rfl⟩
  · rintro n ls ν hn ⟨rfl, rfl⟩ ih
    have hn8 : n < 8 := by omega
    have hlt : ¬ nI N ≤ nI n := nI_ge hn (by omega)
    have hin : vp_in (nI n) 8 := vp_in_nI (by omega) (by omega)
    have hcl : (nI n).toNatClampNeg = n := nI_clamp (by omega)
    have e6 : am_I ν 8 n = cS ν 1 (48 + n) := (cS_6 hn8).symm
    have e8 : am_I ν 10 n = cS ν 1 (64 + n) := (cS_8 hn8).symm
    have ih' := ih [.ref 0, .int (bvF (optA (gEl (cS ν 1)) (fun n => cS ν 1 (64 + n)) (n + 1))), .int (moF (fun n => cS ν 1 (64 + n)) (optA (gEl (cS ν 1)) (fun n => cS ν 1 (64 + n)) (n + 1))), .int (nI (n + 1))] ν ⟨rfl, rfl⟩
    unfold optA at ih'
    rw [gX1_eldest_7]
    by_cases h0 : cS ν 1 (48 + n) = 0
    · have hg : ¬ gEl (cS ν 1) n = true := by unfold gEl; rw [decide_eq_true h0]; decide
      rw [if_neg hg] at ih'
      simp only [gX1_eldest_8, gX1_eldest_9, gX1_eldest_12, gX1_eldest_15, gX1_eldest_16, gX1_eldest_19, gX1_eldest_22, gX1_eldest_23, gX1_eldest_24, gX1_eldest_27, gX1_eldest_28, gX1_eldest_31, gX1_eldest_34, gX1_eldest_35, gX1_eldest_36, gX1_eldest_37, gX1_eldest_40, gX1_eldest_43, gX1_eldest_44, gX1_eldest_45, gX1_eldest_46, gX1_eldest_49, gX1_eldest_52, gX1_eldest_53, gX1_eldest_54, gX1_eldest_55, gX1_eldest_58, am_kill_int, am_kill_ref, am_kill_null, am_kill_F, am_kill_long, am_cat_n, am_cat_i, am_cat_r, am_cat_0, am_cat_l, am_nr_n, am_nr_i, am_nr_r, am_nr_0, am_nr_l, Option.toList_some, Option.toList_none, List.nil_append, List.cons_append, va_rf_s, va_rf_n, am_II, am_I_sR, am_I_sL, am_R_sI, am_RR, am_R_sL, am_L_sI, am_L_sR, am_LL, am_k_sI, am_k_sR, am_k_sL, am_n_sI, am_n_sR, am_n_sL, true_and, and_true, true_or, or_true, or_false, false_or, not_true_eq_false, not_false_eq_true, Nat.reduceLT, am_dS, am_dP, am_d1, Nat.reduceSub, Nat.reduceMul, ne_eq, Nat.reduceBEq, Nat.reduceAdd, Nat.reduceLeDiff, Nat.reduceEqDiff, and_self, and_false, false_and, if_true, if_false, am_nb, am_nb0, am_nb1, am_lc1, am_lc2, am_lc3, am_b0, am_b1, am_10, am_c8, am_c16, am_c24, am_c32, am_c40, am_c48, am_c56, am_c64, am_c72, Nat.add_zero, Bool.false_eq_true, Nat.zero_le, hlt, hcu, hN, hin, hcl, e6, h0, nI_1]
      exact ih'
    · have hg : gEl (cS ν 1) n = true := by unfold gEl; rw [decide_eq_false h0]; decide
      rw [if_pos hg] at ih'
      cases e : optA (gEl (cS ν 1)) (fun n => cS ν 1 (64 + n)) n with
      | none =>
        rw [e] at ih'
        have hm := Int32.not_le.mp (hmo n hn)
        simp only [bvF, moF] at ih'
        simp only [gX1_eldest_8, gX1_eldest_9, gX1_eldest_12, gX1_eldest_15, gX1_eldest_16, gX1_eldest_19, gX1_eldest_22, gX1_eldest_23, gX1_eldest_24, gX1_eldest_27, gX1_eldest_28, gX1_eldest_31, gX1_eldest_34, gX1_eldest_35, gX1_eldest_36, gX1_eldest_37, gX1_eldest_40, gX1_eldest_43, gX1_eldest_44, gX1_eldest_45, gX1_eldest_46, gX1_eldest_49, gX1_eldest_52, gX1_eldest_53, gX1_eldest_54, gX1_eldest_55, gX1_eldest_58, am_kill_int, am_kill_ref, am_kill_null, am_kill_F, am_kill_long, am_cat_n, am_cat_i, am_cat_r, am_cat_0, am_cat_l, am_nr_n, am_nr_i, am_nr_r, am_nr_0, am_nr_l, Option.toList_some, Option.toList_none, List.nil_append, List.cons_append, va_rf_s, va_rf_n, am_II, am_I_sR, am_I_sL, am_R_sI, am_RR, am_R_sL, am_L_sI, am_L_sR, am_LL, am_k_sI, am_k_sR, am_k_sL, am_n_sI, am_n_sR, am_n_sL, true_and, and_true, true_or, or_true, or_false, false_or, not_true_eq_false, not_false_eq_true, Nat.reduceLT, am_dS, am_dP, am_d1, Nat.reduceSub, Nat.reduceMul, ne_eq, Nat.reduceBEq, Nat.reduceAdd, Nat.reduceLeDiff, Nat.reduceEqDiff, and_self, and_false, false_and, if_true, if_false, am_nb, am_nb0, am_nb1, am_lc1, am_lc2, am_lc3, am_b0, am_b1, am_10, am_c8, am_c16, am_c24, am_c32, am_c40, am_c48, am_c56, am_c64, am_c72, Nat.add_zero, Bool.false_eq_true, Nat.zero_le, hlt, hcu, hN, hin, hcl, e6, e8, h0, moF, hm, nI_1]
        exact ih'
      | some b =>
        rw [e] at ih'
        by_cases q : cS ν 1 (64 + b) < cS ν 1 (64 + n)
        · simp only [if_pos q, bvF, moF] at ih'
          simp only [gX1_eldest_8, gX1_eldest_9, gX1_eldest_12, gX1_eldest_15, gX1_eldest_16, gX1_eldest_19, gX1_eldest_22, gX1_eldest_23, gX1_eldest_24, gX1_eldest_27, gX1_eldest_28, gX1_eldest_31, gX1_eldest_34, gX1_eldest_35, gX1_eldest_36, gX1_eldest_37, gX1_eldest_40, gX1_eldest_43, gX1_eldest_44, gX1_eldest_45, gX1_eldest_46, gX1_eldest_49, gX1_eldest_52, gX1_eldest_53, gX1_eldest_54, gX1_eldest_55, gX1_eldest_58, am_kill_int, am_kill_ref, am_kill_null, am_kill_F, am_kill_long, am_cat_n, am_cat_i, am_cat_r, am_cat_0, am_cat_l, am_nr_n, am_nr_i, am_nr_r, am_nr_0, am_nr_l, Option.toList_some, Option.toList_none, List.nil_append, List.cons_append, va_rf_s, va_rf_n, am_II, am_I_sR, am_I_sL, am_R_sI, am_RR, am_R_sL, am_L_sI, am_L_sR, am_LL, am_k_sI, am_k_sR, am_k_sL, am_n_sI, am_n_sR, am_n_sL, true_and, and_true, true_or, or_true, or_false, false_or, not_true_eq_false, not_false_eq_true, Nat.reduceLT, am_dS, am_dP, am_d1, Nat.reduceSub, Nat.reduceMul, ne_eq, Nat.reduceBEq, Nat.reduceAdd, Nat.reduceLeDiff, Nat.reduceEqDiff, and_self, and_false, false_and, if_true, if_false, am_nb, am_nb0, am_nb1, am_lc1, am_lc2, am_lc3, am_b0, am_b1, am_10, am_c8, am_c16, am_c24, am_c32, am_c40, am_c48, am_c56, am_c64, am_c72, Nat.add_zero, Bool.false_eq_true, Nat.zero_le, hlt, hcu, hN, hin, hcl, e6, e8, h0, moF, q, nI_1]
          exact ih'
        · simp only [if_neg q, bvF, moF] at ih'
          simp only [gX1_eldest_8, gX1_eldest_9, gX1_eldest_12, gX1_eldest_15, gX1_eldest_16, gX1_eldest_19, gX1_eldest_22, gX1_eldest_23, gX1_eldest_24, gX1_eldest_27, gX1_eldest_28, gX1_eldest_31, gX1_eldest_34, gX1_eldest_35, gX1_eldest_36, gX1_eldest_37, gX1_eldest_40, gX1_eldest_43, gX1_eldest_44, gX1_eldest_45, gX1_eldest_46, gX1_eldest_49, gX1_eldest_52, gX1_eldest_53, gX1_eldest_54, gX1_eldest_55, gX1_eldest_58, am_kill_int, am_kill_ref, am_kill_null, am_kill_F, am_kill_long, am_cat_n, am_cat_i, am_cat_r, am_cat_0, am_cat_l, am_nr_n, am_nr_i, am_nr_r, am_nr_0, am_nr_l, Option.toList_some, Option.toList_none, List.nil_append, List.cons_append, va_rf_s, va_rf_n, am_II, am_I_sR, am_I_sL, am_R_sI, am_RR, am_R_sL, am_L_sI, am_L_sR, am_LL, am_k_sI, am_k_sR, am_k_sL, am_n_sI, am_n_sR, am_n_sL, true_and, and_true, true_or, or_true, or_false, false_or, not_true_eq_false, not_false_eq_true, Nat.reduceLT, am_dS, am_dP, am_d1, Nat.reduceSub, Nat.reduceMul, ne_eq, Nat.reduceBEq, Nat.reduceAdd, Nat.reduceLeDiff, Nat.reduceEqDiff, and_self, and_false, false_and, if_true, if_false, am_nb, am_nb0, am_nb1, am_lc1, am_lc2, am_lc3, am_b0, am_b1, am_10, am_c8, am_c16, am_c24, am_c32, am_c40, am_c48, am_c56, am_c64, am_c72, Nat.add_zero, Bool.false_eq_true, Nat.zero_le, hlt, hcu, hN, hin, hcl, e6, e8, h0, bvF, moF, q, nI_1]
          exact ih'
  · rintro ls ν ⟨rfl, rfl⟩
    rw [gX1_eldest_7]
    cases e : optA (gEl (cS ν 1)) (fun n => cS ν 1 (64 + n)) N with
    | none =>
      rw [e] at hK
      have m2 : ¬ (0 : Int32) ≤ -2 := by decide
      simp only [gX1_eldest_8, gX1_eldest_9, gX1_eldest_12, gX1_eldest_61, gX1_eldest_62, gX1_eldest_65, gX1_eldest_67, am_kill_int, am_kill_ref, am_kill_null, am_kill_F, am_kill_long, am_cat_n, am_cat_i, am_cat_r, am_cat_0, am_cat_l, am_nr_n, am_nr_i, am_nr_r, am_nr_0, am_nr_l, Option.toList_some, Option.toList_none, List.nil_append, List.cons_append, va_rf_s, va_rf_n, am_II, am_I_sR, am_I_sL, am_R_sI, am_RR, am_R_sL, am_L_sI, am_L_sR, am_LL, am_k_sI, am_k_sR, am_k_sL, am_n_sI, am_n_sR, am_n_sL, true_and, and_true, true_or, or_true, or_false, false_or, not_true_eq_false, not_false_eq_true, Nat.reduceLT, am_dS, am_dP, am_d1, Nat.reduceSub, Nat.reduceMul, ne_eq, Nat.reduceBEq, Nat.reduceAdd, Nat.reduceLeDiff, Nat.reduceEqDiff, and_self, and_false, false_and, if_true, if_false, am_nb, am_nb0, am_nb1, am_lc1, am_lc2, am_lc3, am_b0, am_b1, am_10, am_c8, am_c16, am_c24, am_c32, am_c40, am_c48, am_c56, am_c64, am_c72, Nat.add_zero, Bool.false_eq_true, Nat.zero_le, hcu, hN, Int32.le_refl, bvF, m2]
      exact hK ν Fw.refl TC0 (fun _ => rfl)
    | some b =>
      rw [e] at hK
      have hb := (optA_lt e).1
      have hb0 : 0 ≤ nI b := by rw [← nI_0]; exact nI_le (by omega) (by omega)
      simp only [bvF] at hK
      simp only [gX1_eldest_8, gX1_eldest_9, gX1_eldest_12, gX1_eldest_61, gX1_eldest_62, gX1_eldest_65, gX1_eldest_67, gX1_eldest_68, gX1_eldest_69, gX1_eldest_72, gX1_eldest_73, gX1_eldest_76, am_kill_int, am_kill_ref, am_kill_null, am_kill_F, am_kill_long, am_cat_n, am_cat_i, am_cat_r, am_cat_0, am_cat_l, am_nr_n, am_nr_i, am_nr_r, am_nr_0, am_nr_l, Option.toList_some, Option.toList_none, List.nil_append, List.cons_append, va_rf_s, va_rf_n, am_II, am_I_sR, am_I_sL, am_R_sI, am_RR, am_R_sL, am_L_sI, am_L_sR, am_LL, am_k_sI, am_k_sR, am_k_sL, am_n_sI, am_n_sR, am_n_sL, true_and, and_true, true_or, or_true, or_false, false_or, not_true_eq_false, not_false_eq_true, Nat.reduceLT, am_dS, am_dP, am_d1, Nat.reduceSub, Nat.reduceMul, ne_eq, Nat.reduceBEq, Nat.reduceAdd, Nat.reduceLeDiff, Nat.reduceEqDiff, and_self, and_false, false_and, if_true, if_false, am_nb, am_nb0, am_nb1, am_lc1, am_lc2, am_lc3, am_b0, am_b1, am_10, am_c8, am_c16, am_c24, am_c32, am_c40, am_c48, am_c56, am_c64, am_c72, Nat.add_zero, Bool.false_eq_true, Nat.zero_le, hcu, hN, Int32.le_refl, bvF, moF, hb0]
      refine wX2_becomes (d := d + 198) hC.1.s1 hC.1.s2 (by decide) (fun ν1 hF1 hT1 => ?_)
      have hF1' := (jS_qc (jS_le hF1)).1
      have hC1 := hC.js (by decide) (by decide) (jS_le hF1)
      have hcu1 := hC1.1
      simp only [cL, spL, Nat.reduceAdd] at hcu1
      have hF2 : Fw sC ν1 (am_sI (am_sL (am_sI ν1 0 40 0) 53 0 (cS ν 1 (64 + b)).toInt64) 0 40 1) := ((Fw.refl.I (by unfold sC; omega)).L (Or.inl rfl)).I (by unfold sC; omega)
      have hC2 := hC1.fw hF2 (fun a b q => by unfold sC at q; omega)
      have e12 : cS (am_sI (am_sL (am_sI ν1 0 40 0) 53 0 (cS ν 1 (64 + b)).toInt64) 0 40 1) 12 = cS ν 1 := by rw [cS_o (by omega), cS_sL, cS_o (by omega)]; exact hT1
      simp only [gX1_eldest_79, gX1_eldest_80, gX1_eldest_81, gX1_eldest_84, gX1_eldest_85, gX1_eldest_86, gX1_eldest_87, gX1_eldest_90, gX1_eldest_91, gX1_eldest_92, gX1_eldest_93, am_kill_int, am_kill_ref, am_kill_null, am_kill_F, am_kill_long, am_cat_n, am_cat_i, am_cat_r, am_cat_0, am_cat_l, am_nr_n, am_nr_i, am_nr_r, am_nr_0, am_nr_l, Option.toList_some, Option.toList_none, List.nil_append, List.cons_append, va_rf_s, va_rf_n, am_II, am_I_sR, am_I_sL, am_R_sI, am_RR, am_R_sL, am_L_sI, am_L_sR, am_LL, am_k_sI, am_k_sR, am_k_sL, am_n_sI, am_n_sR, am_n_sL, true_and, and_true, true_or, or_true, or_false, false_or, not_true_eq_false, not_false_eq_true, Nat.reduceLT, am_dS, am_dP, am_d1, Nat.reduceSub, Nat.reduceMul, ne_eq, Nat.reduceBEq, Nat.reduceAdd, Nat.reduceLeDiff, Nat.reduceEqDiff, and_self, and_false, false_and, if_true, if_false, am_nb, am_nb0, am_nb1, am_lc1, am_lc2, am_lc3, am_b0, am_b1, am_10, am_c8, am_c16, am_c24, am_c32, am_c40, am_c48, am_c56, am_c64, am_c72, Nat.add_zero, Bool.false_eq_true, Nat.zero_le, hcu1, wX1_tells0]
      refine wX1_fliesIn (d := d + 130) hC2 (by omega) (fun ν2 hF3 hT3 => ?_)
      rw [e12]
      have hC3 := hC2.js (by decide) (by decide) hF3
      have hcu3 := hC3.1
      simp only [cL, spL, Nat.reduceAdd] at hcu3
      have g40 : am_I ν2 0 40 = 1 := (hF3.1 0 40 (by unfold jS inSp jO; omega)).trans (by rw [am_I_sI, if_pos ⟨rfl, rfl⟩])
      have gL : am_L ν2 53 0 = (cS ν 1 (64 + b)).toInt64 := by
        rw [hF3.L]; simp only [am_L_sI, am_LL, and_self, if_true]
      have hF4 := (hF1'.trans hF2).trans (jS_qc hF3).1
      simp only [gX1_eldest_96, gX1_eldest_97, gX1_eldest_100, gX1_eldest_101, am_kill_int, am_kill_ref, am_kill_null, am_kill_F, am_kill_long, am_cat_n, am_cat_i, am_cat_r, am_cat_0, am_cat_l, am_nr_n, am_nr_i, am_nr_r, am_nr_0, am_nr_l, Option.toList_some, Option.toList_none, List.nil_append, List.cons_append, va_rf_s, va_rf_n, am_II, am_I_sR, am_I_sL, am_R_sI, am_RR, am_R_sL, am_L_sI, am_L_sR, am_LL, am_k_sI, am_k_sR, am_k_sL, am_n_sI, am_n_sR, am_n_sL, true_and, and_true, true_or, or_true, or_false, false_or, not_true_eq_false, not_false_eq_true, Nat.reduceLT, am_dS, am_dP, am_d1, Nat.reduceSub, Nat.reduceMul, ne_eq, Nat.reduceBEq, Nat.reduceAdd, Nat.reduceLeDiff, Nat.reduceEqDiff, and_self, and_false, false_and, if_true, if_false, am_nb, am_nb0, am_nb1, am_lc1, am_lc2, am_lc3, am_b0, am_b1, am_10, am_c8, am_c16, am_c24, am_c32, am_c40, am_c48, am_c56, am_c64, am_c72, Nat.add_zero, Bool.false_eq_true, Nat.zero_le, hcu3, g40, wX1_tells1]
      refine hK _ ((hF4.L (Or.inl rfl)).I (by unfold sC; omega)) (TC2 ?_ ?_ ?_) (fun i => ?_)
      · simp only [am_II, and_self, if_true]
      · simp only [am_L_sI, am_LL, and_self, if_true, Nat.reduceEqDiff, and_false, if_false]; exact gL
      · simp only [am_L_sI, am_LL, and_self, if_true]
      · simp only [am_L_sI, am_LL, Nat.reduceEqDiff, false_and, if_false]
        rw [hF3.L]; simp only [am_L_sI, am_LL, Nat.reduceEqDiff, false_and, if_false]; exact hF1.L
theorem q5_eldest (hP : Per N C ru c μ) : Q5 mX3_eldest [.ref 54, am_F, am_F] μ (bvF (oEl N (cS μ 1))) (pEl N ru (cS μ 1)) := by
  intro d K hK
  have hS := hP.1.2.1
  have hC := hS.1
  have hmu := hC.1
  unfold mL at hmu
  have hN := hC.2.1
  have h8 := hC.2.2.1
  unfold pEl oEl at hK
  simp only [gX3_eldest_5, gX3_eldest_7, gX3_eldest_8, gX3_eldest_9, am_kill_int, am_kill_ref, am_kill_null, am_kill_F, am_kill_long, am_cat_n, am_cat_i, am_cat_r, am_cat_0, am_cat_l, am_nr_n, am_nr_i, am_nr_r, am_nr_0, am_nr_l, Option.toList_some, Option.toList_none, List.nil_append, List.cons_append, va_rf_s, va_rf_n, am_I_sR, am_I_sL, am_R_sI, am_R_sL, am_L_sI, am_L_sR, am_k_sI, am_k_sR, am_k_sL, am_n_sI, am_n_sR, am_n_sL, true_and, and_true, true_or, or_true, or_false, false_or, not_true_eq_false, not_false_eq_true, Nat.reduceLT, am_dS, am_dP, am_d1, Nat.reduceSub, Nat.reduceMul, ne_eq, Nat.reduceBEq, Nat.reduceAdd, Nat.reduceLeDiff, Nat.reduceEqDiff, and_self, and_false, false_and, if_true, if_false, am_nb, am_nb0, am_nb1, am_lc1, am_lc2, am_lc3, am_b0, am_b1, am_10, am_c8, am_c16, am_c24, am_c32, am_c40, am_c48, am_c56, am_c64, am_c72, Nat.add_zero, Bool.false_eq_true, Nat.zero_le]
  refine am_for (N := N) (fun n ls ν => ls = [.ref 54, .int (bvF (optA (gEl (cS μ 1)) (fun n => cS μ 1 (64 + n)) n)), .int (nI n)] ∧ ν = μ) ?_ ?_ N 0 _ _ (by omega) ⟨rfl, rfl⟩
  · rintro n ls ν hn ⟨rfl, rfl⟩ ih
    have hj : n < 8 := by omega
    have hlt : ¬ nI N ≤ nI n := nI_ge hn (by omega)
    have hv : ∀ k, k ≤ 72 → vp_in (nI (k + n)) 83 := fun k q => vp_in_nI (by omega) (by omega)
    have hcl : ∀ k, k ≤ 72 → (nI (k + n)).toNatClampNeg = k + n := fun k q => nI_clamp (by omega)
    have e6 : am_I ν 55 (48 + n) = cS ν 1 (48 + n) := (hP.2.1.r6 hn).symm
    have ih' := ih [.ref 54, .int (bvF (optA (gEl (cS ν 1)) (fun n => cS ν 1 (64 + n)) (n + 1))), .int (nI (n + 1))] ν ⟨rfl, rfl⟩
    unfold optA at ih'
    rw [gX3_eldest_10]
    by_cases h0 : cS ν 1 (48 + n) = 0
    · have hg : ¬ gEl (cS ν 1) n = true := by unfold gEl; rw [decide_eq_true h0]; decide
      rw [if_neg hg] at ih'
      simp only [gX3_eldest_11, gX3_eldest_12, gX3_eldest_15, gX3_eldest_18, gX3_eldest_19, gX3_eldest_22, gX3_eldest_24, gX3_eldest_25, gX3_eldest_26, gX3_eldest_27, gX3_eldest_30, gX3_eldest_31, gX3_eldest_33, gX3_eldest_36, gX3_eldest_37, gX3_eldest_40, gX3_eldest_42, gX3_eldest_43, gX3_eldest_44, gX3_eldest_45, gX3_eldest_46, gX3_eldest_49, gX3_eldest_51, gX3_eldest_52, gX3_eldest_53, gX3_eldest_54, gX3_eldest_57, gX3_eldest_58, gX3_eldest_59, gX3_eldest_62, am_kill_int, am_kill_ref, am_kill_null, am_kill_F, am_kill_long, am_cat_n, am_cat_i, am_cat_r, am_cat_0, am_cat_l, am_nr_n, am_nr_i, am_nr_r, am_nr_0, am_nr_l, Option.toList_some, Option.toList_none, List.nil_append, List.cons_append, va_rf_s, va_rf_n, am_II, am_I_sR, am_I_sL, am_R_sI, am_RR, am_R_sL, am_L_sI, am_L_sR, am_LL, am_k_sI, am_k_sR, am_k_sL, am_n_sI, am_n_sR, am_n_sL, true_and, and_true, true_or, or_true, or_false, false_or, not_true_eq_false, not_false_eq_true, Nat.reduceLT, am_dS, am_dP, am_d1, Nat.reduceSub, Nat.reduceMul, ne_eq, Nat.reduceBEq, Nat.reduceAdd, Nat.reduceLeDiff, Nat.reduceEqDiff, and_self, and_false, false_and, if_true, if_false, am_nb, am_nb0, am_nb1, am_lc1, am_lc2, am_lc3, am_b0, am_b1, am_10, am_c8, am_c16, am_c24, am_c32, am_c40, am_c48, am_c56, am_c64, am_c72, Nat.add_zero, Bool.false_eq_true, Nat.zero_le, hlt, hmu, hN, hv, hcl, e6, h0, nI_1]
      exact ih'
    · have hg : gEl (cS ν 1) n = true := by unfold gEl; rw [decide_eq_false h0]; decide
      have e8 : am_I ν 55 (64 + n) = cS ν 1 (64 + n) := (hP.2.1.r8 hn h0).symm
      rw [if_pos hg] at ih'
      cases e : optA (gEl (cS ν 1)) (fun n => cS ν 1 (64 + n)) n with
      | none =>
        rw [e] at ih'
        simp only [bvF] at ih'
        simp only [gX3_eldest_11, gX3_eldest_12, gX3_eldest_15, gX3_eldest_18, gX3_eldest_19, gX3_eldest_22, gX3_eldest_24, gX3_eldest_25, gX3_eldest_26, gX3_eldest_27, gX3_eldest_30, gX3_eldest_31, gX3_eldest_33, gX3_eldest_36, gX3_eldest_37, gX3_eldest_40, gX3_eldest_42, gX3_eldest_43, gX3_eldest_44, gX3_eldest_45, gX3_eldest_46, gX3_eldest_49, gX3_eldest_51, gX3_eldest_52, gX3_eldest_53, gX3_eldest_54, gX3_eldest_57, gX3_eldest_58, gX3_eldest_59, gX3_eldest_62, am_kill_int, am_kill_ref, am_kill_null, am_kill_F, am_kill_long, am_cat_n, am_cat_i, am_cat_r, am_cat_0, am_cat_l, am_nr_n, am_nr_i, am_nr_r, am_nr_0, am_nr_l, Option.toList_some, Option.toList_none, List.nil_append, List.cons_append, va_rf_s, va_rf_n, am_II, am_I_sR, am_I_sL, am_R_sI, am_RR, am_R_sL, am_L_sI, am_L_sR, am_LL, am_k_sI, am_k_sR, am_k_sL, am_n_sI, am_n_sR, am_n_sL, true_and, and_true, true_or, or_true, or_false, false_or, not_true_eq_false, not_false_eq_true, Nat.reduceLT, am_dS, am_dP, am_d1, Nat.reduceSub, Nat.reduceMul, ne_eq, Nat.reduceBEq, Nat.reduceAdd, Nat.reduceLeDiff, Nat.reduceEqDiff, and_self, and_false, false_and, if_true, if_false, am_nb, am_nb0, am_nb1, am_lc1, am_lc2, am_lc3, am_b0, am_b1, am_10, am_c8, am_c16, am_c24, am_c32, am_c40, am_c48, am_c56, am_c64, am_c72, Nat.add_zero, Bool.false_eq_true, Nat.zero_le, hlt, hmu, hN, hv, hcl, e6, h0, bvF, nI_1]
        exact ih'
      | some b =>
        rw [e] at ih'
        obtain ⟨hbn, hbg⟩ := optA_lt e
        have hb2 := nI_m2 (b := b) (by omega)
        have hvb : vp_in (nI (64 + b)) 83 := vp_in_nI (by omega) (by omega)
        have hcb : (nI (64 + b)).toNatClampNeg = 64 + b := nI_clamp (by omega)
        have h0b : cS ν 1 (48 + b) ≠ 0 := fun q => by unfold gEl at hbg; rw [decide_eq_true q] at hbg; exact absurd hbg (by decide)
        have e8b : am_I ν 55 (64 + b) = cS ν 1 (64 + b) := (hP.2.1.r8 (by omega) h0b).symm
        by_cases q : cS ν 1 (64 + b) < cS ν 1 (64 + n)
        · simp only [if_pos q, bvF] at ih'
          simp only [gX3_eldest_11, gX3_eldest_12, gX3_eldest_15, gX3_eldest_18, gX3_eldest_19, gX3_eldest_22, gX3_eldest_24, gX3_eldest_25, gX3_eldest_26, gX3_eldest_27, gX3_eldest_30, gX3_eldest_31, gX3_eldest_33, gX3_eldest_36, gX3_eldest_37, gX3_eldest_40, gX3_eldest_42, gX3_eldest_43, gX3_eldest_44, gX3_eldest_45, gX3_eldest_46, gX3_eldest_49, gX3_eldest_51, gX3_eldest_52, gX3_eldest_53, gX3_eldest_54, gX3_eldest_57, gX3_eldest_58, gX3_eldest_59, gX3_eldest_62, am_kill_int, am_kill_ref, am_kill_null, am_kill_F, am_kill_long, am_cat_n, am_cat_i, am_cat_r, am_cat_0, am_cat_l, am_nr_n, am_nr_i, am_nr_r, am_nr_0, am_nr_l, Option.toList_some, Option.toList_none, List.nil_append, List.cons_append, va_rf_s, va_rf_n, am_II, am_I_sR, am_I_sL, am_R_sI, am_RR, am_R_sL, am_L_sI, am_L_sR, am_LL, am_k_sI, am_k_sR, am_k_sL, am_n_sI, am_n_sR, am_n_sL, true_and, and_true, true_or, or_true, or_false, false_or, not_true_eq_false, not_false_eq_true, Nat.reduceLT, am_dS, am_dP, am_d1, Nat.reduceSub, Nat.reduceMul, ne_eq, Nat.reduceBEq, Nat.reduceAdd, Nat.reduceLeDiff, Nat.reduceEqDiff, and_self, and_false, false_and, if_true, if_false, am_nb, am_nb0, am_nb1, am_lc1, am_lc2, am_lc3, am_b0, am_b1, am_10, am_c8, am_c16, am_c24, am_c32, am_c40, am_c48, am_c56, am_c64, am_c72, Nat.add_zero, Bool.false_eq_true, Nat.zero_le, hlt, hmu, hN, hv, hcl, hvb, hcb, e6, e8, e8b, h0, bvF, hb2, Int32.not_le.mpr q, q, nI_1]
          exact ih'
        · simp only [if_neg q, bvF] at ih'
          simp only [gX3_eldest_11, gX3_eldest_12, gX3_eldest_15, gX3_eldest_18, gX3_eldest_19, gX3_eldest_22, gX3_eldest_24, gX3_eldest_25, gX3_eldest_26, gX3_eldest_27, gX3_eldest_30, gX3_eldest_31, gX3_eldest_33, gX3_eldest_36, gX3_eldest_37, gX3_eldest_40, gX3_eldest_42, gX3_eldest_43, gX3_eldest_44, gX3_eldest_45, gX3_eldest_46, gX3_eldest_49, gX3_eldest_51, gX3_eldest_52, gX3_eldest_53, gX3_eldest_54, gX3_eldest_57, gX3_eldest_58, gX3_eldest_59, gX3_eldest_62, am_kill_int, am_kill_ref, am_kill_null, am_kill_F, am_kill_long, am_cat_n, am_cat_i, am_cat_r, am_cat_0, am_cat_l, am_nr_n, am_nr_i, am_nr_r, am_nr_0, am_nr_l, Option.toList_some, Option.toList_none, List.nil_append, List.cons_append, va_rf_s, va_rf_n, am_II, am_I_sR, am_I_sL, am_R_sI, am_RR, am_R_sL, am_L_sI, am_L_sR, am_LL, am_k_sI, am_k_sR, am_k_sL, am_n_sI, am_n_sR, am_n_sL, true_and, and_true, true_or, or_true, or_false, false_or, not_true_eq_false, not_false_eq_true, Nat.reduceLT, am_dS, am_dP, am_d1, Nat.reduceSub, Nat.reduceMul, ne_eq, Nat.reduceBEq, Nat.reduceAdd, Nat.reduceLeDiff, Nat.reduceEqDiff, and_self, and_false, false_and, if_true, if_false, am_nb, am_nb0, am_nb1, am_lc1, am_lc2, am_lc3, am_b0, am_b1, am_10, am_c8, am_c16, am_c24, am_c32, am_c40, am_c48, am_c56, am_c64, am_c72, Nat.add_zero, Bool.false_eq_true, Nat.zero_le, hlt, hmu, hN, hv, hcl, hvb, hcb, e6, e8, e8b, h0, bvF, hb2, Int32.not_lt.mp q, q, nI_1]
          exact ih'
  · rintro ls ν ⟨rfl, rfl⟩
    rw [gX3_eldest_10]
    cases e : optA (gEl (cS ν 1)) (fun n => cS ν 1 (64 + n)) N with
    | none =>
      rw [e] at hK
      simp only [gX3_eldest_11, gX3_eldest_12, gX3_eldest_15, gX3_eldest_65, gX3_eldest_66, gX3_eldest_68, gX3_eldest_71, gX3_eldest_73, am_kill_int, am_kill_ref, am_kill_null, am_kill_F, am_kill_long, am_cat_n, am_cat_i, am_cat_r, am_cat_0, am_cat_l, am_nr_n, am_nr_i, am_nr_r, am_nr_0, am_nr_l, Option.toList_some, Option.toList_none, List.nil_append, List.cons_append, va_rf_s, va_rf_n, am_II, am_I_sR, am_I_sL, am_R_sI, am_RR, am_R_sL, am_L_sI, am_L_sR, am_LL, am_k_sI, am_k_sR, am_k_sL, am_n_sI, am_n_sR, am_n_sL, true_and, and_true, true_or, or_true, or_false, false_or, not_true_eq_false, not_false_eq_true, Nat.reduceLT, am_dS, am_dP, am_d1, Nat.reduceSub, Nat.reduceMul, ne_eq, Nat.reduceBEq, Nat.reduceAdd, Nat.reduceLeDiff, Nat.reduceEqDiff, and_self, and_false, false_and, if_true, if_false, am_nb, am_nb0, am_nb1, am_lc1, am_lc2, am_lc3, am_b0, am_b1, am_10, am_c8, am_c16, am_c24, am_c32, am_c40, am_c48, am_c56, am_c64, am_c72, Nat.add_zero, Bool.false_eq_true, Nat.zero_le, hmu, hN, Int32.le_refl, bvF]
      exact hK ν Fw.refl hP.h17 TN0 (fun _ => rfl)
    | some b =>
      rw [e] at hK
      obtain ⟨hbn, hbg⟩ := optA_lt e
      have hb2 := nI_m2 (b := b) (by omega)
      have h0b : cS ν 1 (48 + b) ≠ 0 := fun q => by unfold gEl at hbg; rw [decide_eq_true q] at hbg; exact absurd hbg (by decide)
      have e8b : am_I ν 55 (64 + b) = cS ν 1 (64 + b) := (hP.2.1.r8 (by omega) h0b).symm
      have hvb : vp_in (nI (64 + b)) 83 := vp_in_nI (by omega) (by omega)
      have hcb : (nI (64 + b)).toNatClampNeg = 64 + b := nI_clamp (by omega)
      simp only [bvF] at hK
      simp only [gX3_eldest_11, gX3_eldest_12, gX3_eldest_15, gX3_eldest_65, gX3_eldest_66, gX3_eldest_68, gX3_eldest_71, gX3_eldest_73, gX3_eldest_74, gX3_eldest_75, gX3_eldest_78, gX3_eldest_79, gX3_eldest_82, gX3_eldest_83, am_kill_int, am_kill_ref, am_kill_null, am_kill_F, am_kill_long, am_cat_n, am_cat_i, am_cat_r, am_cat_0, am_cat_l, am_nr_n, am_nr_i, am_nr_r, am_nr_0, am_nr_l, Option.toList_some, Option.toList_none, List.nil_append, List.cons_append, va_rf_s, va_rf_n, am_II, am_I_sR, am_I_sL, am_R_sI, am_RR, am_R_sL, am_L_sI, am_L_sR, am_LL, am_k_sI, am_k_sR, am_k_sL, am_n_sI, am_n_sR, am_n_sL, true_and, and_true, true_or, or_true, or_false, false_or, not_true_eq_false, not_false_eq_true, Nat.reduceLT, am_dS, am_dP, am_d1, Nat.reduceSub, Nat.reduceMul, ne_eq, Nat.reduceBEq, Nat.reduceAdd, Nat.reduceLeDiff, Nat.reduceEqDiff, and_self, and_false, false_and, if_true, if_false, am_nb, am_nb0, am_nb1, am_lc1, am_lc2, am_lc3, am_b0, am_b1, am_10, am_c8, am_c16, am_c24, am_c32, am_c40, am_c48, am_c56, am_c64, am_c72, Nat.add_zero, Bool.false_eq_true, Nat.zero_le, hmu, hN, Int32.le_refl, bvF, hb2]
      refine wX3_lay00 hmu.1.2.1 hmu.1.2.2.2.2.2.2.2.2.2.2.1 (by decide) (fun ν1 hF1 hT1 => ?_)
      have hF1' := e64 hF1
      have h171 : am_I ν1 54 17 = 0 := (hF1.1 54 17 (by decide)).trans hP.h17
      have hS1 := hS.jW hF1' h171
      have hm1 := hS1.1.1
      unfold mL at hm1
      have hs1 := hP.2.1.row h8 hT1
      simp only [gX3_eldest_86, gX3_eldest_87, gX3_eldest_88, gX3_eldest_91, gX3_eldest_92, am_kill_int, am_kill_ref, am_kill_null, am_kill_F, am_kill_long, am_cat_n, am_cat_i, am_cat_r, am_cat_0, am_cat_l, am_nr_n, am_nr_i, am_nr_r, am_nr_0, am_nr_l, Option.toList_some, Option.toList_none, List.nil_append, List.cons_append, va_rf_s, va_rf_n, am_I_sR, am_I_sL, am_R_sI, am_R_sL, am_L_sI, am_L_sR, am_k_sI, am_k_sR, am_k_sL, am_n_sI, am_n_sR, am_n_sL, true_and, and_true, true_or, or_true, or_false, false_or, not_true_eq_false, not_false_eq_true, Nat.reduceLT, am_dS, am_dP, am_d1, Nat.reduceSub, Nat.reduceMul, ne_eq, Nat.reduceBEq, Nat.reduceAdd, Nat.reduceLeDiff, Nat.reduceEqDiff, and_self, and_false, false_and, if_true, if_false, am_nb, am_nb0, am_nb1, am_lc1, am_lc2, am_lc3, am_b0, am_b1, am_10, am_c8, am_c16, am_c24, am_c32, am_c40, am_c48, am_c56, am_c64, am_c72, Nat.add_zero, Bool.false_eq_true, Nat.zero_le, hm1]
      refine wX3_fliesIn (d := d + 126) hS1 (by decide) hm1.1.2.2.2.2.2.2.2.2.2.2.1 (by omega) (fun ν2 hF2 h172 hT2 => ?_)
      have hF3 := hF1'.trans (jH64 hF2)
      have hS2 := hS.jW hF3 h172
      have hm2 := hS2.1.1
      unfold mL at hm2
      have r55 : am_I ν2 55 = am_I ν 55 := funext fun b => hF3.1 55 b (by unfold jW jM; omega)
      obtain ⟨_, hs3⟩ := Sim.fli hS.2.2 h8 hbn 60 1 _ _ hs1
      have e8c : am_I ν2 55 (64 + b) = cS ν 1 (64 + b) := by rw [r55]; exact e8b
      have fin : ∀ z : Int64, z = (fliC N ru b 60 1 (cS ν 1)).1.toInt64 → K (some (.int (nI b))) (am_sI (am_sL (am_sI (am_sL (am_sI ν2 54 6 0) 57 0 (cS ν 1 (64 + b)).toInt64) 54 6 1) 57 1 z) 54 6 2) := fun z hz => by
        refine hK _ ((((((jW_sM hF3).I (by unfold sM; omega)).L (Or.inr rfl)).I (by unfold sM; omega)).L (Or.inr rfl)).I (by unfold sM; omega)) ?_ (TN2 ?_ ?_ ?_) (fun i => ?_)
        · simp only [am_II, am_I_sL, Nat.reduceEqDiff, and_false, if_false]; exact h172
        · simp only [am_II, and_self, if_true]
        · simp only [am_L_sI, am_LL, and_self, if_true, Nat.reduceEqDiff, and_false, if_false]
        · simp only [am_L_sI, am_LL, and_self, if_true]; exact hz
        · simp only [am_L_sI, am_LL, Nat.reduceEqDiff, false_and, if_false]; exact hF3.L
      rcases hs3 with ⟨e1, q, hq1, hq2, hq3⟩ | ⟨e1, e2⟩
      · have hr : 0 ≤ (fliM N ru b 60 1 (am_I ν1 64)).1 := by rw [← e1, hq1, ← nI_0]; exact nI_le (by omega) (by omega)
        simp only [gX3_eldest_95, gX3_eldest_96, gX3_eldest_97, gX3_eldest_98, gX3_eldest_101, gX3_eldest_102, gX3_eldest_103, gX3_eldest_106, gX3_eldest_108, gX3_eldest_109, gX3_eldest_110, gX3_eldest_111, gX3_eldest_112, gX3_eldest_115, gX3_eldest_116, gX3_eldest_117, gX3_eldest_120, gX3_eldest_123, gX3_eldest_126, gX3_eldest_127, gX3_eldest_128, gX3_eldest_131, gX3_eldest_132, am_kill_int, am_kill_ref, am_kill_null, am_kill_F, am_kill_long, am_cat_n, am_cat_i, am_cat_r, am_cat_0, am_cat_l, am_nr_n, am_nr_i, am_nr_r, am_nr_0, am_nr_l, Option.toList_some, Option.toList_none, List.nil_append, List.cons_append, va_rf_s, va_rf_n, am_II, am_I_sR, am_I_sL, am_R_sI, am_RR, am_R_sL, am_L_sI, am_L_sR, am_LL, am_k_sI, am_k_sR, am_k_sL, am_n_sI, am_n_sR, am_n_sL, true_and, and_true, true_or, or_true, or_false, false_or, not_true_eq_false, not_false_eq_true, Nat.reduceLT, am_dS, am_dP, am_d1, Nat.reduceSub, Nat.reduceMul, ne_eq, Nat.reduceBEq, Nat.reduceAdd, Nat.reduceLeDiff, Nat.reduceEqDiff, and_self, and_false, false_and, if_true, if_false, am_nb, am_nb0, am_nb1, am_lc1, am_lc2, am_lc3, am_b0, am_b1, am_10, am_c8, am_c16, am_c24, am_c32, am_c40, am_c48, am_c56, am_c64, am_c72, Nat.add_zero, Bool.false_eq_true, Nat.zero_le, hm2, hvb, hcb, e8c, hr, wX3_tell0, wX3_tell1]
        exact fin _ (by rw [e1])
      · have hr : ¬ 0 ≤ (fliM N ru b 60 1 (am_I ν1 64)).1 := by rw [e2]; decide
        simp only [gX3_eldest_95, gX3_eldest_96, gX3_eldest_97, gX3_eldest_98, gX3_eldest_101, gX3_eldest_102, gX3_eldest_103, gX3_eldest_106, gX3_eldest_108, gX3_eldest_109, gX3_eldest_110, gX3_eldest_111, gX3_eldest_112, gX3_eldest_115, gX3_eldest_116, gX3_eldest_117, gX3_eldest_120, gX3_eldest_123, gX3_eldest_126, gX3_eldest_127, gX3_eldest_128, gX3_eldest_131, gX3_eldest_132, am_kill_int, am_kill_ref, am_kill_null, am_kill_F, am_kill_long, am_cat_n, am_cat_i, am_cat_r, am_cat_0, am_cat_l, am_nr_n, am_nr_i, am_nr_r, am_nr_0, am_nr_l, Option.toList_some, Option.toList_none, List.nil_append, List.cons_append, va_rf_s, va_rf_n, am_II, am_I_sR, am_I_sL, am_R_sI, am_RR, am_R_sL, am_L_sI, am_L_sR, am_LL, am_k_sI, am_k_sR, am_k_sL, am_n_sI, am_n_sR, am_n_sL, true_and, and_true, true_or, or_true, or_false, false_or, not_true_eq_false, not_false_eq_true, Nat.reduceLT, am_dS, am_dP, am_d1, Nat.reduceSub, Nat.reduceMul, ne_eq, Nat.reduceBEq, Nat.reduceAdd, Nat.reduceLeDiff, Nat.reduceEqDiff, and_self, and_false, false_and, if_true, if_false, am_nb, am_nb0, am_nb1, am_lc1, am_lc2, am_lc3, am_b0, am_b1, am_10, am_c8, am_c16, am_c24, am_c32, am_c40, am_c48, am_c56, am_c64, am_c72, Nat.add_zero, Bool.false_eq_true, Nat.zero_le, hm2, hvb, hcb, e8c, hr, wX3_tell0, wX3_tell1]
        exact fin _ (by rw [e1]; decide)
theorem op_eldest (hI : Inv q μ) : OP q mX1_eldest mX3_eldest [.ref 0, am_F, am_F, am_F] [.ref 54, am_F, am_F] μ :=
  op_S (V := fun N ru c S => bvF (oEl N S)) (P := fun N ru c S => pEl N ru S) (fun hP => qc_eldest hP) (fun d K μ h h' => by simp only [gX3_eldest_0, gX3_eldest_1, gX3_eldest_2, am_kill_int, am_kill_ref, am_kill_null, am_kill_F, am_kill_long, am_cat_n, am_cat_i, am_cat_r, am_cat_0, am_cat_l, am_nr_n, am_nr_i, am_nr_r, am_nr_0, am_nr_l, Option.toList_some, Option.toList_none, List.nil_append, List.cons_append, va_rf_s, va_rf_n, am_I_sR, am_I_sL, am_R_sI, am_R_sL, am_L_sI, am_L_sR, am_k_sI, am_k_sR, am_k_sL, am_n_sI, am_n_sR, am_n_sL, true_and, and_true, true_or, or_true, or_false, false_or, not_true_eq_false, not_false_eq_true, Nat.reduceLT, am_dS, am_dP, am_d1, Nat.reduceSub, Nat.reduceMul, ne_eq, Nat.reduceBEq, Nat.reduceAdd, Nat.reduceLeDiff, Nat.reduceEqDiff, and_self, and_false, false_and, if_true, if_false, am_nb, am_nb0, am_nb1, am_lc1, am_lc2, am_lc3, am_b0, am_b1, am_10, am_c8, am_c16, am_c24, am_c32, am_c40, am_c48, am_c56, am_c64, am_c72, Nat.add_zero, Bool.false_eq_true, Nat.zero_le, h]; exact h') (fun hP => q5_eldest hP) hI
end OIV
