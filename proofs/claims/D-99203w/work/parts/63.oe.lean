/-! calls that ask: where, suspects -/
set_option maxRecDepth 100000
section OEV
variable {d : Nat} {μ ν ξ : am_M} {K : Option Value → am_M → Prop} {x y z c w : Int32} {h h' N C j i k r n M b q : Nat} {v : Int32} {ru : Option PF} {p : Int64} {o : Nat → Int32} {S a : Nat → Int32} {fr : Nat → Bool}
/-- the first of the least among some -/
def optF (fr : Nat → Bool) (o : Nat → Int32) : Nat → Option Nat
  | 0 => none
  | n + 1 => if fr n = true then (match optF fr o n with
    | none => some n
    | some b => if o n < o b then some n else some b) else optF fr o n
theorem optF_lt : ∀ {n b : Nat}, optF fr o n = some b → b < n
  | 0, _, h => by cases h
  | n + 1, b, h => by
    unfold optF at h
    by_cases q : fr n = true
    · rw [if_pos q] at h
      cases e : optF fr o n with
      | none => rw [e] at h; cases h; omega
      | some b' =>
        rw [e] at h
        have := optF_lt e
        by_cases q2 : o n < o b'
        · simp only [if_pos q2] at h; cases h; omega
        · simp only [if_neg q2] at h; cases h; omega
    · rw [if_neg q] at h
      have := optF_lt h
      omega
def bvF (b : Option Nat) : Int32 := match b with
  | none => -2
  | some b => nI b
def lvF (o : Nat → Int32) (b : Option Nat) : Int32 := match b with
  | none => 0
  | some b => o b
theorem rLa_t (hs : Sim N S a) (hn : n < N) (h8 : N ≤ 8) (hy : isN y 10 = true) (hf : frB c S n = true) : rLa N c a (nI n) y = 0 := by
  have hx : isN (nI n) N = true := isN_nI (by omega) hn
  have hcl : (nI n).toNatClampNeg = n := nI_clamp (by omega)
  unfold frB at hf
  rw [Bool.and_eq_true, decide_eq_true_eq, hs.r6 hn, hs.inTm hn, decide_eq_true_eq] at hf
  unfold rLa
  rw [if_pos ⟨hx, hy⟩, hcl, if_pos hf.1, if_pos hf.2]
theorem rLa_n (hs : Sim N S a) (hn : n < N) (h8 : N ≤ 8) (hy : isN y 10 = true) (hf : ¬ frB c S n = true) : rLa N c a (nI n) y < 0 := by
  have hx : isN (nI n) N = true := isN_nI (by omega) hn
  have hcl : (nI n).toNatClampNeg = n := nI_clamp (by omega)
  unfold frB at hf
  rw [Bool.and_eq_true, decide_eq_true_eq, hs.r6 hn, hs.inTm hn, decide_eq_true_eq] at hf
  unfold rLa
  rw [if_pos ⟨hx, hy⟩, hcl]
  by_cases q : a (48 + n) = 0
  · rw [if_pos q, if_neg (fun e => hf ⟨q, e⟩)]; decide
  · rw [if_neg q]; decide
def vWh (N : Nat) (ru : Option PF) (c : Int32) (S : Nat → Int32) (y : Int32) : Int32 := if isN y 10 = true then bvF (optF (frB c S) (fun n => oddS N ru (lieT S n y) n) N) else -1
def pWh (N : Nat) (ru : Option PF) (c : Int32) (S : Nat → Int32) (y : Int32) : Option (List Int64) := if isN y 10 = true then (match optF (frB c S) (fun n => oddS N ru (lieT S n y) n) N with
  | none => none
  | some b => some [(shI (oddS N ru (lieT S b y) b)).toInt64]) else none
theorem qc_where (hP : Per N C ru c μ) : QC mX1_where [.ref 0, .int y, am_F, am_F, am_F, am_F] μ (vWh N ru c (cS μ 1) y) (pWh N ru c (cS μ 1) y) := by
  intro d K hK
  have hC := hP.1.1
  have hcu := hC.1
  simp only [cL, spL, Nat.reduceAdd] at hcu
  have hN := hC.2.1
  have h8 := hC.2.2.1
  have hk := hC.1.c
  have hc3 := hC.2.2.2.1
  unfold vWh pWh at hK
  by_cases hy : isN y 10 = true
  · simp only [if_pos hy] at hK
    simp only [gX1_where_0, gX1_where_1, gX1_where_4, gX1_where_7, gX1_where_8, gX1_where_9, gX1_where_11, gX1_where_12, gX1_where_13, gX1_where_14, gX1_where_15, am_kill_int, am_kill_ref, am_kill_null, am_kill_F, am_kill_long, am_cat_n, am_cat_i, am_cat_r, am_cat_0, am_cat_l, am_nr_n, am_nr_i, am_nr_r, am_nr_0, am_nr_l, Option.toList_some, Option.toList_none, List.nil_append, List.cons_append, va_rf_s, va_rf_n, am_II, am_I_sR, am_I_sL, am_R_sI, am_RR, am_R_sL, am_L_sI, am_L_sR, am_LL, am_k_sI, am_k_sR, am_k_sL, am_n_sI, am_n_sR, am_n_sL, true_and, and_true, true_or, or_true, or_false, false_or, not_true_eq_false, not_false_eq_true, Nat.reduceLT, am_dS, am_dP, am_d1, Nat.reduceSub, Nat.reduceMul, ne_eq, Nat.reduceBEq, Nat.reduceAdd, Nat.reduceLeDiff, Nat.reduceEqDiff, and_self, and_false, false_and, if_true, if_false, am_nb, am_nb0, am_nb1, am_lc1, am_lc2, am_lc3, am_b0, am_b1, am_10, am_c8, am_c16, am_c24, am_c32, am_c40, am_c48, am_c56, am_c64, am_c72, Nat.add_zero, Bool.false_eq_true, Nat.zero_le, wX1_isColour, hy]
    generalize ho : (fun n => oddS N ru (lieT (cS μ 1) n y) n) = o at hK
    have ho' : ∀ n, oddS N ru (lieT (cS μ 1) n y) n = o n := fun k => by rw [← ho]
    simp only [ho'] at hK
    refine am_for (N := N) (fun n ls ν => (∃ z, ls = [.ref 0, .int y, .int (bvF (optF (frB c (cS μ 1)) o n)), .int (lvF o (optF (frB c (cS μ 1)) o n)), .int (nI n), z]) ∧ Fr (jS 12) μ ν) ?_ ?_ N 0 _ _ (by omega) ⟨⟨_, rfl⟩, Fr.refl⟩
    · rintro n ls ν hn ⟨⟨z, rfl⟩, hF⟩ ih
      have hn8 : n < 8 := by omega
      have hlt : ¬ nI N ≤ nI n := nI_ge hn (by omega)
      have hC1 := hC.js (by decide) (by decide) hF
      have hcν := hC1.1
      simp only [cL, spL, Nat.reduceAdd] at hcν
      have hNν := hC1.2.1
      have hfree := wX1_isFree (d := d + 197) (μ := ν) (h := 1) (K := fun r1 μ1 => am_nr r1 ∧ am_Wp (d + 200) mX1_where 36 [.ref 0, .int y, .int (bvF (optF (frB c (cS μ 1)) o n)), .int (lvF o (optF (frB c (cS μ 1)) o n)), .int (nI n), z] (r1.toList ++ []) μ1 K) hn8 hC1.1.c hC1.1.s1
      rw [hC1.2.2.2.1, jS_1 hF] at hfree
      have ih' := fun z ν h => ih [.ref 0, .int y, .int (bvF (optF (frB c (cS μ 1)) o (n + 1))), .int (lvF o (optF (frB c (cS μ 1)) o (n + 1))), .int (nI (n + 1)), z] ν ⟨⟨z, rfl⟩, h⟩
      unfold optF at ih'
      rw [gX1_where_17]
      simp only [gX1_where_19, gX1_where_20, gX1_where_23, gX1_where_26, gX1_where_27, gX1_where_28, gX1_where_31, gX1_where_33, am_kill_int, am_kill_ref, am_kill_null, am_kill_F, am_kill_long, am_cat_n, am_cat_i, am_cat_r, am_cat_0, am_cat_l, am_nr_n, am_nr_i, am_nr_r, am_nr_0, am_nr_l, Option.toList_some, Option.toList_none, List.nil_append, List.cons_append, va_rf_s, va_rf_n, am_II, am_I_sR, am_I_sL, am_R_sI, am_RR, am_R_sL, am_L_sI, am_L_sR, am_LL, am_k_sI, am_k_sR, am_k_sL, am_n_sI, am_n_sR, am_n_sL, true_and, and_true, true_or, or_true, or_false, false_or, not_true_eq_false, not_false_eq_true, Nat.reduceLT, am_dS, am_dP, am_d1, Nat.reduceSub, Nat.reduceMul, ne_eq, Nat.reduceBEq, Nat.reduceAdd, Nat.reduceLeDiff, Nat.reduceEqDiff, and_self, and_false, false_and, if_true, if_false, am_nb, am_nb0, am_nb1, am_lc1, am_lc2, am_lc3, am_b0, am_b1, am_10, am_c8, am_c16, am_c24, am_c32, am_c40, am_c48, am_c56, am_c64, am_c72, Nat.add_zero, Bool.false_eq_true, Nat.zero_le, hlt, hcν, hNν]
      refine hfree.mpr ?_
      by_cases hf : frB c (cS μ 1) n = true
      · rw [if_pos hf] at ih'
        simp only [gX1_where_36, gX1_where_39, gX1_where_42, gX1_where_43, gX1_where_45, gX1_where_46, am_kill_int, am_kill_ref, am_kill_null, am_kill_F, am_kill_long, am_cat_n, am_cat_i, am_cat_r, am_cat_0, am_cat_l, am_nr_n, am_nr_i, am_nr_r, am_nr_0, am_nr_l, Option.toList_some, Option.toList_none, List.nil_append, List.cons_append, va_rf_s, va_rf_n, am_II, am_I_sR, am_I_sL, am_R_sI, am_RR, am_R_sL, am_L_sI, am_L_sR, am_LL, am_k_sI, am_k_sR, am_k_sL, am_n_sI, am_n_sR, am_n_sL, true_and, and_true, true_or, or_true, or_false, false_or, not_true_eq_false, not_false_eq_true, Nat.reduceLT, am_dS, am_dP, am_d1, Nat.reduceSub, Nat.reduceMul, ne_eq, Nat.reduceBEq, Nat.reduceAdd, Nat.reduceLeDiff, Nat.reduceEqDiff, and_self, and_false, false_and, if_true, if_false, am_nb, am_nb0, am_nb1, am_lc1, am_lc2, am_lc3, am_b0, am_b1, am_10, am_c8, am_c16, am_c24, am_c32, am_c40, am_c48, am_c56, am_c64, am_c72, Nat.add_zero, Bool.false_eq_true, Nat.zero_le, hf, hcν]
        refine wX1_oddIf (d := d + 131) hC1 hn8 (fun ν1 h1 _ => ?_)
        rw [jS_1 hF, ho']
        cases e : optF (frB c (cS μ 1)) o n with
        | none =>
          rw [e] at ih'
          have m2 : ¬ (0 : Int32) ≤ -2 := by decide
          have m2' : (-2 : Int32) < 0 := by decide
          simp only [gX1_where_49, gX1_where_51, gX1_where_52, gX1_where_55, gX1_where_57, gX1_where_58, gX1_where_61, gX1_where_64, gX1_where_66, gX1_where_67, gX1_where_69, gX1_where_70, gX1_where_73, am_kill_int, am_kill_ref, am_kill_null, am_kill_F, am_kill_long, am_cat_n, am_cat_i, am_cat_r, am_cat_0, am_cat_l, am_nr_n, am_nr_i, am_nr_r, am_nr_0, am_nr_l, Option.toList_some, Option.toList_none, List.nil_append, List.cons_append, va_rf_s, va_rf_n, am_II, am_I_sR, am_I_sL, am_R_sI, am_RR, am_R_sL, am_L_sI, am_L_sR, am_LL, am_k_sI, am_k_sR, am_k_sL, am_n_sI, am_n_sR, am_n_sL, true_and, and_true, true_or, or_true, or_false, false_or, not_true_eq_false, not_false_eq_true, Nat.reduceLT, am_dS, am_dP, am_d1, Nat.reduceSub, Nat.reduceMul, ne_eq, Nat.reduceBEq, Nat.reduceAdd, Nat.reduceLeDiff, Nat.reduceEqDiff, and_self, and_false, false_and, if_true, if_false, am_nb, am_nb0, am_nb1, am_lc1, am_lc2, am_lc3, am_b0, am_b1, am_10, am_c8, am_c16, am_c24, am_c32, am_c40, am_c48, am_c56, am_c64, am_c72, Nat.add_zero, Bool.false_eq_true, Nat.zero_le, bvF, lvF, m2, m2', nI_1]
          exact ih' _ ν1 (hF.trans h1)
        | some b =>
          rw [e] at ih'
          have hb : ¬ nI b < 0 := by have := optF_lt e; rw [← nI_0]; exact nI_nlt (by omega) (by omega)
          by_cases q : o n < o b
          · simp only [if_pos q] at ih'
            simp only [gX1_where_49, gX1_where_51, gX1_where_52, gX1_where_55, gX1_where_57, gX1_where_58, gX1_where_61, gX1_where_64, gX1_where_66, gX1_where_67, gX1_where_69, gX1_where_70, gX1_where_73, am_kill_int, am_kill_ref, am_kill_null, am_kill_F, am_kill_long, am_cat_n, am_cat_i, am_cat_r, am_cat_0, am_cat_l, am_nr_n, am_nr_i, am_nr_r, am_nr_0, am_nr_l, Option.toList_some, Option.toList_none, List.nil_append, List.cons_append, va_rf_s, va_rf_n, am_II, am_I_sR, am_I_sL, am_R_sI, am_RR, am_R_sL, am_L_sI, am_L_sR, am_LL, am_k_sI, am_k_sR, am_k_sL, am_n_sI, am_n_sR, am_n_sL, true_and, and_true, true_or, or_true, or_false, false_or, not_true_eq_false, not_false_eq_true, Nat.reduceLT, am_dS, am_dP, am_d1, Nat.reduceSub, Nat.reduceMul, ne_eq, Nat.reduceBEq, Nat.reduceAdd, Nat.reduceLeDiff, Nat.reduceEqDiff, and_self, and_false, false_and, if_true, if_false, am_nb, am_nb0, am_nb1, am_lc1, am_lc2, am_lc3, am_b0, am_b1, am_10, am_c8, am_c16, am_c24, am_c32, am_c40, am_c48, am_c56, am_c64, am_c72, Nat.add_zero, Bool.false_eq_true, Nat.zero_le, bvF, lvF, hb, q, nI_1]
            exact ih' _ ν1 (hF.trans h1)
          · simp only [if_neg q] at ih'
            simp only [gX1_where_49, gX1_where_51, gX1_where_52, gX1_where_55, gX1_where_57, gX1_where_58, gX1_where_61, gX1_where_64, gX1_where_66, gX1_where_67, gX1_where_69, gX1_where_70, gX1_where_73, am_kill_int, am_kill_ref, am_kill_null, am_kill_F, am_kill_long, am_cat_n, am_cat_i, am_cat_r, am_cat_0, am_cat_l, am_nr_n, am_nr_i, am_nr_r, am_nr_0, am_nr_l, Option.toList_some, Option.toList_none, List.nil_append, List.cons_append, va_rf_s, va_rf_n, am_II, am_I_sR, am_I_sL, am_R_sI, am_RR, am_R_sL, am_L_sI, am_L_sR, am_LL, am_k_sI, am_k_sR, am_k_sL, am_n_sI, am_n_sR, am_n_sL, true_and, and_true, true_or, or_true, or_false, false_or, not_true_eq_false, not_false_eq_true, Nat.reduceLT, am_dS, am_dP, am_d1, Nat.reduceSub, Nat.reduceMul, ne_eq, Nat.reduceBEq, Nat.reduceAdd, Nat.reduceLeDiff, Nat.reduceEqDiff, and_self, and_false, false_and, if_true, if_false, am_nb, am_nb0, am_nb1, am_lc1, am_lc2, am_lc3, am_b0, am_b1, am_10, am_c8, am_c16, am_c24, am_c32, am_c40, am_c48, am_c56, am_c64, am_c72, Nat.add_zero, Bool.false_eq_true, Nat.zero_le, bvF, lvF, hb, q, nI_1]
            exact ih' _ ν1 (hF.trans h1)
      · rw [if_neg hf] at ih'
        simp only [gX1_where_36, gX1_where_39, gX1_where_70, gX1_where_73, am_kill_int, am_kill_ref, am_kill_null, am_kill_F, am_kill_long, am_cat_n, am_cat_i, am_cat_r, am_cat_0, am_cat_l, am_nr_n, am_nr_i, am_nr_r, am_nr_0, am_nr_l, Option.toList_some, Option.toList_none, List.nil_append, List.cons_append, va_rf_s, va_rf_n, am_II, am_I_sR, am_I_sL, am_R_sI, am_RR, am_R_sL, am_L_sI, am_L_sR, am_LL, am_k_sI, am_k_sR, am_k_sL, am_n_sI, am_n_sR, am_n_sL, true_and, and_true, true_or, or_true, or_false, false_or, not_true_eq_false, not_false_eq_true, Nat.reduceLT, am_dS, am_dP, am_d1, Nat.reduceSub, Nat.reduceMul, ne_eq, Nat.reduceBEq, Nat.reduceAdd, Nat.reduceLeDiff, Nat.reduceEqDiff, and_self, and_false, false_and, if_true, if_false, am_nb, am_nb0, am_nb1, am_lc1, am_lc2, am_lc3, am_b0, am_b1, am_10, am_c8, am_c16, am_c24, am_c32, am_c40, am_c48, am_c56, am_c64, am_c72, Nat.add_zero, Bool.false_eq_true, Nat.zero_le, hf, nI_1]
        exact ih' _ ν hF
    · rintro ls ν ⟨⟨z, rfl⟩, hF⟩
      have hC1 := hC.js (by decide) (by decide) hF
      have hcν := hC1.1
      simp only [cL, spL, Nat.reduceAdd] at hcν
      have hNν := hC1.2.1
      obtain ⟨g1, g2, g3⟩ := jS_qc hF
      rw [gX1_where_17]
      cases e : optF (frB c (cS μ 1)) o N with
      | none =>
        rw [e] at hK
        have m2 : ¬ (0 : Int32) ≤ -2 := by decide
        simp only [gX1_where_19, gX1_where_20, gX1_where_23, gX1_where_76, gX1_where_77, gX1_where_80, gX1_where_82, am_kill_int, am_kill_ref, am_kill_null, am_kill_F, am_kill_long, am_cat_n, am_cat_i, am_cat_r, am_cat_0, am_cat_l, am_nr_n, am_nr_i, am_nr_r, am_nr_0, am_nr_l, Option.toList_some, Option.toList_none, List.nil_append, List.cons_append, va_rf_s, va_rf_n, am_II, am_I_sR, am_I_sL, am_R_sI, am_RR, am_R_sL, am_L_sI, am_L_sR, am_LL, am_k_sI, am_k_sR, am_k_sL, am_n_sI, am_n_sR, am_n_sL, true_and, and_true, true_or, or_true, or_false, false_or, not_true_eq_false, not_false_eq_true, Nat.reduceLT, am_dS, am_dP, am_d1, Nat.reduceSub, Nat.reduceMul, ne_eq, Nat.reduceBEq, Nat.reduceAdd, Nat.reduceLeDiff, Nat.reduceEqDiff, and_self, and_false, false_and, if_true, if_false, am_nb, am_nb0, am_nb1, am_lc1, am_lc2, am_lc3, am_b0, am_b1, am_10, am_c8, am_c16, am_c24, am_c32, am_c40, am_c48, am_c56, am_c64, am_c72, Nat.add_zero, Bool.false_eq_true, Nat.zero_le, hcν, hNν, Int32.le_refl, bvF, m2]
        exact hK ν g1 g2 g3
      | some b =>
        rw [e] at hK
        have hb : 0 ≤ nI b := by rw [← nI_0]; exact nI_le (by omega) (by have := optF_lt e; omega)
        simp only [gX1_where_19, gX1_where_20, gX1_where_23, gX1_where_76, gX1_where_77, gX1_where_80, gX1_where_82, gX1_where_83, gX1_where_84, gX1_where_85, gX1_where_88, gX1_where_89, gX1_where_90, gX1_where_93, gX1_where_94, gX1_where_97, gX1_where_98, am_kill_int, am_kill_ref, am_kill_null, am_kill_F, am_kill_long, am_cat_n, am_cat_i, am_cat_r, am_cat_0, am_cat_l, am_nr_n, am_nr_i, am_nr_r, am_nr_0, am_nr_l, Option.toList_some, Option.toList_none, List.nil_append, List.cons_append, va_rf_s, va_rf_n, am_II, am_I_sR, am_I_sL, am_R_sI, am_RR, am_R_sL, am_L_sI, am_L_sR, am_LL, am_k_sI, am_k_sR, am_k_sL, am_n_sI, am_n_sR, am_n_sL, true_and, and_true, true_or, or_true, or_false, false_or, not_true_eq_false, not_false_eq_true, Nat.reduceLT, am_dS, am_dP, am_d1, Nat.reduceSub, Nat.reduceMul, ne_eq, Nat.reduceBEq, Nat.reduceAdd, Nat.reduceLeDiff, Nat.reduceEqDiff, and_self, and_false, false_and, if_true, if_false, am_nb, am_nb0, am_nb1, am_lc1, am_lc2, am_lc3, am_b0, am_b1, am_10, am_c8, am_c16, am_c24, am_c32, am_c40, am_c48, am_c56, am_c64, am_c72, Nat.add_zero, Bool.false_eq_true, Nat.zero_le, hcν, hNν, Int32.le_refl, bvF, lvF, hb, wX1_shown, wX1_tells0]
        refine hK _ (((g1.I (by unfold sC; omega)).L (Or.inl rfl)).I (by unfold sC; omega)) (TC1 ?_ ?_) (fun i => ?_)
        · simp only [am_II, and_self, if_true]
        · simp only [am_L_sI, am_LL, and_self, if_true]
        · simp only [am_L_sI, am_LL, Nat.reduceEqDiff, false_and, if_false]; exact hF.L
  · simp only [hy, Bool.false_eq_true, if_false] at hK
    simp only [gX1_where_0, gX1_where_1, gX1_where_4, gX1_where_7, gX1_where_8, am_kill_int, am_kill_ref, am_kill_null, am_kill_F, am_kill_long, am_cat_n, am_cat_i, am_cat_r, am_cat_0, am_cat_l, am_nr_n, am_nr_i, am_nr_r, am_nr_0, am_nr_l, Option.toList_some, Option.toList_none, List.nil_append, List.cons_append, va_rf_s, va_rf_n, am_II, am_I_sR, am_I_sL, am_R_sI, am_RR, am_R_sL, am_L_sI, am_L_sR, am_LL, am_k_sI, am_k_sR, am_k_sL, am_n_sI, am_n_sR, am_n_sL, true_and, and_true, true_or, or_true, or_false, false_or, not_true_eq_false, not_false_eq_true, Nat.reduceLT, am_dS, am_dP, am_d1, Nat.reduceSub, Nat.reduceMul, ne_eq, Nat.reduceBEq, Nat.reduceAdd, Nat.reduceLeDiff, Nat.reduceEqDiff, and_self, and_false, false_and, if_true, if_false, am_nb, am_nb0, am_nb1, am_lc1, am_lc2, am_lc3, am_b0, am_b1, am_10, am_c8, am_c16, am_c24, am_c32, am_c40, am_c48, am_c56, am_c64, am_c72, Nat.add_zero, Bool.false_eq_true, Nat.zero_le, wX1_isColour, hy]
    exact hK μ Fw.refl TC0 (fun _ => rfl)
theorem q5_where (hP : Per N C ru c μ) : Q5 mX3_where [.ref 54, .int y, am_F, am_F] μ (vWh N ru c (cS μ 1) y) (pWh N ru c (cS μ 1) y) := by
  intro d K hK
  have hS := hP.1.2.1
  have hC := hS.1
  have hmu := hC.1
  unfold mL at hmu
  have hN := hC.2.1
  have h8 := hC.2.2.1
  unfold vWh pWh at hK
  by_cases hy : isN y 10 = true
  · simp only [if_pos hy] at hK
    simp only [gX3_where_5, gX3_where_6, gX3_where_9, gX3_where_12, gX3_where_13, gX3_where_14, gX3_where_16, gX3_where_17, gX3_where_18, am_kill_int, am_kill_ref, am_kill_null, am_kill_F, am_kill_long, am_cat_n, am_cat_i, am_cat_r, am_cat_0, am_cat_l, am_nr_n, am_nr_i, am_nr_r, am_nr_0, am_nr_l, Option.toList_some, Option.toList_none, List.nil_append, List.cons_append, va_rf_s, va_rf_n, am_I_sR, am_I_sL, am_R_sI, am_R_sL, am_L_sI, am_L_sR, am_k_sI, am_k_sR, am_k_sL, am_n_sI, am_n_sR, am_n_sL, true_and, and_true, true_or, or_true, or_false, false_or, not_true_eq_false, not_false_eq_true, Nat.reduceLT, am_dS, am_dP, am_d1, Nat.reduceSub, Nat.reduceMul, ne_eq, Nat.reduceBEq, Nat.reduceAdd, Nat.reduceLeDiff, Nat.reduceEqDiff, and_self, and_false, false_and, if_true, if_false, am_nb, am_nb0, am_nb1, am_lc1, am_lc2, am_lc3, am_b0, am_b1, am_10, am_c8, am_c16, am_c24, am_c32, am_c40, am_c48, am_c56, am_c64, am_c72, Nat.add_zero, Bool.false_eq_true, Nat.zero_le, wX3_isColour, hy]
    generalize ho : (fun n => oddS N ru (lieT (cS μ 1) n y) n) = o at hK
    have ho' : ∀ n, oddS N ru (lieT (cS μ 1) n y) n = o n := fun k => by rw [← ho]
    simp only [ho'] at hK
    have hoL : ∀ n, n < N → oddL N ru (am_I μ 55) n y = o n := fun n hn => by rw [← odd_L hS.2.2 h8 hP.2.1 hn, ho']
    refine am_for (N := N) (fun n ls ν => (ls = [.ref 54, .int y, .int (bvF (optF (frB c (cS μ 1)) o n)), .int (nI n)]) ∧ Fr jM μ ν ∧ am_I ν 54 17 = 0) ?_ ?_ N 0 _ _ (by omega) ⟨rfl, Fr.refl, hP.h17⟩
    · rintro n ls ν hn ⟨rfl, hF, h17⟩ ih
      have hn8 : n < 8 := by omega
      have hlt : ¬ nI N ≤ nI n := nI_ge hn (by omega)
      have hS1 := hS.jm hF h17
      have hmν := hS1.1.1
      unfold mL at hmν
      have hNν := hS1.1.2.1
      have r55 := jM_row hF (h := 55) (by decide) (by decide)
      have hrl := wX3_refusesLay (d := d + 197) (μ := ν) (h := 55) (x := nI n) (y := y) (K := fun r1 μ1 => am_nr r1 ∧ am_Wp (d + 200) mX3_where 37 [.ref 54, .int y, .int (bvF (optF (frB c (cS μ 1)) o n)), .int (nI n)] (r1.toList ++ []) μ1 K) hS1.1 hmν.1.2.1
      rw [r55] at hrl
      have ih' := fun ν h h' => ih [.ref 54, .int y, .int (bvF (optF (frB c (cS μ 1)) o (n + 1))), .int (nI (n + 1))] ν ⟨rfl, h, h'⟩
      unfold optF at ih'
      rw [gX3_where_19]
      simp only [gX3_where_20, gX3_where_21, gX3_where_24, gX3_where_27, gX3_where_28, gX3_where_29, gX3_where_32, gX3_where_33, gX3_where_34, am_kill_int, am_kill_ref, am_kill_null, am_kill_F, am_kill_long, am_cat_n, am_cat_i, am_cat_r, am_cat_0, am_cat_l, am_nr_n, am_nr_i, am_nr_r, am_nr_0, am_nr_l, Option.toList_some, Option.toList_none, List.nil_append, List.cons_append, va_rf_s, va_rf_n, am_I_sR, am_I_sL, am_R_sI, am_R_sL, am_L_sI, am_L_sR, am_k_sI, am_k_sR, am_k_sL, am_n_sI, am_n_sR, am_n_sL, true_and, and_true, true_or, or_true, or_false, false_or, not_true_eq_false, not_false_eq_true, Nat.reduceLT, am_dS, am_dP, am_d1, Nat.reduceSub, Nat.reduceMul, ne_eq, Nat.reduceBEq, Nat.reduceAdd, Nat.reduceLeDiff, Nat.reduceEqDiff, and_self, and_false, false_and, if_true, if_false, am_nb, am_nb0, am_nb1, am_lc1, am_lc2, am_lc3, am_b0, am_b1, am_10, am_c8, am_c16, am_c24, am_c32, am_c40, am_c48, am_c56, am_c64, am_c72, Nat.add_zero, Bool.false_eq_true, Nat.zero_le, hlt, hmν, hNν]
      refine hrl.mpr ?_
      by_cases hf : frB c (cS μ 1) n = true
      · rw [rLa_t hP.2.1 hn h8 hy hf]
        have z0 : (0 : Int32) ≤ 0 := by decide
        rw [if_pos hf] at ih'
        cases e : optF (frB c (cS μ 1)) o n with
        | none =>
          rw [e] at ih'
          simp only [gX3_where_37, gX3_where_40, gX3_where_43, gX3_where_44, gX3_where_46, gX3_where_49, gX3_where_50, gX3_where_51, gX3_where_54, gX3_where_55, gX3_where_56, gX3_where_59, gX3_where_60, gX3_where_61, gX3_where_64, gX3_where_65, gX3_where_66, gX3_where_69, gX3_where_72, gX3_where_73, gX3_where_74, gX3_where_77, am_kill_int, am_kill_ref, am_kill_null, am_kill_F, am_kill_long, am_cat_n, am_cat_i, am_cat_r, am_cat_0, am_cat_l, am_nr_n, am_nr_i, am_nr_r, am_nr_0, am_nr_l, Option.toList_some, Option.toList_none, List.nil_append, List.cons_append, va_rf_s, va_rf_n, am_I_sR, am_I_sL, am_R_sI, am_R_sL, am_L_sI, am_L_sR, am_k_sI, am_k_sR, am_k_sL, am_n_sI, am_n_sR, am_n_sL, true_and, and_true, true_or, or_true, or_false, false_or, not_true_eq_false, not_false_eq_true, Nat.reduceLT, am_dS, am_dP, am_d1, Nat.reduceSub, Nat.reduceMul, ne_eq, Nat.reduceBEq, Nat.reduceAdd, Nat.reduceLeDiff, Nat.reduceEqDiff, and_self, and_false, false_and, if_true, if_false, am_nb, am_nb0, am_nb1, am_lc1, am_lc2, am_lc3, am_b0, am_b1, am_10, am_c8, am_c16, am_c24, am_c32, am_c40, am_c48, am_c56, am_c64, am_c72, Nat.add_zero, Bool.false_eq_true, Nat.zero_le, bvF, z0, nI_1]
          exact ih' ν hF h17
        | some b =>
          rw [e] at ih'
          have hbn := optF_lt e
          have hb : ¬ nI b = -2 := fun q => by
            have h1 := nI_toInt (n := b) (by omega)
            rw [q] at h1
            have h2 : (-2 : Int32).toInt = -2 := by decide
            omega
          simp only [gX3_where_37, gX3_where_40, gX3_where_43, gX3_where_44, gX3_where_46, gX3_where_49, gX3_where_50, gX3_where_51, gX3_where_54, gX3_where_55, gX3_where_56, am_kill_int, am_kill_ref, am_kill_null, am_kill_F, am_kill_long, am_cat_n, am_cat_i, am_cat_r, am_cat_0, am_cat_l, am_nr_n, am_nr_i, am_nr_r, am_nr_0, am_nr_l, Option.toList_some, Option.toList_none, List.nil_append, List.cons_append, va_rf_s, va_rf_n, am_I_sR, am_I_sL, am_R_sI, am_R_sL, am_L_sI, am_L_sR, am_k_sI, am_k_sR, am_k_sL, am_n_sI, am_n_sR, am_n_sL, true_and, and_true, true_or, or_true, or_false, false_or, not_true_eq_false, not_false_eq_true, Nat.reduceLT, am_dS, am_dP, am_d1, Nat.reduceSub, Nat.reduceMul, ne_eq, Nat.reduceBEq, Nat.reduceAdd, Nat.reduceLeDiff, Nat.reduceEqDiff, and_self, and_false, false_and, if_true, if_false, am_nb, am_nb0, am_nb1, am_lc1, am_lc2, am_lc3, am_b0, am_b1, am_10, am_c8, am_c16, am_c24, am_c32, am_c40, am_c48, am_c56, am_c64, am_c72, Nat.add_zero, Bool.false_eq_true, Nat.zero_le, bvF, z0, hb, hmν]
          refine wX3_oddLaid (d := d + 129) hS1 hn8 hmν.1.2.1 (fun ν1 h1 h171 => ?_)
          have hF1 := hF.trans h1
          have hS2 := hS.jm hF1 h171
          have hmν1 := hS2.1.1
          unfold mL at hmν1
          rw [r55, hoL n hn]
          simp only [gX3_where_59, gX3_where_60, gX3_where_61, gX3_where_64, gX3_where_65, gX3_where_66, am_kill_int, am_kill_ref, am_kill_null, am_kill_F, am_kill_long, am_cat_n, am_cat_i, am_cat_r, am_cat_0, am_cat_l, am_nr_n, am_nr_i, am_nr_r, am_nr_0, am_nr_l, Option.toList_some, Option.toList_none, List.nil_append, List.cons_append, va_rf_s, va_rf_n, am_I_sR, am_I_sL, am_R_sI, am_R_sL, am_L_sI, am_L_sR, am_k_sI, am_k_sR, am_k_sL, am_n_sI, am_n_sR, am_n_sL, true_and, and_true, true_or, or_true, or_false, false_or, not_true_eq_false, not_false_eq_true, Nat.reduceLT, am_dS, am_dP, am_d1, Nat.reduceSub, Nat.reduceMul, ne_eq, Nat.reduceBEq, Nat.reduceAdd, Nat.reduceLeDiff, Nat.reduceEqDiff, and_self, and_false, false_and, if_true, if_false, am_nb, am_nb0, am_nb1, am_lc1, am_lc2, am_lc3, am_b0, am_b1, am_10, am_c8, am_c16, am_c24, am_c32, am_c40, am_c48, am_c56, am_c64, am_c72, Nat.add_zero, Bool.false_eq_true, Nat.zero_le, hmν1]
          refine wX3_oddLaid (d := d + 129) hS2 (by omega) hmν1.1.2.1 (fun ν2 h2 h172 => ?_)
          rw [jM_row hF1 (by decide) (by decide), hoL b (by omega)]
          by_cases q : o n < o b
          · simp only [if_pos q] at ih'
            simp only [gX3_where_69, gX3_where_72, gX3_where_73, gX3_where_74, gX3_where_77, am_kill_int, am_kill_ref, am_kill_null, am_kill_F, am_kill_long, am_cat_n, am_cat_i, am_cat_r, am_cat_0, am_cat_l, am_nr_n, am_nr_i, am_nr_r, am_nr_0, am_nr_l, Option.toList_some, Option.toList_none, List.nil_append, List.cons_append, va_rf_s, va_rf_n, am_I_sR, am_I_sL, am_R_sI, am_R_sL, am_L_sI, am_L_sR, am_k_sI, am_k_sR, am_k_sL, am_n_sI, am_n_sR, am_n_sL, true_and, and_true, true_or, or_true, or_false, false_or, not_true_eq_false, not_false_eq_true, Nat.reduceLT, am_dS, am_dP, am_d1, Nat.reduceSub, Nat.reduceMul, ne_eq, Nat.reduceBEq, Nat.reduceAdd, Nat.reduceLeDiff, Nat.reduceEqDiff, and_self, and_false, false_and, if_true, if_false, am_nb, am_nb0, am_nb1, am_lc1, am_lc2, am_lc3, am_b0, am_b1, am_10, am_c8, am_c16, am_c24, am_c32, am_c40, am_c48, am_c56, am_c64, am_c72, Nat.add_zero, Bool.false_eq_true, Nat.zero_le, Int32.not_le.mpr q, nI_1]
            exact ih' ν2 (hF1.trans h2) h172
          · simp only [if_neg q] at ih'
            simp only [gX3_where_69, gX3_where_72, gX3_where_73, gX3_where_74, gX3_where_77, am_kill_int, am_kill_ref, am_kill_null, am_kill_F, am_kill_long, am_cat_n, am_cat_i, am_cat_r, am_cat_0, am_cat_l, am_nr_n, am_nr_i, am_nr_r, am_nr_0, am_nr_l, Option.toList_some, Option.toList_none, List.nil_append, List.cons_append, va_rf_s, va_rf_n, am_I_sR, am_I_sL, am_R_sI, am_R_sL, am_L_sI, am_L_sR, am_k_sI, am_k_sR, am_k_sL, am_n_sI, am_n_sR, am_n_sL, true_and, and_true, true_or, or_true, or_false, false_or, not_true_eq_false, not_false_eq_true, Nat.reduceLT, am_dS, am_dP, am_d1, Nat.reduceSub, Nat.reduceMul, ne_eq, Nat.reduceBEq, Nat.reduceAdd, Nat.reduceLeDiff, Nat.reduceEqDiff, and_self, and_false, false_and, if_true, if_false, am_nb, am_nb0, am_nb1, am_lc1, am_lc2, am_lc3, am_b0, am_b1, am_10, am_c8, am_c16, am_c24, am_c32, am_c40, am_c48, am_c56, am_c64, am_c72, Nat.add_zero, Bool.false_eq_true, Nat.zero_le, Int32.not_lt.mp q, nI_1]
            exact ih' ν2 (hF1.trans h2) h172
      · rw [if_neg hf] at ih'
        have hl := rLa_n (c := c) hP.2.1 hn h8 hy hf
        simp only [gX3_where_37, gX3_where_40, gX3_where_74, gX3_where_77, am_kill_int, am_kill_ref, am_kill_null, am_kill_F, am_kill_long, am_cat_n, am_cat_i, am_cat_r, am_cat_0, am_cat_l, am_nr_n, am_nr_i, am_nr_r, am_nr_0, am_nr_l, Option.toList_some, Option.toList_none, List.nil_append, List.cons_append, va_rf_s, va_rf_n, am_I_sR, am_I_sL, am_R_sI, am_R_sL, am_L_sI, am_L_sR, am_k_sI, am_k_sR, am_k_sL, am_n_sI, am_n_sR, am_n_sL, true_and, and_true, true_or, or_true, or_false, false_or, not_true_eq_false, not_false_eq_true, Nat.reduceLT, am_dS, am_dP, am_d1, Nat.reduceSub, Nat.reduceMul, ne_eq, Nat.reduceBEq, Nat.reduceAdd, Nat.reduceLeDiff, Nat.reduceEqDiff, and_self, and_false, false_and, if_true, if_false, am_nb, am_nb0, am_nb1, am_lc1, am_lc2, am_lc3, am_b0, am_b1, am_10, am_c8, am_c16, am_c24, am_c32, am_c40, am_c48, am_c56, am_c64, am_c72, Nat.add_zero, Bool.false_eq_true, Nat.zero_le, Int32.not_le.mpr hl, nI_1]
        exact ih' ν hF h17
    · rintro ls ν ⟨rfl, hF, h17⟩
      have hS1 := hS.jm hF h17
      have hmν := hS1.1.1
      unfold mL at hmν
      have hNν := hS1.1.2.1
      rw [gX3_where_19]
      cases e : optF (frB c (cS μ 1)) o N with
      | none =>
        rw [e] at hK
        simp only [gX3_where_20, gX3_where_21, gX3_where_24, gX3_where_80, gX3_where_81, gX3_where_83, gX3_where_86, gX3_where_88, am_kill_int, am_kill_ref, am_kill_null, am_kill_F, am_kill_long, am_cat_n, am_cat_i, am_cat_r, am_cat_0, am_cat_l, am_nr_n, am_nr_i, am_nr_r, am_nr_0, am_nr_l, Option.toList_some, Option.toList_none, List.nil_append, List.cons_append, va_rf_s, va_rf_n, am_I_sR, am_I_sL, am_R_sI, am_R_sL, am_L_sI, am_L_sR, am_k_sI, am_k_sR, am_k_sL, am_n_sI, am_n_sR, am_n_sL, true_and, and_true, true_or, or_true, or_false, false_or, not_true_eq_false, not_false_eq_true, Nat.reduceLT, am_dS, am_dP, am_d1, Nat.reduceSub, Nat.reduceMul, ne_eq, Nat.reduceBEq, Nat.reduceAdd, Nat.reduceLeDiff, Nat.reduceEqDiff, and_self, and_false, false_and, if_true, if_false, am_nb, am_nb0, am_nb1, am_lc1, am_lc2, am_lc3, am_b0, am_b1, am_10, am_c8, am_c16, am_c24, am_c32, am_c40, am_c48, am_c56, am_c64, am_c72, Nat.add_zero, Bool.false_eq_true, Nat.zero_le, hmν, hNν, Int32.le_refl, bvF]
        exact hK ν (jM_sM hF) h17 ⟨hF.1 54 6 (by unfold jM; omega), fun i => hF.L⟩ (fun i => hF.L)
      | some b =>
        rw [e] at hK
        have hbn := optF_lt e
        have hb : ¬ nI b = -2 := fun q => by
          have h1 := nI_toInt (n := b) (by omega)
          rw [q] at h1
          have h2 : (-2 : Int32).toInt = -2 := by decide
          omega
        have hF0 : Fw sM ν (am_sI ν 54 6 0) := Fw.I Fw.refl (by unfold sM; omega)
        have hS2 := hS1.sMm hF0 (by rw [am_I_sI, if_neg (by omega)]; exact h17)
        simp only [gX3_where_20, gX3_where_21, gX3_where_24, gX3_where_80, gX3_where_81, gX3_where_83, gX3_where_86, gX3_where_88, gX3_where_89, gX3_where_90, gX3_where_91, gX3_where_94, gX3_where_95, gX3_where_96, gX3_where_97, gX3_where_100, gX3_where_101, gX3_where_102, am_kill_int, am_kill_ref, am_kill_null, am_kill_F, am_kill_long, am_cat_n, am_cat_i, am_cat_r, am_cat_0, am_cat_l, am_nr_n, am_nr_i, am_nr_r, am_nr_0, am_nr_l, Option.toList_some, Option.toList_none, List.nil_append, List.cons_append, va_rf_s, va_rf_n, am_I_sR, am_I_sL, am_R_sI, am_R_sL, am_L_sI, am_L_sR, am_k_sI, am_k_sR, am_k_sL, am_n_sI, am_n_sR, am_n_sL, true_and, and_true, true_or, or_true, or_false, false_or, not_true_eq_false, not_false_eq_true, Nat.reduceLT, am_dS, am_dP, am_d1, Nat.reduceSub, Nat.reduceMul, ne_eq, Nat.reduceBEq, Nat.reduceAdd, Nat.reduceLeDiff, Nat.reduceEqDiff, and_self, and_false, false_and, if_true, if_false, am_nb, am_nb0, am_nb1, am_lc1, am_lc2, am_lc3, am_b0, am_b1, am_10, am_c8, am_c16, am_c24, am_c32, am_c40, am_c48, am_c56, am_c64, am_c72, Nat.add_zero, Bool.false_eq_true, Nat.zero_le, hmν, hNν, Int32.le_refl, bvF, hb]
        refine wX3_oddLaid (d := d + 129) hS2 (by omega) hmν.1.2.1 (fun ν1 h1 h171 => ?_)
        rw [am_row_o (by decide), jM_row hF (by decide) (by decide), hoL b (by omega)]
        have hS3 := hS2.jm h1 h171
        have hmν1 := hS3.1.1
        unfold mL at hmν1
        have h60 : am_I ν1 54 6 = 0 := (h1.1 54 6 (by unfold jM; omega)).trans (by rw [am_I_sI, if_pos ⟨rfl, rfl⟩])
        simp only [gX3_where_105, gX3_where_108, gX3_where_109, gX3_where_112, gX3_where_113, am_kill_int, am_kill_ref, am_kill_null, am_kill_F, am_kill_long, am_cat_n, am_cat_i, am_cat_r, am_cat_0, am_cat_l, am_nr_n, am_nr_i, am_nr_r, am_nr_0, am_nr_l, Option.toList_some, Option.toList_none, List.nil_append, List.cons_append, va_rf_s, va_rf_n, am_II, am_I_sR, am_I_sL, am_R_sI, am_RR, am_R_sL, am_L_sI, am_L_sR, am_LL, am_k_sI, am_k_sR, am_k_sL, am_n_sI, am_n_sR, am_n_sL, true_and, and_true, true_or, or_true, or_false, false_or, not_true_eq_false, not_false_eq_true, Nat.reduceLT, am_dS, am_dP, am_d1, Nat.reduceSub, Nat.reduceMul, ne_eq, Nat.reduceBEq, Nat.reduceAdd, Nat.reduceLeDiff, Nat.reduceEqDiff, and_self, and_false, false_and, if_true, if_false, am_nb, am_nb0, am_nb1, am_lc1, am_lc2, am_lc3, am_b0, am_b1, am_10, am_c8, am_c16, am_c24, am_c32, am_c40, am_c48, am_c56, am_c64, am_c72, Nat.add_zero, Bool.false_eq_true, Nat.zero_le, wX3_put, hmν1, h60, wX3_tell0]
        refine hK _ (((((jM_sM hF).trans hF0).trans (jM_sM h1)).L (Or.inr rfl)).I (by unfold sM; omega)) ?_ (TN1 ?_ ?_) (fun i => ?_)
        · simp only [am_II, am_I_sL, Nat.reduceEqDiff, and_false, if_false]; exact h171
        · simp only [am_II, and_self, if_true]
        · simp only [am_L_sI, am_LL, and_self, if_true]
        · simp only [am_L_sI, am_LL, Nat.reduceEqDiff, false_and, if_false]; rw [h1.L]; exact hF.L
  · simp only [hy, Bool.false_eq_true, if_false] at hK
    simp only [gX3_where_5, gX3_where_6, gX3_where_9, gX3_where_12, gX3_where_13, am_kill_int, am_kill_ref, am_kill_null, am_kill_F, am_kill_long, am_cat_n, am_cat_i, am_cat_r, am_cat_0, am_cat_l, am_nr_n, am_nr_i, am_nr_r, am_nr_0, am_nr_l, Option.toList_some, Option.toList_none, List.nil_append, List.cons_append, va_rf_s, va_rf_n, am_I_sR, am_I_sL, am_R_sI, am_R_sL, am_L_sI, am_L_sR, am_k_sI, am_k_sR, am_k_sL, am_n_sI, am_n_sR, am_n_sL, true_and, and_true, true_or, or_true, or_false, false_or, not_true_eq_false, not_false_eq_true, Nat.reduceLT, am_dS, am_dP, am_d1, Nat.reduceSub, Nat.reduceMul, ne_eq, Nat.reduceBEq, Nat.reduceAdd, Nat.reduceLeDiff, Nat.reduceEqDiff, and_self, and_false, false_and, if_true, if_false, am_nb, am_nb0, am_nb1, am_lc1, am_lc2, am_lc3, am_b0, am_b1, am_10, am_c8, am_c16, am_c24, am_c32, am_c40, am_c48, am_c56, am_c64, am_c72, Nat.add_zero, Bool.false_eq_true, Nat.zero_le, wX3_isColour, hy]
    exact hK μ Fw.refl hP.h17 TN0 (fun _ => rfl)
theorem op_where (hI : Inv q μ) : OP q mX1_where mX3_where [.ref 0, .int y, am_F, am_F, am_F, am_F] [.ref 54, .int y, am_F, am_F] μ :=
  op_S (V := fun N ru c S => vWh N ru c S y) (P := fun N ru c S => pWh N ru c S y) (fun hP => qc_where hP) (fun d K μ h h' => by simp only [gX3_where_0, gX3_where_1, gX3_where_2, am_kill_int, am_kill_ref, am_kill_null, am_kill_F, am_kill_long, am_cat_n, am_cat_i, am_cat_r, am_cat_0, am_cat_l, am_nr_n, am_nr_i, am_nr_r, am_nr_0, am_nr_l, Option.toList_some, Option.toList_none, List.nil_append, List.cons_append, va_rf_s, va_rf_n, am_I_sR, am_I_sL, am_R_sI, am_R_sL, am_L_sI, am_L_sR, am_k_sI, am_k_sR, am_k_sL, am_n_sI, am_n_sR, am_n_sL, true_and, and_true, true_or, or_true, or_false, false_or, not_true_eq_false, not_false_eq_true, Nat.reduceLT, am_dS, am_dP, am_d1, Nat.reduceSub, Nat.reduceMul, ne_eq, Nat.reduceBEq, Nat.reduceAdd, Nat.reduceLeDiff, Nat.reduceEqDiff, and_self, and_false, false_and, if_true, if_false, am_nb, am_nb0, am_nb1, am_lc1, am_lc2, am_lc3, am_b0, am_b1, am_10, am_c8, am_c16, am_c24, am_c32, am_c40, am_c48, am_c56, am_c64, am_c72, Nat.add_zero, Bool.false_eq_true, Nat.zero_le, h]; exact h') (fun hP => q5_where hP) hI
end OEV
