/-! calls that ask: waiting, eldest -/
set_option maxRecDepth 100000
section OHV
variable {d : Nat} {μ ν ξ : am_M} {K : Option Value → am_M → Prop} {x y z c w : Int32} {h h' N C j i k r n M b q m : Nat} {v : Int32} {ru : Option PF} {o o' : Nat → Int32} {S a : Nat → Int32} {p p' : Nat → Bool}
/-- the first that holds -/
def wtF (p : Nat → Bool) : Nat → Nat → Int32
  | 0, _ => -2
  | m + 1, k => if p k = true then nI k else wtF p m (k + 1)
def cWt (N : Nat) (ru : Option PF) (c : Int32) (S : Nat → Int32) (j : Nat) (y : Int32) (k : Nat) : Bool := frB c (itS (dayC N ru) k S) j && decide (0 < (fliC N ru j 60 1 (lieT (itS (dayC N ru) k S) j y)).1)
def vWt (N : Nat) (ru : Option PF) (c : Int32) (S : Nat → Int32) (x y : Int32) : Int32 := if isN x N = true ∧ isN y 10 = true then wtF (cWt N ru c S x.toNatClampNeg y) 21 0 else -1
theorem qcL_waiting (hj : j < N) : ∀ (m k : Nat) (μ : am_M), k + m = 21 → CC N ru c μ → (∀ ν, Fr (jS 12) μ ν → K (some (.int (wtF (cWt N ru c (cS μ 1) j y) m k))) ν) →
    am_Wp (d + 200) mX1_waiting 19 [.ref 0, .int (nI j), .int y, .int (nI k)] [] μ K := by
  intro m
  have e20 : (20 : Int32) = nI 20 := rfl
  induction m with
  | zero =>
    intro k μ hkm hC hK
    have hlt : nI 20 < nI k := nI_lt (by omega) (by omega)
    rw [gX1_waiting_19]
    simp only [gX1_waiting_20, gX1_waiting_22, gX1_waiting_85, gX1_waiting_87, am_kill_int, am_kill_ref, am_kill_null, am_kill_F, am_kill_long, am_cat_n, am_cat_i, am_cat_r, am_cat_0, am_cat_l, am_nr_n, am_nr_i, am_nr_r, am_nr_0, am_nr_l, Option.toList_some, Option.toList_none, List.nil_append, List.cons_append, va_rf_s, va_rf_n, am_II, am_I_sR, am_I_sL, am_R_sI, am_RR, am_R_sL, am_L_sI, am_L_sR, am_LL, am_k_sI, am_k_sR, am_k_sL, am_n_sI, am_n_sR, am_n_sL, true_and, and_true, true_or, or_true, or_false, false_or, not_true_eq_false, not_false_eq_true, Nat.reduceLT, am_dS, am_dP, am_d1, Nat.reduceSub, Nat.reduceMul, ne_eq, Nat.reduceBEq, Nat.reduceAdd, Nat.reduceLeDiff, Nat.reduceEqDiff, and_self, and_false, false_and, if_true, if_false, am_nb, am_nb0, am_nb1, am_lc1, am_lc2, am_lc3, am_b0, am_b1, am_10, am_c8, am_c16, am_c24, am_c32, am_c40, am_c48, am_c56, am_c64, am_c72, Nat.add_zero, Bool.false_eq_true, Nat.zero_le, e20, hlt]
    exact hK μ Fr.refl
  | succ m ih =>
    intro k μ hkm hC hK
    have hlt : ¬ nI 20 < nI k := nI_nlt (by omega) (by omega)
    have h8 := hC.2.2.1
    have hj8 : j < 8 := by omega
    have hcu := hC.1
    simp only [cL, spL, Nat.reduceAdd] at hcu
    rw [gX1_waiting_19]
    simp only [gX1_waiting_20, gX1_waiting_22, gX1_waiting_25, gX1_waiting_26, gX1_waiting_29, gX1_waiting_30, gX1_waiting_33, am_kill_int, am_kill_ref, am_kill_null, am_kill_F, am_kill_long, am_cat_n, am_cat_i, am_cat_r, am_cat_0, am_cat_l, am_nr_n, am_nr_i, am_nr_r, am_nr_0, am_nr_l, Option.toList_some, Option.toList_none, List.nil_append, List.cons_append, va_rf_s, va_rf_n, am_II, am_I_sR, am_I_sL, am_R_sI, am_RR, am_R_sL, am_L_sI, am_L_sR, am_LL, am_k_sI, am_k_sR, am_k_sL, am_n_sI, am_n_sR, am_n_sL, true_and, and_true, true_or, or_true, or_false, false_or, not_true_eq_false, not_false_eq_true, Nat.reduceLT, am_dS, am_dP, am_d1, Nat.reduceSub, Nat.reduceMul, ne_eq, Nat.reduceBEq, Nat.reduceAdd, Nat.reduceLeDiff, Nat.reduceEqDiff, and_self, and_false, false_and, if_true, if_false, am_nb, am_nb0, am_nb1, am_lc1, am_lc2, am_lc3, am_b0, am_b1, am_10, am_c8, am_c16, am_c24, am_c32, am_c40, am_c48, am_c56, am_c64, am_c72, Nat.add_zero, Bool.false_eq_true, Nat.zero_le, e20, hlt, hcu]
    refine wX2_becomes (d := d + 198) hC.1.s1 hC.1.s2 (by decide) (fun ν1 hF1 hT1 => ?_)
    have hF1' := jS_le hF1
    have hC1 := hC.js (by decide) (by decide) hF1'
    have hcu1 := hC1.1
    simp only [cL, spL, Nat.reduceAdd] at hcu1
    simp only [gX1_waiting_36, gX1_waiting_37, gX1_waiting_38, gX1_waiting_41, gX1_waiting_42, am_kill_int, am_kill_ref, am_kill_null, am_kill_F, am_kill_long, am_cat_n, am_cat_i, am_cat_r, am_cat_0, am_cat_l, am_nr_n, am_nr_i, am_nr_r, am_nr_0, am_nr_l, Option.toList_some, Option.toList_none, List.nil_append, List.cons_append, va_rf_s, va_rf_n, am_II, am_I_sR, am_I_sL, am_R_sI, am_RR, am_R_sL, am_L_sI, am_L_sR, am_LL, am_k_sI, am_k_sR, am_k_sL, am_n_sI, am_n_sR, am_n_sL, true_and, and_true, true_or, or_true, or_false, false_or, not_true_eq_false, not_false_eq_true, Nat.reduceLT, am_dS, am_dP, am_d1, Nat.reduceSub, Nat.reduceMul, ne_eq, Nat.reduceBEq, Nat.reduceAdd, Nat.reduceLeDiff, Nat.reduceEqDiff, and_self, and_false, false_and, if_true, if_false, am_nb, am_nb0, am_nb1, am_lc1, am_lc2, am_lc3, am_b0, am_b1, am_10, am_c8, am_c16, am_c24, am_c32, am_c40, am_c48, am_c56, am_c64, am_c72, Nat.add_zero, Bool.false_eq_true, Nat.zero_le, hcu1]
    refine wX1_daysGo (d := d + 130) hC1 hC1.1.s2 (by decide) (by decide) (M := k) (by omega) (fun ν2 hF2 hT2 => ?_)
    have hF2' := hF1'.trans hF2
    have hC2 := hC.js (by decide) (by decide) hF2'
    have hcu2 := hC2.1
    simp only [cL, spL, Nat.reduceAdd] at hcu2
    rw [hT1] at hT2
    have hfree := wX1_isFree (d := d + 197) (μ := ν2) (h := 12) (K := fun r1 μ1 => am_nr r1 ∧ am_Wp (d + 200) mX1_waiting 54 [.ref 0, .int (nI j), .int y, .int (nI k)] (r1.toList ++ []) μ1 K) hj8 hC2.1.c hC2.1.s2
    rw [hC2.2.2.2.1, hT2] at hfree
    have next : ∀ ν, Fr (jS 12) μ ν → ¬ cWt N ru c (cS μ 1) j y k = true → am_Wp (d + 200) mX1_waiting 79 [.ref 0, .int (nI j), .int y, .int (nI k)] [] ν K := fun ν hF hc => by
      simp only [gX1_waiting_79, gX1_waiting_82, am_kill_int, am_kill_ref, am_kill_null, am_kill_F, am_kill_long, am_cat_n, am_cat_i, am_cat_r, am_cat_0, am_cat_l, am_nr_n, am_nr_i, am_nr_r, am_nr_0, am_nr_l, Option.toList_some, Option.toList_none, List.nil_append, List.cons_append, va_rf_s, va_rf_n, am_I_sR, am_I_sL, am_R_sI, am_R_sL, am_L_sI, am_L_sR, am_k_sI, am_k_sR, am_k_sL, am_n_sI, am_n_sR, am_n_sL, true_and, and_true, true_or, or_true, or_false, false_or, not_true_eq_false, not_false_eq_true, Nat.reduceLT, am_dS, am_dP, am_d1, Nat.reduceSub, Nat.reduceMul, ne_eq, Nat.reduceBEq, Nat.reduceAdd, Nat.reduceLeDiff, Nat.reduceEqDiff, and_self, and_false, false_and, if_true, if_false, am_nb, am_nb0, am_nb1, am_lc1, am_lc2, am_lc3, am_b0, am_b1, am_10, am_c8, am_c16, am_c24, am_c32, am_c40, am_c48, am_c56, am_c64, am_c72, Nat.add_zero, Bool.false_eq_true, Nat.zero_le, nI_1]
      refine ih (k + 1) ν (by omega) (hC.js (by decide) (by decide) hF) (fun ξ h1 => ?_)
      have := hK ξ (hF.trans h1)
      unfold wtF at this
      rw [if_neg hc] at this
      rw [jS_1 hF]
      exact this
    simp only [gX1_waiting_45, gX1_waiting_46, gX1_waiting_47, gX1_waiting_50, gX1_waiting_51, am_kill_int, am_kill_ref, am_kill_null, am_kill_F, am_kill_long, am_cat_n, am_cat_i, am_cat_r, am_cat_0, am_cat_l, am_nr_n, am_nr_i, am_nr_r, am_nr_0, am_nr_l, Option.toList_some, Option.toList_none, List.nil_append, List.cons_append, va_rf_s, va_rf_n, am_II, am_I_sR, am_I_sL, am_R_sI, am_RR, am_R_sL, am_L_sI, am_L_sR, am_LL, am_k_sI, am_k_sR, am_k_sL, am_n_sI, am_n_sR, am_n_sL, true_and, and_true, true_or, or_true, or_false, false_or, not_true_eq_false, not_false_eq_true, Nat.reduceLT, am_dS, am_dP, am_d1, Nat.reduceSub, Nat.reduceMul, ne_eq, Nat.reduceBEq, Nat.reduceAdd, Nat.reduceLeDiff, Nat.reduceEqDiff, and_self, and_false, false_and, if_true, if_false, am_nb, am_nb0, am_nb1, am_lc1, am_lc2, am_lc3, am_b0, am_b1, am_10, am_c8, am_c16, am_c24, am_c32, am_c40, am_c48, am_c56, am_c64, am_c72, Nat.add_zero, Bool.false_eq_true, Nat.zero_le, hcu2]
    refine hfree.mpr ?_
    by_cases hf : frB c (itS (dayC N ru) k (cS μ 1)) j = true
    · simp only [gX1_waiting_54, gX1_waiting_57, gX1_waiting_60, gX1_waiting_61, gX1_waiting_64, gX1_waiting_65, gX1_waiting_66, am_kill_int, am_kill_ref, am_kill_null, am_kill_F, am_kill_long, am_cat_n, am_cat_i, am_cat_r, am_cat_0, am_cat_l, am_nr_n, am_nr_i, am_nr_r, am_nr_0, am_nr_l, Option.toList_some, Option.toList_none, List.nil_append, List.cons_append, va_rf_s, va_rf_n, am_II, am_I_sR, am_I_sL, am_R_sI, am_RR, am_R_sL, am_L_sI, am_L_sR, am_LL, am_k_sI, am_k_sR, am_k_sL, am_n_sI, am_n_sR, am_n_sL, true_and, and_true, true_or, or_true, or_false, false_or, not_true_eq_false, not_false_eq_true, Nat.reduceLT, am_dS, am_dP, am_d1, Nat.reduceSub, Nat.reduceMul, ne_eq, Nat.reduceBEq, Nat.reduceAdd, Nat.reduceLeDiff, Nat.reduceEqDiff, and_self, and_false, false_and, if_true, if_false, am_nb, am_nb0, am_nb1, am_lc1, am_lc2, am_lc3, am_b0, am_b1, am_10, am_c8, am_c16, am_c24, am_c32, am_c40, am_c48, am_c56, am_c64, am_c72, Nat.add_zero, Bool.false_eq_true, Nat.zero_le, hf, hcu2]
      refine wX2_liesK (d := d + 198) hj8 hC2.1.s2 (fun ν3 hF3 hT3 => ?_)
      have hF3' := hF2'.trans (jS_le hF3)
      have hC3 := hC.js (by decide) (by decide) hF3'
      simp only [gX1_waiting_69, gX1_waiting_70, gX1_waiting_71, am_kill_int, am_kill_ref, am_kill_null, am_kill_F, am_kill_long, am_cat_n, am_cat_i, am_cat_r, am_cat_0, am_cat_l, am_nr_n, am_nr_i, am_nr_r, am_nr_0, am_nr_l, Option.toList_some, Option.toList_none, List.nil_append, List.cons_append, va_rf_s, va_rf_n, am_II, am_I_sR, am_I_sL, am_R_sI, am_RR, am_R_sL, am_L_sI, am_L_sR, am_LL, am_k_sI, am_k_sR, am_k_sL, am_n_sI, am_n_sR, am_n_sL, true_and, and_true, true_or, or_true, or_false, false_or, not_true_eq_false, not_false_eq_true, Nat.reduceLT, am_dS, am_dP, am_d1, Nat.reduceSub, Nat.reduceMul, ne_eq, Nat.reduceBEq, Nat.reduceAdd, Nat.reduceLeDiff, Nat.reduceEqDiff, and_self, and_false, false_and, if_true, if_false, am_nb, am_nb0, am_nb1, am_lc1, am_lc2, am_lc3, am_b0, am_b1, am_10, am_c8, am_c16, am_c24, am_c32, am_c40, am_c48, am_c56, am_c64, am_c72, Nat.add_zero, Bool.false_eq_true, Nat.zero_le, hC3.1.c]
      refine wX1_fliesIn (d := d + 130) hC3 hj8 (fun ν4 hF4 hT4 => ?_)
      have hF4' := hF3'.trans hF4
      rw [hT3, hT2]
      by_cases hr : 0 < (fliC N ru j 60 1 (lieT (itS (dayC N ru) k (cS μ 1)) j y)).1
      · have hc : cWt N ru c (cS μ 1) j y k = true := by unfold cWt; rw [hf, decide_eq_true hr]; rfl
        have fin := hK ν4 hF4'
        unfold wtF at fin
        rw [if_pos hc] at fin
        simp only [gX1_waiting_74, gX1_waiting_77, gX1_waiting_78, am_kill_int, am_kill_ref, am_kill_null, am_kill_F, am_kill_long, am_cat_n, am_cat_i, am_cat_r, am_cat_0, am_cat_l, am_nr_n, am_nr_i, am_nr_r, am_nr_0, am_nr_l, Option.toList_some, Option.toList_none, List.nil_append, List.cons_append, va_rf_s, va_rf_n, am_II, am_I_sR, am_I_sL, am_R_sI, am_RR, am_R_sL, am_L_sI, am_L_sR, am_LL, am_k_sI, am_k_sR, am_k_sL, am_n_sI, am_n_sR, am_n_sL, true_and, and_true, true_or, or_true, or_false, false_or, not_true_eq_false, not_false_eq_true, Nat.reduceLT, am_dS, am_dP, am_d1, Nat.reduceSub, Nat.reduceMul, ne_eq, Nat.reduceBEq, Nat.reduceAdd, Nat.reduceLeDiff, Nat.reduceEqDiff, and_self, and_false, false_and, if_true, if_false, am_nb, am_nb0, am_nb1, am_lc1, am_lc2, am_lc3, am_b0, am_b1, am_10, am_c8, am_c16, am_c24, am_c32, am_c40, am_c48, am_c56, am_c64, am_c72, Nat.add_zero, Bool.false_eq_true, Nat.zero_le, Int32.not_le.mpr hr]
        exact fin
      · have hc : ¬ cWt N ru c (cS μ 1) j y k = true := by unfold cWt; rw [decide_eq_false hr, Bool.and_false]; decide
        simp only [gX1_waiting_74, gX1_waiting_77, gX1_waiting_78, am_kill_int, am_kill_ref, am_kill_null, am_kill_F, am_kill_long, am_cat_n, am_cat_i, am_cat_r, am_cat_0, am_cat_l, am_nr_n, am_nr_i, am_nr_r, am_nr_0, am_nr_l, Option.toList_some, Option.toList_none, List.nil_append, List.cons_append, va_rf_s, va_rf_n, am_II, am_I_sR, am_I_sL, am_R_sI, am_RR, am_R_sL, am_L_sI, am_L_sR, am_LL, am_k_sI, am_k_sR, am_k_sL, am_n_sI, am_n_sR, am_n_sL, true_and, and_true, true_or, or_true, or_false, false_or, not_true_eq_false, not_false_eq_true, Nat.reduceLT, am_dS, am_dP, am_d1, Nat.reduceSub, Nat.reduceMul, ne_eq, Nat.reduceBEq, Nat.reduceAdd, Nat.reduceLeDiff, Nat.reduceEqDiff, and_self, and_false, false_and, if_true, if_false, am_nb, am_nb0, am_nb1, am_lc1, am_lc2, am_lc3, am_b0, am_b1, am_10, am_c8, am_c16, am_c24, am_c32, am_c40, am_c48, am_c56, am_c64, am_c72, Nat.add_zero, Bool.false_eq_true, Nat.zero_le, Int32.not_lt.mp hr]
        exact next ν4 hF4' hc
    · have hc : ¬ cWt N ru c (cS μ 1) j y k = true := by unfold cWt; rw [eq_false_of_ne_true hf, Bool.false_and]; decide
      simp only [gX1_waiting_54, gX1_waiting_57, am_kill_int, am_kill_ref, am_kill_null, am_kill_F, am_kill_long, am_cat_n, am_cat_i, am_cat_r, am_cat_0, am_cat_l, am_nr_n, am_nr_i, am_nr_r, am_nr_0, am_nr_l, Option.toList_some, Option.toList_none, List.nil_append, List.cons_append, va_rf_s, va_rf_n, am_II, am_I_sR, am_I_sL, am_R_sI, am_RR, am_R_sL, am_L_sI, am_L_sR, am_LL, am_k_sI, am_k_sR, am_k_sL, am_n_sI, am_n_sR, am_n_sL, true_and, and_true, true_or, or_true, or_false, false_or, not_true_eq_false, not_false_eq_true, Nat.reduceLT, am_dS, am_dP, am_d1, Nat.reduceSub, Nat.reduceMul, ne_eq, Nat.reduceBEq, Nat.reduceAdd, Nat.reduceLeDiff, Nat.reduceEqDiff, and_self, and_false, false_and, if_true, if_false, am_nb, am_nb0, am_nb1, am_lc1, am_lc2, am_lc3, am_b0, am_b1, am_10, am_c8, am_c16, am_c24, am_c32, am_c40, am_c48, am_c56, am_c64, am_c72, Nat.add_zero, Bool.false_eq_true, Nat.zero_le, hf]
      exact next ν2 hF2' hc
theorem qc_waiting (hP : Per N C ru c μ) : QC mX1_waiting [.ref 0, .int x, .int y, am_F] μ (vWt N ru c (cS μ 1) x y) none := by
  intro d K hK
  have hC := hP.1.1
  have hcu := hC.1
  simp only [cL, spL, Nat.reduceAdd] at hcu
  have hN := hC.2.1
  have h8 := hC.2.2.1
  have hk := hC.1.c
  unfold vWt at hK
  by_cases hx : isN x N = true
  · by_cases hy : isN y 10 = true
    · simp only [if_pos (And.intro hx hy)] at hK
      obtain ⟨j, hj, rfl⟩ := isN_of (by omega) hx
      have hj8 : j < 8 := by omega
      have hin : vp_in (nI j) 8 := vp_in_nI (by omega) (by omega)
      have hcl : (nI j).toNatClampNeg = j := nI_clamp (by omega)
      simp only [hcl] at hK
      simp only [gX1_waiting_0, gX1_waiting_1, gX1_waiting_2, gX1_waiting_5, gX1_waiting_8, gX1_waiting_9, gX1_waiting_12, gX1_waiting_15, gX1_waiting_16, gX1_waiting_17, gX1_waiting_18, am_kill_int, am_kill_ref, am_kill_null, am_kill_F, am_kill_long, am_cat_n, am_cat_i, am_cat_r, am_cat_0, am_cat_l, am_nr_n, am_nr_i, am_nr_r, am_nr_0, am_nr_l, Option.toList_some, Option.toList_none, List.nil_append, List.cons_append, va_rf_s, va_rf_n, am_II, am_I_sR, am_I_sL, am_R_sI, am_RR, am_R_sL, am_L_sI, am_L_sR, am_LL, am_k_sI, am_k_sR, am_k_sL, am_n_sI, am_n_sR, am_n_sL, true_and, and_true, true_or, or_true, or_false, false_or, not_true_eq_false, not_false_eq_true, Nat.reduceLT, am_dS, am_dP, am_d1, Nat.reduceSub, Nat.reduceMul, ne_eq, Nat.reduceBEq, Nat.reduceAdd, Nat.reduceLeDiff, Nat.reduceEqDiff, and_self, and_false, false_and, if_true, if_false, am_nb, am_nb0, am_nb1, am_lc1, am_lc2, am_lc3, am_b0, am_b1, am_10, am_c8, am_c16, am_c24, am_c32, am_c40, am_c48, am_c56, am_c64, am_c72, Nat.add_zero, Bool.false_eq_true, Nat.zero_le, hk, wX1_isNest hN h8 hk, wX1_isColour, hx, hy]
      rw [← nI_0]
      refine qcL_waiting hj 21 0 μ (by omega) hC (fun ν hF => ?_)
      obtain ⟨g1, g2, g3⟩ := jS_qc hF
      exact hK ν g1 g2 g3
    · simp only [hy, Bool.false_eq_true, and_false, if_false] at hK
      simp only [gX1_waiting_0, gX1_waiting_1, gX1_waiting_2, gX1_waiting_5, gX1_waiting_8, gX1_waiting_9, gX1_waiting_12, gX1_waiting_15, gX1_waiting_16, am_kill_int, am_kill_ref, am_kill_null, am_kill_F, am_kill_long, am_cat_n, am_cat_i, am_cat_r, am_cat_0, am_cat_l, am_nr_n, am_nr_i, am_nr_r, am_nr_0, am_nr_l, Option.toList_some, Option.toList_none, List.nil_append, List.cons_append, va_rf_s, va_rf_n, am_II, am_I_sR, am_I_sL, am_R_sI, am_RR, am_R_sL, am_L_sI, am_L_sR, am_LL, am_k_sI, am_k_sR, am_k_sL, am_n_sI, am_n_sR, am_n_sL, true_and, and_true, true_or, or_true, or_false, false_or, not_true_eq_false, not_false_eq_true, Nat.reduceLT, am_dS, am_dP, am_d1, Nat.reduceSub, Nat.reduceMul, ne_eq, Nat.reduceBEq, Nat.reduceAdd, Nat.reduceLeDiff, Nat.reduceEqDiff, and_self, and_false, false_and, if_true, if_false, am_nb, am_nb0, am_nb1, am_lc1, am_lc2, am_lc3, am_b0, am_b1, am_10, am_c8, am_c16, am_c24, am_c32, am_c40, am_c48, am_c56, am_c64, am_c72, Nat.add_zero, Bool.false_eq_true, Nat.zero_le, hk, wX1_isNest hN h8 hk, wX1_isColour, hx, hy]
      exact hK μ Fw.refl TC0 (fun _ => rfl)
  · simp only [hx, Bool.false_eq_true, false_and, if_false] at hK
    simp only [gX1_waiting_0, gX1_waiting_1, gX1_waiting_2, gX1_waiting_5, gX1_waiting_8, gX1_waiting_9, gX1_waiting_12, gX1_waiting_15, gX1_waiting_16, am_kill_int, am_kill_ref, am_kill_null, am_kill_F, am_kill_long, am_cat_n, am_cat_i, am_cat_r, am_cat_0, am_cat_l, am_nr_n, am_nr_i, am_nr_r, am_nr_0, am_nr_l, Option.toList_some, Option.toList_none, List.nil_append, List.cons_append, va_rf_s, va_rf_n, am_II, am_I_sR, am_I_sL, am_R_sI, am_RR, am_R_sL, am_L_sI, am_L_sR, am_LL, am_k_sI, am_k_sR, am_k_sL, am_n_sI, am_n_sR, am_n_sL, true_and, and_true, true_or, or_true, or_false, false_or, not_true_eq_false, not_false_eq_true, Nat.reduceLT, am_dS, am_dP, am_d1, Nat.reduceSub, Nat.reduceMul, ne_eq, Nat.reduceBEq, Nat.reduceAdd, Nat.reduceLeDiff, Nat.reduceEqDiff, and_self, and_false, false_and, if_true, if_false, am_nb, am_nb0, am_nb1, am_lc1, am_lc2, am_lc3, am_b0, am_b1, am_10, am_c8, am_c16, am_c24, am_c32, am_c40, am_c48, am_c56, am_c64, am_c72, Nat.add_zero, Bool.false_eq_true, Nat.zero_le, hk, wX1_isNest hN h8 hk, hx]
    exact hK μ Fw.refl TC0 (fun _ => rfl)
/-- the model's rows then and other, and its reader -/
def jW (a b : Nat) : Prop := a = 64 ∨ a = 65 ∨ jM a b
theorem jW_sM (hf : Fr jW μ ν) : Fw sM μ ν := hf.toW.le fun a b q => by unfold jW jM at q; unfold sM; omega
theorem jW_6 (hf : Fr jW μ ν) : am_I ν 54 6 = am_I μ 54 6 := hf.1 54 6 (by unfold jW jM; omega)
theorem jH64 (hf : Fr (jH 64) μ ν) : Fr jW μ ν := hf.le fun a b q => q.elim Or.inl (fun z => Or.inr (Or.inr z))
theorem jH65 (hf : Fr (jH 65) μ ν) : Fr jW μ ν := hf.le fun a b q => Or.inr q
theorem e64 (hf : Fr (fun a _ => a = 64) μ ν) : Fr jW μ ν := hf.le fun a b q => Or.inl q
theorem e65 (hf : Fr (fun a _ => a = 65) μ ν) : Fr jW μ ν := hf.le fun a b q => Or.inr (Or.inl q)
theorem MS.jW (hS : MS N ru c μ) (hf : Fr jW μ ν) (h17 : am_I ν 54 17 = 0) : MS N ru c ν := hS.sMm (jW_sM hf) h17
theorem q5L_waiting (hj : j < N) (hy : isN y 10 = true) : ∀ (m k : Nat) (μ : am_M), k + m = 21 → MS N ru c μ → Sim N (itS (dayC N ru) k S) (am_I μ 65) → (∀ ν, Fr jW μ ν → am_I ν 54 17 = 0 → K (some (.int (wtF (cWt N ru c S j y) m k))) ν) →
    am_Wp (d + 200) mX3_waiting 36 [.ref 54, .int (nI j), .int y, .int (nI k)] [] μ K := by
  intro m
  have e20 : (20 : Int32) = nI 20 := rfl
  induction m with
  | zero =>
    intro k μ hkm hS hs hK
    have hlt : nI 20 < nI k := nI_lt (by omega) (by omega)
    rw [gX3_waiting_36]
    simp only [gX3_waiting_37, gX3_waiting_39, gX3_waiting_104, gX3_waiting_106, am_kill_int, am_kill_ref, am_kill_null, am_kill_F, am_kill_long, am_cat_n, am_cat_i, am_cat_r, am_cat_0, am_cat_l, am_nr_n, am_nr_i, am_nr_r, am_nr_0, am_nr_l, Option.toList_some, Option.toList_none, List.nil_append, List.cons_append, va_rf_s, va_rf_n, am_I_sR, am_I_sL, am_R_sI, am_R_sL, am_L_sI, am_L_sR, am_k_sI, am_k_sR, am_k_sL, am_n_sI, am_n_sR, am_n_sL, true_and, and_true, true_or, or_true, or_false, false_or, not_true_eq_false, not_false_eq_true, Nat.reduceLT, am_dS, am_dP, am_d1, Nat.reduceSub, Nat.reduceMul, ne_eq, Nat.reduceBEq, Nat.reduceAdd, Nat.reduceLeDiff, Nat.reduceEqDiff, and_self, and_false, false_and, if_true, if_false, am_nb, am_nb0, am_nb1, am_lc1, am_lc2, am_lc3, am_b0, am_b1, am_10, am_c8, am_c16, am_c24, am_c32, am_c40, am_c48, am_c56, am_c64, am_c72, Nat.add_zero, Bool.false_eq_true, Nat.zero_le, e20, hlt]
    exact hK μ Fr.refl hS.2.1.1.1
  | succ m ih =>
    intro k μ hkm hS hs hK
    have hlt : ¬ nI 20 < nI k := nI_nlt (by omega) (by omega)
    have h8 := hS.1.2.2.1
    have hj8 : j < 8 := by omega
    have hmu := hS.1.1
    unfold mL at hmu
    have hrl := wX3_refusesLay (d := d + 197) (μ := μ) (h := 65) (x := nI j) (y := y) (K := fun r1 μ1 => am_nr r1 ∧ am_Wp (d + 200) mX3_waiting 52 [.ref 54, .int (nI j), .int y, .int (nI k)] (r1.toList ++ []) μ1 K) hS.1 hmu.1.2.2.2.2.2.2.2.2.2.2.2.1
    have next : ∀ ν, Fr jW μ ν → am_I ν 54 17 = 0 → am_I ν 65 = am_I μ 65 → ¬ cWt N ru c S j y k = true → am_Wp (d + 200) mX3_waiting 90 [.ref 54, .int (nI j), .int y, .int (nI k)] [] ν K := fun ν hF h17 e hc => by
      have hS1 := hS.jW hF h17
      have hm1 := hS1.1.1
      unfold mL at hm1
      simp only [gX3_waiting_90, gX3_waiting_91, gX3_waiting_92, gX3_waiting_95, am_kill_int, am_kill_ref, am_kill_null, am_kill_F, am_kill_long, am_cat_n, am_cat_i, am_cat_r, am_cat_0, am_cat_l, am_nr_n, am_nr_i, am_nr_r, am_nr_0, am_nr_l, Option.toList_some, Option.toList_none, List.nil_append, List.cons_append, va_rf_s, va_rf_n, am_I_sR, am_I_sL, am_R_sI, am_R_sL, am_L_sI, am_L_sR, am_k_sI, am_k_sR, am_k_sL, am_n_sI, am_n_sR, am_n_sL, true_and, and_true, true_or, or_true, or_false, false_or, not_true_eq_false, not_false_eq_true, Nat.reduceLT, am_dS, am_dP, am_d1, Nat.reduceSub, Nat.reduceMul, ne_eq, Nat.reduceBEq, Nat.reduceAdd, Nat.reduceLeDiff, Nat.reduceEqDiff, and_self, and_false, false_and, if_true, if_false, am_nb, am_nb0, am_nb1, am_lc1, am_lc2, am_lc3, am_b0, am_b1, am_10, am_c8, am_c16, am_c24, am_c32, am_c40, am_c48, am_c56, am_c64, am_c72, Nat.add_zero, Bool.false_eq_true, Nat.zero_le, hm1]
      refine wX3_goDay (d := d + 127) hS1 hm1.1.2.2.2.2.2.2.2.2.2.2.2.1 (fun ν1 hF1 h171 hT1 => ?_)
      simp only [gX3_waiting_98, gX3_waiting_101, am_kill_int, am_kill_ref, am_kill_null, am_kill_F, am_kill_long, am_cat_n, am_cat_i, am_cat_r, am_cat_0, am_cat_l, am_nr_n, am_nr_i, am_nr_r, am_nr_0, am_nr_l, Option.toList_some, Option.toList_none, List.nil_append, List.cons_append, va_rf_s, va_rf_n, am_I_sR, am_I_sL, am_R_sI, am_R_sL, am_L_sI, am_L_sR, am_k_sI, am_k_sR, am_k_sL, am_n_sI, am_n_sR, am_n_sL, true_and, and_true, true_or, or_true, or_false, false_or, not_true_eq_false, not_false_eq_true, Nat.reduceLT, am_dS, am_dP, am_d1, Nat.reduceSub, Nat.reduceMul, ne_eq, Nat.reduceBEq, Nat.reduceAdd, Nat.reduceLeDiff, Nat.reduceEqDiff, and_self, and_false, false_and, if_true, if_false, am_nb, am_nb0, am_nb1, am_lc1, am_lc2, am_lc3, am_b0, am_b1, am_10, am_c8, am_c16, am_c24, am_c32, am_c40, am_c48, am_c56, am_c64, am_c72, Nat.add_zero, Bool.false_eq_true, Nat.zero_le, nI_1]
      have hF1' := hF.trans (jH65 hF1)
      refine ih (k + 1) ν1 (by omega) (hS.jW hF1' h171) ?_ (fun ξ h1 h2 => ?_)
      · rw [hT1, e]
        exact hs.day hS.2.2 h8
      · have := hK ξ (hF1'.trans h1) h2
        unfold wtF at this
        rw [if_neg hc] at this
        exact this
    rw [gX3_waiting_36]
    simp only [gX3_waiting_37, gX3_waiting_39, gX3_waiting_42, gX3_waiting_43, gX3_waiting_44, gX3_waiting_47, gX3_waiting_48, gX3_waiting_49, am_kill_int, am_kill_ref, am_kill_null, am_kill_F, am_kill_long, am_cat_n, am_cat_i, am_cat_r, am_cat_0, am_cat_l, am_nr_n, am_nr_i, am_nr_r, am_nr_0, am_nr_l, Option.toList_some, Option.toList_none, List.nil_append, List.cons_append, va_rf_s, va_rf_n, am_I_sR, am_I_sL, am_R_sI, am_R_sL, am_L_sI, am_L_sR, am_k_sI, am_k_sR, am_k_sL, am_n_sI, am_n_sR, am_n_sL, true_and, and_true, true_or, or_true, or_false, false_or, not_true_eq_false, not_false_eq_true, Nat.reduceLT, am_dS, am_dP, am_d1, Nat.reduceSub, Nat.reduceMul, ne_eq, Nat.reduceBEq, Nat.reduceAdd, Nat.reduceLeDiff, Nat.reduceEqDiff, and_self, and_false, false_and, if_true, if_false, am_nb, am_nb0, am_nb1, am_lc1, am_lc2, am_lc3, am_b0, am_b1, am_10, am_c8, am_c16, am_c24, am_c32, am_c40, am_c48, am_c56, am_c64, am_c72, Nat.add_zero, Bool.false_eq_true, Nat.zero_le, e20, hlt, hmu]
    refine hrl.mpr ?_
    by_cases hf : frB c (itS (dayC N ru) k S) j = true
    · rw [rLa_t hs hj h8 hy hf]
      simp only [gX3_waiting_52, gX3_waiting_55, gX3_waiting_56, gX3_waiting_59, gX3_waiting_60, gX3_waiting_63, gX3_waiting_64, am_kill_int, am_kill_ref, am_kill_null, am_kill_F, am_kill_long, am_cat_n, am_cat_i, am_cat_r, am_cat_0, am_cat_l, am_nr_n, am_nr_i, am_nr_r, am_nr_0, am_nr_l, Option.toList_some, Option.toList_none, List.nil_append, List.cons_append, va_rf_s, va_rf_n, am_I_sR, am_I_sL, am_R_sI, am_R_sL, am_L_sI, am_L_sR, am_k_sI, am_k_sR, am_k_sL, am_n_sI, am_n_sR, am_n_sL, true_and, and_true, true_or, or_true, or_false, false_or, not_true_eq_false, not_false_eq_true, Nat.reduceLT, am_dS, am_dP, am_d1, Nat.reduceSub, Nat.reduceMul, ne_eq, Nat.reduceBEq, Nat.reduceAdd, Nat.reduceLeDiff, Nat.reduceEqDiff, and_self, and_false, false_and, if_true, if_false, am_nb, am_nb0, am_nb1, am_lc1, am_lc2, am_lc3, am_b0, am_b1, am_10, am_c8, am_c16, am_c24, am_c32, am_c40, am_c48, am_c56, am_c64, am_c72, Nat.add_zero, Bool.false_eq_true, Nat.zero_le, hmu]
      refine wX3_lay00 hmu.1.2.2.2.2.2.2.2.2.2.2.2.1 hmu.1.2.2.2.2.2.2.2.2.2.2.1 (by decide) (fun ν1 hF1 hT1 => ?_)
      have hF1' := e64 hF1
      have h171 : am_I ν1 54 17 = 0 := (hF1.1 54 17 (by decide)).trans hS.2.1.1.1
      have hS1 := hS.jW hF1' h171
      have hm1 := hS1.1.1
      unfold mL at hm1
      have hs1 := hs.row h8 hT1
      simp only [gX3_waiting_67, gX3_waiting_68, gX3_waiting_71, gX3_waiting_72, gX3_waiting_73, am_kill_int, am_kill_ref, am_kill_null, am_kill_F, am_kill_long, am_cat_n, am_cat_i, am_cat_r, am_cat_0, am_cat_l, am_nr_n, am_nr_i, am_nr_r, am_nr_0, am_nr_l, Option.toList_some, Option.toList_none, List.nil_append, List.cons_append, va_rf_s, va_rf_n, am_I_sR, am_I_sL, am_R_sI, am_R_sL, am_L_sI, am_L_sR, am_k_sI, am_k_sR, am_k_sL, am_n_sI, am_n_sR, am_n_sL, true_and, and_true, true_or, or_true, or_false, false_or, not_true_eq_false, not_false_eq_true, Nat.reduceLT, am_dS, am_dP, am_d1, Nat.reduceSub, Nat.reduceMul, ne_eq, Nat.reduceBEq, Nat.reduceAdd, Nat.reduceLeDiff, Nat.reduceEqDiff, and_self, and_false, false_and, if_true, if_false, am_nb, am_nb0, am_nb1, am_lc1, am_lc2, am_lc3, am_b0, am_b1, am_10, am_c8, am_c16, am_c24, am_c32, am_c40, am_c48, am_c56, am_c64, am_c72, Nat.add_zero, Bool.false_eq_true, Nat.zero_le, hm1]
      refine wX3_goLayK (d := d + 198) hj8 hm1.1.2.2.2.2.2.2.2.2.2.2.1 (fun ν2 hF2 hT2 => ?_)
      have hF2' := hF1'.trans (e64 hF2)
      have h172 : am_I ν2 54 17 = 0 := (hF2.1 54 17 (by decide)).trans h171
      have hS2 := hS.jW hF2' h172
      have hm2 := hS2.1.1
      unfold mL at hm2
      have hs2 := hs1.lie (x := y) h8 hj (isC_r hy)
      rw [← hT2] at hs2
      simp only [gX3_waiting_76, gX3_waiting_77, gX3_waiting_78, gX3_waiting_81, gX3_waiting_82, am_kill_int, am_kill_ref, am_kill_null, am_kill_F, am_kill_long, am_cat_n, am_cat_i, am_cat_r, am_cat_0, am_cat_l, am_nr_n, am_nr_i, am_nr_r, am_nr_0, am_nr_l, Option.toList_some, Option.toList_none, List.nil_append, List.cons_append, va_rf_s, va_rf_n, am_I_sR, am_I_sL, am_R_sI, am_R_sL, am_L_sI, am_L_sR, am_k_sI, am_k_sR, am_k_sL, am_n_sI, am_n_sR, am_n_sL, true_and, and_true, true_or, or_true, or_false, false_or, not_true_eq_false, not_false_eq_true, Nat.reduceLT, am_dS, am_dP, am_d1, Nat.reduceSub, Nat.reduceMul, ne_eq, Nat.reduceBEq, Nat.reduceAdd, Nat.reduceLeDiff, Nat.reduceEqDiff, and_self, and_false, false_and, if_true, if_false, am_nb, am_nb0, am_nb1, am_lc1, am_lc2, am_lc3, am_b0, am_b1, am_10, am_c8, am_c16, am_c24, am_c32, am_c40, am_c48, am_c56, am_c64, am_c72, Nat.add_zero, Bool.false_eq_true, Nat.zero_le, hm2]
      refine wX3_fliesIn (d := d + 126) hS2 (by decide) hm2.1.2.2.2.2.2.2.2.2.2.2.1 hj8 (fun ν3 hF3 h173 hT3 => ?_)
      have hF3' := hF2'.trans (jH64 hF3)
      have e65' : am_I ν3 65 = am_I μ 65 := funext fun b => by rw [hF3.1 65 b (by unfold jH jM; omega), hF2.1 65 b (fun z => absurd (show (65 : Nat) = 64 from z) (by decide)), hF1.1 65 b (fun z => absurd (show (65 : Nat) = 64 from z) (by decide))]
      obtain ⟨_, hs3⟩ := Sim.fli hS.2.2 h8 hj 60 1 _ _ hs2
      by_cases hr : 0 < (fliC N ru j 60 1 (lieT (itS (dayC N ru) k S) j y)).1
      · have hc : cWt N ru c S j y k = true := by unfold cWt; rw [hf, decide_eq_true hr]; rfl
        have hr' : 0 < (fliM N ru j 60 1 (am_I ν2 64)).1 := by
          rcases hs3 with ⟨e, _⟩ | ⟨e1, _⟩
          · rw [← e]; exact hr
          · rw [e1] at hr; exact absurd hr (by decide)
        have fin := hK ν3 hF3' h173
        unfold wtF at fin
        rw [if_pos hc] at fin
        simp only [gX3_waiting_85, gX3_waiting_88, gX3_waiting_89, am_kill_int, am_kill_ref, am_kill_null, am_kill_F, am_kill_long, am_cat_n, am_cat_i, am_cat_r, am_cat_0, am_cat_l, am_nr_n, am_nr_i, am_nr_r, am_nr_0, am_nr_l, Option.toList_some, Option.toList_none, List.nil_append, List.cons_append, va_rf_s, va_rf_n, am_I_sR, am_I_sL, am_R_sI, am_R_sL, am_L_sI, am_L_sR, am_k_sI, am_k_sR, am_k_sL, am_n_sI, am_n_sR, am_n_sL, true_and, and_true, true_or, or_true, or_false, false_or, not_true_eq_false, not_false_eq_true, Nat.reduceLT, am_dS, am_dP, am_d1, Nat.reduceSub, Nat.reduceMul, ne_eq, Nat.reduceBEq, Nat.reduceAdd, Nat.reduceLeDiff, Nat.reduceEqDiff, and_self, and_false, false_and, if_true, if_false, am_nb, am_nb0, am_nb1, am_lc1, am_lc2, am_lc3, am_b0, am_b1, am_10, am_c8, am_c16, am_c24, am_c32, am_c40, am_c48, am_c56, am_c64, am_c72, Nat.add_zero, Bool.false_eq_true, Nat.zero_le, Int32.not_le.mpr hr']
        exact fin
      · have hc : ¬ cWt N ru c S j y k = true := by unfold cWt; rw [decide_eq_false hr, Bool.and_false]; decide
        have hr' : ¬ 0 < (fliM N ru j 60 1 (am_I ν2 64)).1 := by
          rcases hs3 with ⟨e, _⟩ | ⟨_, e2⟩
          · rw [← e]; exact hr
          · rw [e2]; decide
        simp only [gX3_waiting_85, gX3_waiting_88, gX3_waiting_89, am_kill_int, am_kill_ref, am_kill_null, am_kill_F, am_kill_long, am_cat_n, am_cat_i, am_cat_r, am_cat_0, am_cat_l, am_nr_n, am_nr_i, am_nr_r, am_nr_0, am_nr_l, Option.toList_some, Option.toList_none, List.nil_append, List.cons_append, va_rf_s, va_rf_n, am_I_sR, am_I_sL, am_R_sI, am_R_sL, am_L_sI, am_L_sR, am_k_sI, am_k_sR, am_k_sL, am_n_sI, am_n_sR, am_n_sL, true_and, and_true, true_or, or_true, or_false, false_or, not_true_eq_false, not_false_eq_true, Nat.reduceLT, am_dS, am_dP, am_d1, Nat.reduceSub, Nat.reduceMul, ne_eq, Nat.reduceBEq, Nat.reduceAdd, Nat.reduceLeDiff, Nat.reduceEqDiff, and_self, and_false, false_and, if_true, if_false, am_nb, am_nb0, am_nb1, am_lc1, am_lc2, am_lc3, am_b0, am_b1, am_10, am_c8, am_c16, am_c24, am_c32, am_c40, am_c48, am_c56, am_c64, am_c72, Nat.add_zero, Bool.false_eq_true, Nat.zero_le, Int32.not_lt.mp hr']
        exact next ν3 hF3' h173 e65' hc
    · have hc : ¬ cWt N ru c S j y k = true := by unfold cWt; rw [eq_false_of_ne_true hf, Bool.false_and]; decide
      have hl := rLa_n (c := c) hs hj h8 hy hf
      have hl' : ¬ rLa N c (am_I μ 65) (nI j) y = 0 := fun e => by rw [e] at hl; exact absurd hl (by decide)
      simp only [gX3_waiting_52, am_kill_int, am_kill_ref, am_kill_null, am_kill_F, am_kill_long, am_cat_n, am_cat_i, am_cat_r, am_cat_0, am_cat_l, am_nr_n, am_nr_i, am_nr_r, am_nr_0, am_nr_l, Option.toList_some, Option.toList_none, List.nil_append, List.cons_append, va_rf_s, va_rf_n, am_I_sR, am_I_sL, am_R_sI, am_R_sL, am_L_sI, am_L_sR, am_k_sI, am_k_sR, am_k_sL, am_n_sI, am_n_sR, am_n_sL, true_and, and_true, true_or, or_true, or_false, false_or, not_true_eq_false, not_false_eq_true, Nat.reduceLT, am_dS, am_dP, am_d1, Nat.reduceSub, Nat.reduceMul, ne_eq, Nat.reduceBEq, Nat.reduceAdd, Nat.reduceLeDiff, Nat.reduceEqDiff, and_self, and_false, false_and, if_true, if_false, am_nb, am_nb0, am_nb1, am_lc1, am_lc2, am_lc3, am_b0, am_b1, am_10, am_c8, am_c16, am_c24, am_c32, am_c40, am_c48, am_c56, am_c64, am_c72, Nat.add_zero, Bool.false_eq_true, Nat.zero_le, hl']
      exact next μ Fr.refl hS.2.1.1.1 rfl hc
theorem q5_waiting (hP : Per N C ru c μ) : Q5 mX3_waiting [.ref 54, .int x, .int y, am_F] μ (vWt N ru c (cS μ 1) x y) none := by
  intro d K hK
  have hS := hP.1.2.1
  have hC := hS.1
  have hmu := hC.1
  unfold mL at hmu
  have hN := hC.2.1
  have h8 := hC.2.2.1
  unfold vWt at hK
  by_cases hx : isN x N = true
  · by_cases hy : isN y 10 = true
    · simp only [if_pos (And.intro hx hy)] at hK
      obtain ⟨j, hj, rfl⟩ := isN_of (by omega) hx
      have hj8 : j < 8 := by omega
      have hin : vp_in (nI j) 8 := vp_in_nI (by omega) (by omega)
      have hcl : (nI j).toNatClampNeg = j := nI_clamp (by omega)
      simp only [hcl] at hK
      simp only [gX3_waiting_5, gX3_waiting_6, gX3_waiting_7, gX3_waiting_10, gX3_waiting_13, gX3_waiting_14, gX3_waiting_17, gX3_waiting_20, gX3_waiting_21, gX3_waiting_22, gX3_waiting_23, gX3_waiting_26, gX3_waiting_27, gX3_waiting_30, gX3_waiting_31, am_kill_int, am_kill_ref, am_kill_null, am_kill_F, am_kill_long, am_cat_n, am_cat_i, am_cat_r, am_cat_0, am_cat_l, am_nr_n, am_nr_i, am_nr_r, am_nr_0, am_nr_l, Option.toList_some, Option.toList_none, List.nil_append, List.cons_append, va_rf_s, va_rf_n, am_I_sR, am_I_sL, am_R_sI, am_R_sL, am_L_sI, am_L_sR, am_k_sI, am_k_sR, am_k_sL, am_n_sI, am_n_sR, am_n_sL, true_and, and_true, true_or, or_true, or_false, false_or, not_true_eq_false, not_false_eq_true, Nat.reduceLT, am_dS, am_dP, am_d1, Nat.reduceSub, Nat.reduceMul, ne_eq, Nat.reduceBEq, Nat.reduceAdd, Nat.reduceLeDiff, Nat.reduceEqDiff, and_self, and_false, false_and, if_true, if_false, am_nb, am_nb0, am_nb1, am_lc1, am_lc2, am_lc3, am_b0, am_b1, am_10, am_c8, am_c16, am_c24, am_c32, am_c40, am_c48, am_c56, am_c64, am_c72, Nat.add_zero, Bool.false_eq_true, Nat.zero_le, hmu, wX3_isNest hC, wX3_isColour, hx, hy]
      refine wX3_lay00 hmu.1.2.1 hmu.1.2.2.2.2.2.2.2.2.2.2.2.1 (by decide) (fun ν hF hT => ?_)
      have hF' := e65 hF
      have h17' : am_I ν 54 17 = 0 := (hF.1 54 17 (by decide)).trans hP.h17
      simp only [gX3_waiting_34, gX3_waiting_35, am_kill_int, am_kill_ref, am_kill_null, am_kill_F, am_kill_long, am_cat_n, am_cat_i, am_cat_r, am_cat_0, am_cat_l, am_nr_n, am_nr_i, am_nr_r, am_nr_0, am_nr_l, Option.toList_some, Option.toList_none, List.nil_append, List.cons_append, va_rf_s, va_rf_n, am_I_sR, am_I_sL, am_R_sI, am_R_sL, am_L_sI, am_L_sR, am_k_sI, am_k_sR, am_k_sL, am_n_sI, am_n_sR, am_n_sL, true_and, and_true, true_or, or_true, or_false, false_or, not_true_eq_false, not_false_eq_true, Nat.reduceLT, am_dS, am_dP, am_d1, Nat.reduceSub, Nat.reduceMul, ne_eq, Nat.reduceBEq, Nat.reduceAdd, Nat.reduceLeDiff, Nat.reduceEqDiff, and_self, and_false, false_and, if_true, if_false, am_nb, am_nb0, am_nb1, am_lc1, am_lc2, am_lc3, am_b0, am_b1, am_10, am_c8, am_c16, am_c24, am_c32, am_c40, am_c48, am_c56, am_c64, am_c72, Nat.add_zero, Bool.false_eq_true, Nat.zero_le]
      rw [← nI_0]
      refine q5L_waiting (S := cS μ 1) hj hy 21 0 ν (by omega) (hS.jW hF' h17') (hP.2.1.row h8 hT) (fun ξ hF2 h17 => ?_)
      have hF3 := hF'.trans hF2
      exact hK ξ (jW_sM hF3) h17 ⟨jW_6 hF3, fun i => hF3.L⟩ (fun i => hF3.L)
    · simp only [hy, Bool.false_eq_true, and_false, if_false] at hK
      simp only [gX3_waiting_5, gX3_waiting_6, gX3_waiting_7, gX3_waiting_10, gX3_waiting_13, gX3_waiting_14, gX3_waiting_17, gX3_waiting_20, gX3_waiting_21, am_kill_int, am_kill_ref, am_kill_null, am_kill_F, am_kill_long, am_cat_n, am_cat_i, am_cat_r, am_cat_0, am_cat_l, am_nr_n, am_nr_i, am_nr_r, am_nr_0, am_nr_l, Option.toList_some, Option.toList_none, List.nil_append, List.cons_append, va_rf_s, va_rf_n, am_I_sR, am_I_sL, am_R_sI, am_R_sL, am_L_sI, am_L_sR, am_k_sI, am_k_sR, am_k_sL, am_n_sI, am_n_sR, am_n_sL, true_and, and_true, true_or, or_true, or_false, false_or, not_true_eq_false, not_false_eq_true, Nat.reduceLT, am_dS, am_dP, am_d1, Nat.reduceSub, Nat.reduceMul, ne_eq, Nat.reduceBEq, Nat.reduceAdd, Nat.reduceLeDiff, Nat.reduceEqDiff, and_self, and_false, false_and, if_true, if_false, am_nb, am_nb0, am_nb1, am_lc1, am_lc2, am_lc3, am_b0, am_b1, am_10, am_c8, am_c16, am_c24, am_c32, am_c40, am_c48, am_c56, am_c64, am_c72, Nat.add_zero, Bool.false_eq_true, Nat.zero_le, hmu, wX3_isNest hC, wX3_isColour, hx, hy]
      exact hK μ Fw.refl hP.h17 TN0 (fun _ => rfl)
  · simp only [hx, Bool.false_eq_true, false_and, if_false] at hK
    simp only [gX3_waiting_5, gX3_waiting_6, gX3_waiting_7, gX3_waiting_10, gX3_waiting_13, gX3_waiting_14, gX3_waiting_17, gX3_waiting_20, gX3_waiting_21, am_kill_int, am_kill_ref, am_kill_null, am_kill_F, am_kill_long, am_cat_n, am_cat_i, am_cat_r, am_cat_0, am_cat_l, am_nr_n, am_nr_i, am_nr_r, am_nr_0, am_nr_l, Option.toList_some, Option.toList_none, List.nil_append, List.cons_append, va_rf_s, va_rf_n, am_I_sR, am_I_sL, am_R_sI, am_R_sL, am_L_sI, am_L_sR, am_k_sI, am_k_sR, am_k_sL, am_n_sI, am_n_sR, am_n_sL, true_and, and_true, true_or, or_true, or_false, false_or, not_true_eq_false, not_false_eq_true, Nat.reduceLT, am_dS, am_dP, am_d1, Nat.reduceSub, Nat.reduceMul, ne_eq, Nat.reduceBEq, Nat.reduceAdd, Nat.reduceLeDiff, Nat.reduceEqDiff, and_self, and_false, false_and, if_true, if_false, am_nb, am_nb0, am_nb1, am_lc1, am_lc2, am_lc3, am_b0, am_b1, am_10, am_c8, am_c16, am_c24, am_c32, am_c40, am_c48, am_c56, am_c64, am_c72, Nat.add_zero, Bool.false_eq_true, Nat.zero_le, hmu, wX3_isNest hC, hx]
    exact hK μ Fw.refl hP.h17 TN0 (fun _ => rfl)
theorem op_waiting (hI : Inv q μ) : OP q mX1_waiting mX3_waiting [.ref 0, .int x, .int y, am_F] [.ref 54, .int x, .int y, am_F] μ :=
  op_S (V := fun N ru c S => vWt N ru c S x y) (P := fun N ru c S => none) (fun hP => qc_waiting hP) (fun d K μ h h' => by simp only [gX3_waiting_0, gX3_waiting_1, gX3_waiting_2, am_kill_int, am_kill_ref, am_kill_null, am_kill_F, am_kill_long, am_cat_n, am_cat_i, am_cat_r, am_cat_0, am_cat_l, am_nr_n, am_nr_i, am_nr_r, am_nr_0, am_nr_l, Option.toList_some, Option.toList_none, List.nil_append, List.cons_append, va_rf_s, va_rf_n, am_I_sR, am_I_sL, am_R_sI, am_R_sL, am_L_sI, am_L_sR, am_k_sI, am_k_sR, am_k_sL, am_n_sI, am_n_sR, am_n_sL, true_and, and_true, true_or, or_true, or_false, false_or, not_true_eq_false, not_false_eq_true, Nat.reduceLT, am_dS, am_dP, am_d1, Nat.reduceSub, Nat.reduceMul, ne_eq, Nat.reduceBEq, Nat.reduceAdd, Nat.reduceLeDiff, Nat.reduceEqDiff, and_self, and_false, false_and, if_true, if_false, am_nb, am_nb0, am_nb1, am_lc1, am_lc2, am_lc3, am_b0, am_b1, am_10, am_c8, am_c16, am_c24, am_c32, am_c40, am_c48, am_c56, am_c64, am_c72, Nat.add_zero, Bool.false_eq_true, Nat.zero_le, h]; exact h') (fun hP => q5_waiting hP) hI
end OHV
