/-! calls that ask: needed -/
set_option maxRecDepth 100000
section FNV
variable {d : Nat} {μ ν ξ : am_M} {K : Option Value → am_M → Prop} {x y z c : Int32} {h h' N C j i k r n M q m t w V p e D sm : Nat} {v b : Int32} {ru : Option PF} {S a T : Nat → Int32} {g wo : Nat → Bool} {s : Nat → Nat} {o : Nat → Int32}
def oneB (n k : Nat) : Bool := decide (k = n)
theorem orB_one (h8 : N ≤ 8) (hn : n < N) : orB (oneB n) N = 1 <<< (nI n &&& 31) := by
  have e := bt_or ⟨0, by decide⟩ ⟨n, by omega⟩
  simp only [Nat.zero_or] at e
  rw [show nI 0 ||| 1 <<< (nI n &&& 31) = 1 <<< (nI n &&& 31) from Int32.zero_or] at e
  rw [e, orB_eq h8]
  congr 1
  apply Nat.eq_of_testBit_eq
  intro i
  rw [vB_bit, Nat.testBit_two_pow]
  unfold oneB
  by_cases q : i = n
  · subst q; rw [decide_eq_true hn, decide_eq_true (rfl : i = i)]; rfl
  · rw [decide_eq_false q, Bool.and_false, decide_eq_false (fun e => q e.symm)]
def oNe (N V : Nat) (S : Nat → Int32) (n : Nat) : Int32 := nI (gvF N V S (oneB n))
def vNe (N : Nat) (S : Nat → Int32) (x : Int32) : Int32 := if isN x 31 = true then (if N = 0 then -2 else nI (bsF (oNe N x.toNatClampNeg S) N)) else -1
def pNe (N : Nat) (S : Nat → Int32) (x : Int32) : Option (List Int64) := if isN x 31 = true then (if N = 0 then none else some [(oNe N x.toNatClampNeg S (bsF (oNe N x.toNatClampNeg S) N)).toInt64, (nI (gvF N x.toNatClampNeg S ffB)).toInt64]) else none
theorem bsF_one : bsF o 1 = 0 := by unfold bsF; exact ite_self _
theorem bsF_n : ∀ {n : Nat}, 1 ≤ n → bsF o n < n
  | 0, h => absurd h (by omega)
  | 1, _ => by rw [bsF_one]; omega
  | n + 2, _ => by
    rw [show bsF o (n + 2) = if o (n + 1) < o (bsF o (n + 1)) then n + 1 else bsF o (n + 1) from rfl]
    have := bsF_n (n := n + 1) (by omega)
    split <;> omega
theorem qc_needed (hP : Per N C ru c μ) : QC mX1_needed [.ref 0, .int x, am_F, am_F, am_F, am_F] μ (vNe N (cS μ 1) x) (pNe N (cS μ 1) x) := by
  intro d K hK
  have hC := hP.1.1
  have hcu := hC.1
  simp only [cL, spL, Nat.reduceAdd] at hcu
  have hN := hC.2.1
  have h8 := hC.2.2.1
  have hk := hC.1.c
  unfold vNe pNe at hK
  by_cases hx : isN x 31 = true
  · simp only [if_pos hx] at hK
    obtain ⟨V, hV, rfl⟩ := isN_of (by omega) hx
    have hcl : (nI V).toNatClampNeg = V := nI_clamp (by omega)
    simp only [hcl] at hK
    generalize ho : oNe N V (cS μ 1) = o at hK
    have hol : ∀ n, o n < 1000000 := fun n => by
      rw [← ho]
      have := gvF_le (V := V) (wo := oneB n) hP.2.1 (by omega) h8
      unfold oNe
      rw [show (1000000 : Int32) = nI 1000000 from rfl]
      exact nI_lt (by omega) (by omega)
    simp only [gX1_needed_0, gX1_needed_1, gX1_needed_2, gX1_needed_3, gX1_needed_6, gX1_needed_9, gX1_needed_12, gX1_needed_13, gX1_needed_14, gX1_needed_16, gX1_needed_17, gX1_needed_20, gX1_needed_21, gX1_needed_22, am_kill_int, am_kill_ref, am_kill_null, am_kill_F, am_kill_long, am_cat_n, am_cat_i, am_cat_r, am_cat_0, am_cat_l, am_nr_n, am_nr_i, am_nr_r, am_nr_0, am_nr_l, Option.toList_some, Option.toList_none, List.nil_append, List.cons_append, va_rf_s, va_rf_n, am_II, am_I_sR, am_I_sL, am_R_sI, am_RR, am_R_sL, am_L_sI, am_L_sR, am_LL, am_k_sI, am_k_sR, am_k_sL, am_n_sI, am_n_sR, am_n_sL, true_and, and_true, true_or, or_true, or_false, false_or, not_true_eq_false, not_false_eq_true, Nat.reduceLT, am_dS, am_dP, am_d1, Nat.reduceSub, Nat.reduceMul, ne_eq, Nat.reduceBEq, Nat.reduceAdd, Nat.reduceLeDiff, Nat.reduceEqDiff, and_self, and_false, false_and, if_true, if_false, am_nb, am_nb0, am_nb1, am_lc1, am_lc2, am_lc3, am_b0, am_b1, am_10, am_c8, am_c16, am_c24, am_c32, am_c40, am_c48, am_c56, am_c64, am_c72, Nat.add_zero, Bool.false_eq_true, Nat.zero_le, hcu, wX1_in, am_l0, e30L, am_leL, am_isb, hx]
    refine am_for (N := N) (fun n ls ν => ν = μ ∧ ∃ z, ls = [.ref 0, .int (nI V), .int (if n = 0 then -2 else nI (bsF o n)), .int (lA 1000000 o n), .int (nI n), z]) ?_ ?_ N 0 _ _ (by omega) ⟨rfl, _, rfl⟩
    · rintro n ls ν hn ⟨rfl, z, rfl⟩ ih
      have hlt : ¬ nI N ≤ nI n := nI_ge hn (by omega)
      have ih' := fun z => ih [.ref 0, .int (nI V), .int (if n + 1 = 0 then -2 else nI (bsF o (n + 1))), .int (lA 1000000 o (n + 1)), .int (nI (n + 1)), z] ν ⟨rfl, _, rfl⟩
      rw [if_neg (show ¬ n + 1 = 0 by omega), show lA 1000000 o (n + 1) = o (bsF o (n + 1)) from rfl] at ih'
      have eo : nI (gvF N V (cS ν 1) (oneB n)) = o n := by rw [← ho]; rfl
      rw [gX1_needed_24]
      simp only [gX1_needed_26, gX1_needed_27, gX1_needed_30, gX1_needed_33, gX1_needed_34, gX1_needed_35, gX1_needed_36, gX1_needed_38, gX1_needed_39, am_kill_int, am_kill_ref, am_kill_null, am_kill_F, am_kill_long, am_cat_n, am_cat_i, am_cat_r, am_cat_0, am_cat_l, am_nr_n, am_nr_i, am_nr_r, am_nr_0, am_nr_l, Option.toList_some, Option.toList_none, List.nil_append, List.cons_append, va_rf_s, va_rf_n, am_II, am_I_sR, am_I_sL, am_R_sI, am_RR, am_R_sL, am_L_sI, am_L_sR, am_LL, am_k_sI, am_k_sR, am_k_sL, am_n_sI, am_n_sR, am_n_sL, true_and, and_true, true_or, or_true, or_false, false_or, not_true_eq_false, not_false_eq_true, Nat.reduceLT, am_dS, am_dP, am_d1, Nat.reduceSub, Nat.reduceMul, ne_eq, Nat.reduceBEq, Nat.reduceAdd, Nat.reduceLeDiff, Nat.reduceEqDiff, and_self, and_false, false_and, if_true, if_false, am_nb, am_nb0, am_nb1, am_lc1, am_lc2, am_lc3, am_b0, am_b1, am_10, am_c8, am_c16, am_c24, am_c32, am_c40, am_c48, am_c56, am_c64, am_c72, Nat.add_zero, Bool.false_eq_true, Nat.zero_le, hcu, hN, hlt]
      refine wX1_fed (d := d + 197) (wo := oneB n) hC hP.2.1 (by omega) (orB_one h8 hn) ?_
      rw [eo]
      cases n with
      | zero =>
        rw [bsF_one] at ih'
        have hl := hol 0
        simp only [gX1_needed_42, gX1_needed_44, gX1_needed_46, gX1_needed_47, gX1_needed_50, gX1_needed_52, gX1_needed_55, gX1_needed_56, gX1_needed_57, gX1_needed_58, gX1_needed_60, gX1_needed_63, gX1_needed_64, gX1_needed_67, am_kill_int, am_kill_ref, am_kill_null, am_kill_F, am_kill_long, am_cat_n, am_cat_i, am_cat_r, am_cat_0, am_cat_l, am_nr_n, am_nr_i, am_nr_r, am_nr_0, am_nr_l, Option.toList_some, Option.toList_none, List.nil_append, List.cons_append, va_rf_s, va_rf_n, am_II, am_I_sR, am_I_sL, am_R_sI, am_RR, am_R_sL, am_L_sI, am_L_sR, am_LL, am_k_sI, am_k_sR, am_k_sL, am_n_sI, am_n_sR, am_n_sL, true_and, and_true, true_or, or_true, or_false, false_or, not_true_eq_false, not_false_eq_true, Nat.reduceLT, am_dS, am_dP, am_d1, Nat.reduceSub, Nat.reduceMul, ne_eq, Nat.reduceBEq, Nat.reduceAdd, Nat.reduceLeDiff, Nat.reduceEqDiff, and_self, and_false, false_and, if_true, if_false, am_nb, am_nb0, am_nb1, am_lc1, am_lc2, am_lc3, am_b0, am_b1, am_10, am_c8, am_c16, am_c24, am_c32, am_c40, am_c48, am_c56, am_c64, am_c72, Nat.add_zero, Bool.false_eq_true, Nat.zero_le, show lA 1000000 o 0 = 1000000 from rfl, Int32.not_le.mpr hl, hl, nI_1]
        exact ih' _
      | succ k =>
        have c2 : lA 1000000 o (k + 1) = o (bsF o (k + 1)) := rfl
        have c3 : ¬ k + 1 = 0 := by omega
        rw [show bsF o (k + 1 + 1) = if o (k + 1) < o (bsF o (k + 1)) then k + 1 else bsF o (k + 1) from rfl] at ih'
        by_cases f : o (k + 1) < o (bsF o (k + 1))
        · rw [if_pos f] at ih'
          simp only [gX1_needed_42, gX1_needed_44, gX1_needed_46, gX1_needed_47, gX1_needed_50, gX1_needed_52, gX1_needed_55, gX1_needed_56, gX1_needed_57, gX1_needed_58, gX1_needed_60, gX1_needed_63, gX1_needed_64, gX1_needed_67, am_kill_int, am_kill_ref, am_kill_null, am_kill_F, am_kill_long, am_cat_n, am_cat_i, am_cat_r, am_cat_0, am_cat_l, am_nr_n, am_nr_i, am_nr_r, am_nr_0, am_nr_l, Option.toList_some, Option.toList_none, List.nil_append, List.cons_append, va_rf_s, va_rf_n, am_II, am_I_sR, am_I_sL, am_R_sI, am_RR, am_R_sL, am_L_sI, am_L_sR, am_LL, am_k_sI, am_k_sR, am_k_sL, am_n_sI, am_n_sR, am_n_sL, true_and, and_true, true_or, or_true, or_false, false_or, not_true_eq_false, not_false_eq_true, Nat.reduceLT, am_dS, am_dP, am_d1, Nat.reduceSub, Nat.reduceMul, ne_eq, Nat.reduceBEq, Nat.reduceAdd, Nat.reduceLeDiff, Nat.reduceEqDiff, and_self, and_false, false_and, if_true, if_false, am_nb, am_nb0, am_nb1, am_lc1, am_lc2, am_lc3, am_b0, am_b1, am_10, am_c8, am_c16, am_c24, am_c32, am_c40, am_c48, am_c56, am_c64, am_c72, Nat.add_zero, Bool.false_eq_true, Nat.zero_le, c2, c3, Int32.not_le.mpr f, f, nI_1]
          exact ih' _
        · rw [if_neg f] at ih'
          simp only [gX1_needed_42, gX1_needed_44, gX1_needed_46, gX1_needed_47, gX1_needed_50, gX1_needed_52, gX1_needed_55, gX1_needed_56, gX1_needed_57, gX1_needed_58, gX1_needed_60, gX1_needed_63, gX1_needed_64, gX1_needed_67, am_kill_int, am_kill_ref, am_kill_null, am_kill_F, am_kill_long, am_cat_n, am_cat_i, am_cat_r, am_cat_0, am_cat_l, am_nr_n, am_nr_i, am_nr_r, am_nr_0, am_nr_l, Option.toList_some, Option.toList_none, List.nil_append, List.cons_append, va_rf_s, va_rf_n, am_II, am_I_sR, am_I_sL, am_R_sI, am_RR, am_R_sL, am_L_sI, am_L_sR, am_LL, am_k_sI, am_k_sR, am_k_sL, am_n_sI, am_n_sR, am_n_sL, true_and, and_true, true_or, or_true, or_false, false_or, not_true_eq_false, not_false_eq_true, Nat.reduceLT, am_dS, am_dP, am_d1, Nat.reduceSub, Nat.reduceMul, ne_eq, Nat.reduceBEq, Nat.reduceAdd, Nat.reduceLeDiff, Nat.reduceEqDiff, and_self, and_false, false_and, if_true, if_false, am_nb, am_nb0, am_nb1, am_lc1, am_lc2, am_lc3, am_b0, am_b1, am_10, am_c8, am_c16, am_c24, am_c32, am_c40, am_c48, am_c56, am_c64, am_c72, Nat.add_zero, Bool.false_eq_true, Nat.zero_le, c2, c3, Int32.not_lt.mp f, f, nI_1]
          exact ih' _
    · rintro ls ν ⟨rfl, z, rfl⟩
      rw [gX1_needed_24]
      by_cases hN0 : N = 0
      · simp only [if_pos hN0] at hK
        have m2 : ¬ (0 : Int32) ≤ -2 := by decide
        simp only [gX1_needed_26, gX1_needed_27, gX1_needed_30, gX1_needed_70, gX1_needed_71, gX1_needed_74, gX1_needed_76, am_kill_int, am_kill_ref, am_kill_null, am_kill_F, am_kill_long, am_cat_n, am_cat_i, am_cat_r, am_cat_0, am_cat_l, am_nr_n, am_nr_i, am_nr_r, am_nr_0, am_nr_l, Option.toList_some, Option.toList_none, List.nil_append, List.cons_append, va_rf_s, va_rf_n, am_II, am_I_sR, am_I_sL, am_R_sI, am_RR, am_R_sL, am_L_sI, am_L_sR, am_LL, am_k_sI, am_k_sR, am_k_sL, am_n_sI, am_n_sR, am_n_sL, true_and, and_true, true_or, or_true, or_false, false_or, not_true_eq_false, not_false_eq_true, Nat.reduceLT, am_dS, am_dP, am_d1, Nat.reduceSub, Nat.reduceMul, ne_eq, Nat.reduceBEq, Nat.reduceAdd, Nat.reduceLeDiff, Nat.reduceEqDiff, and_self, and_false, false_and, if_true, if_false, am_nb, am_nb0, am_nb1, am_lc1, am_lc2, am_lc3, am_b0, am_b1, am_10, am_c8, am_c16, am_c24, am_c32, am_c40, am_c48, am_c56, am_c64, am_c72, Nat.add_zero, Bool.false_eq_true, Nat.zero_le, hcu, hN, Int32.le_refl, hN0, m2]
        exact hK ν Fw.refl TC0 (fun _ => rfl)
      · simp only [if_neg hN0] at hK
        have hb := bsF_n (o := o) (n := N) (by omega)
        have hb0 : 0 ≤ nI (bsF o N) := by rw [← nI_0]; exact nI_le (by omega) (by omega)
        have c2 : lA 1000000 o N = o (bsF o N) := if_neg hN0
        have hF2 : Fw sC ν (am_sI (am_sL (am_sI ν 0 40 0) 53 0 (o (bsF o N)).toInt64) 0 40 1) := ((Fw.refl.I (by unfold sC; omega)).L (Or.inl rfl)).I (by unfold sC; omega)
        have hC2 := hC.fw hF2 (fun a b q => by unfold sC at q; omega)
        have e12 : cS (am_sI (am_sL (am_sI ν 0 40 0) 53 0 (o (bsF o N)).toInt64) 0 40 1) 1 = cS ν 1 := by rw [cS_o (by omega), cS_sL, cS_o (by omega)]
        simp only [gX1_needed_26, gX1_needed_27, gX1_needed_30, gX1_needed_70, gX1_needed_71, gX1_needed_74, gX1_needed_76, gX1_needed_77, gX1_needed_78, gX1_needed_79, gX1_needed_82, gX1_needed_83, gX1_needed_84, gX1_needed_85, gX1_needed_88, gX1_needed_89, gX1_needed_90, gX1_needed_91, gX1_needed_92, am_kill_int, am_kill_ref, am_kill_null, am_kill_F, am_kill_long, am_cat_n, am_cat_i, am_cat_r, am_cat_0, am_cat_l, am_nr_n, am_nr_i, am_nr_r, am_nr_0, am_nr_l, Option.toList_some, Option.toList_none, List.nil_append, List.cons_append, va_rf_s, va_rf_n, am_II, am_I_sR, am_I_sL, am_R_sI, am_RR, am_R_sL, am_L_sI, am_L_sR, am_LL, am_k_sI, am_k_sR, am_k_sL, am_n_sI, am_n_sR, am_n_sL, true_and, and_true, true_or, or_true, or_false, false_or, not_true_eq_false, not_false_eq_true, Nat.reduceLT, am_dS, am_dP, am_d1, Nat.reduceSub, Nat.reduceMul, ne_eq, Nat.reduceBEq, Nat.reduceAdd, Nat.reduceLeDiff, Nat.reduceEqDiff, and_self, and_false, false_and, if_true, if_false, am_nb, am_nb0, am_nb1, am_lc1, am_lc2, am_lc3, am_b0, am_b1, am_10, am_c8, am_c16, am_c24, am_c32, am_c40, am_c48, am_c56, am_c64, am_c72, Nat.add_zero, Bool.false_eq_true, Nat.zero_le, hcu, hN, Int32.le_refl, hN0, hb0, c2, wX1_tells0]
        refine wX1_fed (d := d + 197) (wo := ffB) hC2 (a := am_I ν 55) (by rw [e12]; exact hP.2.1) (by omega) (orB_ff N) ?_
        rw [e12]
        simp only [gX1_needed_95, gX1_needed_96, gX1_needed_99, gX1_needed_100, am_kill_int, am_kill_ref, am_kill_null, am_kill_F, am_kill_long, am_cat_n, am_cat_i, am_cat_r, am_cat_0, am_cat_l, am_nr_n, am_nr_i, am_nr_r, am_nr_0, am_nr_l, Option.toList_some, Option.toList_none, List.nil_append, List.cons_append, va_rf_s, va_rf_n, am_II, am_I_sR, am_I_sL, am_R_sI, am_RR, am_R_sL, am_L_sI, am_L_sR, am_LL, am_k_sI, am_k_sR, am_k_sL, am_n_sI, am_n_sR, am_n_sL, true_and, and_true, true_or, or_true, or_false, false_or, not_true_eq_false, not_false_eq_true, Nat.reduceLT, am_dS, am_dP, am_d1, Nat.reduceSub, Nat.reduceMul, ne_eq, Nat.reduceBEq, Nat.reduceAdd, Nat.reduceLeDiff, Nat.reduceEqDiff, and_self, and_false, false_and, if_true, if_false, am_nb, am_nb0, am_nb1, am_lc1, am_lc2, am_lc3, am_b0, am_b1, am_10, am_c8, am_c16, am_c24, am_c32, am_c40, am_c48, am_c56, am_c64, am_c72, Nat.add_zero, Bool.false_eq_true, Nat.zero_le, hcu, wX1_tells1]
        refine hK _ ((hF2.L (Or.inl rfl)).I (by unfold sC; omega)) (TC2 ?_ ?_ ?_) (fun i => ?_)
        · simp only [am_II, and_self, if_true]
        · simp only [am_L_sI, am_LL, and_self, if_true, Nat.reduceEqDiff, and_false, if_false]
        · simp only [am_L_sI, am_LL, and_self, if_true]
        · simp only [am_L_sI, am_LL, Nat.reduceEqDiff, false_and, if_false]
  · simp only [hx, Bool.false_eq_true, if_false] at hK
    simp only [gX1_needed_0, gX1_needed_1, gX1_needed_2, gX1_needed_3, gX1_needed_6, gX1_needed_9, gX1_needed_12, gX1_needed_13, am_kill_int, am_kill_ref, am_kill_null, am_kill_F, am_kill_long, am_cat_n, am_cat_i, am_cat_r, am_cat_0, am_cat_l, am_nr_n, am_nr_i, am_nr_r, am_nr_0, am_nr_l, Option.toList_some, Option.toList_none, List.nil_append, List.cons_append, va_rf_s, va_rf_n, am_II, am_I_sR, am_I_sL, am_R_sI, am_RR, am_R_sL, am_L_sI, am_L_sR, am_LL, am_k_sI, am_k_sR, am_k_sL, am_n_sI, am_n_sR, am_n_sL, true_and, and_true, true_or, or_true, or_false, false_or, not_true_eq_false, not_false_eq_true, Nat.reduceLT, am_dS, am_dP, am_d1, Nat.reduceSub, Nat.reduceMul, ne_eq, Nat.reduceBEq, Nat.reduceAdd, Nat.reduceLeDiff, Nat.reduceEqDiff, and_self, and_false, false_and, if_true, if_false, am_nb, am_nb0, am_nb1, am_lc1, am_lc2, am_lc3, am_b0, am_b1, am_10, am_c8, am_c16, am_c24, am_c32, am_c40, am_c48, am_c56, am_c64, am_c72, Nat.add_zero, Bool.false_eq_true, Nat.zero_le, wX1_in, am_l0, e30L, am_leL, am_isb, hx]
    exact hK μ Fw.refl TC0 (fun _ => rfl)
theorem one_eq (h8 : N ≤ 8) (m n : Nat) (hm : m < N) (hn : n < N) : (nI n = nI m) = (oneB m n = true) := by
  unfold oneB
  rw [decide_eq_true_eq]
  refine propext ⟨fun e => ?_, fun e => by rw [e]⟩
  have := nI_clamp (n := n) (by omega)
  rw [e, nI_clamp (by omega)] at this
  exact this.symm
theorem q5_needed (hP : Per N C ru c μ) : Q5 mX3_needed [.ref 54, .int x, am_F, am_F] μ (vNe N (cS μ 1) x) (pNe N (cS μ 1) x) := by
  intro d K hK
  have hS := hP.1.2.1
  have hC := hS.1
  have hmu := hC.1
  unfold mL at hmu
  have hN := hC.2.1
  have h8 := hC.2.2.1
  unfold vNe pNe at hK
  by_cases hx : isN x 31 = true
  · simp only [if_pos hx] at hK
    obtain ⟨V, hV, rfl⟩ := isN_of (by omega) hx
    have hcl : (nI V).toNatClampNeg = V := nI_clamp (by omega)
    simp only [hcl] at hK
    have r55 : ∀ ν, Fr (fun a _ => a = 70) μ ν → am_I ν 55 = am_I μ 55 := fun ν hF => funext fun b => hF.1 55 b (fun e => absurd (show (55 : Nat) = 70 from e) (by decide))
    by_cases hN0 : N = 0
    · simp only [if_pos hN0] at hK
      have eN : nI N = 0 := by rw [hN0]; rfl
      simp only [gX3_needed_5, gX3_needed_6, gX3_needed_7, gX3_needed_9, gX3_needed_12, gX3_needed_15, gX3_needed_16, gX3_needed_17, gX3_needed_18, gX3_needed_21, gX3_needed_24, gX3_needed_26, am_kill_int, am_kill_ref, am_kill_null, am_kill_F, am_kill_long, am_cat_n, am_cat_i, am_cat_r, am_cat_0, am_cat_l, am_nr_n, am_nr_i, am_nr_r, am_nr_0, am_nr_l, Option.toList_some, Option.toList_none, List.nil_append, List.cons_append, va_rf_s, va_rf_n, am_II, am_I_sR, am_I_sL, am_R_sI, am_RR, am_R_sL, am_L_sI, am_L_sR, am_LL, am_k_sI, am_k_sR, am_k_sL, am_n_sI, am_n_sR, am_n_sL, true_and, and_true, true_or, or_true, or_false, false_or, not_true_eq_false, not_false_eq_true, Nat.reduceLT, am_dS, am_dP, am_d1, Nat.reduceSub, Nat.reduceMul, ne_eq, Nat.reduceBEq, Nat.reduceAdd, Nat.reduceLeDiff, Nat.reduceEqDiff, and_self, and_false, false_and, if_true, if_false, am_nb, am_nb0, am_nb1, am_lc1, am_lc2, am_lc3, am_b0, am_b1, am_10, am_c8, am_c16, am_c24, am_c32, am_c40, am_c48, am_c56, am_c64, am_c72, Nat.add_zero, Bool.false_eq_true, Nat.zero_le, hmu, wX3_in, e30I, am_isb, hx, hN, eN]
      exact hK μ Fw.refl hP.h17 TN0 (fun _ => rfl)
    · simp only [if_neg hN0] at hK
      have eN : ¬ nI N = 0 := fun e => by
        have := nI_clamp (n := N) (by omega)
        rw [e] at this
        have z0 : (0 : Int32).toNatClampNeg = 0 := by decide
        omega
      simp only [gX3_needed_5, gX3_needed_6, gX3_needed_7, gX3_needed_9, gX3_needed_12, gX3_needed_15, gX3_needed_16, gX3_needed_17, gX3_needed_18, gX3_needed_21, gX3_needed_24, gX3_needed_26, gX3_needed_27, gX3_needed_28, gX3_needed_29, gX3_needed_30, am_kill_int, am_kill_ref, am_kill_null, am_kill_F, am_kill_long, am_cat_n, am_cat_i, am_cat_r, am_cat_0, am_cat_l, am_nr_n, am_nr_i, am_nr_r, am_nr_0, am_nr_l, Option.toList_some, Option.toList_none, List.nil_append, List.cons_append, va_rf_s, va_rf_n, am_II, am_I_sR, am_I_sL, am_R_sI, am_RR, am_R_sL, am_L_sI, am_L_sR, am_LL, am_k_sI, am_k_sR, am_k_sL, am_n_sI, am_n_sR, am_n_sL, true_and, and_true, true_or, or_true, or_false, false_or, not_true_eq_false, not_false_eq_true, Nat.reduceLT, am_dS, am_dP, am_d1, Nat.reduceSub, Nat.reduceMul, ne_eq, Nat.reduceBEq, Nat.reduceAdd, Nat.reduceLeDiff, Nat.reduceEqDiff, and_self, and_false, false_and, if_true, if_false, am_nb, am_nb0, am_nb1, am_lc1, am_lc2, am_lc3, am_b0, am_b1, am_10, am_c8, am_c16, am_c24, am_c32, am_c40, am_c48, am_c56, am_c64, am_c72, Nat.add_zero, Bool.false_eq_true, Nat.zero_le, hmu, wX3_in, e30I, am_isb, hx, hN, eN]
      generalize ho : oNe N V (cS μ 1) = o at hK
      have eo : ∀ n, nI (gvF N V (cS μ 1) (oneB n)) = o n := fun n => by rw [← ho]; rfl
      have z1 : (1 : Int32) = nI 1 := rfl
      have z0 : (0 : Int32) = nI (bsF o 1) := by rw [bsF_one]; rfl
      rw [z1, z0]
      refine am_for (N := N) (fun n ls ν => 1 ≤ n ∧ ls = [.ref 54, .int (nI V), .int (nI (bsF o n)), .int (nI n)] ∧ Fr (fun a _ => a = 70) μ ν) ?_ ?_ (N - 1) 1 _ _ (by omega) ⟨Nat.le_refl 1, rfl, Fr.refl⟩
      · rintro n ls ν hn ⟨hn1, rfl, hF⟩ ih
        have hlt : ¬ nI N ≤ nI n := nI_ge hn (by omega)
        have hC1 := hC.fr hF (fun a b e => by show ¬ _; omega)
        have hmν := hC1.1
        unfold mL at hmν
        have hNν := hC1.2.1
        have hb := bsF_n (o := o) hn1
        have ih' := fun ν h => ih [.ref 54, .int (nI V), .int (nI (bsF o (n + 1))), .int (nI (n + 1))] ν ⟨by omega, rfl, h⟩
        rw [show bsF o (n + 1) = if o n < o (bsF o n) then n else bsF o n from rfl] at ih'
        rw [gX3_needed_31]
        simp only [gX3_needed_32, gX3_needed_33, gX3_needed_36, gX3_needed_39, gX3_needed_40, gX3_needed_41, gX3_needed_42, am_kill_int, am_kill_ref, am_kill_null, am_kill_F, am_kill_long, am_cat_n, am_cat_i, am_cat_r, am_cat_0, am_cat_l, am_nr_n, am_nr_i, am_nr_r, am_nr_0, am_nr_l, Option.toList_some, Option.toList_none, List.nil_append, List.cons_append, va_rf_s, va_rf_n, am_II, am_I_sR, am_I_sL, am_R_sI, am_RR, am_R_sL, am_L_sI, am_L_sR, am_LL, am_k_sI, am_k_sR, am_k_sL, am_n_sI, am_n_sR, am_n_sL, true_and, and_true, true_or, or_true, or_false, false_or, not_true_eq_false, not_false_eq_true, Nat.reduceLT, am_dS, am_dP, am_d1, Nat.reduceSub, Nat.reduceMul, ne_eq, Nat.reduceBEq, Nat.reduceAdd, Nat.reduceLeDiff, Nat.reduceEqDiff, and_self, and_false, false_and, if_true, if_false, am_nb, am_nb0, am_nb1, am_lc1, am_lc2, am_lc3, am_b0, am_b1, am_10, am_c8, am_c16, am_c24, am_c32, am_c40, am_c48, am_c56, am_c64, am_c72, Nat.add_zero, Bool.false_eq_true, Nat.zero_le, hmν, hNν, hlt]
        refine wX3_givenBy (d := d + 198) (V := V) (S := cS μ 1) (wo := oneB n) hC1 (by rw [r55 ν hF]; exact hP.2.1) (by omega) (fun k hk => one_eq h8 n k hn hk) (fun ν1 hF1 => ?_)
        have hF1' := hF.trans hF1
        have hC2 := hC.fr hF1' (fun a b e => by show ¬ _; omega)
        have hmν1 := hC2.1
        unfold mL at hmν1
        rw [eo]
        simp only [gX3_needed_45, gX3_needed_46, gX3_needed_47, gX3_needed_48, am_kill_int, am_kill_ref, am_kill_null, am_kill_F, am_kill_long, am_cat_n, am_cat_i, am_cat_r, am_cat_0, am_cat_l, am_nr_n, am_nr_i, am_nr_r, am_nr_0, am_nr_l, Option.toList_some, Option.toList_none, List.nil_append, List.cons_append, va_rf_s, va_rf_n, am_II, am_I_sR, am_I_sL, am_R_sI, am_RR, am_R_sL, am_L_sI, am_L_sR, am_LL, am_k_sI, am_k_sR, am_k_sL, am_n_sI, am_n_sR, am_n_sL, true_and, and_true, true_or, or_true, or_false, false_or, not_true_eq_false, not_false_eq_true, Nat.reduceLT, am_dS, am_dP, am_d1, Nat.reduceSub, Nat.reduceMul, ne_eq, Nat.reduceBEq, Nat.reduceAdd, Nat.reduceLeDiff, Nat.reduceEqDiff, and_self, and_false, false_and, if_true, if_false, am_nb, am_nb0, am_nb1, am_lc1, am_lc2, am_lc3, am_b0, am_b1, am_10, am_c8, am_c16, am_c24, am_c32, am_c40, am_c48, am_c56, am_c64, am_c72, Nat.add_zero, Bool.false_eq_true, Nat.zero_le, hmν1]
        refine wX3_givenBy (d := d + 198) (V := V) (S := cS μ 1) (wo := oneB (bsF o n)) hC2 (by rw [r55 ν1 hF1']; exact hP.2.1) (by omega) (fun k hk => one_eq h8 _ k (by omega) hk) (fun ν2 hF2 => ?_)
        rw [eo]
        by_cases f : o n < o (bsF o n)
        · rw [if_pos f] at ih'
          simp only [gX3_needed_51, gX3_needed_54, gX3_needed_55, gX3_needed_56, gX3_needed_59, am_kill_int, am_kill_ref, am_kill_null, am_kill_F, am_kill_long, am_cat_n, am_cat_i, am_cat_r, am_cat_0, am_cat_l, am_nr_n, am_nr_i, am_nr_r, am_nr_0, am_nr_l, Option.toList_some, Option.toList_none, List.nil_append, List.cons_append, va_rf_s, va_rf_n, am_II, am_I_sR, am_I_sL, am_R_sI, am_RR, am_R_sL, am_L_sI, am_L_sR, am_LL, am_k_sI, am_k_sR, am_k_sL, am_n_sI, am_n_sR, am_n_sL, true_and, and_true, true_or, or_true, or_false, false_or, not_true_eq_false, not_false_eq_true, Nat.reduceLT, am_dS, am_dP, am_d1, Nat.reduceSub, Nat.reduceMul, ne_eq, Nat.reduceBEq, Nat.reduceAdd, Nat.reduceLeDiff, Nat.reduceEqDiff, and_self, and_false, false_and, if_true, if_false, am_nb, am_nb0, am_nb1, am_lc1, am_lc2, am_lc3, am_b0, am_b1, am_10, am_c8, am_c16, am_c24, am_c32, am_c40, am_c48, am_c56, am_c64, am_c72, Nat.add_zero, Bool.false_eq_true, Nat.zero_le, Int32.not_le.mpr f, nI_1]
          exact ih' ν2 (hF1'.trans hF2)
        · rw [if_neg f] at ih'
          simp only [gX3_needed_51, gX3_needed_54, gX3_needed_55, gX3_needed_56, gX3_needed_59, am_kill_int, am_kill_ref, am_kill_null, am_kill_F, am_kill_long, am_cat_n, am_cat_i, am_cat_r, am_cat_0, am_cat_l, am_nr_n, am_nr_i, am_nr_r, am_nr_0, am_nr_l, Option.toList_some, Option.toList_none, List.nil_append, List.cons_append, va_rf_s, va_rf_n, am_II, am_I_sR, am_I_sL, am_R_sI, am_RR, am_R_sL, am_L_sI, am_L_sR, am_LL, am_k_sI, am_k_sR, am_k_sL, am_n_sI, am_n_sR, am_n_sL, true_and, and_true, true_or, or_true, or_false, false_or, not_true_eq_false, not_false_eq_true, Nat.reduceLT, am_dS, am_dP, am_d1, Nat.reduceSub, Nat.reduceMul, ne_eq, Nat.reduceBEq, Nat.reduceAdd, Nat.reduceLeDiff, Nat.reduceEqDiff, and_self, and_false, false_and, if_true, if_false, am_nb, am_nb0, am_nb1, am_lc1, am_lc2, am_lc3, am_b0, am_b1, am_10, am_c8, am_c16, am_c24, am_c32, am_c40, am_c48, am_c56, am_c64, am_c72, Nat.add_zero, Bool.false_eq_true, Nat.zero_le, Int32.not_lt.mp f, nI_1]
          exact ih' ν2 (hF1'.trans hF2)
      · rintro ls ν ⟨hn1, rfl, hF⟩
        have hC1 := hC.fr hF (fun a b e => by show ¬ _; omega)
        have hmν := hC1.1
        unfold mL at hmν
        have hNν := hC1.2.1
        have hb := bsF_n (o := o) hn1
        have hF0 : Fw sM ν (am_sI ν 54 6 0) := Fw.I Fw.refl (by unfold sM; omega)
        have hC2 := hC1.fw hF0 (fun a b q => by unfold sM at q; omega)
        rw [gX3_needed_31]
        simp only [gX3_needed_32, gX3_needed_33, gX3_needed_36, gX3_needed_62, gX3_needed_63, gX3_needed_64, gX3_needed_67, gX3_needed_68, gX3_needed_69, gX3_needed_70, gX3_needed_71, am_kill_int, am_kill_ref, am_kill_null, am_kill_F, am_kill_long, am_cat_n, am_cat_i, am_cat_r, am_cat_0, am_cat_l, am_nr_n, am_nr_i, am_nr_r, am_nr_0, am_nr_l, Option.toList_some, Option.toList_none, List.nil_append, List.cons_append, va_rf_s, va_rf_n, am_II, am_I_sR, am_I_sL, am_R_sI, am_RR, am_R_sL, am_L_sI, am_L_sR, am_LL, am_k_sI, am_k_sR, am_k_sL, am_n_sI, am_n_sR, am_n_sL, true_and, and_true, true_or, or_true, or_false, false_or, not_true_eq_false, not_false_eq_true, Nat.reduceLT, am_dS, am_dP, am_d1, Nat.reduceSub, Nat.reduceMul, ne_eq, Nat.reduceBEq, Nat.reduceAdd, Nat.reduceLeDiff, Nat.reduceEqDiff, and_self, and_false, false_and, if_true, if_false, am_nb, am_nb0, am_nb1, am_lc1, am_lc2, am_lc3, am_b0, am_b1, am_10, am_c8, am_c16, am_c24, am_c32, am_c40, am_c48, am_c56, am_c64, am_c72, Nat.add_zero, Bool.false_eq_true, Nat.zero_le, hmν, hNν, Int32.le_refl]
        refine wX3_givenBy (d := d + 198) (V := V) (S := cS μ 1) (wo := oneB (bsF o N)) hC2 (by rw [am_row_o (by decide), r55 ν hF]; exact hP.2.1) (by omega) (fun k hk => one_eq h8 _ k (by omega) hk) (fun ν1 hF1 => ?_)
        rw [eo]
        have hFa := ((j70 hF).trans hF0).trans (j70 hF1)
        have h171 : am_I ν1 54 17 = 0 := by rw [hF1.1 54 17 (by decide), am_I_sI, if_neg (by omega), hF.1 54 17 (by decide)]; exact hP.h17
        have hS3 := hS.sMm hFa h171
        have hm3 := hS3.1.1
        unfold mL at hm3
        have h60 : am_I ν1 54 6 = 0 := (hF1.1 54 6 (by decide)).trans (by rw [am_I_sI, if_pos ⟨rfl, rfl⟩])
        have hF2 : Fw sM ν1 (am_sI (am_sL ν1 57 0 (o (bsF o N)).toInt64) 54 6 1) := (Fw.refl.L (Or.inr rfl)).I (by unfold sM; omega)
        have hC4 := hS3.1.fw hF2 (fun a b q => by unfold sM at q; omega)
        have r551 : am_I ν1 55 = am_I μ 55 := funext fun b => hFa.1 55 b (by unfold sM; omega)
        simp only [gX3_needed_74, gX3_needed_75, gX3_needed_78, gX3_needed_79, gX3_needed_80, gX3_needed_81, gX3_needed_82, am_kill_int, am_kill_ref, am_kill_null, am_kill_F, am_kill_long, am_cat_n, am_cat_i, am_cat_r, am_cat_0, am_cat_l, am_nr_n, am_nr_i, am_nr_r, am_nr_0, am_nr_l, Option.toList_some, Option.toList_none, List.nil_append, List.cons_append, va_rf_s, va_rf_n, am_II, am_I_sR, am_I_sL, am_R_sI, am_RR, am_R_sL, am_L_sI, am_L_sR, am_LL, am_k_sI, am_k_sR, am_k_sL, am_n_sI, am_n_sR, am_n_sL, true_and, and_true, true_or, or_true, or_false, false_or, not_true_eq_false, not_false_eq_true, Nat.reduceLT, am_dS, am_dP, am_d1, Nat.reduceSub, Nat.reduceMul, ne_eq, Nat.reduceBEq, Nat.reduceAdd, Nat.reduceLeDiff, Nat.reduceEqDiff, and_self, and_false, false_and, if_true, if_false, am_nb, am_nb0, am_nb1, am_lc1, am_lc2, am_lc3, am_b0, am_b1, am_10, am_c8, am_c16, am_c24, am_c32, am_c40, am_c48, am_c56, am_c64, am_c72, Nat.add_zero, Bool.false_eq_true, Nat.zero_le, hm3, h60, wX3_tell0]
        refine wX3_givenBy (d := d + 198) (V := V) (S := cS μ 1) (wo := ffB) hC4 (by rw [am_row_o (by decide), am_I_sL, r551]; exact hP.2.1) (by omega) (fun n hn => no_m1 n h8 hn) (fun ν2 hF3 => ?_)
        have hFb := (hFa.trans hF2).trans (j70 hF3)
        have h172 : am_I ν2 54 17 = 0 := by rw [hF3.1 54 17 (by decide), am_I_sI, if_neg (by omega), am_I_sL]; exact h171
        have hm4 := (hS.sMm hFb h172).1.1
        unfold mL at hm4
        have h61 : am_I ν2 54 6 = 1 := (hF3.1 54 6 (by decide)).trans (by rw [am_I_sI, if_pos ⟨rfl, rfl⟩])
        have hL0 : am_L ν2 57 0 = (o (bsF o N)).toInt64 := by rw [hF3.L]; simp only [am_L_sI, am_LL, and_self, if_true]
        simp only [gX3_needed_85, gX3_needed_86, gX3_needed_89, gX3_needed_90, am_kill_int, am_kill_ref, am_kill_null, am_kill_F, am_kill_long, am_cat_n, am_cat_i, am_cat_r, am_cat_0, am_cat_l, am_nr_n, am_nr_i, am_nr_r, am_nr_0, am_nr_l, Option.toList_some, Option.toList_none, List.nil_append, List.cons_append, va_rf_s, va_rf_n, am_II, am_I_sR, am_I_sL, am_R_sI, am_RR, am_R_sL, am_L_sI, am_L_sR, am_LL, am_k_sI, am_k_sR, am_k_sL, am_n_sI, am_n_sR, am_n_sL, true_and, and_true, true_or, or_true, or_false, false_or, not_true_eq_false, not_false_eq_true, Nat.reduceLT, am_dS, am_dP, am_d1, Nat.reduceSub, Nat.reduceMul, ne_eq, Nat.reduceBEq, Nat.reduceAdd, Nat.reduceLeDiff, Nat.reduceEqDiff, and_self, and_false, false_and, if_true, if_false, am_nb, am_nb0, am_nb1, am_lc1, am_lc2, am_lc3, am_b0, am_b1, am_10, am_c8, am_c16, am_c24, am_c32, am_c40, am_c48, am_c56, am_c64, am_c72, Nat.add_zero, Bool.false_eq_true, Nat.zero_le, hm4, h61, wX3_tell1]
        refine hK _ ((hFb.L (Or.inr rfl)).I (by unfold sM; omega)) ?_ (TN2 ?_ ?_ ?_) (fun i => ?_)
        · simp only [am_II, am_I_sL, Nat.reduceEqDiff, and_false, if_false]; exact h172
        · simp only [am_II, and_self, if_true]
        · simp only [am_L_sI, am_LL, and_self, if_true, Nat.reduceEqDiff, and_false, if_false]; exact hL0
        · simp only [am_L_sI, am_LL, and_self, if_true]
        · simp only [am_L_sI, am_LL, Nat.reduceEqDiff, false_and, if_false]
          rw [hF3.L]; simp only [am_L_sI, am_LL, Nat.reduceEqDiff, false_and, if_false]; rw [hF1.L]; exact hF.L
  · simp only [hx, Bool.false_eq_true, if_false] at hK
    simp only [gX3_needed_5, gX3_needed_6, gX3_needed_7, gX3_needed_9, gX3_needed_12, gX3_needed_15, gX3_needed_16, am_kill_int, am_kill_ref, am_kill_null, am_kill_F, am_kill_long, am_cat_n, am_cat_i, am_cat_r, am_cat_0, am_cat_l, am_nr_n, am_nr_i, am_nr_r, am_nr_0, am_nr_l, Option.toList_some, Option.toList_none, List.nil_append, List.cons_append, va_rf_s, va_rf_n, am_II, am_I_sR, am_I_sL, am_R_sI, am_RR, am_R_sL, am_L_sI, am_L_sR, am_LL, am_k_sI, am_k_sR, am_k_sL, am_n_sI, am_n_sR, am_n_sL, true_and, and_true, true_or, or_true, or_false, false_or, not_true_eq_false, not_false_eq_true, Nat.reduceLT, am_dS, am_dP, am_d1, Nat.reduceSub, Nat.reduceMul, ne_eq, Nat.reduceBEq, Nat.reduceAdd, Nat.reduceLeDiff, Nat.reduceEqDiff, and_self, and_false, false_and, if_true, if_false, am_nb, am_nb0, am_nb1, am_lc1, am_lc2, am_lc3, am_b0, am_b1, am_10, am_c8, am_c16, am_c24, am_c32, am_c40, am_c48, am_c56, am_c64, am_c72, Nat.add_zero, Bool.false_eq_true, Nat.zero_le, wX3_in, e30I, am_isb, hx]
    exact hK μ Fw.refl hP.h17 TN0 (fun _ => rfl)
theorem op_needed (hI : Inv q μ) : OP q mX1_needed mX3_needed [.ref 0, .int x, am_F, am_F, am_F, am_F] [.ref 54, .int x, am_F, am_F] μ :=
  op_S (V := fun N ru c S => vNe N S x) (P := fun N ru c S => pNe N S x) (fun hP => qc_needed hP) (fun d K μ h h' => by simp only [gX3_needed_0, gX3_needed_1, gX3_needed_2, am_kill_int, am_kill_ref, am_kill_null, am_kill_F, am_kill_long, am_cat_n, am_cat_i, am_cat_r, am_cat_0, am_cat_l, am_nr_n, am_nr_i, am_nr_r, am_nr_0, am_nr_l, Option.toList_some, Option.toList_none, List.nil_append, List.cons_append, va_rf_s, va_rf_n, am_I_sR, am_I_sL, am_R_sI, am_R_sL, am_L_sI, am_L_sR, am_k_sI, am_k_sR, am_k_sL, am_n_sI, am_n_sR, am_n_sL, true_and, and_true, true_or, or_true, or_false, false_or, not_true_eq_false, not_false_eq_true, Nat.reduceLT, am_dS, am_dP, am_d1, Nat.reduceSub, Nat.reduceMul, ne_eq, Nat.reduceBEq, Nat.reduceAdd, Nat.reduceLeDiff, Nat.reduceEqDiff, and_self, and_false, false_and, if_true, if_false, am_nb, am_nb0, am_nb1, am_lc1, am_lc2, am_lc3, am_b0, am_b1, am_10, am_c8, am_c16, am_c24, am_c32, am_c40, am_c48, am_c56, am_c64, am_c72, Nat.add_zero, Bool.false_eq_true, Nat.zero_le, h]; exact h') (fun hP => q5_needed hP) hI
end FNV
