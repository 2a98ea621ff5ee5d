/-! calls that ask: colours, where -/
set_option maxRecDepth 100000
section OBV
variable {d : Nat} {μ ν ξ : am_M} {K : Option Value → am_M → Prop} {x y z c w : Int32} {h N C j i k r n M b q : Nat} {v : Int32} {ru : Option PF} {p : Int64} {o : Nat → Int32}
theorem jS_1 (hf : Fr (jS 12) μ ν) : cS ν 1 = cS μ 1 := cS_Fr hf fun a b z1 z2 z3 => by unfold jS inSp jO at z3; omega
/-- the first of the least -/
def bsF (o : Nat → Int32) : Nat → Nat
  | 0 => 0
  | k + 1 => if o k < o (bsF o k) then k else bsF o k
theorem bsF_le (o : Nat → Int32) : ∀ k, bsF o k ≤ k
  | 0 => Nat.le_refl 0
  | k + 1 => by unfold bsF; have := bsF_le o k; split <;> omega
theorem bsF_lt (o : Nat → Int32) {k : Nat} (h : k ≤ 9) : bsF o k < 10 := by have := bsF_le o k; omega
def le5 (o : Nat → Int32) (k : Nat) : Bool := decide (o k ≤ 5)
def vCol (N : Nat) (ru : Option PF) (S : Nat → Int32) (x : Int32) : Int32 := if isN x N = true then orB (le5 (fun k => oddS N ru (lieT S x.toNatClampNeg (nI k)) x.toNatClampNeg)) 10 else -1
def pCol (N : Nat) (ru : Option PF) (S : Nat → Int32) (x : Int32) : Option (List Int64) := if isN x N = true then some [(bcI (vCol N ru S x)).toInt64, (nI (bsF (fun k => oddS N ru (lieT S x.toNatClampNeg (nI k)) x.toNatClampNeg) 10)).toInt64] else none
theorem e10 : (10 : Int32) = nI 10 := rfl
theorem qc_colours (hP : Per N C ru c μ) : QC mX1_colours [.ref 0, .int x, am_F, am_F, am_F] μ (vCol N ru (cS μ 1) x) (pCol N ru (cS μ 1) x) := by
  intro d K hK
  have hC := hP.1.1
  have hcu := hC.1
  simp only [cL, spL, Nat.reduceAdd] at hcu
  have hN := hC.2.1
  have h8 := hC.2.2.1
  have hk := hC.1.c
  unfold pCol vCol at hK
  by_cases hx : isN x N = true
  · simp only [if_pos hx] at hK
    obtain ⟨j, hj, rfl⟩ := isN_of (by omega) hx
    have hj8 : j < 8 := by omega
    have hin : vp_in (nI j) 8 := vp_in_nI (by omega) (by omega)
    have hcl : (nI j).toNatClampNeg = j := nI_clamp (by omega)
    simp only [hcl] at hK
    simp only [gX1_colours_0, gX1_colours_1, gX1_colours_2, gX1_colours_5, gX1_colours_8, gX1_colours_9, gX1_colours_10, gX1_colours_11, gX1_colours_12, gX1_colours_13, gX1_colours_14, gX1_colours_15, am_kill_int, am_kill_ref, am_kill_null, am_kill_F, am_kill_long, am_cat_n, am_cat_i, am_cat_r, am_cat_0, am_cat_l, am_nr_n, am_nr_i, am_nr_r, am_nr_0, am_nr_l, Option.toList_some, Option.toList_none, List.nil_append, List.cons_append, va_rf_s, va_rf_n, am_II, am_I_sR, am_I_sL, am_R_sI, am_RR, am_R_sL, am_L_sI, am_L_sR, am_LL, am_k_sI, am_k_sR, am_k_sL, am_n_sI, am_n_sR, am_n_sL, true_and, and_true, true_or, or_true, or_false, false_or, not_true_eq_false, not_false_eq_true, Nat.reduceLT, am_dS, am_dP, am_d1, Nat.reduceSub, Nat.reduceMul, ne_eq, Nat.reduceBEq, Nat.reduceAdd, Nat.reduceLeDiff, Nat.reduceEqDiff, and_self, and_false, false_and, if_true, if_false, am_nb, am_nb0, am_nb1, am_lc1, am_lc2, am_lc3, am_b0, am_b1, am_10, am_c8, am_c16, am_c24, am_c32, am_c40, am_c48, am_c56, am_c64, am_c72, Nat.add_zero, Bool.false_eq_true, Nat.zero_le, hk, wX1_isNest hN h8 hk, hx]
    generalize ho : (fun k => oddS N ru (lieT (cS μ 1) j (nI k)) j) = o at hK
    have ho' : ∀ k, oddS N ru (lieT (cS μ 1) j (nI k)) j = o k := fun k => by rw [← ho]
    refine am_for (N := 10) (fun k ls ν => ls = [.ref 0, .int (nI j), .int (orB (le5 o) k), .int (nI (bsF o k)), .int (nI k)] ∧ Fr (jS 12) μ ν) ?_ ?_ 10 0 _ _ (by omega) ⟨rfl, Fr.refl⟩
    · rintro k ls ν hk10 ⟨rfl, hF⟩ ih
      have hlt : ¬ nI 10 ≤ nI k := nI_ge hk10 (by omega)
      have hC1 := hC.js (by decide) (by decide) hF
      have hkν := hC1.1.c
      rw [gX1_colours_17]
      simp only [gX1_colours_19, gX1_colours_21, gX1_colours_24, gX1_colours_25, gX1_colours_26, gX1_colours_27, gX1_colours_29, am_kill_int, am_kill_ref, am_kill_null, am_kill_F, am_kill_long, am_cat_n, am_cat_i, am_cat_r, am_cat_0, am_cat_l, am_nr_n, am_nr_i, am_nr_r, am_nr_0, am_nr_l, Option.toList_some, Option.toList_none, List.nil_append, List.cons_append, va_rf_s, va_rf_n, am_II, am_I_sR, am_I_sL, am_R_sI, am_RR, am_R_sL, am_L_sI, am_L_sR, am_LL, am_k_sI, am_k_sR, am_k_sL, am_n_sI, am_n_sR, am_n_sL, true_and, and_true, true_or, or_true, or_false, false_or, not_true_eq_false, not_false_eq_true, Nat.reduceLT, am_dS, am_dP, am_d1, Nat.reduceSub, Nat.reduceMul, ne_eq, Nat.reduceBEq, Nat.reduceAdd, Nat.reduceLeDiff, Nat.reduceEqDiff, and_self, and_false, false_and, if_true, if_false, am_nb, am_nb0, am_nb1, am_lc1, am_lc2, am_lc3, am_b0, am_b1, am_10, am_c8, am_c16, am_c24, am_c32, am_c40, am_c48, am_c56, am_c64, am_c72, Nat.add_zero, Bool.false_eq_true, Nat.zero_le, e10, hlt, hkν]
      refine wX1_oddIf (d := d + 131) hC1 hj8 (fun ν1 h1 _ => ?_)
      have hF1 := hF.trans h1
      have hC2 := hC.js (by decide) (by decide) hF1
      have hk2 := hC2.1.c
      rw [jS_1 hF, ho']
      have key : am_Wp (d + 200) mX1_colours 46 [.ref 0, .int (nI j), .int (orB (le5 o) (k + 1)), .int (nI (bsF o k)), .int (nI k)] [] ν1 K := by
        simp only [gX1_colours_46, gX1_colours_47, gX1_colours_48, gX1_colours_50, am_kill_int, am_kill_ref, am_kill_null, am_kill_F, am_kill_long, am_cat_n, am_cat_i, am_cat_r, am_cat_0, am_cat_l, am_nr_n, am_nr_i, am_nr_r, am_nr_0, am_nr_l, Option.toList_some, Option.toList_none, List.nil_append, List.cons_append, va_rf_s, va_rf_n, am_II, am_I_sR, am_I_sL, am_R_sI, am_RR, am_R_sL, am_L_sI, am_L_sR, am_LL, am_k_sI, am_k_sR, am_k_sL, am_n_sI, am_n_sR, am_n_sL, true_and, and_true, true_or, or_true, or_false, false_or, not_true_eq_false, not_false_eq_true, Nat.reduceLT, am_dS, am_dP, am_d1, Nat.reduceSub, Nat.reduceMul, ne_eq, Nat.reduceBEq, Nat.reduceAdd, Nat.reduceLeDiff, Nat.reduceEqDiff, and_self, and_false, false_and, if_true, if_false, am_nb, am_nb0, am_nb1, am_lc1, am_lc2, am_lc3, am_b0, am_b1, am_10, am_c8, am_c16, am_c24, am_c32, am_c40, am_c48, am_c56, am_c64, am_c72, Nat.add_zero, Bool.false_eq_true, Nat.zero_le, hk2]
        refine wX1_oddIf (d := d + 131) hC2 hj8 (fun ν2 h2 _ => ?_)
        have hF2 := hF1.trans h2
        have hC3 := hC.js (by decide) (by decide) hF2
        have hk3 := hC3.1.c
        rw [jS_1 hF1, ho']
        simp only [gX1_colours_53, gX1_colours_54, gX1_colours_55, gX1_colours_56, am_kill_int, am_kill_ref, am_kill_null, am_kill_F, am_kill_long, am_cat_n, am_cat_i, am_cat_r, am_cat_0, am_cat_l, am_nr_n, am_nr_i, am_nr_r, am_nr_0, am_nr_l, Option.toList_some, Option.toList_none, List.nil_append, List.cons_append, va_rf_s, va_rf_n, am_II, am_I_sR, am_I_sL, am_R_sI, am_RR, am_R_sL, am_L_sI, am_L_sR, am_LL, am_k_sI, am_k_sR, am_k_sL, am_n_sI, am_n_sR, am_n_sL, true_and, and_true, true_or, or_true, or_false, false_or, not_true_eq_false, not_false_eq_true, Nat.reduceLT, am_dS, am_dP, am_d1, Nat.reduceSub, Nat.reduceMul, ne_eq, Nat.reduceBEq, Nat.reduceAdd, Nat.reduceLeDiff, Nat.reduceEqDiff, and_self, and_false, false_and, if_true, if_false, am_nb, am_nb0, am_nb1, am_lc1, am_lc2, am_lc3, am_b0, am_b1, am_10, am_c8, am_c16, am_c24, am_c32, am_c40, am_c48, am_c56, am_c64, am_c72, Nat.add_zero, Bool.false_eq_true, Nat.zero_le, hk3]
        refine wX1_oddIf (d := d + 131) hC3 hj8 (fun ν3 h3 _ => ?_)
        rw [jS_1 hF2, ho']
        have fin := ih [.ref 0, .int (nI j), .int (orB (le5 o) (k + 1)), .int (nI (bsF o (k + 1))), .int (nI (k + 1))] ν3 ⟨rfl, hF2.trans h3⟩
        unfold bsF at fin
        by_cases q : o k < o (bsF o k)
        · rw [if_pos q] at fin
          simp only [gX1_colours_59, gX1_colours_62, gX1_colours_64, gX1_colours_67, gX1_colours_68, gX1_colours_69, gX1_colours_72, am_kill_int, am_kill_ref, am_kill_null, am_kill_F, am_kill_long, am_cat_n, am_cat_i, am_cat_r, am_cat_0, am_cat_l, am_nr_n, am_nr_i, am_nr_r, am_nr_0, am_nr_l, Option.toList_some, Option.toList_none, List.nil_append, List.cons_append, va_rf_s, va_rf_n, am_II, am_I_sR, am_I_sL, am_R_sI, am_RR, am_R_sL, am_L_sI, am_L_sR, am_LL, am_k_sI, am_k_sR, am_k_sL, am_n_sI, am_n_sR, am_n_sL, true_and, and_true, true_or, or_true, or_false, false_or, not_true_eq_false, not_false_eq_true, Nat.reduceLT, am_dS, am_dP, am_d1, Nat.reduceSub, Nat.reduceMul, ne_eq, Nat.reduceBEq, Nat.reduceAdd, Nat.reduceLeDiff, Nat.reduceEqDiff, and_self, and_false, false_and, if_true, if_false, am_nb, am_nb0, am_nb1, am_lc1, am_lc2, am_lc3, am_b0, am_b1, am_10, am_c8, am_c16, am_c24, am_c32, am_c40, am_c48, am_c56, am_c64, am_c72, Nat.add_zero, Bool.false_eq_true, Nat.zero_le, Int32.not_le.mpr q, nI_1]
          exact fin
        · rw [if_neg q] at fin
          simp only [gX1_colours_59, gX1_colours_62, gX1_colours_64, gX1_colours_67, gX1_colours_68, gX1_colours_69, gX1_colours_72, am_kill_int, am_kill_ref, am_kill_null, am_kill_F, am_kill_long, am_cat_n, am_cat_i, am_cat_r, am_cat_0, am_cat_l, am_nr_n, am_nr_i, am_nr_r, am_nr_0, am_nr_l, Option.toList_some, Option.toList_none, List.nil_append, List.cons_append, va_rf_s, va_rf_n, am_II, am_I_sR, am_I_sL, am_R_sI, am_RR, am_R_sL, am_L_sI, am_L_sR, am_LL, am_k_sI, am_k_sR, am_k_sL, am_n_sI, am_n_sR, am_n_sL, true_and, and_true, true_or, or_true, or_false, false_or, not_true_eq_false, not_false_eq_true, Nat.reduceLT, am_dS, am_dP, am_d1, Nat.reduceSub, Nat.reduceMul, ne_eq, Nat.reduceBEq, Nat.reduceAdd, Nat.reduceLeDiff, Nat.reduceEqDiff, and_self, and_false, false_and, if_true, if_false, am_nb, am_nb0, am_nb1, am_lc1, am_lc2, am_lc3, am_b0, am_b1, am_10, am_c8, am_c16, am_c24, am_c32, am_c40, am_c48, am_c56, am_c64, am_c72, Nat.add_zero, Bool.false_eq_true, Nat.zero_le, Int32.not_lt.mp q, nI_1]
          exact fin
      by_cases q : o k ≤ 5
      · have hp : le5 o k = true := decide_eq_true q
        simp only [gX1_colours_32, gX1_colours_33, gX1_colours_36, gX1_colours_37, gX1_colours_39, gX1_colours_40, gX1_colours_43, gX1_colours_44, gX1_colours_45, am_kill_int, am_kill_ref, am_kill_null, am_kill_F, am_kill_long, am_cat_n, am_cat_i, am_cat_r, am_cat_0, am_cat_l, am_nr_n, am_nr_i, am_nr_r, am_nr_0, am_nr_l, Option.toList_some, Option.toList_none, List.nil_append, List.cons_append, va_rf_s, va_rf_n, am_II, am_I_sR, am_I_sL, am_R_sI, am_RR, am_R_sL, am_L_sI, am_L_sR, am_LL, am_k_sI, am_k_sR, am_k_sL, am_n_sI, am_n_sR, am_n_sL, true_and, and_true, true_or, or_true, or_false, false_or, not_true_eq_false, not_false_eq_true, Nat.reduceLT, am_dS, am_dP, am_d1, Nat.reduceSub, Nat.reduceMul, ne_eq, Nat.reduceBEq, Nat.reduceAdd, Nat.reduceLeDiff, Nat.reduceEqDiff, and_self, and_false, false_and, if_true, if_false, am_nb, am_nb0, am_nb1, am_lc1, am_lc2, am_lc3, am_b0, am_b1, am_10, am_c8, am_c16, am_c24, am_c32, am_c40, am_c48, am_c56, am_c64, am_c72, Nat.add_zero, Bool.false_eq_true, Nat.zero_le, Int32.not_lt.mpr q, orB_t hp]
        exact key
      · have hp : le5 o k = false := decide_eq_false q
        simp only [gX1_colours_32, gX1_colours_33, gX1_colours_36, gX1_colours_37, gX1_colours_39, gX1_colours_40, gX1_colours_43, gX1_colours_44, gX1_colours_45, am_kill_int, am_kill_ref, am_kill_null, am_kill_F, am_kill_long, am_cat_n, am_cat_i, am_cat_r, am_cat_0, am_cat_l, am_nr_n, am_nr_i, am_nr_r, am_nr_0, am_nr_l, Option.toList_some, Option.toList_none, List.nil_append, List.cons_append, va_rf_s, va_rf_n, am_II, am_I_sR, am_I_sL, am_R_sI, am_RR, am_R_sL, am_L_sI, am_L_sR, am_LL, am_k_sI, am_k_sR, am_k_sL, am_n_sI, am_n_sR, am_n_sL, true_and, and_true, true_or, or_true, or_false, false_or, not_true_eq_false, not_false_eq_true, Nat.reduceLT, am_dS, am_dP, am_d1, Nat.reduceSub, Nat.reduceMul, ne_eq, Nat.reduceBEq, Nat.reduceAdd, Nat.reduceLeDiff, Nat.reduceEqDiff, and_self, and_false, false_and, if_true, if_false, am_nb, am_nb0, am_nb1, am_lc1, am_lc2, am_lc3, am_b0, am_b1, am_10, am_c8, am_c16, am_c24, am_c32, am_c40, am_c48, am_c56, am_c64, am_c72, Nat.add_zero, Bool.false_eq_true, Nat.zero_le, Int32.not_le.mp q, orB_f hp]
        exact key
    · rintro ls ν ⟨rfl, hF⟩
      have hC1 := hC.js (by decide) (by decide) hF
      have hcν := hC1.1
      simp only [cL, spL, Nat.reduceAdd] at hcν
      rw [gX1_colours_17]
      simp only [gX1_colours_19, gX1_colours_21, gX1_colours_75, gX1_colours_76, gX1_colours_77, gX1_colours_80, gX1_colours_81, gX1_colours_82, gX1_colours_85, gX1_colours_86, gX1_colours_89, gX1_colours_90, gX1_colours_91, gX1_colours_92, gX1_colours_95, gX1_colours_96, am_kill_int, am_kill_ref, am_kill_null, am_kill_F, am_kill_long, am_cat_n, am_cat_i, am_cat_r, am_cat_0, am_cat_l, am_nr_n, am_nr_i, am_nr_r, am_nr_0, am_nr_l, Option.toList_some, Option.toList_none, List.nil_append, List.cons_append, va_rf_s, va_rf_n, am_II, am_I_sR, am_I_sL, am_R_sI, am_RR, am_R_sL, am_L_sI, am_L_sR, am_LL, am_k_sI, am_k_sR, am_k_sL, am_n_sI, am_n_sR, am_n_sL, true_and, and_true, true_or, or_true, or_false, false_or, not_true_eq_false, not_false_eq_true, Nat.reduceLT, am_dS, am_dP, am_d1, Nat.reduceSub, Nat.reduceMul, ne_eq, Nat.reduceBEq, Nat.reduceAdd, Nat.reduceLeDiff, Nat.reduceEqDiff, and_self, and_false, false_and, if_true, if_false, am_nb, am_nb0, am_nb1, am_lc1, am_lc2, am_lc3, am_b0, am_b1, am_10, am_c8, am_c16, am_c24, am_c32, am_c40, am_c48, am_c56, am_c64, am_c72, Nat.add_zero, Bool.false_eq_true, Nat.zero_le, e10, Int32.le_refl, hcν, wJ10_bitCount, wX1_tells0, wX1_tells1]
      have g := (jS_qc hF).1
      refine hK _ (((((g.I (by unfold sC; omega)).L (Or.inl rfl)).I (by unfold sC; omega)).L (Or.inl rfl)).I (by unfold sC; omega)) (TC2 ?_ ?_ ?_) (fun i => ?_)
      · simp only [am_II, and_self, if_true]
      · simp only [am_L_sI, am_LL, and_self, if_true, Nat.reduceEqDiff, and_false, if_false]
      · simp only [am_L_sI, am_LL, and_self, if_true]
      · simp only [am_L_sI, am_LL, Nat.reduceEqDiff, false_and, if_false]; exact hF.L
  · simp only [hx, Bool.false_eq_true, if_false] at hK
    simp only [gX1_colours_0, gX1_colours_1, gX1_colours_2, gX1_colours_5, gX1_colours_8, gX1_colours_9, am_kill_int, am_kill_ref, am_kill_null, am_kill_F, am_kill_long, am_cat_n, am_cat_i, am_cat_r, am_cat_0, am_cat_l, am_nr_n, am_nr_i, am_nr_r, am_nr_0, am_nr_l, Option.toList_some, Option.toList_none, List.nil_append, List.cons_append, va_rf_s, va_rf_n, am_II, am_I_sR, am_I_sL, am_R_sI, am_RR, am_R_sL, am_L_sI, am_L_sR, am_LL, am_k_sI, am_k_sR, am_k_sL, am_n_sI, am_n_sR, am_n_sL, true_and, and_true, true_or, or_true, or_false, false_or, not_true_eq_false, not_false_eq_true, Nat.reduceLT, am_dS, am_dP, am_d1, Nat.reduceSub, Nat.reduceMul, ne_eq, Nat.reduceBEq, Nat.reduceAdd, Nat.reduceLeDiff, Nat.reduceEqDiff, and_self, and_false, false_and, if_true, if_false, am_nb, am_nb0, am_nb1, am_lc1, am_lc2, am_lc3, am_b0, am_b1, am_10, am_c8, am_c16, am_c24, am_c32, am_c40, am_c48, am_c56, am_c64, am_c72, Nat.add_zero, Bool.false_eq_true, Nat.zero_le, hk, wX1_isNest hN h8 hk, hx]
    exact hK μ Fw.refl TC0 (fun _ => rfl)
theorem q5_colours (hP : Per N C ru c μ) : Q5 mX3_colours [.ref 54, .int x, am_F, am_F, am_F, am_F] μ (vCol N ru (cS μ 1) x) (pCol N ru (cS μ 1) x) := by
  intro d K hK
  have hS := hP.1.2.1
  have hC := hS.1
  have hmu := hC.1
  unfold mL at hmu
  have hN := hC.2.1
  have h8 := hC.2.2.1
  unfold pCol vCol at hK
  by_cases hx : isN x N = true
  · simp only [if_pos hx] at hK
    obtain ⟨j, hj, rfl⟩ := isN_of (by omega) hx
    have hj8 : j < 8 := by omega
    have hin : vp_in (nI j) 8 := vp_in_nI (by omega) (by omega)
    have hcl : (nI j).toNatClampNeg = j := nI_clamp (by omega)
    simp only [hcl] at hK
    simp only [gX3_colours_5, gX3_colours_6, gX3_colours_7, gX3_colours_10, gX3_colours_13, gX3_colours_14, gX3_colours_15, gX3_colours_16, gX3_colours_17, gX3_colours_18, gX3_colours_19, gX3_colours_20, am_kill_int, am_kill_ref, am_kill_null, am_kill_F, am_kill_long, am_cat_n, am_cat_i, am_cat_r, am_cat_0, am_cat_l, am_nr_n, am_nr_i, am_nr_r, am_nr_0, am_nr_l, Option.toList_some, Option.toList_none, List.nil_append, List.cons_append, va_rf_s, va_rf_n, am_I_sR, am_I_sL, am_R_sI, am_R_sL, am_L_sI, am_L_sR, am_k_sI, am_k_sR, am_k_sL, am_n_sI, am_n_sR, am_n_sL, true_and, and_true, true_or, or_true, or_false, false_or, not_true_eq_false, not_false_eq_true, Nat.reduceLT, am_dS, am_dP, am_d1, Nat.reduceSub, Nat.reduceMul, ne_eq, Nat.reduceBEq, Nat.reduceAdd, Nat.reduceLeDiff, Nat.reduceEqDiff, and_self, and_false, false_and, if_true, if_false, am_nb, am_nb0, am_nb1, am_lc1, am_lc2, am_lc3, am_b0, am_b1, am_10, am_c8, am_c16, am_c24, am_c32, am_c40, am_c48, am_c56, am_c64, am_c72, Nat.add_zero, Bool.false_eq_true, Nat.zero_le, hmu, wX3_isNest hC, hx]
    generalize ho : (fun k => oddS N ru (lieT (cS μ 1) j (nI k)) j) = o at hK
    have ho' : ∀ k, oddS N ru (lieT (cS μ 1) j (nI k)) j = o k := fun k => by rw [← ho]
    have hoL : ∀ k, oddL N ru (am_I μ 55) j (nI k) = o k := fun k => by rw [← odd_L hS.2.2 h8 hP.2.1 hj, ho']
    refine am_for (N := 10) (fun k ls ν => (∃ z, ls = [.ref 54, .int (nI j), .int (orB (le5 o) k), .int (nI (bsF o k)), .int (nI k), z]) ∧ Fr jM μ ν ∧ am_I ν 54 17 = 0) ?_ ?_ 10 0 _ _ (by omega) ⟨⟨_, rfl⟩, Fr.refl, hP.h17⟩
    · rintro k ls ν hk10 ⟨⟨z, rfl⟩, hF, h17⟩ ih
      have hlt : ¬ nI 10 ≤ nI k := nI_ge hk10 (by omega)
      have hS1 := hS.jm hF h17
      have hmν := hS1.1.1
      unfold mL at hmν
      rw [gX3_colours_22]
      simp only [gX3_colours_24, gX3_colours_26, gX3_colours_29, gX3_colours_30, gX3_colours_31, gX3_colours_34, gX3_colours_35, gX3_colours_37, am_kill_int, am_kill_ref, am_kill_null, am_kill_F, am_kill_long, am_cat_n, am_cat_i, am_cat_r, am_cat_0, am_cat_l, am_nr_n, am_nr_i, am_nr_r, am_nr_0, am_nr_l, Option.toList_some, Option.toList_none, List.nil_append, List.cons_append, va_rf_s, va_rf_n, am_I_sR, am_I_sL, am_R_sI, am_R_sL, am_L_sI, am_L_sR, am_k_sI, am_k_sR, am_k_sL, am_n_sI, am_n_sR, am_n_sL, true_and, and_true, true_or, or_true, or_false, false_or, not_true_eq_false, not_false_eq_true, Nat.reduceLT, am_dS, am_dP, am_d1, Nat.reduceSub, Nat.reduceMul, ne_eq, Nat.reduceBEq, Nat.reduceAdd, Nat.reduceLeDiff, Nat.reduceEqDiff, and_self, and_false, false_and, if_true, if_false, am_nb, am_nb0, am_nb1, am_lc1, am_lc2, am_lc3, am_b0, am_b1, am_10, am_c8, am_c16, am_c24, am_c32, am_c40, am_c48, am_c56, am_c64, am_c72, Nat.add_zero, Bool.false_eq_true, Nat.zero_le, e10, hlt, hmν]
      refine wX3_oddLaid (d := d + 129) hS1 hj8 hmν.1.2.1 (fun ν1 h1 h171 => ?_)
      have hF1 := hF.trans h1
      have hS2 := hS.jm hF1 h171
      have hmν1 := hS2.1.1
      unfold mL at hmν1
      rw [jM_row hF (by decide) (by decide), hoL]
      have key : am_Wp (d + 200) mX3_colours 59 [.ref 54, .int (nI j), .int (orB (le5 o) (k + 1)), .int (nI (bsF o k)), .int (nI k), .int (o k)] [] ν1 K := by
        simp only [gX3_colours_59, gX3_colours_61, gX3_colours_62, gX3_colours_63, gX3_colours_66, gX3_colours_67, gX3_colours_68, am_kill_int, am_kill_ref, am_kill_null, am_kill_F, am_kill_long, am_cat_n, am_cat_i, am_cat_r, am_cat_0, am_cat_l, am_nr_n, am_nr_i, am_nr_r, am_nr_0, am_nr_l, Option.toList_some, Option.toList_none, List.nil_append, List.cons_append, va_rf_s, va_rf_n, am_I_sR, am_I_sL, am_R_sI, am_R_sL, am_L_sI, am_L_sR, am_k_sI, am_k_sR, am_k_sL, am_n_sI, am_n_sR, am_n_sL, true_and, and_true, true_or, or_true, or_false, false_or, not_true_eq_false, not_false_eq_true, Nat.reduceLT, am_dS, am_dP, am_d1, Nat.reduceSub, Nat.reduceMul, ne_eq, Nat.reduceBEq, Nat.reduceAdd, Nat.reduceLeDiff, Nat.reduceEqDiff, and_self, and_false, false_and, if_true, if_false, am_nb, am_nb0, am_nb1, am_lc1, am_lc2, am_lc3, am_b0, am_b1, am_10, am_c8, am_c16, am_c24, am_c32, am_c40, am_c48, am_c56, am_c64, am_c72, Nat.add_zero, Bool.false_eq_true, Nat.zero_le, hmν1]
        refine wX3_oddLaid (d := d + 129) hS2 hj8 hmν1.1.2.1 (fun ν2 h2 h172 => ?_)
        rw [jM_row hF1 (by decide) (by decide), hoL]
        have fin := ih [.ref 54, .int (nI j), .int (orB (le5 o) (k + 1)), .int (nI (bsF o (k + 1))), .int (nI (k + 1)), .int (o k)] ν2 ⟨⟨_, rfl⟩, hF1.trans h2, h172⟩
        unfold bsF at fin
        by_cases q : o k < o (bsF o k)
        · rw [if_pos q] at fin
          simp only [gX3_colours_71, gX3_colours_74, gX3_colours_76, gX3_colours_79, gX3_colours_80, gX3_colours_81, gX3_colours_84, am_kill_int, am_kill_ref, am_kill_null, am_kill_F, am_kill_long, am_cat_n, am_cat_i, am_cat_r, am_cat_0, am_cat_l, am_nr_n, am_nr_i, am_nr_r, am_nr_0, am_nr_l, Option.toList_some, Option.toList_none, List.nil_append, List.cons_append, va_rf_s, va_rf_n, am_I_sR, am_I_sL, am_R_sI, am_R_sL, am_L_sI, am_L_sR, am_k_sI, am_k_sR, am_k_sL, am_n_sI, am_n_sR, am_n_sL, true_and, and_true, true_or, or_true, or_false, false_or, not_true_eq_false, not_false_eq_true, Nat.reduceLT, am_dS, am_dP, am_d1, Nat.reduceSub, Nat.reduceMul, ne_eq, Nat.reduceBEq, Nat.reduceAdd, Nat.reduceLeDiff, Nat.reduceEqDiff, and_self, and_false, false_and, if_true, if_false, am_nb, am_nb0, am_nb1, am_lc1, am_lc2, am_lc3, am_b0, am_b1, am_10, am_c8, am_c16, am_c24, am_c32, am_c40, am_c48, am_c56, am_c64, am_c72, Nat.add_zero, Bool.false_eq_true, Nat.zero_le, Int32.not_le.mpr q, nI_1]
          exact fin
        · rw [if_neg q] at fin
          simp only [gX3_colours_71, gX3_colours_74, gX3_colours_76, gX3_colours_79, gX3_colours_80, gX3_colours_81, gX3_colours_84, am_kill_int, am_kill_ref, am_kill_null, am_kill_F, am_kill_long, am_cat_n, am_cat_i, am_cat_r, am_cat_0, am_cat_l, am_nr_n, am_nr_i, am_nr_r, am_nr_0, am_nr_l, Option.toList_some, Option.toList_none, List.nil_append, List.cons_append, va_rf_s, va_rf_n, am_I_sR, am_I_sL, am_R_sI, am_R_sL, am_L_sI, am_L_sR, am_k_sI, am_k_sR, am_k_sL, am_n_sI, am_n_sR, am_n_sL, true_and, and_true, true_or, or_true, or_false, false_or, not_true_eq_false, not_false_eq_true, Nat.reduceLT, am_dS, am_dP, am_d1, Nat.reduceSub, Nat.reduceMul, ne_eq, Nat.reduceBEq, Nat.reduceAdd, Nat.reduceLeDiff, Nat.reduceEqDiff, and_self, and_false, false_and, if_true, if_false, am_nb, am_nb0, am_nb1, am_lc1, am_lc2, am_lc3, am_b0, am_b1, am_10, am_c8, am_c16, am_c24, am_c32, am_c40, am_c48, am_c56, am_c64, am_c72, Nat.add_zero, Bool.false_eq_true, Nat.zero_le, Int32.not_lt.mp q, nI_1]
          exact fin
      by_cases q : o k ≤ 5
      · have hp : le5 o k = true := decide_eq_true q
        simp only [gX3_colours_40, gX3_colours_42, gX3_colours_43, gX3_colours_45, gX3_colours_46, gX3_colours_49, gX3_colours_50, gX3_colours_52, gX3_colours_53, gX3_colours_56, gX3_colours_57, gX3_colours_58, am_kill_int, am_kill_ref, am_kill_null, am_kill_F, am_kill_long, am_cat_n, am_cat_i, am_cat_r, am_cat_0, am_cat_l, am_nr_n, am_nr_i, am_nr_r, am_nr_0, am_nr_l, Option.toList_some, Option.toList_none, List.nil_append, List.cons_append, va_rf_s, va_rf_n, am_I_sR, am_I_sL, am_R_sI, am_R_sL, am_L_sI, am_L_sR, am_k_sI, am_k_sR, am_k_sL, am_n_sI, am_n_sR, am_n_sL, true_and, and_true, true_or, or_true, or_false, false_or, not_true_eq_false, not_false_eq_true, Nat.reduceLT, am_dS, am_dP, am_d1, Nat.reduceSub, Nat.reduceMul, ne_eq, Nat.reduceBEq, Nat.reduceAdd, Nat.reduceLeDiff, Nat.reduceEqDiff, and_self, and_false, false_and, if_true, if_false, am_nb, am_nb0, am_nb1, am_lc1, am_lc2, am_lc3, am_b0, am_b1, am_10, am_c8, am_c16, am_c24, am_c32, am_c40, am_c48, am_c56, am_c64, am_c72, Nat.add_zero, Bool.false_eq_true, Nat.zero_le, Int32.not_lt.mpr q, orB_t hp]
        exact key
      · have hp : le5 o k = false := decide_eq_false q
        simp only [gX3_colours_40, gX3_colours_42, gX3_colours_43, gX3_colours_45, gX3_colours_46, gX3_colours_49, gX3_colours_50, gX3_colours_52, gX3_colours_53, gX3_colours_56, gX3_colours_57, gX3_colours_58, am_kill_int, am_kill_ref, am_kill_null, am_kill_F, am_kill_long, am_cat_n, am_cat_i, am_cat_r, am_cat_0, am_cat_l, am_nr_n, am_nr_i, am_nr_r, am_nr_0, am_nr_l, Option.toList_some, Option.toList_none, List.nil_append, List.cons_append, va_rf_s, va_rf_n, am_I_sR, am_I_sL, am_R_sI, am_R_sL, am_L_sI, am_L_sR, am_k_sI, am_k_sR, am_k_sL, am_n_sI, am_n_sR, am_n_sL, true_and, and_true, true_or, or_true, or_false, false_or, not_true_eq_false, not_false_eq_true, Nat.reduceLT, am_dS, am_dP, am_d1, Nat.reduceSub, Nat.reduceMul, ne_eq, Nat.reduceBEq, Nat.reduceAdd, Nat.reduceLeDiff, Nat.reduceEqDiff, and_self, and_false, false_and, if_true, if_false, am_nb, am_nb0, am_nb1, am_lc1, am_lc2, am_lc3, am_b0, am_b1, am_10, am_c8, am_c16, am_c24, am_c32, am_c40, am_c48, am_c56, am_c64, am_c72, Nat.add_zero, Bool.false_eq_true, Nat.zero_le, Int32.not_le.mp q, orB_f hp]
        exact key
    · rintro ls ν ⟨⟨z, rfl⟩, hF, h17⟩
      have hS1 := hS.jm hF h17
      have hmν := hS1.1.1
      unfold mL at hmν
      rw [gX3_colours_22]
      simp only [gX3_colours_24, gX3_colours_26, gX3_colours_87, gX3_colours_88, gX3_colours_89, gX3_colours_92, gX3_colours_93, gX3_colours_94, gX3_colours_97, gX3_colours_98, gX3_colours_101, gX3_colours_102, gX3_colours_103, gX3_colours_104, gX3_colours_107, gX3_colours_108, am_kill_int, am_kill_ref, am_kill_null, am_kill_F, am_kill_long, am_cat_n, am_cat_i, am_cat_r, am_cat_0, am_cat_l, am_nr_n, am_nr_i, am_nr_r, am_nr_0, am_nr_l, Option.toList_some, Option.toList_none, List.nil_append, List.cons_append, va_rf_s, va_rf_n, am_II, am_I_sR, am_I_sL, am_R_sI, am_RR, am_R_sL, am_L_sI, am_L_sR, am_LL, am_k_sI, am_k_sR, am_k_sL, am_n_sI, am_n_sR, am_n_sL, true_and, and_true, true_or, or_true, or_false, false_or, not_true_eq_false, not_false_eq_true, Nat.reduceLT, am_dS, am_dP, am_d1, Nat.reduceSub, Nat.reduceMul, ne_eq, Nat.reduceBEq, Nat.reduceAdd, Nat.reduceLeDiff, Nat.reduceEqDiff, and_self, and_false, false_and, if_true, if_false, am_nb, am_nb0, am_nb1, am_lc1, am_lc2, am_lc3, am_b0, am_b1, am_10, am_c8, am_c16, am_c24, am_c32, am_c40, am_c48, am_c56, am_c64, am_c72, Nat.add_zero, Bool.false_eq_true, Nat.zero_le, e10, Int32.le_refl, hmν, wJ10_bitCount, wX3_tell0, wX3_tell1]
      have g := jM_sM hF
      refine hK _ (((((g.I (by unfold sM; omega)).L (Or.inr rfl)).I (by unfold sM; omega)).L (Or.inr rfl)).I (by unfold sM; omega)) ?_ (TN2 ?_ ?_ ?_) (fun i => ?_)
      · simp only [am_II, am_I_sL, Nat.reduceEqDiff, and_false, if_false]; exact h17
      · simp only [am_II, and_self, if_true]
      · simp only [am_L_sI, am_LL, and_self, if_true, Nat.reduceEqDiff, and_false, if_false]
      · simp only [am_L_sI, am_LL, and_self, if_true]
      · simp only [am_L_sI, am_LL, Nat.reduceEqDiff, false_and, if_false]; exact hF.L
  · simp only [hx, Bool.false_eq_true, if_false] at hK
    simp only [gX3_colours_5, gX3_colours_6, gX3_colours_7, gX3_colours_10, gX3_colours_13, gX3_colours_14, am_kill_int, am_kill_ref, am_kill_null, am_kill_F, am_kill_long, am_cat_n, am_cat_i, am_cat_r, am_cat_0, am_cat_l, am_nr_n, am_nr_i, am_nr_r, am_nr_0, am_nr_l, Option.toList_some, Option.toList_none, List.nil_append, List.cons_append, va_rf_s, va_rf_n, am_I_sR, am_I_sL, am_R_sI, am_R_sL, am_L_sI, am_L_sR, am_k_sI, am_k_sR, am_k_sL, am_n_sI, am_n_sR, am_n_sL, true_and, and_true, true_or, or_true, or_false, false_or, not_true_eq_false, not_false_eq_true, Nat.reduceLT, am_dS, am_dP, am_d1, Nat.reduceSub, Nat.reduceMul, ne_eq, Nat.reduceBEq, Nat.reduceAdd, Nat.reduceLeDiff, Nat.reduceEqDiff, and_self, and_false, false_and, if_true, if_false, am_nb, am_nb0, am_nb1, am_lc1, am_lc2, am_lc3, am_b0, am_b1, am_10, am_c8, am_c16, am_c24, am_c32, am_c40, am_c48, am_c56, am_c64, am_c72, Nat.add_zero, Bool.false_eq_true, Nat.zero_le, hmu, wX3_isNest hC, hx]
    exact hK μ Fw.refl hP.h17 TN0 (fun _ => rfl)
theorem op_colours (hI : Inv q μ) : OP q mX1_colours mX3_colours [.ref 0, .int x, am_F, am_F, am_F] [.ref 54, .int x, am_F, am_F, am_F, am_F] μ :=
  op_S (V := fun N ru _ S => vCol N ru S x) (P := fun N ru _ S => pCol N ru S x) (fun hP => qc_colours hP) (fun d K μ h h' => by simp only [gX3_colours_0, gX3_colours_1, gX3_colours_2, am_kill_int, am_kill_ref, am_kill_null, am_kill_F, am_kill_long, am_cat_n, am_cat_i, am_cat_r, am_cat_0, am_cat_l, am_nr_n, am_nr_i, am_nr_r, am_nr_0, am_nr_l, Option.toList_some, Option.toList_none, List.nil_append, List.cons_append, va_rf_s, va_rf_n, am_I_sR, am_I_sL, am_R_sI, am_R_sL, am_L_sI, am_L_sR, am_k_sI, am_k_sR, am_k_sL, am_n_sI, am_n_sR, am_n_sL, true_and, and_true, true_or, or_true, or_false, false_or, not_true_eq_false, not_false_eq_true, Nat.reduceLT, am_dS, am_dP, am_d1, Nat.reduceSub, Nat.reduceMul, ne_eq, Nat.reduceBEq, Nat.reduceAdd, Nat.reduceLeDiff, Nat.reduceEqDiff, and_self, and_false, false_and, if_true, if_false, am_nb, am_nb0, am_nb1, am_lc1, am_lc2, am_lc3, am_b0, am_b1, am_10, am_c8, am_c16, am_c24, am_c32, am_c40, am_c48, am_c56, am_c64, am_c72, Nat.add_zero, Bool.false_eq_true, Nat.zero_le, h]; exact h') (fun hP => q5_colours hP) hI
end OBV
