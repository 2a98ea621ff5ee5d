/-! calls that ask: tinting, waiting -/
set_option maxRecDepth 100000
section OGV
variable {d : Nat} {μ ν ξ : am_M} {K : Option Value → am_M → Prop} {x y z c w : Int32} {h h' N C j i k r n M b q m : Nat} {v : Int32} {ru : Option PF} {o o' : Nat → Int32} {S a : Nat → Int32} {p p' : Nat → Bool}
theorem spU_spU : spU (spU S k x) k y = spU S k y := by
  funext i; unfold spU; split <;> rfl
def oTin (N : Nat) (ru : Option PF) (S : Nat → Int32) (j : Nat) (k : Nat) : Int32 := oddS N ru (spU S (56 + j) (nI k)) j
def vTin (N : Nat) (ru : Option PF) (S : Nat → Int32) (x : Int32) : Int32 := if isN x N = true then (if S (48 + x.toNatClampNeg) = 1 then nI (bsF (oTin N ru S x.toNatClampNeg) 10) else -2) else -1
def pTin (N : Nat) (ru : Option PF) (S : Nat → Int32) (x : Int32) : Option (List Int64) := if isN x N = true then (if S (48 + x.toNatClampNeg) = 1 then some [(shI (oTin N ru S x.toNatClampNeg (bsF (oTin N ru S x.toNatClampNeg) 10))).toInt64] else none) else none
/-- the best so far, of the component's loop -/
def btF (o : Nat → Int32) (k : Nat) : Int32 := if k = 0 then -1 else nI (bsF o k)
def blF (o : Nat → Int32) (k : Nat) : Int32 := if k = 0 then 0 else o (bsF o k)
theorem jS_le (hf : Fr (fun a _ => inSp 12 a) μ ν) : Fr (jS 12) μ ν := hf.le fun a b q => Or.inl q
theorem qc_tinting (hP : Per N C ru c μ) : QC mX1_tinting [.ref 0, .int x, am_F, am_F, am_F, am_F] μ (vTin N ru (cS μ 1) x) (pTin N ru (cS μ 1) x) := by
  intro d K hK
  have hC := hP.1.1
  have hcu := hC.1
  simp only [cL, spL, Nat.reduceAdd] at hcu
  have hN := hC.2.1
  have h8 := hC.2.2.1
  have hk := hC.1.c
  unfold vTin pTin at hK
  by_cases hx : isN x N = true
  · simp only [if_pos hx] at hK
    obtain ⟨j, hj, rfl⟩ := isN_of (by omega) hx
    have hj8 : j < 8 := by omega
    have hin : vp_in (nI j) 8 := vp_in_nI (by omega) (by omega)
    have hcl : (nI j).toNatClampNeg = j := nI_clamp (by omega)
    simp only [hcl] at hK
    have e6 : am_I μ 8 j = cS μ 1 (48 + j) := (cS_6 hj8).symm
    by_cases h0 : cS μ 1 (48 + j) = 1
    · simp only [if_pos h0] at hK
      simp only [gX1_tinting_0, gX1_tinting_1, gX1_tinting_2, gX1_tinting_5, gX1_tinting_8, gX1_tinting_9, gX1_tinting_10, gX1_tinting_11, gX1_tinting_14, gX1_tinting_17, gX1_tinting_18, gX1_tinting_19, gX1_tinting_20, gX1_tinting_23, gX1_tinting_25, gX1_tinting_26, gX1_tinting_27, gX1_tinting_28, gX1_tinting_29, gX1_tinting_30, gX1_tinting_31, gX1_tinting_34, gX1_tinting_35, gX1_tinting_38, am_kill_int, am_kill_ref, am_kill_null, am_kill_F, am_kill_long, am_cat_n, am_cat_i, am_cat_r, am_cat_0, am_cat_l, am_nr_n, am_nr_i, am_nr_r, am_nr_0, am_nr_l, Option.toList_some, Option.toList_none, List.nil_append, List.cons_append, va_rf_s, va_rf_n, am_II, am_I_sR, am_I_sL, am_R_sI, am_RR, am_R_sL, am_L_sI, am_L_sR, am_LL, am_k_sI, am_k_sR, am_k_sL, am_n_sI, am_n_sR, am_n_sL, true_and, and_true, true_or, or_true, or_false, false_or, not_true_eq_false, not_false_eq_true, Nat.reduceLT, am_dS, am_dP, am_d1, Nat.reduceSub, Nat.reduceMul, ne_eq, Nat.reduceBEq, Nat.reduceAdd, Nat.reduceLeDiff, Nat.reduceEqDiff, and_self, and_false, false_and, if_true, if_false, am_nb, am_nb0, am_nb1, am_lc1, am_lc2, am_lc3, am_b0, am_b1, am_10, am_c8, am_c16, am_c24, am_c32, am_c40, am_c48, am_c56, am_c64, am_c72, Nat.add_zero, Bool.false_eq_true, Nat.zero_le, hcu, wX1_isNest hN h8 hk, hx, hin, hcl, e6, h0]
      refine wX2_becomes (d := d + 198) hC.1.s1 hC.1.s2 (by decide) (fun ν hF hT => ?_)
      have hF' := jS_le hF
      simp only [gX1_tinting_41, gX1_tinting_42, am_kill_int, am_kill_ref, am_kill_null, am_kill_F, am_kill_long, am_cat_n, am_cat_i, am_cat_r, am_cat_0, am_cat_l, am_nr_n, am_nr_i, am_nr_r, am_nr_0, am_nr_l, Option.toList_some, Option.toList_none, List.nil_append, List.cons_append, va_rf_s, va_rf_n, am_II, am_I_sR, am_I_sL, am_R_sI, am_RR, am_R_sL, am_L_sI, am_L_sR, am_LL, am_k_sI, am_k_sR, am_k_sL, am_n_sI, am_n_sR, am_n_sL, true_and, and_true, true_or, or_true, or_false, false_or, not_true_eq_false, not_false_eq_true, Nat.reduceLT, am_dS, am_dP, am_d1, Nat.reduceSub, Nat.reduceMul, ne_eq, Nat.reduceBEq, Nat.reduceAdd, Nat.reduceLeDiff, Nat.reduceEqDiff, and_self, and_false, false_and, if_true, if_false, am_nb, am_nb0, am_nb1, am_lc1, am_lc2, am_lc3, am_b0, am_b1, am_10, am_c8, am_c16, am_c24, am_c32, am_c40, am_c48, am_c56, am_c64, am_c72, Nat.add_zero, Bool.false_eq_true, Nat.zero_le]
      generalize ho : oTin N ru (cS μ 1) j = o at hK
      have ho' : ∀ k, oddS N ru (spU (cS μ 1) (56 + j) (nI k)) j = o k := fun k => by rw [← ho]; rfl
      refine am_for (N := 10) (fun k ls ξ => (∃ z, ls = [.ref 0, .int (nI j), .int (btF o k), .int (blF o k), .int (nI k), z]) ∧ Fr (jS 12) μ ξ ∧ ∃ w, cS ξ 12 = spU (cS μ 1) (56 + j) w) ?_ ?_ 10 0 _ _ (by omega) ⟨⟨_, rfl⟩, hF', cS μ 1 (56 + j), ?_⟩
      · rintro k ls ξ hk10 ⟨⟨z, rfl⟩, hFξ, w, hw⟩ ih
        have hlt : ¬ nI 10 ≤ nI k := nI_ge hk10 (by omega)
        have hC1 := hC.js (by decide) (by decide) hFξ
        have hcν := hC1.1
        simp only [cL, spL, Nat.reduceAdd] at hcν
        have hF2 : Fr (jS 12) ξ (am_sI ξ 20 j (nI k)) := Fr.I Fr.refl (Or.inl ⟨by omega, by omega⟩)
        have hC2 := hC1.js (by decide) (by decide) hF2
        have e12 : cS (am_sI ξ 20 j (nI k)) 12 = spU (cS μ 1) (56 + j) (nI k) := by
          rw [show (20 : Nat) = 12 + 8 by decide, cS_w7 hj8, hw, spU_spU]
        rw [gX1_tinting_44]
        simp only [gX1_tinting_46, gX1_tinting_48, gX1_tinting_51, gX1_tinting_52, gX1_tinting_55, gX1_tinting_58, gX1_tinting_59, gX1_tinting_61, gX1_tinting_62, gX1_tinting_63, gX1_tinting_64, gX1_tinting_67, gX1_tinting_68, am_kill_int, am_kill_ref, am_kill_null, am_kill_F, am_kill_long, am_cat_n, am_cat_i, am_cat_r, am_cat_0, am_cat_l, am_nr_n, am_nr_i, am_nr_r, am_nr_0, am_nr_l, Option.toList_some, Option.toList_none, List.nil_append, List.cons_append, va_rf_s, va_rf_n, am_I_sR, am_I_sL, am_R_sI, am_R_sL, am_L_sI, am_L_sR, am_k_sI, am_k_sR, am_k_sL, am_n_sI, am_n_sR, am_n_sL, true_and, and_true, true_or, or_true, or_false, false_or, not_true_eq_false, not_false_eq_true, Nat.reduceLT, am_dS, am_dP, am_d1, Nat.reduceSub, Nat.reduceMul, ne_eq, Nat.reduceBEq, Nat.reduceAdd, Nat.reduceLeDiff, Nat.reduceEqDiff, and_self, and_false, false_and, if_true, if_false, am_nb, am_nb0, am_nb1, am_lc1, am_lc2, am_lc3, am_b0, am_b1, am_10, am_c8, am_c16, am_c24, am_c32, am_c40, am_c48, am_c56, am_c64, am_c72, Nat.add_zero, Bool.false_eq_true, Nat.zero_le, e10, hlt, hcν, hin, hcl]
        refine wX1_oddOf (d := d + 132) hC2 hC2.1.s2 (by decide) (by decide) hj8 (fun ν1 hF1 => ?_)
        rw [e12, ho']
        have hF3 : Fr (jS 12) μ ν1 := (hFξ.trans hF2).trans (hF1.le fun a b q => Or.inr (Or.inr q))
        have e12' : cS ν1 12 = spU (cS μ 1) (56 + j) (nI k) := by rw [← e12]; exact cS_Fr hF1 fun a b z1 z2 z3 => by unfold jA at z3; omega
        have fin := fun z => ih [.ref 0, .int (nI j), .int (btF o (k + 1)), .int (blF o (k + 1)), .int (nI (k + 1)), z] ν1 ⟨⟨z, rfl⟩, hF3, nI k, e12'⟩
        have b1 : btF o (k + 1) = nI (bsF o (k + 1)) := rfl
        have b2 : blF o (k + 1) = o (bsF o (k + 1)) := rfl
        rw [b1, b2] at fin
        cases k with
        | zero =>
          have c1 : btF o 0 = -1 := rfl
          have c2 : bsF o (0 + 1) = 0 := by unfold bsF; exact ite_self _
          rw [c2] at fin
          have m1 : ¬ (0 : Int32) ≤ -1 := by decide
          have m1' : (-1 : Int32) < 0 := by decide
          simp only [gX1_tinting_71, gX1_tinting_73, gX1_tinting_74, gX1_tinting_77, gX1_tinting_79, gX1_tinting_80, gX1_tinting_83, gX1_tinting_86, gX1_tinting_88, gX1_tinting_89, gX1_tinting_91, gX1_tinting_92, gX1_tinting_95, am_kill_int, am_kill_ref, am_kill_null, am_kill_F, am_kill_long, am_cat_n, am_cat_i, am_cat_r, am_cat_0, am_cat_l, am_nr_n, am_nr_i, am_nr_r, am_nr_0, am_nr_l, Option.toList_some, Option.toList_none, List.nil_append, List.cons_append, va_rf_s, va_rf_n, am_II, am_I_sR, am_I_sL, am_R_sI, am_RR, am_R_sL, am_L_sI, am_L_sR, am_LL, am_k_sI, am_k_sR, am_k_sL, am_n_sI, am_n_sR, am_n_sL, true_and, and_true, true_or, or_true, or_false, false_or, not_true_eq_false, not_false_eq_true, Nat.reduceLT, am_dS, am_dP, am_d1, Nat.reduceSub, Nat.reduceMul, ne_eq, Nat.reduceBEq, Nat.reduceAdd, Nat.reduceLeDiff, Nat.reduceEqDiff, and_self, and_false, false_and, if_true, if_false, am_nb, am_nb0, am_nb1, am_lc1, am_lc2, am_lc3, am_b0, am_b1, am_10, am_c8, am_c16, am_c24, am_c32, am_c40, am_c48, am_c56, am_c64, am_c72, Nat.add_zero, Bool.false_eq_true, Nat.zero_le, c1, m1, m1', nI_1]
          exact fin _
        | succ k =>
          have c1 : btF o (k + 1) = nI (bsF o (k + 1)) := rfl
          have c2 : blF o (k + 1) = o (bsF o (k + 1)) := rfl
          have hb : ¬ nI (bsF o (k + 1)) < 0 := by have := bsF_le o (k + 1); rw [← nI_0]; exact nI_nlt (by omega) (by omega)
          rw [show bsF o (k + 1 + 1) = if o (k + 1) < o (bsF o (k + 1)) then k + 1 else bsF o (k + 1) from rfl] at fin
          by_cases q : o (k + 1) < o (bsF o (k + 1))
          · rw [if_pos q] at fin
            simp only [gX1_tinting_71, gX1_tinting_73, gX1_tinting_74, gX1_tinting_77, gX1_tinting_79, gX1_tinting_80, gX1_tinting_83, gX1_tinting_86, gX1_tinting_88, gX1_tinting_89, gX1_tinting_91, gX1_tinting_92, gX1_tinting_95, am_kill_int, am_kill_ref, am_kill_null, am_kill_F, am_kill_long, am_cat_n, am_cat_i, am_cat_r, am_cat_0, am_cat_l, am_nr_n, am_nr_i, am_nr_r, am_nr_0, am_nr_l, Option.toList_some, Option.toList_none, List.nil_append, List.cons_append, va_rf_s, va_rf_n, am_II, am_I_sR, am_I_sL, am_R_sI, am_RR, am_R_sL, am_L_sI, am_L_sR, am_LL, am_k_sI, am_k_sR, am_k_sL, am_n_sI, am_n_sR, am_n_sL, true_and, and_true, true_or, or_true, or_false, false_or, not_true_eq_false, not_false_eq_true, Nat.reduceLT, am_dS, am_dP, am_d1, Nat.reduceSub, Nat.reduceMul, ne_eq, Nat.reduceBEq, Nat.reduceAdd, Nat.reduceLeDiff, Nat.reduceEqDiff, and_self, and_false, false_and, if_true, if_false, am_nb, am_nb0, am_nb1, am_lc1, am_lc2, am_lc3, am_b0, am_b1, am_10, am_c8, am_c16, am_c24, am_c32, am_c40, am_c48, am_c56, am_c64, am_c72, Nat.add_zero, Bool.false_eq_true, Nat.zero_le, c1, c2, hb, q, nI_1]
            exact fin _
          · rw [if_neg q] at fin
            simp only [gX1_tinting_71, gX1_tinting_73, gX1_tinting_74, gX1_tinting_77, gX1_tinting_79, gX1_tinting_80, gX1_tinting_83, gX1_tinting_86, gX1_tinting_88, gX1_tinting_89, gX1_tinting_91, gX1_tinting_92, gX1_tinting_95, am_kill_int, am_kill_ref, am_kill_null, am_kill_F, am_kill_long, am_cat_n, am_cat_i, am_cat_r, am_cat_0, am_cat_l, am_nr_n, am_nr_i, am_nr_r, am_nr_0, am_nr_l, Option.toList_some, Option.toList_none, List.nil_append, List.cons_append, va_rf_s, va_rf_n, am_II, am_I_sR, am_I_sL, am_R_sI, am_RR, am_R_sL, am_L_sI, am_L_sR, am_LL, am_k_sI, am_k_sR, am_k_sL, am_n_sI, am_n_sR, am_n_sL, true_and, and_true, true_or, or_true, or_false, false_or, not_true_eq_false, not_false_eq_true, Nat.reduceLT, am_dS, am_dP, am_d1, Nat.reduceSub, Nat.reduceMul, ne_eq, Nat.reduceBEq, Nat.reduceAdd, Nat.reduceLeDiff, Nat.reduceEqDiff, and_self, and_false, false_and, if_true, if_false, am_nb, am_nb0, am_nb1, am_lc1, am_lc2, am_lc3, am_b0, am_b1, am_10, am_c8, am_c16, am_c24, am_c32, am_c40, am_c48, am_c56, am_c64, am_c72, Nat.add_zero, Bool.false_eq_true, Nat.zero_le, c1, c2, hb, q, nI_1]
            exact fin _
      · rintro ls ξ ⟨⟨z, rfl⟩, hFξ, w, hw⟩
        have hC1 := hC.js (by decide) (by decide) hFξ
        have hcν := hC1.1
        simp only [cL, spL, Nat.reduceAdd] at hcν
        obtain ⟨g1, g2, g3⟩ := jS_qc hFξ
        have b1 : btF o 10 = nI (bsF o 10) := rfl
        have b2 : blF o 10 = o (bsF o 10) := rfl
        rw [gX1_tinting_44]
        simp only [gX1_tinting_46, gX1_tinting_48, gX1_tinting_98, gX1_tinting_99, gX1_tinting_100, gX1_tinting_103, gX1_tinting_104, gX1_tinting_105, gX1_tinting_108, gX1_tinting_109, gX1_tinting_112, gX1_tinting_113, am_kill_int, am_kill_ref, am_kill_null, am_kill_F, am_kill_long, am_cat_n, am_cat_i, am_cat_r, am_cat_0, am_cat_l, am_nr_n, am_nr_i, am_nr_r, am_nr_0, am_nr_l, Option.toList_some, Option.toList_none, List.nil_append, List.cons_append, va_rf_s, va_rf_n, am_II, am_I_sR, am_I_sL, am_R_sI, am_RR, am_R_sL, am_L_sI, am_L_sR, am_LL, am_k_sI, am_k_sR, am_k_sL, am_n_sI, am_n_sR, am_n_sL, true_and, and_true, true_or, or_true, or_false, false_or, not_true_eq_false, not_false_eq_true, Nat.reduceLT, am_dS, am_dP, am_d1, Nat.reduceSub, Nat.reduceMul, ne_eq, Nat.reduceBEq, Nat.reduceAdd, Nat.reduceLeDiff, Nat.reduceEqDiff, and_self, and_false, false_and, if_true, if_false, am_nb, am_nb0, am_nb1, am_lc1, am_lc2, am_lc3, am_b0, am_b1, am_10, am_c8, am_c16, am_c24, am_c32, am_c40, am_c48, am_c56, am_c64, am_c72, Nat.add_zero, Bool.false_eq_true, Nat.zero_le, e10, Int32.le_refl, hcν, b1, b2, wX1_shown, wX1_tells0]
        refine hK _ (((g1.I (by unfold sC; omega)).L (Or.inl rfl)).I (by unfold sC; omega)) (TC1 ?_ ?_) (fun i => ?_)
        · simp only [am_II, and_self, if_true]
        · simp only [am_L_sI, am_LL, and_self, if_true]
        · simp only [am_L_sI, am_LL, Nat.reduceEqDiff, false_and, if_false]; exact hFξ.L
      · rw [hT]
        funext i; unfold spU; split
        · rename_i e; rw [e]
        · rfl
    · simp only [if_neg h0] at hK
      simp only [gX1_tinting_0, gX1_tinting_1, gX1_tinting_2, gX1_tinting_5, gX1_tinting_8, gX1_tinting_9, gX1_tinting_10, gX1_tinting_11, gX1_tinting_14, gX1_tinting_17, gX1_tinting_18, gX1_tinting_19, gX1_tinting_20, gX1_tinting_23, gX1_tinting_25, am_kill_int, am_kill_ref, am_kill_null, am_kill_F, am_kill_long, am_cat_n, am_cat_i, am_cat_r, am_cat_0, am_cat_l, am_nr_n, am_nr_i, am_nr_r, am_nr_0, am_nr_l, Option.toList_some, Option.toList_none, List.nil_append, List.cons_append, va_rf_s, va_rf_n, am_II, am_I_sR, am_I_sL, am_R_sI, am_RR, am_R_sL, am_L_sI, am_L_sR, am_LL, am_k_sI, am_k_sR, am_k_sL, am_n_sI, am_n_sR, am_n_sL, true_and, and_true, true_or, or_true, or_false, false_or, not_true_eq_false, not_false_eq_true, Nat.reduceLT, am_dS, am_dP, am_d1, Nat.reduceSub, Nat.reduceMul, ne_eq, Nat.reduceBEq, Nat.reduceAdd, Nat.reduceLeDiff, Nat.reduceEqDiff, and_self, and_false, false_and, if_true, if_false, am_nb, am_nb0, am_nb1, am_lc1, am_lc2, am_lc3, am_b0, am_b1, am_10, am_c8, am_c16, am_c24, am_c32, am_c40, am_c48, am_c56, am_c64, am_c72, Nat.add_zero, Bool.false_eq_true, Nat.zero_le, hcu, wX1_isNest hN h8 hk, hx, hin, hcl, e6, h0]
      exact hK μ Fw.refl TC0 (fun _ => rfl)
  · simp only [hx, Bool.false_eq_true, if_false] at hK
    simp only [gX1_tinting_0, gX1_tinting_1, gX1_tinting_2, gX1_tinting_5, gX1_tinting_8, gX1_tinting_9, am_kill_int, am_kill_ref, am_kill_null, am_kill_F, am_kill_long, am_cat_n, am_cat_i, am_cat_r, am_cat_0, am_cat_l, am_nr_n, am_nr_i, am_nr_r, am_nr_0, am_nr_l, Option.toList_some, Option.toList_none, List.nil_append, List.cons_append, va_rf_s, va_rf_n, am_II, am_I_sR, am_I_sL, am_R_sI, am_RR, am_R_sL, am_L_sI, am_L_sR, am_LL, am_k_sI, am_k_sR, am_k_sL, am_n_sI, am_n_sR, am_n_sL, true_and, and_true, true_or, or_true, or_false, false_or, not_true_eq_false, not_false_eq_true, Nat.reduceLT, am_dS, am_dP, am_d1, Nat.reduceSub, Nat.reduceMul, ne_eq, Nat.reduceBEq, Nat.reduceAdd, Nat.reduceLeDiff, Nat.reduceEqDiff, and_self, and_false, false_and, if_true, if_false, am_nb, am_nb0, am_nb1, am_lc1, am_lc2, am_lc3, am_b0, am_b1, am_10, am_c8, am_c16, am_c24, am_c32, am_c40, am_c48, am_c56, am_c64, am_c72, Nat.add_zero, Bool.false_eq_true, Nat.zero_le, hk, wX1_isNest hN h8 hk, hx]
    exact hK μ Fw.refl TC0 (fun _ => rfl)
theorem q5_tinting (hP : Per N C ru c μ) : Q5 mX3_tinting [.ref 54, .int x, am_F, am_F] μ (vTin N ru (cS μ 1) x) (pTin N ru (cS μ 1) x) := by
  intro d K hK
  have hS := hP.1.2.1
  have hC := hS.1
  have hmu := hC.1
  unfold mL at hmu
  have hN := hC.2.1
  have h8 := hC.2.2.1
  unfold vTin pTin at hK
  by_cases hx : isN x N = true
  · simp only [if_pos hx] at hK
    obtain ⟨j, hj, rfl⟩ := isN_of (by omega) hx
    have hj8 : j < 8 := by omega
    have hin : vp_in (nI j) 8 := vp_in_nI (by omega) (by omega)
    have hcl : (nI j).toNatClampNeg = j := nI_clamp (by omega)
    simp only [hcl] at hK
    have e6 : am_I μ 55 (48 + j) = cS μ 1 (48 + j) := (hP.2.1.r6 hj).symm
    have hv : vp_in (nI (48 + j)) 83 := vp_in_nI (by omega) (by omega)
    have hc48 : (nI (48 + j)).toNatClampNeg = 48 + j := nI_clamp (by omega)
    by_cases h0 : cS μ 1 (48 + j) = 1
    · simp only [if_pos h0] at hK
      simp only [gX3_tinting_5, gX3_tinting_6, gX3_tinting_7, gX3_tinting_10, gX3_tinting_13, gX3_tinting_14, gX3_tinting_15, gX3_tinting_16, gX3_tinting_19, gX3_tinting_21, gX3_tinting_22, gX3_tinting_23, gX3_tinting_24, gX3_tinting_25, gX3_tinting_28, gX3_tinting_30, gX3_tinting_31, gX3_tinting_32, gX3_tinting_33, gX3_tinting_34, am_kill_int, am_kill_ref, am_kill_null, am_kill_F, am_kill_long, am_cat_n, am_cat_i, am_cat_r, am_cat_0, am_cat_l, am_nr_n, am_nr_i, am_nr_r, am_nr_0, am_nr_l, Option.toList_some, Option.toList_none, List.nil_append, List.cons_append, va_rf_s, va_rf_n, am_I_sR, am_I_sL, am_R_sI, am_R_sL, am_L_sI, am_L_sR, am_k_sI, am_k_sR, am_k_sL, am_n_sI, am_n_sR, am_n_sL, true_and, and_true, true_or, or_true, or_false, false_or, not_true_eq_false, not_false_eq_true, Nat.reduceLT, am_dS, am_dP, am_d1, Nat.reduceSub, Nat.reduceMul, ne_eq, Nat.reduceBEq, Nat.reduceAdd, Nat.reduceLeDiff, Nat.reduceEqDiff, and_self, and_false, false_and, if_true, if_false, am_nb, am_nb0, am_nb1, am_lc1, am_lc2, am_lc3, am_b0, am_b1, am_10, am_c8, am_c16, am_c24, am_c32, am_c40, am_c48, am_c56, am_c64, am_c72, Nat.add_zero, Bool.false_eq_true, Nat.zero_le, hmu, wX3_isNest hC, hx, hv, hc48, e6, h0]
      generalize ho : oTin N ru (cS μ 1) j = o at hK
      have hoT : ∀ k, oddT N ru (am_I μ 55) j (nI k) = o k := fun k => by rw [← ho]; exact (odd_T hS.2.2 h8 hP.2.1 hj (by rw [h0]; decide)).symm
      have c2 : bsF o 1 = 0 := by unfold bsF; exact ite_self _
      have z1 : (1 : Int32) = nI 1 := rfl
      have z0 : (0 : Int32) = nI (bsF o 1) := by rw [c2]; rfl
      rw [z1, z0]
      refine am_for (N := 10) (fun k ls ξ => 1 ≤ k ∧ (ls = [.ref 54, .int (nI j), .int (nI (bsF o k)), .int (nI k)]) ∧ Fr jM μ ξ ∧ am_I ξ 54 17 = 0) ?_ ?_ 9 1 _ _ (by omega) ⟨Nat.le_refl 1, rfl, Fr.refl, hP.h17⟩
      · rintro k ls ν hk10 ⟨hk1, rfl, hF, h17⟩ ih
        have hlt : ¬ nI 10 ≤ nI k := nI_ge hk10 (by omega)
        have hS1 := hS.jm hF h17
        have hmν := hS1.1.1
        unfold mL at hmν
        rw [gX3_tinting_35]
        simp only [gX3_tinting_36, gX3_tinting_38, gX3_tinting_41, gX3_tinting_42, gX3_tinting_43, gX3_tinting_44, am_kill_int, am_kill_ref, am_kill_null, am_kill_F, am_kill_long, am_cat_n, am_cat_i, am_cat_r, am_cat_0, am_cat_l, am_nr_n, am_nr_i, am_nr_r, am_nr_0, am_nr_l, Option.toList_some, Option.toList_none, List.nil_append, List.cons_append, va_rf_s, va_rf_n, am_I_sR, am_I_sL, am_R_sI, am_R_sL, am_L_sI, am_L_sR, am_k_sI, am_k_sR, am_k_sL, am_n_sI, am_n_sR, am_n_sL, true_and, and_true, true_or, or_true, or_false, false_or, not_true_eq_false, not_false_eq_true, Nat.reduceLT, am_dS, am_dP, am_d1, Nat.reduceSub, Nat.reduceMul, ne_eq, Nat.reduceBEq, Nat.reduceAdd, Nat.reduceLeDiff, Nat.reduceEqDiff, and_self, and_false, false_and, if_true, if_false, am_nb, am_nb0, am_nb1, am_lc1, am_lc2, am_lc3, am_b0, am_b1, am_10, am_c8, am_c16, am_c24, am_c32, am_c40, am_c48, am_c56, am_c64, am_c72, Nat.add_zero, Bool.false_eq_true, Nat.zero_le, e10, hlt, hmν]
        refine wX3_oddTinted (d := d + 129) hS1 hj8 (fun ν1 h1 h171 => ?_)
        have hF1 := hF.trans h1
        have hS2 := hS.jm hF1 h171
        have hmν1 := hS2.1.1
        unfold mL at hmν1
        rw [jM_row hF (by decide) (by decide), hoT]
        simp only [gX3_tinting_47, gX3_tinting_48, gX3_tinting_49, gX3_tinting_50, am_kill_int, am_kill_ref, am_kill_null, am_kill_F, am_kill_long, am_cat_n, am_cat_i, am_cat_r, am_cat_0, am_cat_l, am_nr_n, am_nr_i, am_nr_r, am_nr_0, am_nr_l, Option.toList_some, Option.toList_none, List.nil_append, List.cons_append, va_rf_s, va_rf_n, am_I_sR, am_I_sL, am_R_sI, am_R_sL, am_L_sI, am_L_sR, am_k_sI, am_k_sR, am_k_sL, am_n_sI, am_n_sR, am_n_sL, true_and, and_true, true_or, or_true, or_false, false_or, not_true_eq_false, not_false_eq_true, Nat.reduceLT, am_dS, am_dP, am_d1, Nat.reduceSub, Nat.reduceMul, ne_eq, Nat.reduceBEq, Nat.reduceAdd, Nat.reduceLeDiff, Nat.reduceEqDiff, and_self, and_false, false_and, if_true, if_false, am_nb, am_nb0, am_nb1, am_lc1, am_lc2, am_lc3, am_b0, am_b1, am_10, am_c8, am_c16, am_c24, am_c32, am_c40, am_c48, am_c56, am_c64, am_c72, Nat.add_zero, Bool.false_eq_true, Nat.zero_le, hmν1]
        refine wX3_oddTinted (d := d + 129) hS2 hj8 (fun ν2 h2 h172 => ?_)
        rw [jM_row hF1 (by decide) (by decide), hoT]
        have fin := ih [.ref 54, .int (nI j), .int (nI (bsF o (k + 1))), .int (nI (k + 1))] ν2 ⟨by omega, rfl, hF1.trans h2, h172⟩
        unfold bsF at fin
        by_cases q : o k < o (bsF o k)
        · rw [if_pos q] at fin
          simp only [gX3_tinting_53, gX3_tinting_56, gX3_tinting_57, gX3_tinting_58, gX3_tinting_61, am_kill_int, am_kill_ref, am_kill_null, am_kill_F, am_kill_long, am_cat_n, am_cat_i, am_cat_r, am_cat_0, am_cat_l, am_nr_n, am_nr_i, am_nr_r, am_nr_0, am_nr_l, Option.toList_some, Option.toList_none, List.nil_append, List.cons_append, va_rf_s, va_rf_n, am_I_sR, am_I_sL, am_R_sI, am_R_sL, am_L_sI, am_L_sR, am_k_sI, am_k_sR, am_k_sL, am_n_sI, am_n_sR, am_n_sL, true_and, and_true, true_or, or_true, or_false, false_or, not_true_eq_false, not_false_eq_true, Nat.reduceLT, am_dS, am_dP, am_d1, Nat.reduceSub, Nat.reduceMul, ne_eq, Nat.reduceBEq, Nat.reduceAdd, Nat.reduceLeDiff, Nat.reduceEqDiff, and_self, and_false, false_and, if_true, if_false, am_nb, am_nb0, am_nb1, am_lc1, am_lc2, am_lc3, am_b0, am_b1, am_10, am_c8, am_c16, am_c24, am_c32, am_c40, am_c48, am_c56, am_c64, am_c72, Nat.add_zero, Bool.false_eq_true, Nat.zero_le, Int32.not_le.mpr q, nI_1]
          exact fin
        · rw [if_neg q] at fin
          simp only [gX3_tinting_53, gX3_tinting_56, gX3_tinting_57, gX3_tinting_58, gX3_tinting_61, am_kill_int, am_kill_ref, am_kill_null, am_kill_F, am_kill_long, am_cat_n, am_cat_i, am_cat_r, am_cat_0, am_cat_l, am_nr_n, am_nr_i, am_nr_r, am_nr_0, am_nr_l, Option.toList_some, Option.toList_none, List.nil_append, List.cons_append, va_rf_s, va_rf_n, am_I_sR, am_I_sL, am_R_sI, am_R_sL, am_L_sI, am_L_sR, am_k_sI, am_k_sR, am_k_sL, am_n_sI, am_n_sR, am_n_sL, true_and, and_true, true_or, or_true, or_false, false_or, not_true_eq_false, not_false_eq_true, Nat.reduceLT, am_dS, am_dP, am_d1, Nat.reduceSub, Nat.reduceMul, ne_eq, Nat.reduceBEq, Nat.reduceAdd, Nat.reduceLeDiff, Nat.reduceEqDiff, and_self, and_false, false_and, if_true, if_false, am_nb, am_nb0, am_nb1, am_lc1, am_lc2, am_lc3, am_b0, am_b1, am_10, am_c8, am_c16, am_c24, am_c32, am_c40, am_c48, am_c56, am_c64, am_c72, Nat.add_zero, Bool.false_eq_true, Nat.zero_le, Int32.not_lt.mp q, nI_1]
          exact fin
      · rintro ls ν ⟨hk1, rfl, hF, h17⟩
        have hS1 := hS.jm hF h17
        have hmν := hS1.1.1
        unfold mL at hmν
        have hF0 : Fw sM ν (am_sI ν 54 6 0) := Fw.I Fw.refl (by unfold sM; omega)
        have hS2 := hS1.sMm hF0 (by rw [am_I_sI, if_neg (by omega)]; exact h17)
        rw [gX3_tinting_35]
        simp only [gX3_tinting_36, gX3_tinting_38, gX3_tinting_64, gX3_tinting_65, gX3_tinting_66, gX3_tinting_69, gX3_tinting_70, gX3_tinting_71, gX3_tinting_72, gX3_tinting_73, am_kill_int, am_kill_ref, am_kill_null, am_kill_F, am_kill_long, am_cat_n, am_cat_i, am_cat_r, am_cat_0, am_cat_l, am_nr_n, am_nr_i, am_nr_r, am_nr_0, am_nr_l, Option.toList_some, Option.toList_none, List.nil_append, List.cons_append, va_rf_s, va_rf_n, am_I_sR, am_I_sL, am_R_sI, am_R_sL, am_L_sI, am_L_sR, am_k_sI, am_k_sR, am_k_sL, am_n_sI, am_n_sR, am_n_sL, true_and, and_true, true_or, or_true, or_false, false_or, not_true_eq_false, not_false_eq_true, Nat.reduceLT, am_dS, am_dP, am_d1, Nat.reduceSub, Nat.reduceMul, ne_eq, Nat.reduceBEq, Nat.reduceAdd, Nat.reduceLeDiff, Nat.reduceEqDiff, and_self, and_false, false_and, if_true, if_false, am_nb, am_nb0, am_nb1, am_lc1, am_lc2, am_lc3, am_b0, am_b1, am_10, am_c8, am_c16, am_c24, am_c32, am_c40, am_c48, am_c56, am_c64, am_c72, Nat.add_zero, Bool.false_eq_true, Nat.zero_le, e10, Int32.le_refl, hmν]
        refine wX3_oddTinted (d := d + 129) hS2 hj8 (fun ν1 h1 h171 => ?_)
        rw [am_row_o (by decide), jM_row hF (by decide) (by decide), hoT]
        have hS3 := hS2.jm h1 h171
        have hmν1 := hS3.1.1
        unfold mL at hmν1
        have h60 : am_I ν1 54 6 = 0 := (h1.1 54 6 (by unfold jM; omega)).trans (by rw [am_I_sI, if_pos ⟨rfl, rfl⟩])
        simp only [gX3_tinting_76, gX3_tinting_79, gX3_tinting_80, gX3_tinting_83, gX3_tinting_84, am_kill_int, am_kill_ref, am_kill_null, am_kill_F, am_kill_long, am_cat_n, am_cat_i, am_cat_r, am_cat_0, am_cat_l, am_nr_n, am_nr_i, am_nr_r, am_nr_0, am_nr_l, Option.toList_some, Option.toList_none, List.nil_append, List.cons_append, va_rf_s, va_rf_n, am_II, am_I_sR, am_I_sL, am_R_sI, am_RR, am_R_sL, am_L_sI, am_L_sR, am_LL, am_k_sI, am_k_sR, am_k_sL, am_n_sI, am_n_sR, am_n_sL, true_and, and_true, true_or, or_true, or_false, false_or, not_true_eq_false, not_false_eq_true, Nat.reduceLT, am_dS, am_dP, am_d1, Nat.reduceSub, Nat.reduceMul, ne_eq, Nat.reduceBEq, Nat.reduceAdd, Nat.reduceLeDiff, Nat.reduceEqDiff, and_self, and_false, false_and, if_true, if_false, am_nb, am_nb0, am_nb1, am_lc1, am_lc2, am_lc3, am_b0, am_b1, am_10, am_c8, am_c16, am_c24, am_c32, am_c40, am_c48, am_c56, am_c64, am_c72, Nat.add_zero, Bool.false_eq_true, Nat.zero_le, wX3_put, hmν1, h60, wX3_tell0]
        refine hK _ (((((jM_sM hF).trans hF0).trans (jM_sM h1)).L (Or.inr rfl)).I (by unfold sM; omega)) ?_ (TN1 ?_ ?_) (fun i => ?_)
        · simp only [am_II, am_I_sL, Nat.reduceEqDiff, and_false, if_false]; exact h171
        · simp only [am_II, and_self, if_true]
        · simp only [am_L_sI, am_LL, and_self, if_true]
        · simp only [am_L_sI, am_LL, Nat.reduceEqDiff, false_and, if_false]; rw [h1.L]; exact hF.L
    · simp only [if_neg h0] at hK
      simp only [gX3_tinting_5, gX3_tinting_6, gX3_tinting_7, gX3_tinting_10, gX3_tinting_13, gX3_tinting_14, gX3_tinting_15, gX3_tinting_16, gX3_tinting_19, gX3_tinting_21, gX3_tinting_22, gX3_tinting_23, gX3_tinting_24, gX3_tinting_25, gX3_tinting_28, gX3_tinting_30, am_kill_int, am_kill_ref, am_kill_null, am_kill_F, am_kill_long, am_cat_n, am_cat_i, am_cat_r, am_cat_0, am_cat_l, am_nr_n, am_nr_i, am_nr_r, am_nr_0, am_nr_l, Option.toList_some, Option.toList_none, List.nil_append, List.cons_append, va_rf_s, va_rf_n, am_I_sR, am_I_sL, am_R_sI, am_R_sL, am_L_sI, am_L_sR, am_k_sI, am_k_sR, am_k_sL, am_n_sI, am_n_sR, am_n_sL, true_and, and_true, true_or, or_true, or_false, false_or, not_true_eq_false, not_false_eq_true, Nat.reduceLT, am_dS, am_dP, am_d1, Nat.reduceSub, Nat.reduceMul, ne_eq, Nat.reduceBEq, Nat.reduceAdd, Nat.reduceLeDiff, Nat.reduceEqDiff, and_self, and_false, false_and, if_true, if_false, am_nb, am_nb0, am_nb1, am_lc1, am_lc2, am_lc3, am_b0, am_b1, am_10, am_c8, am_c16, am_c24, am_c32, am_c40, am_c48, am_c56, am_c64, am_c72, Nat.add_zero, Bool.false_eq_true, Nat.zero_le, hmu, wX3_isNest hC, hx, hv, hc48, e6, h0]
      exact hK μ Fw.refl hP.h17 TN0 (fun _ => rfl)
  · simp only [hx, Bool.false_eq_true, if_false] at hK
    simp only [gX3_tinting_5, gX3_tinting_6, gX3_tinting_7, gX3_tinting_10, gX3_tinting_13, gX3_tinting_14, am_kill_int, am_kill_ref, am_kill_null, am_kill_F, am_kill_long, am_cat_n, am_cat_i, am_cat_r, am_cat_0, am_cat_l, am_nr_n, am_nr_i, am_nr_r, am_nr_0, am_nr_l, Option.toList_some, Option.toList_none, List.nil_append, List.cons_append, va_rf_s, va_rf_n, am_I_sR, am_I_sL, am_R_sI, am_R_sL, am_L_sI, am_L_sR, am_k_sI, am_k_sR, am_k_sL, am_n_sI, am_n_sR, am_n_sL, true_and, and_true, true_or, or_true, or_false, false_or, not_true_eq_false, not_false_eq_true, Nat.reduceLT, am_dS, am_dP, am_d1, Nat.reduceSub, Nat.reduceMul, ne_eq, Nat.reduceBEq, Nat.reduceAdd, Nat.reduceLeDiff, Nat.reduceEqDiff, and_self, and_false, false_and, if_true, if_false, am_nb, am_nb0, am_nb1, am_lc1, am_lc2, am_lc3, am_b0, am_b1, am_10, am_c8, am_c16, am_c24, am_c32, am_c40, am_c48, am_c56, am_c64, am_c72, Nat.add_zero, Bool.false_eq_true, Nat.zero_le, hmu, wX3_isNest hC, hx]
    exact hK μ Fw.refl hP.h17 TN0 (fun _ => rfl)
theorem op_tinting (hI : Inv q μ) : OP q mX1_tinting mX3_tinting [.ref 0, .int x, am_F, am_F, am_F, am_F] [.ref 54, .int x, am_F, am_F] μ :=
  op_S (V := fun N ru c S => vTin N ru S x) (P := fun N ru c S => pTin N ru S x) (fun hP => qc_tinting hP) (fun d K μ h h' => by simp only [gX3_tinting_0, gX3_tinting_1, gX3_tinting_2, am_kill_int, am_kill_ref, am_kill_null, am_kill_F, am_kill_long, am_cat_n, am_cat_i, am_cat_r, am_cat_0, am_cat_l, am_nr_n, am_nr_i, am_nr_r, am_nr_0, am_nr_l, Option.toList_some, Option.toList_none, List.nil_append, List.cons_append, va_rf_s, va_rf_n, am_I_sR, am_I_sL, am_R_sI, am_R_sL, am_L_sI, am_L_sR, am_k_sI, am_k_sR, am_k_sL, am_n_sI, am_n_sR, am_n_sL, true_and, and_true, true_or, or_true, or_false, false_or, not_true_eq_false, not_false_eq_true, Nat.reduceLT, am_dS, am_dP, am_d1, Nat.reduceSub, Nat.reduceMul, ne_eq, Nat.reduceBEq, Nat.reduceAdd, Nat.reduceLeDiff, Nat.reduceEqDiff, and_self, and_false, false_and, if_true, if_false, am_nb, am_nb0, am_nb1, am_lc1, am_lc2, am_lc3, am_b0, am_b1, am_10, am_c8, am_c16, am_c24, am_c32, am_c40, am_c48, am_c56, am_c64, am_c72, Nat.add_zero, Bool.false_eq_true, Nat.zero_le, h]; exact h') (fun hP => q5_tinting hP) hI
end OGV
