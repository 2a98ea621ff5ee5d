/-! calls that ask: waits, spares -/
set_option maxRecDepth 100000
section OKV
variable {d : Nat} {μ ν ξ : am_M} {K : Option Value → am_M → Prop} {x y z c w : Int32} {h h' N C j i k r n M b q m ρ : Nat} {v : Int32} {ru : Option PF} {A o o' : Nat → Int32} {S a T : Nat → Int32} {g p p' : Nat → Bool}
/-- a notice's days behind so many replies more -/
def dBF (ρ : Nat) (v : Int32) : Nat → Int32
  | 0 => v
  | k + 1 => if ρ + k < 3 then maI 0 (dBF ρ v k - 2) else dBF ρ v k
theorem dBF_r (hv : 0 ≤ v ∧ v ≤ 99) : ∀ k, 0 ≤ dBF ρ v k ∧ dBF ρ v k ≤ 99
  | 0 => hv
  | k + 1 => by
    unfold dBF
    split
    · exact rgL (dBF_r hv k)
    · exact dBF_r hv k
theorem dBF_3 : ∀ k, 3 ≤ ρ + k → dBF ρ v (k + 1) = dBF ρ v k := fun k h => by
  rw [show dBF ρ v (k + 1) = if ρ + k < 3 then maI 0 (dBF ρ v k - 2) else dBF ρ v k from rfl, if_neg (by omega)]
theorem dBF_3' : ∀ m k, 3 ≤ ρ + k → dBF ρ v (k + m) = dBF ρ v k
  | 0, _, _ => rfl
  | m + 1, k, h => by rw [show k + (m + 1) = (k + m) + 1 by omega, dBF_3 (k + m) (by omega), dBF_3' m k h]
/-- one more reply -/
theorem rep_s (hj : j < N) (h8 : N ≤ 8) (hρ : ρ ≤ 3) (h4 : T (32 + j) = dBF ρ v k) (h5 : T (40 + j) = nI (min 3 (ρ + k))) (hv : 0 ≤ v ∧ v ≤ 99) :
    (repO N T (nI j)).2 (32 + j) = dBF ρ v (k + 1) ∧ (repO N T (nI j)).2 (40 + j) = nI (min 3 (ρ + (k + 1))) := by
  have hx : isN (nI j) N = true := isN_nI (by omega) hj
  have hcl : (nI j).toNatClampNeg = j := nI_clamp (by omega)
  unfold repO
  rw [if_pos hx, hcl, if_pos (by rw [h4]; exact (dBF_r hv k).1)]
  rw [show dBF ρ v (k + 1) = if ρ + k < 3 then maI 0 (dBF ρ v k - 2) else dBF ρ v k from rfl]
  by_cases q : ρ + k < 3
  · have h3 : ¬ T (40 + j) = 3 := by
      rw [h5, show min 3 (ρ + k) = ρ + k by omega]
      rcases (by omega : ρ + k = 0 ∨ ρ + k = 1 ∨ ρ + k = 2) with e | e | e <;> rw [e] <;> decide
    rw [if_neg h3, if_pos q]
    unfold repT
    refine ⟨?_, ?_⟩
    · show spU (spU T (32 + j) (maI 0 (T (32 + j) - 2))) (40 + j) (T (40 + j) + 1) (32 + j) = _
      rw [spU_n (by omega), spU_e, h4]
    · show spU (spU T (32 + j) (maI 0 (T (32 + j) - 2))) (40 + j) (T (40 + j) + 1) (40 + j) = _
      rw [spU_e, h5, nI_1]; congr 1; omega
  · have h3 : T (40 + j) = 3 := by
      rw [h5, show min 3 (ρ + k) = 3 by omega]; rfl
    rw [if_pos h3, if_neg q]
    exact ⟨h4, by show T (40 + j) = _; rw [h5]; congr 1; omega⟩
theorem wX1_waitsFor (hC : CC N ru c μ) (hj : j < N) (hM : M ≤ 1000) (hρ : ρ ≤ 3) (h5 : cS μ 1 (40 + j) = nI ρ) (hv : 0 ≤ cS μ 1 (32 + j) ∧ cS μ 1 (32 + j) ≤ 99) (hK : ∀ ν, Fr (jS 12) μ ν → K (some (.int (maI 0 (c - dBF ρ (cS μ 1 (32 + j)) M)))) ν) :
    am_Wp (d + 10) mX1_waitsFor 0 [.ref 0, .int (nI j), .int (nI M), am_F] [] μ K := by
  have hcu := hC.1
  simp only [cL, spL, Nat.reduceAdd] at hcu
  have h8 := hC.2.2.1
  have hj8 : j < 8 := by omega
  have hin : vp_in (nI j) 8 := vp_in_nI (by omega) (by omega)
  have hcl : (nI j).toNatClampNeg = j := nI_clamp (by omega)
  simp only [gX1_waitsFor_0, gX1_waitsFor_1, gX1_waitsFor_4, gX1_waitsFor_5, gX1_waitsFor_8, am_kill_int, am_kill_ref, am_kill_null, am_kill_F, am_kill_long, am_cat_n, am_cat_i, am_cat_r, am_cat_0, am_cat_l, am_nr_n, am_nr_i, am_nr_r, am_nr_0, am_nr_l, Option.toList_some, Option.toList_none, List.nil_append, List.cons_append, va_rf_s, va_rf_n, am_II, am_I_sR, am_I_sL, am_R_sI, am_RR, am_R_sL, am_L_sI, am_L_sR, am_LL, am_k_sI, am_k_sR, am_k_sL, am_n_sI, am_n_sR, am_n_sL, true_and, and_true, true_or, or_true, or_false, false_or, not_true_eq_false, not_false_eq_true, Nat.reduceLT, am_dS, am_dP, am_d1, Nat.reduceSub, Nat.reduceMul, ne_eq, Nat.reduceBEq, Nat.reduceAdd, Nat.reduceLeDiff, Nat.reduceEqDiff, and_self, and_false, false_and, if_true, if_false, am_nb, am_nb0, am_nb1, am_lc1, am_lc2, am_lc3, am_b0, am_b1, am_10, am_c8, am_c16, am_c24, am_c32, am_c40, am_c48, am_c56, am_c64, am_c72, Nat.add_zero, Bool.false_eq_true, Nat.zero_le, hcu]
  refine wX2_becomes (d := d + 8) hC.1.s1 hC.1.s2 (by decide) (fun ν0 hF0 hT0 => ?_)
  simp only [gX1_waitsFor_11, gX1_waitsFor_12, am_kill_int, am_kill_ref, am_kill_null, am_kill_F, am_kill_long, am_cat_n, am_cat_i, am_cat_r, am_cat_0, am_cat_l, am_nr_n, am_nr_i, am_nr_r, am_nr_0, am_nr_l, Option.toList_some, Option.toList_none, List.nil_append, List.cons_append, va_rf_s, va_rf_n, am_II, am_I_sR, am_I_sL, am_R_sI, am_RR, am_R_sL, am_L_sI, am_L_sR, am_LL, am_k_sI, am_k_sR, am_k_sL, am_n_sI, am_n_sR, am_n_sL, true_and, and_true, true_or, or_true, or_false, false_or, not_true_eq_false, not_false_eq_true, Nat.reduceLT, am_dS, am_dP, am_d1, Nat.reduceSub, Nat.reduceMul, ne_eq, Nat.reduceBEq, Nat.reduceAdd, Nat.reduceLeDiff, Nat.reduceEqDiff, and_self, and_false, false_and, if_true, if_false, am_nb, am_nb0, am_nb1, am_lc1, am_lc2, am_lc3, am_b0, am_b1, am_10, am_c8, am_c16, am_c24, am_c32, am_c40, am_c48, am_c56, am_c64, am_c72, Nat.add_zero, Bool.false_eq_true, Nat.zero_le]
  refine am_for (N := M) (fun k ls ν => ls = [.ref 0, .int (nI j), .int (nI M), .int (nI k)] ∧ Fr (jS 12) μ ν ∧ cS ν 12 (32 + j) = dBF ρ (cS μ 1 (32 + j)) k ∧ cS ν 12 (40 + j) = nI (min 3 (ρ + k))) ?_ ?_ M 0 _ _ (by omega) ⟨rfl, jS_le hF0, by rw [hT0]; rfl, by rw [hT0, h5]; congr 1; omega⟩
  · rintro k ls ν hkM ⟨rfl, hF, h4, h5'⟩ ih
    have hlt : ¬ nI M ≤ nI k := nI_ge hkM (by omega)
    have hC1 := hC.js (by decide) (by decide) hF
    have hcν := hC1.1
    simp only [cL, spL, Nat.reduceAdd] at hcν
    rw [gX1_waitsFor_13]
    simp only [gX1_waitsFor_14, gX1_waitsFor_15, gX1_waitsFor_18, gX1_waitsFor_19, gX1_waitsFor_20, gX1_waitsFor_23, gX1_waitsFor_24, am_kill_int, am_kill_ref, am_kill_null, am_kill_F, am_kill_long, am_cat_n, am_cat_i, am_cat_r, am_cat_0, am_cat_l, am_nr_n, am_nr_i, am_nr_r, am_nr_0, am_nr_l, Option.toList_some, Option.toList_none, List.nil_append, List.cons_append, va_rf_s, va_rf_n, am_II, am_I_sR, am_I_sL, am_R_sI, am_RR, am_R_sL, am_L_sI, am_L_sR, am_LL, am_k_sI, am_k_sR, am_k_sL, am_n_sI, am_n_sR, am_n_sL, true_and, and_true, true_or, or_true, or_false, false_or, not_true_eq_false, not_false_eq_true, Nat.reduceLT, am_dS, am_dP, am_d1, Nat.reduceSub, Nat.reduceMul, ne_eq, Nat.reduceBEq, Nat.reduceAdd, Nat.reduceLeDiff, Nat.reduceEqDiff, and_self, and_false, false_and, if_true, if_false, am_nb, am_nb0, am_nb1, am_lc1, am_lc2, am_lc3, am_b0, am_b1, am_10, am_c8, am_c16, am_c24, am_c32, am_c40, am_c48, am_c56, am_c64, am_c72, Nat.add_zero, Bool.false_eq_true, Nat.zero_le, hcν, hlt]
    refine wX1_repliesTo (d := d + 6) hC1 hC1.1.s2 (fun ν1 hF1 hT1 => ?_)
    simp only [gX1_waitsFor_27, gX1_waitsFor_28, gX1_waitsFor_31, am_kill_int, am_kill_ref, am_kill_null, am_kill_F, am_kill_long, am_cat_n, am_cat_i, am_cat_r, am_cat_0, am_cat_l, am_nr_n, am_nr_i, am_nr_r, am_nr_0, am_nr_l, Option.toList_some, Option.toList_none, List.nil_append, List.cons_append, va_rf_s, va_rf_n, am_II, am_I_sR, am_I_sL, am_R_sI, am_RR, am_R_sL, am_L_sI, am_L_sR, am_LL, am_k_sI, am_k_sR, am_k_sL, am_n_sI, am_n_sR, am_n_sL, true_and, and_true, true_or, or_true, or_false, false_or, not_true_eq_false, not_false_eq_true, Nat.reduceLT, am_dS, am_dP, am_d1, Nat.reduceSub, Nat.reduceMul, ne_eq, Nat.reduceBEq, Nat.reduceAdd, Nat.reduceLeDiff, Nat.reduceEqDiff, and_self, and_false, false_and, if_true, if_false, am_nb, am_nb0, am_nb1, am_lc1, am_lc2, am_lc3, am_b0, am_b1, am_10, am_c8, am_c16, am_c24, am_c32, am_c40, am_c48, am_c56, am_c64, am_c72, Nat.add_zero, Bool.false_eq_true, Nat.zero_le, nI_1]
    obtain ⟨e1, e2⟩ := rep_s (T := cS ν 12) hj h8 hρ h4 h5' hv
    exact ih _ _ ⟨rfl, hF.trans (jS_le hF1), by rw [hT1]; exact e1, by rw [hT1]; exact e2⟩
  · rintro ls ν ⟨rfl, hF, h4, h5'⟩
    have hC1 := hC.js (by decide) (by decide) hF
    have hcν := hC1.1
    simp only [cL, spL, Nat.reduceAdd] at hcν
    have hc3 := hC1.2.2.2.1
    have e4 : am_I ν 17 j = dBF ρ (cS μ 1 (32 + j)) M := by rw [← h4]; exact (cS_4 hj8).symm
    have fin := hK ν hF
    unfold maI at fin
    rw [gX1_waitsFor_13]
    simp only [gX1_waitsFor_14, gX1_waitsFor_15, gX1_waitsFor_18, gX1_waitsFor_19, gX1_waitsFor_20, gX1_waitsFor_23, gX1_waitsFor_24, gX1_waitsFor_27, gX1_waitsFor_28, gX1_waitsFor_31, gX1_waitsFor_34, gX1_waitsFor_35, gX1_waitsFor_36, gX1_waitsFor_39, gX1_waitsFor_40, gX1_waitsFor_43, gX1_waitsFor_46, gX1_waitsFor_47, gX1_waitsFor_48, gX1_waitsFor_49, gX1_waitsFor_52, am_kill_int, am_kill_ref, am_kill_null, am_kill_F, am_kill_long, am_cat_n, am_cat_i, am_cat_r, am_cat_0, am_cat_l, am_nr_n, am_nr_i, am_nr_r, am_nr_0, am_nr_l, Option.toList_some, Option.toList_none, List.nil_append, List.cons_append, va_rf_s, va_rf_n, am_II, am_I_sR, am_I_sL, am_R_sI, am_RR, am_R_sL, am_L_sI, am_L_sR, am_LL, am_k_sI, am_k_sR, am_k_sL, am_n_sI, am_n_sR, am_n_sL, true_and, and_true, true_or, or_true, or_false, false_or, not_true_eq_false, not_false_eq_true, Nat.reduceLT, am_dS, am_dP, am_d1, Nat.reduceSub, Nat.reduceMul, ne_eq, Nat.reduceBEq, Nat.reduceAdd, Nat.reduceLeDiff, Nat.reduceEqDiff, and_self, and_false, false_and, if_true, if_false, am_nb, am_nb0, am_nb1, am_lc1, am_lc2, am_lc3, am_b0, am_b1, am_10, am_c8, am_c16, am_c24, am_c32, am_c40, am_c48, am_c56, am_c64, am_c72, Nat.add_zero, Bool.false_eq_true, Nat.zero_le, hcν, Int32.le_refl, hin, hcl, hc3, e4]
    exact fin
def rhF (S : Nat → Int32) (j : Nat) : Nat := (S (40 + j)).toNatClampNeg
theorem Sim.rh (hs : Sim N S a) (hj : j < N) : rhF S j ≤ 3 ∧ S (40 + j) = nI (rhF S j) := by
  have := (hs.cg hj).2.2.2.1
  rw [col5] at this
  obtain ⟨k, hk, e⟩ := rngI (M := 3) (by decide) this.1 this.2
  unfold rhF
  rw [e, nI_clamp (by omega)]
  exact ⟨by omega, rfl⟩
theorem Sim.no (hs : Sim N S a) (hj : j < N) (h : 0 ≤ S (32 + j)) : 0 ≤ S (32 + j) ∧ S (32 + j) ≤ 99 := by
  have := (hs.cg hj).2.1
  rw [col4] at this
  rcases this with e | e
  · rw [e] at h; exact absurd h (by decide)
  · exact e
def vWa (N : Nat) (c : Int32) (S : Nat → Int32) (x y : Int32) : Int32 := if isN x N = true ∧ isN y 4 = true then (if 0 ≤ S (32 + x.toNatClampNeg) then maI 0 (c - dBF (rhF S x.toNatClampNeg) (S (32 + x.toNatClampNeg)) y.toNatClampNeg) else -2) else -1
theorem qc_waits (hP : Per N C ru c μ) : QC mX1_waits [.ref 0, .int x, .int y] μ (vWa N c (cS μ 1) x y) none := by
  intro d K hK
  have hC := hP.1.1
  have hcu := hC.1
  simp only [cL, spL, Nat.reduceAdd] at hcu
  have hN := hC.2.1
  have h8 := hC.2.2.1
  have hk := hC.1.c
  unfold vWa at hK
  by_cases hx : isN x N = true
  · by_cases hy : isN y 4 = true
    · simp only [if_pos (And.intro hx hy)] at hK
      obtain ⟨j, hj, rfl⟩ := isN_of (by omega) hx
      have hj8 : j < 8 := by omega
      have hin : vp_in (nI j) 8 := vp_in_nI (by omega) (by omega)
      have hcl : (nI j).toNatClampNeg = j := nI_clamp (by omega)
      obtain ⟨m, hm, rfl⟩ := isN_of (by omega) hy
      have hcm : (nI m).toNatClampNeg = m := nI_clamp (by omega)
      simp only [hcl, hcm] at hK
      by_cases h0 : 0 ≤ cS μ 1 (32 + j)
      · simp only [if_pos h0] at hK
        obtain ⟨r1, r2⟩ := hP.2.1.rh hj
        simp only [gX1_waits_0, gX1_waits_1, gX1_waits_2, gX1_waits_5, gX1_waits_8, gX1_waits_9, gX1_waits_10, gX1_waits_11, gX1_waits_14, gX1_waits_17, gX1_waits_20, gX1_waits_21, gX1_waits_22, gX1_waits_23, gX1_waits_26, gX1_waits_27, gX1_waits_30, gX1_waits_33, gX1_waits_34, gX1_waits_35, gX1_waits_36, am_kill_int, am_kill_ref, am_kill_null, am_kill_F, am_kill_long, am_cat_n, am_cat_i, am_cat_r, am_cat_0, am_cat_l, am_nr_n, am_nr_i, am_nr_r, am_nr_0, am_nr_l, Option.toList_some, Option.toList_none, List.nil_append, List.cons_append, va_rf_s, va_rf_n, am_II, am_I_sR, am_I_sL, am_R_sI, am_RR, am_R_sL, am_L_sI, am_L_sR, am_LL, am_k_sI, am_k_sR, am_k_sL, am_n_sI, am_n_sR, am_n_sL, true_and, and_true, true_or, or_true, or_false, false_or, not_true_eq_false, not_false_eq_true, Nat.reduceLT, am_dS, am_dP, am_d1, Nat.reduceSub, Nat.reduceMul, ne_eq, Nat.reduceBEq, Nat.reduceAdd, Nat.reduceLeDiff, Nat.reduceEqDiff, and_self, and_false, false_and, if_true, if_false, am_nb, am_nb0, am_nb1, am_lc1, am_lc2, am_lc3, am_b0, am_b1, am_10, am_c8, am_c16, am_c24, am_c32, am_c40, am_c48, am_c56, am_c64, am_c72, Nat.add_zero, Bool.false_eq_true, Nat.zero_le, hcu, wX1_isNest hN h8 hk, wX1_in, am_l0, e3L, am_leL, am_isb, hx, hy, wX2_isNoticed hj8 hC.1.s1, h0]
        refine wX1_waitsFor (d := d + 189) hC hj (by omega) r1 r2 (hP.2.1.no hj h0) (fun ν hF => ?_)
        simp only [gX1_waits_39, gX1_waits_42, gX1_waits_44, am_kill_int, am_kill_ref, am_kill_null, am_kill_F, am_kill_long, am_cat_n, am_cat_i, am_cat_r, am_cat_0, am_cat_l, am_nr_n, am_nr_i, am_nr_r, am_nr_0, am_nr_l, Option.toList_some, Option.toList_none, List.nil_append, List.cons_append, va_rf_s, va_rf_n, am_II, am_I_sR, am_I_sL, am_R_sI, am_RR, am_R_sL, am_L_sI, am_L_sR, am_LL, am_k_sI, am_k_sR, am_k_sL, am_n_sI, am_n_sR, am_n_sL, true_and, and_true, true_or, or_true, or_false, false_or, not_true_eq_false, not_false_eq_true, Nat.reduceLT, am_dS, am_dP, am_d1, Nat.reduceSub, Nat.reduceMul, ne_eq, Nat.reduceBEq, Nat.reduceAdd, Nat.reduceLeDiff, Nat.reduceEqDiff, and_self, and_false, false_and, if_true, if_false, am_nb, am_nb0, am_nb1, am_lc1, am_lc2, am_lc3, am_b0, am_b1, am_10, am_c8, am_c16, am_c24, am_c32, am_c40, am_c48, am_c56, am_c64, am_c72, Nat.add_zero, Bool.false_eq_true, Nat.zero_le]
        obtain ⟨g1, g2, g3⟩ := jS_qc hF
        exact hK ν g1 g2 g3
      · simp only [if_neg h0] at hK
        simp only [gX1_waits_0, gX1_waits_1, gX1_waits_2, gX1_waits_5, gX1_waits_8, gX1_waits_9, gX1_waits_10, gX1_waits_11, gX1_waits_14, gX1_waits_17, gX1_waits_20, gX1_waits_21, gX1_waits_22, gX1_waits_23, gX1_waits_26, gX1_waits_27, gX1_waits_30, gX1_waits_33, gX1_waits_34, gX1_waits_35, gX1_waits_36, gX1_waits_39, gX1_waits_42, gX1_waits_44, am_kill_int, am_kill_ref, am_kill_null, am_kill_F, am_kill_long, am_cat_n, am_cat_i, am_cat_r, am_cat_0, am_cat_l, am_nr_n, am_nr_i, am_nr_r, am_nr_0, am_nr_l, Option.toList_some, Option.toList_none, List.nil_append, List.cons_append, va_rf_s, va_rf_n, am_II, am_I_sR, am_I_sL, am_R_sI, am_RR, am_R_sL, am_L_sI, am_L_sR, am_LL, am_k_sI, am_k_sR, am_k_sL, am_n_sI, am_n_sR, am_n_sL, true_and, and_true, true_or, or_true, or_false, false_or, not_true_eq_false, not_false_eq_true, Nat.reduceLT, am_dS, am_dP, am_d1, Nat.reduceSub, Nat.reduceMul, ne_eq, Nat.reduceBEq, Nat.reduceAdd, Nat.reduceLeDiff, Nat.reduceEqDiff, and_self, and_false, false_and, if_true, if_false, am_nb, am_nb0, am_nb1, am_lc1, am_lc2, am_lc3, am_b0, am_b1, am_10, am_c8, am_c16, am_c24, am_c32, am_c40, am_c48, am_c56, am_c64, am_c72, Nat.add_zero, Bool.false_eq_true, Nat.zero_le, hcu, wX1_isNest hN h8 hk, wX1_in, am_l0, e3L, am_leL, am_isb, hx, hy, wX2_isNoticed hj8 hC.1.s1, h0]
        exact hK μ Fw.refl TC0 (fun _ => rfl)
    · simp only [hy, Bool.false_eq_true, and_false, if_false] at hK
      simp only [gX1_waits_0, gX1_waits_1, gX1_waits_2, gX1_waits_5, gX1_waits_8, gX1_waits_9, gX1_waits_10, gX1_waits_11, gX1_waits_14, gX1_waits_17, gX1_waits_20, gX1_waits_21, am_kill_int, am_kill_ref, am_kill_null, am_kill_F, am_kill_long, am_cat_n, am_cat_i, am_cat_r, am_cat_0, am_cat_l, am_nr_n, am_nr_i, am_nr_r, am_nr_0, am_nr_l, Option.toList_some, Option.toList_none, List.nil_append, List.cons_append, va_rf_s, va_rf_n, am_II, am_I_sR, am_I_sL, am_R_sI, am_RR, am_R_sL, am_L_sI, am_L_sR, am_LL, am_k_sI, am_k_sR, am_k_sL, am_n_sI, am_n_sR, am_n_sL, true_and, and_true, true_or, or_true, or_false, false_or, not_true_eq_false, not_false_eq_true, Nat.reduceLT, am_dS, am_dP, am_d1, Nat.reduceSub, Nat.reduceMul, ne_eq, Nat.reduceBEq, Nat.reduceAdd, Nat.reduceLeDiff, Nat.reduceEqDiff, and_self, and_false, false_and, if_true, if_false, am_nb, am_nb0, am_nb1, am_lc1, am_lc2, am_lc3, am_b0, am_b1, am_10, am_c8, am_c16, am_c24, am_c32, am_c40, am_c48, am_c56, am_c64, am_c72, Nat.add_zero, Bool.false_eq_true, Nat.zero_le, hk, wX1_isNest hN h8 hk, wX1_in, am_l0, e3L, am_leL, am_isb, hx, hy]
      exact hK μ Fw.refl TC0 (fun _ => rfl)
  · simp only [hx, Bool.false_eq_true, false_and, if_false] at hK
    simp only [gX1_waits_0, gX1_waits_1, gX1_waits_2, gX1_waits_5, gX1_waits_8, gX1_waits_9, gX1_waits_10, gX1_waits_11, gX1_waits_14, gX1_waits_17, gX1_waits_20, gX1_waits_21, am_kill_int, am_kill_ref, am_kill_null, am_kill_F, am_kill_long, am_cat_n, am_cat_i, am_cat_r, am_cat_0, am_cat_l, am_nr_n, am_nr_i, am_nr_r, am_nr_0, am_nr_l, Option.toList_some, Option.toList_none, List.nil_append, List.cons_append, va_rf_s, va_rf_n, am_II, am_I_sR, am_I_sL, am_R_sI, am_RR, am_R_sL, am_L_sI, am_L_sR, am_LL, am_k_sI, am_k_sR, am_k_sL, am_n_sI, am_n_sR, am_n_sL, true_and, and_true, true_or, or_true, or_false, false_or, not_true_eq_false, not_false_eq_true, Nat.reduceLT, am_dS, am_dP, am_d1, Nat.reduceSub, Nat.reduceMul, ne_eq, Nat.reduceBEq, Nat.reduceAdd, Nat.reduceLeDiff, Nat.reduceEqDiff, and_self, and_false, false_and, if_true, if_false, am_nb, am_nb0, am_nb1, am_lc1, am_lc2, am_lc3, am_b0, am_b1, am_10, am_c8, am_c16, am_c24, am_c32, am_c40, am_c48, am_c56, am_c64, am_c72, Nat.add_zero, Bool.false_eq_true, Nat.zero_le, hk, wX1_isNest hN h8 hk, hx]
    exact hK μ Fw.refl TC0 (fun _ => rfl)
theorem wX3_daysBy (hC : MC N c μ) (hj : j < 8) (hM : M ≤ 1000) (hρ : ρ ≤ 3) (h5 : am_I μ 55 (40 + j) = nI ρ) : am_Wp (d + 1) mX3_daysBy 0 [.ref 54, .int (nI j), .int (nI M), am_F, am_F] [] μ K ↔ K (some (.int (dBF ρ (am_I μ 55 (32 + j)) M))) μ := by
  have hmu := hC.1
  unfold mL at hmu
  have hv : ∀ k, k ≤ 72 → vp_in (nI (k + j)) 83 := fun k q => vp_in_nI (by omega) (by omega)
  have hcl : ∀ k, k ≤ 72 → (nI (k + j)).toNatClampNeg = k + j := fun k q => nI_clamp (by omega)
  have hv0 : vp_in (nI j) 83 := vp_in_nI (by omega) (by omega)
  have hcj : (nI j).toNatClampNeg = j := nI_clamp (by omega)
  refine am_Wp.det ?_
  simp only [gX3_daysBy_0, gX3_daysBy_1, gX3_daysBy_4, gX3_daysBy_6, gX3_daysBy_7, gX3_daysBy_8, gX3_daysBy_9, gX3_daysBy_10, gX3_daysBy_11, am_kill_int, am_kill_ref, am_kill_null, am_kill_F, am_kill_long, am_cat_n, am_cat_i, am_cat_r, am_cat_0, am_cat_l, am_nr_n, am_nr_i, am_nr_r, am_nr_0, am_nr_l, Option.toList_some, Option.toList_none, List.nil_append, List.cons_append, va_rf_s, va_rf_n, am_II, am_I_sR, am_I_sL, am_R_sI, am_RR, am_R_sL, am_L_sI, am_L_sR, am_LL, am_k_sI, am_k_sR, am_k_sL, am_n_sI, am_n_sR, am_n_sL, true_and, and_true, true_or, or_true, or_false, false_or, not_true_eq_false, not_false_eq_true, Nat.reduceLT, am_dS, am_dP, am_d1, Nat.reduceSub, Nat.reduceMul, ne_eq, Nat.reduceBEq, Nat.reduceAdd, Nat.reduceLeDiff, Nat.reduceEqDiff, and_self, and_false, false_and, if_true, if_false, am_nb, am_nb0, am_nb1, am_lc1, am_lc2, am_lc3, am_b0, am_b1, am_10, am_c8, am_c16, am_c24, am_c32, am_c40, am_c48, am_c56, am_c64, am_c72, Nat.add_zero, Bool.false_eq_true, Nat.zero_le, hmu, hv, hcl]
  have lo : ∀ m k, k + m = M → am_Wp (d + 1) mX3_daysBy 13 [.ref 54, .int (nI j), .int (nI M), .int (dBF ρ (am_I μ 55 (32 + j)) k), .int (nI k)] [] μ (fun r ν => r = some (.int (dBF ρ (am_I μ 55 (32 + j)) M)) ∧ ν = μ) := fun m => by
    induction m with
    | zero =>
      intro k e
      have e' : k = M := e
      subst e'
      rw [gX3_daysBy_13]
      simp only [gX3_daysBy_15, gX3_daysBy_16, gX3_daysBy_49, gX3_daysBy_50, am_kill_int, am_kill_ref, am_kill_null, am_kill_F, am_kill_long, am_cat_n, am_cat_i, am_cat_r, am_cat_0, am_cat_l, am_nr_n, am_nr_i, am_nr_r, am_nr_0, am_nr_l, Option.toList_some, Option.toList_none, List.nil_append, List.cons_append, va_rf_s, va_rf_n, am_I_sR, am_I_sL, am_R_sI, am_R_sL, am_L_sI, am_L_sR, am_k_sI, am_k_sR, am_k_sL, am_n_sI, am_n_sR, am_n_sL, true_and, and_true, true_or, or_true, or_false, false_or, not_true_eq_false, not_false_eq_true, Nat.reduceLT, am_dS, am_dP, am_d1, Nat.reduceSub, Nat.reduceMul, ne_eq, Nat.reduceBEq, Nat.reduceAdd, Nat.reduceLeDiff, Nat.reduceEqDiff, and_self, and_false, false_and, if_true, if_false, am_nb, am_nb0, am_nb1, am_lc1, am_lc2, am_lc3, am_b0, am_b1, am_10, am_c8, am_c16, am_c24, am_c32, am_c40, am_c48, am_c56, am_c64, am_c72, Nat.add_zero, Bool.false_eq_true, Nat.zero_le, Int32.le_refl, and_self]
    | succ m ih =>
      intro k e
      have hlt : ¬ nI M ≤ nI k := nI_ge (by omega) (by omega)
      rw [gX3_daysBy_13]
      by_cases q : ρ + k < 3
      · have h3 : ¬ (3 : Int32) ≤ nI (ρ + k) := by rw [show (3 : Int32) = nI 3 from rfl]; exact nI_ge (by omega) (by omega)
        have ih' := ih (k + 1) (by omega)
        rw [show dBF ρ (am_I μ 55 (32 + j)) (k + 1) = if ρ + k < 3 then maI 0 (dBF ρ (am_I μ 55 (32 + j)) k - 2) else dBF ρ (am_I μ 55 (32 + j)) k from rfl, if_pos q] at ih'
        unfold maI at ih'
        simp only [gX3_daysBy_15, gX3_daysBy_16, gX3_daysBy_19, gX3_daysBy_20, gX3_daysBy_23, gX3_daysBy_25, gX3_daysBy_26, gX3_daysBy_27, gX3_daysBy_28, gX3_daysBy_30, gX3_daysBy_31, gX3_daysBy_32, gX3_daysBy_35, gX3_daysBy_36, gX3_daysBy_37, gX3_daysBy_38, gX3_daysBy_39, gX3_daysBy_42, gX3_daysBy_43, gX3_daysBy_46, am_kill_int, am_kill_ref, am_kill_null, am_kill_F, am_kill_long, am_cat_n, am_cat_i, am_cat_r, am_cat_0, am_cat_l, am_nr_n, am_nr_i, am_nr_r, am_nr_0, am_nr_l, Option.toList_some, Option.toList_none, List.nil_append, List.cons_append, va_rf_s, va_rf_n, am_II, am_I_sR, am_I_sL, am_R_sI, am_RR, am_R_sL, am_L_sI, am_L_sR, am_LL, am_k_sI, am_k_sR, am_k_sL, am_n_sI, am_n_sR, am_n_sL, true_and, and_true, true_or, or_true, or_false, false_or, not_true_eq_false, not_false_eq_true, Nat.reduceLT, am_dS, am_dP, am_d1, Nat.reduceSub, Nat.reduceMul, ne_eq, Nat.reduceBEq, Nat.reduceAdd, Nat.reduceLeDiff, Nat.reduceEqDiff, and_self, and_false, false_and, if_true, if_false, am_nb, am_nb0, am_nb1, am_lc1, am_lc2, am_lc3, am_b0, am_b1, am_10, am_c8, am_c16, am_c24, am_c32, am_c40, am_c48, am_c56, am_c64, am_c72, Nat.add_zero, Bool.false_eq_true, Nat.zero_le, hlt, hmu, hv, hcl, h5, nI_add, h3, nI_1]
        exact ih'
      · have h3 : (3 : Int32) ≤ nI (ρ + k) := by rw [show (3 : Int32) = nI 3 from rfl]; exact nI_le (by omega) (by omega)
        have e9 := dBF_3' (ρ := ρ) (v := am_I μ 55 (32 + j)) (m + 1) k (by omega)
        rw [e] at e9
        simp only [gX3_daysBy_15, gX3_daysBy_16, gX3_daysBy_19, gX3_daysBy_20, gX3_daysBy_23, gX3_daysBy_25, gX3_daysBy_26, gX3_daysBy_27, gX3_daysBy_28, gX3_daysBy_30, gX3_daysBy_31, gX3_daysBy_32, gX3_daysBy_35, gX3_daysBy_36, gX3_daysBy_37, gX3_daysBy_38, gX3_daysBy_39, gX3_daysBy_42, gX3_daysBy_43, gX3_daysBy_46, gX3_daysBy_49, gX3_daysBy_50, am_kill_int, am_kill_ref, am_kill_null, am_kill_F, am_kill_long, am_cat_n, am_cat_i, am_cat_r, am_cat_0, am_cat_l, am_nr_n, am_nr_i, am_nr_r, am_nr_0, am_nr_l, Option.toList_some, Option.toList_none, List.nil_append, List.cons_append, va_rf_s, va_rf_n, am_II, am_I_sR, am_I_sL, am_R_sI, am_RR, am_R_sL, am_L_sI, am_L_sR, am_LL, am_k_sI, am_k_sR, am_k_sL, am_n_sI, am_n_sR, am_n_sL, true_and, and_true, true_or, or_true, or_false, false_or, not_true_eq_false, not_false_eq_true, Nat.reduceLT, am_dS, am_dP, am_d1, Nat.reduceSub, Nat.reduceMul, ne_eq, Nat.reduceBEq, Nat.reduceAdd, Nat.reduceLeDiff, Nat.reduceEqDiff, and_self, and_false, false_and, if_true, if_false, am_nb, am_nb0, am_nb1, am_lc1, am_lc2, am_lc3, am_b0, am_b1, am_10, am_c8, am_c16, am_c24, am_c32, am_c40, am_c48, am_c56, am_c64, am_c72, Nat.add_zero, Bool.false_eq_true, Nat.zero_le, hlt, hmu, hv, hcl, h5, nI_add, h3, e9, and_self]
  exact lo M 0 (by omega)
theorem q5_waits (hP : Per N C ru c μ) : Q5 mX3_waits [.ref 54, .int x, .int y] μ (vWa N c (cS μ 1) x y) none := by
  intro d K hK
  have hS := hP.1.2.1
  have hC := hS.1
  have hmu := hC.1
  unfold mL at hmu
  have hN := hC.2.1
  have h8 := hC.2.2.1
  have hc2 := hC.2.2.2
  unfold vWa at hK
  by_cases hx : isN x N = true
  · by_cases hy : isN y 4 = true
    · simp only [if_pos (And.intro hx hy)] at hK
      obtain ⟨j, hjN, rfl⟩ := isN_of (by omega) hx
      have hj : j < 8 := by omega
      obtain ⟨m, hm, rfl⟩ := isN_of (by omega) hy
      have hcm : (nI m).toNatClampNeg = m := nI_clamp (by omega)
      have hv : ∀ k, k ≤ 72 → vp_in (nI (k + j)) 83 := fun k q => vp_in_nI (by omega) (by omega)
      have hcl : ∀ k, k ≤ 72 → (nI (k + j)).toNatClampNeg = k + j := fun k q => nI_clamp (by omega)
      have hv0 : vp_in (nI j) 83 := vp_in_nI (by omega) (by omega)
      have hcj : (nI j).toNatClampNeg = j := nI_clamp (by omega)
      simp only [hcj, hcm] at hK
      have e4 : am_I μ 55 (32 + j) = cS μ 1 (32 + j) := (hP.2.1.r4 hjN).symm
      have hno := (hP.2.1.cg hjN).no
      rw [col4] at hno
      by_cases h0 : 0 ≤ cS μ 1 (32 + j)
      · simp only [if_pos h0] at hK
        obtain ⟨r1, r2⟩ := hP.2.1.rh hjN
        have h1 : ¬ cS μ 1 (32 + j) = -1 := by rw [← hno]; exact h0
        have hd := fun K => wX3_daysBy (d := d + 198) (K := K) (M := m) hC hj (by omega) r1 (by rw [← hP.2.1.r5 hjN]; exact r2)
        rw [e4] at hd
        have fin := hK μ Fw.refl hP.h17 TN0 (fun _ => rfl)
        unfold maI at fin
        simp only [gX3_waits_5, gX3_waits_6, gX3_waits_7, gX3_waits_10, gX3_waits_13, gX3_waits_14, gX3_waits_15, gX3_waits_16, gX3_waits_19, gX3_waits_22, gX3_waits_23, gX3_waits_24, gX3_waits_25, gX3_waits_28, gX3_waits_30, gX3_waits_31, gX3_waits_32, gX3_waits_33, gX3_waits_34, gX3_waits_37, gX3_waits_39, gX3_waits_42, gX3_waits_43, gX3_waits_44, gX3_waits_47, gX3_waits_48, gX3_waits_49, gX3_waits_50, am_kill_int, am_kill_ref, am_kill_null, am_kill_F, am_kill_long, am_cat_n, am_cat_i, am_cat_r, am_cat_0, am_cat_l, am_nr_n, am_nr_i, am_nr_r, am_nr_0, am_nr_l, Option.toList_some, Option.toList_none, List.nil_append, List.cons_append, va_rf_s, va_rf_n, am_I_sR, am_I_sL, am_R_sI, am_R_sL, am_L_sI, am_L_sR, am_k_sI, am_k_sR, am_k_sL, am_n_sI, am_n_sR, am_n_sL, true_and, and_true, true_or, or_true, or_false, false_or, not_true_eq_false, not_false_eq_true, Nat.reduceLT, am_dS, am_dP, am_d1, Nat.reduceSub, Nat.reduceMul, ne_eq, Nat.reduceBEq, Nat.reduceAdd, Nat.reduceLeDiff, Nat.reduceEqDiff, and_self, and_false, false_and, if_true, if_false, am_nb, am_nb0, am_nb1, am_lc1, am_lc2, am_lc3, am_b0, am_b1, am_10, am_c8, am_c16, am_c24, am_c32, am_c40, am_c48, am_c56, am_c64, am_c72, Nat.add_zero, Bool.false_eq_true, Nat.zero_le, hmu, wX3_isNest hC, wX3_in, e3I, am_isb, hx, hy, hv, hcl, e4, h1, hc2]
        rw [hd]
        simp only [gX3_waits_53, gX3_waits_54, gX3_waits_57, am_kill_int, am_kill_ref, am_kill_null, am_kill_F, am_kill_long, am_cat_n, am_cat_i, am_cat_r, am_cat_0, am_cat_l, am_nr_n, am_nr_i, am_nr_r, am_nr_0, am_nr_l, Option.toList_some, Option.toList_none, List.nil_append, List.cons_append, va_rf_s, va_rf_n, am_I_sR, am_I_sL, am_R_sI, am_R_sL, am_L_sI, am_L_sR, am_k_sI, am_k_sR, am_k_sL, am_n_sI, am_n_sR, am_n_sL, true_and, and_true, true_or, or_true, or_false, false_or, not_true_eq_false, not_false_eq_true, Nat.reduceLT, am_dS, am_dP, am_d1, Nat.reduceSub, Nat.reduceMul, ne_eq, Nat.reduceBEq, Nat.reduceAdd, Nat.reduceLeDiff, Nat.reduceEqDiff, and_self, and_false, false_and, if_true, if_false, am_nb, am_nb0, am_nb1, am_lc1, am_lc2, am_lc3, am_b0, am_b1, am_10, am_c8, am_c16, am_c24, am_c32, am_c40, am_c48, am_c56, am_c64, am_c72, Nat.add_zero, Bool.false_eq_true, Nat.zero_le]
        exact fin
      · simp only [if_neg h0] at hK
        have h1 : cS μ 1 (32 + j) = -1 := by
          by_cases e : cS μ 1 (32 + j) = -1
          · exact e
          · rw [← hno] at e; exact absurd e h0
        simp only [gX3_waits_5, gX3_waits_6, gX3_waits_7, gX3_waits_10, gX3_waits_13, gX3_waits_14, gX3_waits_15, gX3_waits_16, gX3_waits_19, gX3_waits_22, gX3_waits_23, gX3_waits_24, gX3_waits_25, gX3_waits_28, gX3_waits_30, gX3_waits_31, gX3_waits_32, gX3_waits_33, gX3_waits_34, gX3_waits_37, gX3_waits_39, gX3_waits_42, gX3_waits_43, gX3_waits_44, gX3_waits_47, gX3_waits_48, gX3_waits_49, gX3_waits_50, gX3_waits_53, gX3_waits_54, gX3_waits_57, am_kill_int, am_kill_ref, am_kill_null, am_kill_F, am_kill_long, am_cat_n, am_cat_i, am_cat_r, am_cat_0, am_cat_l, am_nr_n, am_nr_i, am_nr_r, am_nr_0, am_nr_l, Option.toList_some, Option.toList_none, List.nil_append, List.cons_append, va_rf_s, va_rf_n, am_I_sR, am_I_sL, am_R_sI, am_R_sL, am_L_sI, am_L_sR, am_k_sI, am_k_sR, am_k_sL, am_n_sI, am_n_sR, am_n_sL, true_and, and_true, true_or, or_true, or_false, false_or, not_true_eq_false, not_false_eq_true, Nat.reduceLT, am_dS, am_dP, am_d1, Nat.reduceSub, Nat.reduceMul, ne_eq, Nat.reduceBEq, Nat.reduceAdd, Nat.reduceLeDiff, Nat.reduceEqDiff, and_self, and_false, false_and, if_true, if_false, am_nb, am_nb0, am_nb1, am_lc1, am_lc2, am_lc3, am_b0, am_b1, am_10, am_c8, am_c16, am_c24, am_c32, am_c40, am_c48, am_c56, am_c64, am_c72, Nat.add_zero, Bool.false_eq_true, Nat.zero_le, hmu, wX3_isNest hC, wX3_in, e3I, am_isb, hx, hy, hv, hcl, e4, h1]
        exact hK μ Fw.refl hP.h17 TN0 (fun _ => rfl)
    · simp only [hy, Bool.false_eq_true, and_false, if_false] at hK
      simp only [gX3_waits_5, gX3_waits_6, gX3_waits_7, gX3_waits_10, gX3_waits_13, gX3_waits_14, gX3_waits_15, gX3_waits_16, gX3_waits_19, gX3_waits_22, gX3_waits_23, am_kill_int, am_kill_ref, am_kill_null, am_kill_F, am_kill_long, am_cat_n, am_cat_i, am_cat_r, am_cat_0, am_cat_l, am_nr_n, am_nr_i, am_nr_r, am_nr_0, am_nr_l, Option.toList_some, Option.toList_none, List.nil_append, List.cons_append, va_rf_s, va_rf_n, am_I_sR, am_I_sL, am_R_sI, am_R_sL, am_L_sI, am_L_sR, am_k_sI, am_k_sR, am_k_sL, am_n_sI, am_n_sR, am_n_sL, true_and, and_true, true_or, or_true, or_false, false_or, not_true_eq_false, not_false_eq_true, Nat.reduceLT, am_dS, am_dP, am_d1, Nat.reduceSub, Nat.reduceMul, ne_eq, Nat.reduceBEq, Nat.reduceAdd, Nat.reduceLeDiff, Nat.reduceEqDiff, and_self, and_false, false_and, if_true, if_false, am_nb, am_nb0, am_nb1, am_lc1, am_lc2, am_lc3, am_b0, am_b1, am_10, am_c8, am_c16, am_c24, am_c32, am_c40, am_c48, am_c56, am_c64, am_c72, Nat.add_zero, Bool.false_eq_true, Nat.zero_le, hmu, wX3_isNest hC, wX3_in, e3I, am_isb, hx, hy]
      exact hK μ Fw.refl hP.h17 TN0 (fun _ => rfl)
  · simp only [hx, Bool.false_eq_true, false_and, if_false] at hK
    simp only [gX3_waits_5, gX3_waits_6, gX3_waits_7, gX3_waits_10, gX3_waits_13, gX3_waits_14, gX3_waits_15, gX3_waits_16, gX3_waits_19, gX3_waits_22, gX3_waits_23, am_kill_int, am_kill_ref, am_kill_null, am_kill_F, am_kill_long, am_cat_n, am_cat_i, am_cat_r, am_cat_0, am_cat_l, am_nr_n, am_nr_i, am_nr_r, am_nr_0, am_nr_l, Option.toList_some, Option.toList_none, List.nil_append, List.cons_append, va_rf_s, va_rf_n, am_I_sR, am_I_sL, am_R_sI, am_R_sL, am_L_sI, am_L_sR, am_k_sI, am_k_sR, am_k_sL, am_n_sI, am_n_sR, am_n_sL, true_and, and_true, true_or, or_true, or_false, false_or, not_true_eq_false, not_false_eq_true, Nat.reduceLT, am_dS, am_dP, am_d1, Nat.reduceSub, Nat.reduceMul, ne_eq, Nat.reduceBEq, Nat.reduceAdd, Nat.reduceLeDiff, Nat.reduceEqDiff, and_self, and_false, false_and, if_true, if_false, am_nb, am_nb0, am_nb1, am_lc1, am_lc2, am_lc3, am_b0, am_b1, am_10, am_c8, am_c16, am_c24, am_c32, am_c40, am_c48, am_c56, am_c64, am_c72, Nat.add_zero, Bool.false_eq_true, Nat.zero_le, hmu, wX3_isNest hC, hx]
    exact hK μ Fw.refl hP.h17 TN0 (fun _ => rfl)
theorem op_waits (hI : Inv q μ) : OP q mX1_waits mX3_waits [.ref 0, .int x, .int y] [.ref 54, .int x, .int y] μ :=
  op_S (V := fun N ru c S => vWa N c S x y) (P := fun N ru c S => none) (fun hP => qc_waits hP) (fun d K μ h h' => by simp only [gX3_waits_0, gX3_waits_1, gX3_waits_2, am_kill_int, am_kill_ref, am_kill_null, am_kill_F, am_kill_long, am_cat_n, am_cat_i, am_cat_r, am_cat_0, am_cat_l, am_nr_n, am_nr_i, am_nr_r, am_nr_0, am_nr_l, Option.toList_some, Option.toList_none, List.nil_append, List.cons_append, va_rf_s, va_rf_n, am_I_sR, am_I_sL, am_R_sI, am_R_sL, am_L_sI, am_L_sR, am_k_sI, am_k_sR, am_k_sL, am_n_sI, am_n_sR, am_n_sL, true_and, and_true, true_or, or_true, or_false, false_or, not_true_eq_false, not_false_eq_true, Nat.reduceLT, am_dS, am_dP, am_d1, Nat.reduceSub, Nat.reduceMul, ne_eq, Nat.reduceBEq, Nat.reduceAdd, Nat.reduceLeDiff, Nat.reduceEqDiff, and_self, and_false, false_and, if_true, if_false, am_nb, am_nb0, am_nb1, am_lc1, am_lc2, am_lc3, am_b0, am_b1, am_10, am_c8, am_c16, am_c24, am_c32, am_c40, am_c48, am_c56, am_c64, am_c72, Nat.add_zero, Bool.false_eq_true, Nat.zero_le, h]; exact h') (fun hP => q5_waits hP) hI
end OKV
