/-! the component's day -/
set_option maxRecDepth 100000
section DAYV
variable {d : Nat} {μ ν : am_M} {K : Option Value → am_M → Prop} {x y c : Int32} {h h' N j : Nat} {v : Int32} {ru : Option ((Nat → Int32) → Int32)} {F : Nat → Nat → Prop}
def outB (N : Nat) (ru : Option ((Nat → Int32) → Int32)) (S : Nat → Int32) (n : Nat) : Bool := decide (S (48 + n) = 1) && decide (5 < oddS N ru S n)
def lvT (T : Nat → Int32) (n : Nat) : Nat → Int32 := spU (spU (spU (spU T (48 + n) 0) (56 + n) 0) (64 + n) 0) (72 + n) 0
def eggT (T : Nat → Int32) (n : Nat) : Nat → Int32 := spU T (64 + n) (miI 99 (T (64 + n) + 1))
def eggS (out : Nat → Bool) (n : Nat) (T : Nat → Int32) : Nat → Int32 :=
  if T (48 + n) = 1 then (if out n = true then spU (lvT T n) 82 (T 82 + 1) else if miI 99 (T (64 + n) + 1) < 3 then eggT T n else spU (spU (eggT T n) (48 + n) 2) (24 + n) 0) else T
def fedT (T : Nat → Int32) (n : Nat) : Nat → Int32 := spU T (72 + n) (miI 99 (T (72 + n) + T (8 + n)))
def yngS (yb : Nat → Bool) (n : Nat) (T : Nat → Int32) : Nat → Int32 :=
  if yb n = true then (if miI 99 (T (72 + n) + T (8 + n)) < 30 then fedT T n else spU (lvT (fedT T n) n) 81 (T 81 + 1)) else T
def notS (n : Nat) (T : Nat → Int32) : Nat → Int32 := spU T (32 + n) (if 0 ≤ T (32 + n) then miI 99 (T (32 + n) + 1) else -1)
def foS (g : Nat → (Nat → Int32) → (Nat → Int32)) : Nat → (Nat → Int32) → (Nat → Int32)
  | 0, T => T
  | n + 1, T => g n (foS g n T)
def dayT (N : Nat) (ru : Option ((Nat → Int32) → Int32)) (S : Nat → Int32) : Nat → Int32 := foS notS N (foS (yngS (gF 2 S)) N (foS (eggS (outB N ru S)) N S))
def dayC (N : Nat) (ru : Option ((Nat → Int32) → Int32)) (S : Nat → Int32) : Nat → Int32 := spU (dayT N ru S) 80 (dayT N ru S 80 + 1)
theorem am_nz1 : vp_nar .boolean 1 = 1 := by decide
theorem am_nz0 : vp_nar .boolean 0 = 0 := by decide
theorem jS_ok (h0 : 0 < h) : ∀ a b, jS h a b → a < 78 ∧ ¬ (a = 0 ∧ (b = 2 ∨ b = 3)) ∨ h + 10 ≥ 78 := fun a b q => by unfold jS inSp jO at q; omega
theorem cS_leaves (hj8 : j < 8) : cS (am_sI (am_sI (am_sI (am_sI μ (h + 7) j 0) (h + 8) j 0) (h + 9) j 0) (h + 10) j 0) h = lvT (cS μ h) j := by
  rw [cS_w9 hj8, cS_w8 hj8, cS_w7 hj8, cS_w6 hj8]; rfl
theorem lvT_hi {T : Nat → Int32} {i : Nat} (hj8 : j < 8) (hi : 80 ≤ i) : lvT T j i = T i := by
  unfold lvT spU
  rw [if_neg (by omega), if_neg (by omega), if_neg (by omega), if_neg (by omega)]
theorem Fr_leaves (hf : ∀ k, k ≤ 10 → ∀ b, F (h + k) b) (h1 : Fr F μ ν) : Fr F μ (am_sI (am_sI (am_sI (am_sI ν (h + 7) j 0) (h + 8) j 0) (h + 9) j 0) (h + 10) j 0) :=
  (((h1.I (hf 7 (by omega) _)).I (hf 8 (by omega) _)).I (hf 9 (by omega) _)).I (hf 10 (by omega) _)
theorem day1 (hC : CC N ru c μ) (hs : spL h (am_k μ) (am_R μ)) (h0 : 0 < h) (h2 : h + 10 < 40)
    (hK : ∀ ν, Fr jO μ ν → (∀ i, i < N → am_I ν 40 i = if outB N ru (cS μ h) i = true then 1 else 0) → am_Wp (d + 68) mX1_dayGoes 54 [.ref 0, .ref h, .int x, .int (nI N)] [] ν K) :
    am_Wp (d + 68) mX1_dayGoes 9 [.ref 0, .ref h, .int x, .int (nI 0)] [] μ K := by
  have h8 := hC.2.2.1
  refine am_for (N := N) (fun j ls ν => ls = [.ref 0, .ref h, .int x, .int (nI j)] ∧ Fr jO μ ν ∧ ∀ i, i < j → am_I ν 40 i = if outB N ru (cS μ h) i = true then 1 else 0) ?_ ?_ N 0 _ _ (by omega) ⟨rfl, Fr.refl, fun i q => by omega⟩
  · rintro j ls ν hj ⟨rfl, hF, hO⟩ ih
    have hC1 : CC N ru c ν := hC.fr hF (fun a b q => by unfold jO at q; omega)
    have hs1 : spL h (am_k ν) (am_R ν) := hF.spL h0 (by omega) hs
    have hS : cS ν h = cS μ h := cS_Fr hF (fun a b q r s => by unfold jO at s; omega)
    have hk := hC1.1.c
    have hN := hC1.2.1
    have hs' := hs1
    unfold spL at hs'
    have h22 := hC1.1.2.1
    have hk40 : am_k ν 40 = (13, 8) := by have := hC1.1.1; simp only [this]
    have hR22 : am_R ν 0 22 = some 40 := by simp only [h22]
    have hj8 : j < 8 := by omega
    have hin : vp_in (nI j) 8 := vp_in_nI (by omega) (by omega)
    have hcl : (nI j).toNatClampNeg = j := nI_clamp (by omega)
    have hlt : ¬ nI N ≤ nI j := nI_ge hj (by omega)
    rw [gX1_dayGoes_9]
    by_cases hg : cS μ h (48 + j) = 1
    · have hg' : am_I ν (h + 7) j = 1 := by rw [← cS_6 hj8, hS]; exact hg
      simp only [gX1_dayGoes_10, gX1_dayGoes_11, gX1_dayGoes_14, gX1_dayGoes_17, gX1_dayGoes_18, gX1_dayGoes_21, gX1_dayGoes_22, gX1_dayGoes_22n, gX1_dayGoes_23, gX1_dayGoes_26, gX1_dayGoes_27, gX1_dayGoes_28, gX1_dayGoes_29, gX1_dayGoes_32, gX1_dayGoes_33, gX1_dayGoes_33n, gX1_dayGoes_34, gX1_dayGoes_35, am_kill_int, am_kill_ref, am_kill_null, am_kill_F, am_kill_long, am_cat_n, am_cat_i, am_cat_r, am_cat_0, am_cat_l, am_nr_n, am_nr_i, am_nr_r, am_nr_0, am_nr_l, Option.toList_some, Option.toList_none, List.nil_append, List.cons_append, va_rf_s, va_rf_n, am_II, am_I_sR, am_I_sL, am_R_sI, am_RR, am_R_sL, am_L_sI, am_L_sR, am_LL, am_k_sI, am_k_sR, am_k_sL, am_n_sI, am_n_sR, am_n_sL, true_and, and_true, true_or, or_true, or_false, false_or, not_true_eq_false, not_false_eq_true, Nat.reduceLT, am_dS, am_dP, am_d1, Nat.reduceSub, Nat.reduceMul, ne_eq, Nat.reduceBEq, Nat.reduceAdd, Nat.reduceLeDiff, Nat.reduceEqDiff, and_self, and_false, false_and, if_true, if_false, am_nb, am_nb0, am_nb1, am_lc1, am_lc2, am_lc3, am_b0, am_b1, am_10, am_c8, am_c16, am_c24, am_c32, am_c40, am_c48, am_c56, am_c64, am_c72, Nat.add_zero, Bool.false_eq_true, Nat.zero_le, hN, hk, hs', hin, hcl, hlt, hR22, hg']
      refine wX1_oddOf (d := d) hC1 hs1 h0 (by unfold am_B; omega) hj8 ?_
      intro ξ hF2
      have hk40' : (am_k ξ 40).1 = 13 := by rw [hF2.2.2.2.1, hk40]
      have hin' : vp_in (nI j) (am_k ξ 40).2 := by rw [hF2.2.2.2.1, hk40]; exact hin
      have hF3 : ∀ v, Fr jO μ (am_sI ξ 40 j v) := fun v => (hF.trans (hF2.le fun a b q => Or.inr q)).I (Or.inl rfl)
      rw [hS]
      have hO2 : ∀ v, v = (if outB N ru (cS μ h) j = true then 1 else 0) → ∀ i, i < j + 1 → am_I (am_sI ξ 40 j v) 40 i = if outB N ru (cS μ h) i = true then 1 else 0 := fun v q i hi => by
        rw [am_I_sI]
        by_cases e : i = j
        · rw [if_pos ⟨rfl, e⟩, e]; exact q
        · rw [if_neg (by omega)]
          rw [hF2.1 40 i (by unfold jA; omega)]
          exact hO i (by omega)
      by_cases ho : 5 < oddS N ru (cS μ h) j
      · simp only [gX1_dayGoes_38, gX1_dayGoes_39, gX1_dayGoes_42, gX1_dayGoes_43, gX1_dayGoes_46, gX1_dayGoes_48, gX1_dayGoes_51, gX1_dayGoes_47z hk40' hin', am_kill_int, am_kill_ref, am_kill_null, am_kill_F, am_kill_long, am_cat_n, am_cat_i, am_cat_r, am_cat_0, am_cat_l, am_nr_n, am_nr_i, am_nr_r, am_nr_0, am_nr_l, Option.toList_some, Option.toList_none, List.nil_append, List.cons_append, va_rf_s, va_rf_n, am_II, am_I_sR, am_I_sL, am_R_sI, am_RR, am_R_sL, am_L_sI, am_L_sR, am_LL, am_k_sI, am_k_sR, am_k_sL, am_n_sI, am_n_sR, am_n_sL, true_and, and_true, true_or, or_true, or_false, false_or, not_true_eq_false, not_false_eq_true, Nat.reduceLT, am_dS, am_dP, am_d1, Nat.reduceSub, Nat.reduceMul, ne_eq, Nat.reduceBEq, Nat.reduceAdd, Nat.reduceLeDiff, Nat.reduceEqDiff, and_self, and_false, false_and, if_true, if_false, am_nb, am_nb0, am_nb1, am_lc1, am_lc2, am_lc3, am_b0, am_b1, am_10, am_c8, am_c16, am_c24, am_c32, am_c40, am_c48, am_c56, am_c64, am_c72, Nat.add_zero, Bool.false_eq_true, Nat.zero_le, ho, Int32.not_le.mpr ho, am_nz1, hcl, nI_1]
        exact ih _ _ ⟨rfl, hF3 _, hO2 _ (by simp only [outB, hg, ho, decide_true, Bool.and_self, if_true])⟩
      · simp only [gX1_dayGoes_38, gX1_dayGoes_39, gX1_dayGoes_42, gX1_dayGoes_43, gX1_dayGoes_46, gX1_dayGoes_48, gX1_dayGoes_51, gX1_dayGoes_47z hk40' hin', am_kill_int, am_kill_ref, am_kill_null, am_kill_F, am_kill_long, am_cat_n, am_cat_i, am_cat_r, am_cat_0, am_cat_l, am_nr_n, am_nr_i, am_nr_r, am_nr_0, am_nr_l, Option.toList_some, Option.toList_none, List.nil_append, List.cons_append, va_rf_s, va_rf_n, am_II, am_I_sR, am_I_sL, am_R_sI, am_RR, am_R_sL, am_L_sI, am_L_sR, am_LL, am_k_sI, am_k_sR, am_k_sL, am_n_sI, am_n_sR, am_n_sL, true_and, and_true, true_or, or_true, or_false, false_or, not_true_eq_false, not_false_eq_true, Nat.reduceLT, am_dS, am_dP, am_d1, Nat.reduceSub, Nat.reduceMul, ne_eq, Nat.reduceBEq, Nat.reduceAdd, Nat.reduceLeDiff, Nat.reduceEqDiff, and_self, and_false, false_and, if_true, if_false, am_nb, am_nb0, am_nb1, am_lc1, am_lc2, am_lc3, am_b0, am_b1, am_10, am_c8, am_c16, am_c24, am_c32, am_c40, am_c48, am_c56, am_c64, am_c72, Nat.add_zero, Bool.false_eq_true, Nat.zero_le, ho, Int32.not_lt.mp ho, am_nz0, hcl, nI_1]
        exact ih _ _ ⟨rfl, hF3 _, hO2 _ (by simp only [outB, hg, ho, decide_true, decide_false, Bool.and_false, Bool.false_eq_true, if_false])⟩
    · have hg' : ¬ am_I ν (h + 7) j = 1 := by rw [← cS_6 hj8, hS]; exact hg
      have hk40' : (am_k ν 40).1 = 13 := by rw [hk40]
      have hin' : vp_in (nI j) (am_k ν 40).2 := by rw [hk40]; exact hin
      simp only [gX1_dayGoes_10, gX1_dayGoes_11, gX1_dayGoes_14, gX1_dayGoes_17, gX1_dayGoes_18, gX1_dayGoes_21, gX1_dayGoes_22, gX1_dayGoes_22n, gX1_dayGoes_23, gX1_dayGoes_26, gX1_dayGoes_27, gX1_dayGoes_28, gX1_dayGoes_29, gX1_dayGoes_32, gX1_dayGoes_33, gX1_dayGoes_33n, gX1_dayGoes_34, gX1_dayGoes_35, gX1_dayGoes_38, gX1_dayGoes_39, gX1_dayGoes_42, gX1_dayGoes_43, gX1_dayGoes_46, gX1_dayGoes_48, gX1_dayGoes_51, gX1_dayGoes_47z hk40' hin', am_kill_int, am_kill_ref, am_kill_null, am_kill_F, am_kill_long, am_cat_n, am_cat_i, am_cat_r, am_cat_0, am_cat_l, am_nr_n, am_nr_i, am_nr_r, am_nr_0, am_nr_l, Option.toList_some, Option.toList_none, List.nil_append, List.cons_append, va_rf_s, va_rf_n, am_II, am_I_sR, am_I_sL, am_R_sI, am_RR, am_R_sL, am_L_sI, am_L_sR, am_LL, am_k_sI, am_k_sR, am_k_sL, am_n_sI, am_n_sR, am_n_sL, true_and, and_true, true_or, or_true, or_false, false_or, not_true_eq_false, not_false_eq_true, Nat.reduceLT, am_dS, am_dP, am_d1, Nat.reduceSub, Nat.reduceMul, ne_eq, Nat.reduceBEq, Nat.reduceAdd, Nat.reduceLeDiff, Nat.reduceEqDiff, and_self, and_false, false_and, if_true, if_false, am_nb, am_nb0, am_nb1, am_lc1, am_lc2, am_lc3, am_b0, am_b1, am_10, am_c8, am_c16, am_c24, am_c32, am_c40, am_c48, am_c56, am_c64, am_c72, Nat.add_zero, Bool.false_eq_true, Nat.zero_le, hN, hk, hs', hin, hcl, hlt, hR22, hg', am_nz0, nI_1]
      refine ih _ _ ⟨rfl, hF.I (Or.inl rfl), fun i hi => ?_⟩
      rw [am_I_sI]
      by_cases e : i = j
      · rw [if_pos ⟨rfl, e⟩, e]
        simp only [outB, hg, decide_false, Bool.false_and, Bool.false_eq_true, if_false]
      · rw [if_neg (by omega)]
        exact hO i (by omega)
  · rintro ls ν ⟨rfl, hF, hO⟩
    have hC1 : CC N ru c ν := hC.fr hF (fun a b q => by unfold jO at q; omega)
    have hk := hC1.1.c
    have hN := hC1.2.1
    rw [gX1_dayGoes_9]
    simp only [gX1_dayGoes_10, gX1_dayGoes_11, gX1_dayGoes_14, gX1_dayGoes_17, gX1_dayGoes_18, gX1_dayGoes_21, gX1_dayGoes_22, gX1_dayGoes_22n, gX1_dayGoes_23, gX1_dayGoes_26, gX1_dayGoes_27, gX1_dayGoes_28, gX1_dayGoes_29, gX1_dayGoes_32, gX1_dayGoes_33, gX1_dayGoes_33n, gX1_dayGoes_34, gX1_dayGoes_35, am_kill_int, am_kill_ref, am_kill_null, am_kill_F, am_kill_long, am_cat_n, am_cat_i, am_cat_r, am_cat_0, am_cat_l, am_nr_n, am_nr_i, am_nr_r, am_nr_0, am_nr_l, Option.toList_some, Option.toList_none, List.nil_append, List.cons_append, va_rf_s, va_rf_n, am_II, am_I_sR, am_I_sL, am_R_sI, am_RR, am_R_sL, am_L_sI, am_L_sR, am_LL, am_k_sI, am_k_sR, am_k_sL, am_n_sI, am_n_sR, am_n_sL, true_and, and_true, true_or, or_true, or_false, false_or, not_true_eq_false, not_false_eq_true, Nat.reduceLT, am_dS, am_dP, am_d1, Nat.reduceSub, Nat.reduceMul, ne_eq, Nat.reduceBEq, Nat.reduceAdd, Nat.reduceLeDiff, Nat.reduceEqDiff, and_self, and_false, false_and, if_true, if_false, am_nb, am_nb0, am_nb1, am_lc1, am_lc2, am_lc3, am_b0, am_b1, am_10, am_c8, am_c16, am_c24, am_c32, am_c40, am_c48, am_c56, am_c64, am_c72, Nat.add_zero, Bool.false_eq_true, Nat.zero_le, hN, hk, Int32.le_refl]
    exact hK ν hF hO
theorem day2 {out : Nat → Bool} (hC : CC N ru c μ) (hs : spL h (am_k μ) (am_R μ)) (h0 : 0 < h) (h2 : h + 10 < 40) (hO : ∀ i, i < N → am_I μ 40 i = if out i = true then 1 else 0)
    (hK : ∀ ν, Fr (fun a _ => inSp h a) μ ν → cS ν h = foS (eggS out) N (cS μ h) → am_Wp (d + 1) mX1_dayGoes 156 [.ref 0, .ref h, .int x, .int (nI N)] [] ν K) :
    am_Wp (d + 1) mX1_dayGoes 56 [.ref 0, .ref h, .int x, .int (nI 0)] [] μ K := by
  have h8 := hC.2.2.1
  refine am_for (N := N) (fun j ls ν => ls = [.ref 0, .ref h, .int x, .int (nI j)] ∧ Fr (fun a _ => inSp h a) μ ν ∧ cS ν h = foS (eggS out) j (cS μ h)) ?_ ?_ N 0 _ _ (by omega) ⟨rfl, Fr.refl, rfl⟩
  · rintro j ls ν hj ⟨rfl, hF, hT⟩ ih
    have hC1 : CC N ru c ν := hC.fr hF (fun a b q => by unfold inSp at q; omega)
    have hs1 : spL h (am_k ν) (am_R ν) := hF.spL h0 (by omega) hs
    have hk := hC1.1.c
    have hN := hC1.2.1
    have hs' := hs1
    unfold spL at hs'
    have h22 := hC1.1.2.1
    have hk40 : am_k ν 40 = (13, 8) := by have := hC1.1.1; simp only [this]
    have hR22 : am_R ν 0 22 = some 40 := by simp only [h22]
    have hj8 : j < 8 := by omega
    have hin : vp_in (nI j) 8 := vp_in_nI (by omega) (by omega)
    have hcl : (nI j).toNatClampNeg = j := nI_clamp (by omega)
    have hlt : ¬ nI N ≤ nI j := nI_ge hj (by omega)
    have ho := hO j hj
    rw [← hF.1 40 j (by unfold inSp; omega)] at ho
    have g : ∀ k, k ≤ 10 → inSp h (h + k) := fun k q => ⟨by omega, by omega⟩
    rw [gX1_dayGoes_56]
    by_cases hg : cS ν h (48 + j) = 1
    · have hg' := hg
      rw [cS_6 hj8] at hg'
      by_cases hout : out j = true
      · simp only [hout, if_true] at ho
        simp only [gX1_dayGoes_57, gX1_dayGoes_58, gX1_dayGoes_61, gX1_dayGoes_64, gX1_dayGoes_64n, gX1_dayGoes_65, gX1_dayGoes_68, gX1_dayGoes_69, gX1_dayGoes_70, gX1_dayGoes_71, gX1_dayGoes_74, gX1_dayGoes_77, gX1_dayGoes_78, gX1_dayGoes_81, gX1_dayGoes_82, gX1_dayGoes_83, gX1_dayGoes_86, gX1_dayGoes_86n, gX1_dayGoes_87, gX1_dayGoes_88, gX1_dayGoes_91, gX1_dayGoes_91n, gX1_dayGoes_92, gX1_dayGoes_93, gX1_dayGoes_96, gX1_dayGoes_97, gX1_dayGoes_98, gX1_dayGoes_101, gX1_dayGoes_104, gX1_dayGoes_104n, gX1_dayGoes_105, gX1_dayGoes_108, gX1_dayGoes_109, gX1_dayGoes_111, gX1_dayGoes_111n, gX1_dayGoes_112, gX1_dayGoes_115, gX1_dayGoes_116, gX1_dayGoes_117, gX1_dayGoes_118, gX1_dayGoes_119, gX1_dayGoes_122, gX1_dayGoes_123, gX1_dayGoes_123n, gX1_dayGoes_124, gX1_dayGoes_127, gX1_dayGoes_128, gX1_dayGoes_129, gX1_dayGoes_130, gX1_dayGoes_133, gX1_dayGoes_136, gX1_dayGoes_136n, gX1_dayGoes_137, gX1_dayGoes_140, gX1_dayGoes_141, gX1_dayGoes_142, gX1_dayGoes_143, gX1_dayGoes_143n, gX1_dayGoes_144, gX1_dayGoes_147, gX1_dayGoes_148, gX1_dayGoes_149, gX1_dayGoes_150, gX1_dayGoes_153, am_kill_int, am_kill_ref, am_kill_null, am_kill_F, am_kill_long, am_cat_n, am_cat_i, am_cat_r, am_cat_0, am_cat_l, am_nr_n, am_nr_i, am_nr_r, am_nr_0, am_nr_l, Option.toList_some, Option.toList_none, List.nil_append, List.cons_append, va_rf_s, va_rf_n, am_I_sR, am_I_sL, am_R_sI, am_R_sL, am_L_sI, am_L_sR, am_k_sI, am_k_sR, am_k_sL, am_n_sI, am_n_sR, am_n_sL, true_and, and_true, true_or, or_true, or_false, false_or, not_true_eq_false, not_false_eq_true, Nat.reduceLT, am_dS, am_dP, am_d1, Nat.reduceSub, Nat.reduceMul, ne_eq, Nat.reduceBEq, Nat.reduceAdd, Nat.reduceLeDiff, Nat.reduceEqDiff, and_self, and_false, false_and, if_true, if_false, am_nb, am_nb0, am_nb1, am_lc1, am_lc2, am_lc3, am_b0, am_b1, am_10, am_c8, am_c16, am_c24, am_c32, am_c40, am_c48, am_c56, am_c64, am_c72, Nat.add_zero, Bool.false_eq_true, Nat.zero_le, hN, hk, hs', hs1, hj8, hin, hcl, hlt, hR22, hg', hk40, ho, wX2_leaves, nI_1]
        refine ih _ _ ⟨rfl, (Fr_leaves (fun k q _ => g k q) hF).I (g 0 (by omega)), ?_⟩
        have e : am_I (am_sI (am_sI (am_sI (am_sI ν (h + 7) j 0) (h + 8) j 0) (h + 9) j 0) (h + 10) j 0) h 12 = cS ν h 82 := by
          rw [← cS_t, cS_leaves hj8, lvT_hi hj8 (by omega)]
        rw [e, cS_wt, cS_leaves hj8, hT]
        rw [hT] at hg
        simp only [foS, eggS, if_pos hg, if_pos hout]
      · simp only [hout, Bool.false_eq_true, if_false] at ho
        by_cases ha : miI 99 (am_I ν (h + 9) j + 1) < 3
        · simp only [gX1_dayGoes_57, gX1_dayGoes_58, gX1_dayGoes_61, gX1_dayGoes_64, gX1_dayGoes_64n, gX1_dayGoes_65, gX1_dayGoes_68, gX1_dayGoes_69, gX1_dayGoes_70, gX1_dayGoes_71, gX1_dayGoes_74, gX1_dayGoes_77, gX1_dayGoes_78, gX1_dayGoes_81, gX1_dayGoes_82, gX1_dayGoes_83, gX1_dayGoes_86, gX1_dayGoes_86n, gX1_dayGoes_87, gX1_dayGoes_88, gX1_dayGoes_91, gX1_dayGoes_91n, gX1_dayGoes_92, gX1_dayGoes_93, gX1_dayGoes_96, gX1_dayGoes_97, gX1_dayGoes_98, gX1_dayGoes_101, gX1_dayGoes_104, gX1_dayGoes_104n, gX1_dayGoes_105, gX1_dayGoes_108, gX1_dayGoes_109, gX1_dayGoes_111, gX1_dayGoes_111n, gX1_dayGoes_112, gX1_dayGoes_115, gX1_dayGoes_116, gX1_dayGoes_117, gX1_dayGoes_118, gX1_dayGoes_119, gX1_dayGoes_122, gX1_dayGoes_123, gX1_dayGoes_123n, gX1_dayGoes_124, gX1_dayGoes_127, gX1_dayGoes_128, gX1_dayGoes_129, gX1_dayGoes_130, gX1_dayGoes_133, gX1_dayGoes_136, gX1_dayGoes_136n, gX1_dayGoes_137, gX1_dayGoes_140, gX1_dayGoes_141, gX1_dayGoes_142, gX1_dayGoes_143, gX1_dayGoes_143n, gX1_dayGoes_144, gX1_dayGoes_147, gX1_dayGoes_148, gX1_dayGoes_149, gX1_dayGoes_150, gX1_dayGoes_153, am_kill_int, am_kill_ref, am_kill_null, am_kill_F, am_kill_long, am_cat_n, am_cat_i, am_cat_r, am_cat_0, am_cat_l, am_nr_n, am_nr_i, am_nr_r, am_nr_0, am_nr_l, Option.toList_some, Option.toList_none, List.nil_append, List.cons_append, va_rf_s, va_rf_n, am_II, am_I_sR, am_I_sL, am_R_sI, am_RR, am_R_sL, am_L_sI, am_L_sR, am_LL, am_k_sI, am_k_sR, am_k_sL, am_n_sI, am_n_sR, am_n_sL, true_and, and_true, true_or, or_true, or_false, false_or, not_true_eq_false, not_false_eq_true, Nat.reduceLT, am_dS, am_dP, am_d1, Nat.reduceSub, Nat.reduceMul, ne_eq, Nat.reduceBEq, Nat.reduceAdd, Nat.reduceLeDiff, Nat.reduceEqDiff, and_self, and_false, false_and, if_true, if_false, am_nb, am_nb0, am_nb1, am_lc1, am_lc2, am_lc3, am_b0, am_b1, am_10, am_c8, am_c16, am_c24, am_c32, am_c40, am_c48, am_c56, am_c64, am_c72, Nat.add_zero, Bool.false_eq_true, Nat.zero_le, hN, hk, hs', hs1, hj8, hin, hcl, hlt, hR22, hg', hk40, ho, nI_1]
          rw [← cS_8 hj8] at ha
          have ha' := Int32.not_le.mpr ha
          unfold miI at ha'
          simp only [← cS_8 hj8, ha', if_false]
          refine ih _ _ ⟨rfl, hF.I (g 9 (by omega)), ?_⟩
          rw [cS_w8 hj8]
          rw [hT] at hg ha ⊢
          simp only [foS, eggS, if_pos hg, if_neg hout, if_pos ha]
          rfl
        · simp only [gX1_dayGoes_57, gX1_dayGoes_58, gX1_dayGoes_61, gX1_dayGoes_64, gX1_dayGoes_64n, gX1_dayGoes_65, gX1_dayGoes_68, gX1_dayGoes_69, gX1_dayGoes_70, gX1_dayGoes_71, gX1_dayGoes_74, gX1_dayGoes_77, gX1_dayGoes_78, gX1_dayGoes_81, gX1_dayGoes_82, gX1_dayGoes_83, gX1_dayGoes_86, gX1_dayGoes_86n, gX1_dayGoes_87, gX1_dayGoes_88, gX1_dayGoes_91, gX1_dayGoes_91n, gX1_dayGoes_92, gX1_dayGoes_93, gX1_dayGoes_96, gX1_dayGoes_97, gX1_dayGoes_98, gX1_dayGoes_101, gX1_dayGoes_104, gX1_dayGoes_104n, gX1_dayGoes_105, gX1_dayGoes_108, gX1_dayGoes_109, gX1_dayGoes_111, gX1_dayGoes_111n, gX1_dayGoes_112, gX1_dayGoes_115, gX1_dayGoes_116, gX1_dayGoes_117, gX1_dayGoes_118, gX1_dayGoes_119, gX1_dayGoes_122, gX1_dayGoes_123, gX1_dayGoes_123n, gX1_dayGoes_124, gX1_dayGoes_127, gX1_dayGoes_128, gX1_dayGoes_129, gX1_dayGoes_130, gX1_dayGoes_133, gX1_dayGoes_136, gX1_dayGoes_136n, gX1_dayGoes_137, gX1_dayGoes_140, gX1_dayGoes_141, gX1_dayGoes_142, gX1_dayGoes_143, gX1_dayGoes_143n, gX1_dayGoes_144, gX1_dayGoes_147, gX1_dayGoes_148, gX1_dayGoes_149, gX1_dayGoes_150, gX1_dayGoes_153, am_kill_int, am_kill_ref, am_kill_null, am_kill_F, am_kill_long, am_cat_n, am_cat_i, am_cat_r, am_cat_0, am_cat_l, am_nr_n, am_nr_i, am_nr_r, am_nr_0, am_nr_l, Option.toList_some, Option.toList_none, List.nil_append, List.cons_append, va_rf_s, va_rf_n, am_II, am_I_sR, am_I_sL, am_R_sI, am_RR, am_R_sL, am_L_sI, am_L_sR, am_LL, am_k_sI, am_k_sR, am_k_sL, am_n_sI, am_n_sR, am_n_sL, true_and, and_true, true_or, or_true, or_false, false_or, not_true_eq_false, not_false_eq_true, Nat.reduceLT, am_dS, am_dP, am_d1, Nat.reduceSub, Nat.reduceMul, ne_eq, Nat.reduceBEq, Nat.reduceAdd, Nat.reduceLeDiff, Nat.reduceEqDiff, and_self, and_false, false_and, if_true, if_false, am_nb, am_nb0, am_nb1, am_lc1, am_lc2, am_lc3, am_b0, am_b1, am_10, am_c8, am_c16, am_c24, am_c32, am_c40, am_c48, am_c56, am_c64, am_c72, Nat.add_zero, Bool.false_eq_true, Nat.zero_le, hN, hk, hs', hs1, hj8, hin, hcl, hlt, hR22, hg', hk40, ho, nI_1]
          rw [← cS_8 hj8] at ha
          have ha' := Int32.not_lt.mp ha
          unfold miI at ha'
          simp only [← cS_8 hj8, ha', if_true]
          refine ih _ _ ⟨rfl, ((hF.I (g 9 (by omega))).I (g 7 (by omega))).I (g 4 (by omega)), ?_⟩
          rw [cS_w3 hj8, cS_w6 hj8, cS_w8 hj8]
          rw [hT] at hg ha ⊢
          simp only [foS, eggS, if_pos hg, if_neg hout, if_neg ha]
          rfl
    · have hg' := hg
      rw [cS_6 hj8] at hg'
      simp only [gX1_dayGoes_57, gX1_dayGoes_58, gX1_dayGoes_61, gX1_dayGoes_64, gX1_dayGoes_64n, gX1_dayGoes_65, gX1_dayGoes_68, gX1_dayGoes_69, gX1_dayGoes_70, gX1_dayGoes_71, gX1_dayGoes_74, gX1_dayGoes_77, gX1_dayGoes_78, gX1_dayGoes_81, gX1_dayGoes_82, gX1_dayGoes_83, gX1_dayGoes_86, gX1_dayGoes_86n, gX1_dayGoes_87, gX1_dayGoes_88, gX1_dayGoes_91, gX1_dayGoes_91n, gX1_dayGoes_92, gX1_dayGoes_93, gX1_dayGoes_96, gX1_dayGoes_97, gX1_dayGoes_98, gX1_dayGoes_101, gX1_dayGoes_104, gX1_dayGoes_104n, gX1_dayGoes_105, gX1_dayGoes_108, gX1_dayGoes_109, gX1_dayGoes_111, gX1_dayGoes_111n, gX1_dayGoes_112, gX1_dayGoes_115, gX1_dayGoes_116, gX1_dayGoes_117, gX1_dayGoes_118, gX1_dayGoes_119, gX1_dayGoes_122, gX1_dayGoes_123, gX1_dayGoes_123n, gX1_dayGoes_124, gX1_dayGoes_127, gX1_dayGoes_128, gX1_dayGoes_129, gX1_dayGoes_130, gX1_dayGoes_133, gX1_dayGoes_136, gX1_dayGoes_136n, gX1_dayGoes_137, gX1_dayGoes_140, gX1_dayGoes_141, gX1_dayGoes_142, gX1_dayGoes_143, gX1_dayGoes_143n, gX1_dayGoes_144, gX1_dayGoes_147, gX1_dayGoes_148, gX1_dayGoes_149, gX1_dayGoes_150, gX1_dayGoes_153, am_kill_int, am_kill_ref, am_kill_null, am_kill_F, am_kill_long, am_cat_n, am_cat_i, am_cat_r, am_cat_0, am_cat_l, am_nr_n, am_nr_i, am_nr_r, am_nr_0, am_nr_l, Option.toList_some, Option.toList_none, List.nil_append, List.cons_append, va_rf_s, va_rf_n, am_II, am_I_sR, am_I_sL, am_R_sI, am_RR, am_R_sL, am_L_sI, am_L_sR, am_LL, am_k_sI, am_k_sR, am_k_sL, am_n_sI, am_n_sR, am_n_sL, true_and, and_true, true_or, or_true, or_false, false_or, not_true_eq_false, not_false_eq_true, Nat.reduceLT, am_dS, am_dP, am_d1, Nat.reduceSub, Nat.reduceMul, ne_eq, Nat.reduceBEq, Nat.reduceAdd, Nat.reduceLeDiff, Nat.reduceEqDiff, and_self, and_false, false_and, if_true, if_false, am_nb, am_nb0, am_nb1, am_lc1, am_lc2, am_lc3, am_b0, am_b1, am_10, am_c8, am_c16, am_c24, am_c32, am_c40, am_c48, am_c56, am_c64, am_c72, Nat.add_zero, Bool.false_eq_true, Nat.zero_le, hN, hk, hs', hs1, hj8, hin, hcl, hlt, hR22, hg', hk40, ho, nI_1]
      refine ih _ _ ⟨rfl, hF, ?_⟩
      rw [hT]
      rw [hT] at hg
      simp only [foS, eggS, if_neg hg]
  · rintro ls ν ⟨rfl, hF, hT⟩
    have hC1 : CC N ru c ν := hC.fr hF (fun a b q => by unfold inSp at q; omega)
    have hk := hC1.1.c
    have hN := hC1.2.1
    rw [gX1_dayGoes_56]
    simp only [gX1_dayGoes_57, gX1_dayGoes_58, gX1_dayGoes_61, am_kill_int, am_kill_ref, am_kill_null, am_kill_F, am_kill_long, am_cat_n, am_cat_i, am_cat_r, am_cat_0, am_cat_l, am_nr_n, am_nr_i, am_nr_r, am_nr_0, am_nr_l, Option.toList_some, Option.toList_none, List.nil_append, List.cons_append, va_rf_s, va_rf_n, am_II, am_I_sR, am_I_sL, am_R_sI, am_RR, am_R_sL, am_L_sI, am_L_sR, am_LL, am_k_sI, am_k_sR, am_k_sL, am_n_sI, am_n_sR, am_n_sL, true_and, and_true, true_or, or_true, or_false, false_or, not_true_eq_false, not_false_eq_true, Nat.reduceLT, am_dS, am_dP, am_d1, Nat.reduceSub, Nat.reduceMul, ne_eq, Nat.reduceBEq, Nat.reduceAdd, Nat.reduceLeDiff, Nat.reduceEqDiff, and_self, and_false, false_and, if_true, if_false, am_nb, am_nb0, am_nb1, am_lc1, am_lc2, am_lc3, am_b0, am_b1, am_10, am_c8, am_c16, am_c24, am_c32, am_c40, am_c48, am_c56, am_c64, am_c72, Nat.add_zero, Bool.false_eq_true, Nat.zero_le, hN, hk, Int32.le_refl]
    exact hK ν hF hT
theorem day3 {yb : Nat → Bool} (hC : CC N ru c μ) (hs : spL h (am_k μ) (am_R μ)) (h0 : 0 < h) (h2 : h + 10 < 40)
    (hK : ∀ ν, Fr (fun a _ => inSp h a) μ ν → cS ν h = foS (yngS yb) N (cS μ h) → am_Wp (d + 1) mX1_dayGoes 236 [.ref 0, .ref h, .int (orB yb N), .int (nI N)] [] ν K) :
    am_Wp (d + 1) mX1_dayGoes 158 [.ref 0, .ref h, .int (orB yb N), .int (nI 0)] [] μ K := by
  have h8 := hC.2.2.1
  refine am_for (N := N) (fun j ls ν => ls = [.ref 0, .ref h, .int (orB yb N), .int (nI j)] ∧ Fr (fun a _ => inSp h a) μ ν ∧ cS ν h = foS (yngS yb) j (cS μ h)) ?_ ?_ N 0 _ _ (by omega) ⟨rfl, Fr.refl, rfl⟩
  · rintro j ls ν hj ⟨rfl, hF, hT⟩ ih
    have hC1 : CC N ru c ν := hC.fr hF (fun a b q => by unfold inSp at q; omega)
    have hs1 : spL h (am_k ν) (am_R ν) := hF.spL h0 (by omega) hs
    have hk := hC1.1.c
    have hN := hC1.2.1
    have hs' := hs1
    unfold spL at hs'
    have hj8 : j < 8 := by omega
    have hin : vp_in (nI j) 8 := vp_in_nI (by omega) (by omega)
    have hcl : (nI j).toNatClampNeg = j := nI_clamp (by omega)
    have hlt : ¬ nI N ≤ nI j := nI_ge hj (by omega)
    have g : ∀ k, k ≤ 10 → inSp h (h + k) := fun k q => ⟨by omega, by omega⟩
    rw [gX1_dayGoes_158]
    by_cases hy : yb j = true
    · by_cases ha : miI 99 (cS ν h (72 + j) + cS ν h (8 + j)) < 30
      · simp only [gX1_dayGoes_159, gX1_dayGoes_160, gX1_dayGoes_163, gX1_dayGoes_166, gX1_dayGoes_167, gX1_dayGoes_168, gX1_dayGoes_171, gX1_dayGoes_174, gX1_dayGoes_177, gX1_dayGoes_177n, gX1_dayGoes_178, gX1_dayGoes_181, gX1_dayGoes_182, gX1_dayGoes_184, gX1_dayGoes_184n, gX1_dayGoes_185, gX1_dayGoes_188, gX1_dayGoes_189, gX1_dayGoes_190, gX1_dayGoes_190n, gX1_dayGoes_191, gX1_dayGoes_194, gX1_dayGoes_195, gX1_dayGoes_196, gX1_dayGoes_197, gX1_dayGoes_200, gX1_dayGoes_201, gX1_dayGoes_201n, gX1_dayGoes_202, gX1_dayGoes_205, gX1_dayGoes_206, gX1_dayGoes_207, gX1_dayGoes_209, gX1_dayGoes_212, gX1_dayGoes_215, gX1_dayGoes_215n, gX1_dayGoes_216, gX1_dayGoes_217, gX1_dayGoes_220, gX1_dayGoes_220n, gX1_dayGoes_221, gX1_dayGoes_222, gX1_dayGoes_225, gX1_dayGoes_226, gX1_dayGoes_227, gX1_dayGoes_230, gX1_dayGoes_233, am_kill_int, am_kill_ref, am_kill_null, am_kill_F, am_kill_long, am_cat_n, am_cat_i, am_cat_r, am_cat_0, am_cat_l, am_nr_n, am_nr_i, am_nr_r, am_nr_0, am_nr_l, Option.toList_some, Option.toList_none, List.nil_append, List.cons_append, va_rf_s, va_rf_n, am_II, am_I_sR, am_I_sL, am_R_sI, am_RR, am_R_sL, am_L_sI, am_L_sR, am_LL, am_k_sI, am_k_sR, am_k_sL, am_n_sI, am_n_sR, am_n_sL, true_and, and_true, true_or, or_true, or_false, false_or, not_true_eq_false, not_false_eq_true, Nat.reduceLT, am_dS, am_dP, am_d1, Nat.reduceSub, Nat.reduceMul, ne_eq, Nat.reduceBEq, Nat.reduceAdd, Nat.reduceLeDiff, Nat.reduceEqDiff, and_self, and_false, false_and, if_true, if_false, am_nb, am_nb0, am_nb1, am_lc1, am_lc2, am_lc3, am_b0, am_b1, am_10, am_c8, am_c16, am_c24, am_c32, am_c40, am_c48, am_c56, am_c64, am_c72, Nat.add_zero, Bool.false_eq_true, Nat.zero_le, hN, hk, hs', hs1, hj8, hin, hcl, hlt, wX1_has, orB_has h8 hj, hy, nI_1]
        rw [← cS_9 hj8, ← cS_1 hj8]
        have ha' := Int32.not_le.mpr ha
        unfold miI at ha'
        simp only [ha', if_false]
        refine ih _ _ ⟨rfl, hF.I (g 10 (by omega)), ?_⟩
        rw [cS_w9 hj8]
        rw [hT] at ha ⊢
        simp only [foS, yngS, if_pos hy, if_pos ha]
        rfl
      · simp only [gX1_dayGoes_159, gX1_dayGoes_160, gX1_dayGoes_163, gX1_dayGoes_166, gX1_dayGoes_167, gX1_dayGoes_168, gX1_dayGoes_171, gX1_dayGoes_174, gX1_dayGoes_177, gX1_dayGoes_177n, gX1_dayGoes_178, gX1_dayGoes_181, gX1_dayGoes_182, gX1_dayGoes_184, gX1_dayGoes_184n, gX1_dayGoes_185, gX1_dayGoes_188, gX1_dayGoes_189, gX1_dayGoes_190, gX1_dayGoes_190n, gX1_dayGoes_191, gX1_dayGoes_194, gX1_dayGoes_195, gX1_dayGoes_196, gX1_dayGoes_197, gX1_dayGoes_200, gX1_dayGoes_201, gX1_dayGoes_201n, gX1_dayGoes_202, gX1_dayGoes_205, gX1_dayGoes_206, gX1_dayGoes_207, gX1_dayGoes_209, gX1_dayGoes_212, gX1_dayGoes_215, gX1_dayGoes_215n, gX1_dayGoes_216, gX1_dayGoes_217, gX1_dayGoes_220, gX1_dayGoes_220n, gX1_dayGoes_221, gX1_dayGoes_222, gX1_dayGoes_225, gX1_dayGoes_226, gX1_dayGoes_227, gX1_dayGoes_230, gX1_dayGoes_233, am_kill_int, am_kill_ref, am_kill_null, am_kill_F, am_kill_long, am_cat_n, am_cat_i, am_cat_r, am_cat_0, am_cat_l, am_nr_n, am_nr_i, am_nr_r, am_nr_0, am_nr_l, Option.toList_some, Option.toList_none, List.nil_append, List.cons_append, va_rf_s, va_rf_n, am_I_sR, am_I_sL, am_R_sI, am_R_sL, am_L_sI, am_L_sR, am_k_sI, am_k_sR, am_k_sL, am_n_sI, am_n_sR, am_n_sL, true_and, and_true, true_or, or_true, or_false, false_or, not_true_eq_false, not_false_eq_true, Nat.reduceLT, am_dS, am_dP, am_d1, Nat.reduceSub, Nat.reduceMul, ne_eq, Nat.reduceBEq, Nat.reduceAdd, Nat.reduceLeDiff, Nat.reduceEqDiff, and_self, and_false, false_and, if_true, if_false, am_nb, am_nb0, am_nb1, am_lc1, am_lc2, am_lc3, am_b0, am_b1, am_10, am_c8, am_c16, am_c24, am_c32, am_c40, am_c48, am_c56, am_c64, am_c72, Nat.add_zero, Bool.false_eq_true, Nat.zero_le, am_II, hN, hk, hs', hs1, hj8, hin, hcl, hlt, wX1_has, orB_has h8 hj, hy, wX2_leaves, nI_1]
        have hne : ∀ k, (h = h + (k + 1)) = False := fun k => eq_false (by omega)
        simp only [hne, false_and, if_false]
        rw [← cS_9 hj8, ← cS_1 hj8]
        have ha' := Int32.not_lt.mp ha
        unfold miI at ha'
        simp only [ha', if_true]
        refine ih _ _ ⟨rfl, (Fr_leaves (fun k q _ => g k q) (hF.I (g 10 (by omega)))).I (g 0 (by omega)), ?_⟩
        rw [cS_wf, cS_leaves hj8, cS_w9 hj8, ← cS_f]
        rw [hT] at ha ⊢
        simp only [foS, yngS, if_pos hy, if_neg ha]
        rfl
    · simp only [gX1_dayGoes_159, gX1_dayGoes_160, gX1_dayGoes_163, gX1_dayGoes_166, gX1_dayGoes_167, gX1_dayGoes_168, gX1_dayGoes_171, gX1_dayGoes_174, gX1_dayGoes_177, gX1_dayGoes_177n, gX1_dayGoes_178, gX1_dayGoes_181, gX1_dayGoes_182, gX1_dayGoes_184, gX1_dayGoes_184n, gX1_dayGoes_185, gX1_dayGoes_188, gX1_dayGoes_189, gX1_dayGoes_190, gX1_dayGoes_190n, gX1_dayGoes_191, gX1_dayGoes_194, gX1_dayGoes_195, gX1_dayGoes_196, gX1_dayGoes_197, gX1_dayGoes_200, gX1_dayGoes_201, gX1_dayGoes_201n, gX1_dayGoes_202, gX1_dayGoes_205, gX1_dayGoes_206, gX1_dayGoes_207, gX1_dayGoes_209, gX1_dayGoes_212, gX1_dayGoes_215, gX1_dayGoes_215n, gX1_dayGoes_216, gX1_dayGoes_217, gX1_dayGoes_220, gX1_dayGoes_220n, gX1_dayGoes_221, gX1_dayGoes_222, gX1_dayGoes_225, gX1_dayGoes_226, gX1_dayGoes_227, gX1_dayGoes_230, gX1_dayGoes_233, am_kill_int, am_kill_ref, am_kill_null, am_kill_F, am_kill_long, am_cat_n, am_cat_i, am_cat_r, am_cat_0, am_cat_l, am_nr_n, am_nr_i, am_nr_r, am_nr_0, am_nr_l, Option.toList_some, Option.toList_none, List.nil_append, List.cons_append, va_rf_s, va_rf_n, am_II, am_I_sR, am_I_sL, am_R_sI, am_RR, am_R_sL, am_L_sI, am_L_sR, am_LL, am_k_sI, am_k_sR, am_k_sL, am_n_sI, am_n_sR, am_n_sL, true_and, and_true, true_or, or_true, or_false, false_or, not_true_eq_false, not_false_eq_true, Nat.reduceLT, am_dS, am_dP, am_d1, Nat.reduceSub, Nat.reduceMul, ne_eq, Nat.reduceBEq, Nat.reduceAdd, Nat.reduceLeDiff, Nat.reduceEqDiff, and_self, and_false, false_and, if_true, if_false, am_nb, am_nb0, am_nb1, am_lc1, am_lc2, am_lc3, am_b0, am_b1, am_10, am_c8, am_c16, am_c24, am_c32, am_c40, am_c48, am_c56, am_c64, am_c72, Nat.add_zero, Bool.false_eq_true, Nat.zero_le, hN, hk, hs', hs1, hj8, hin, hcl, hlt, wX1_has, orB_has h8 hj, hy, nI_1]
      refine ih _ _ ⟨rfl, hF, ?_⟩
      simp only [foS, yngS, if_neg hy, hT]
  · rintro ls ν ⟨rfl, hF, hT⟩
    have hC1 : CC N ru c ν := hC.fr hF (fun a b q => by unfold inSp at q; omega)
    have hk := hC1.1.c
    have hN := hC1.2.1
    rw [gX1_dayGoes_158]
    simp only [gX1_dayGoes_159, gX1_dayGoes_160, gX1_dayGoes_163, gX1_dayGoes_166, am_kill_int, am_kill_ref, am_kill_null, am_kill_F, am_kill_long, am_cat_n, am_cat_i, am_cat_r, am_cat_0, am_cat_l, am_nr_n, am_nr_i, am_nr_r, am_nr_0, am_nr_l, Option.toList_some, Option.toList_none, List.nil_append, List.cons_append, va_rf_s, va_rf_n, am_II, am_I_sR, am_I_sL, am_R_sI, am_RR, am_R_sL, am_L_sI, am_L_sR, am_LL, am_k_sI, am_k_sR, am_k_sL, am_n_sI, am_n_sR, am_n_sL, true_and, and_true, true_or, or_true, or_false, false_or, not_true_eq_false, not_false_eq_true, Nat.reduceLT, am_dS, am_dP, am_d1, Nat.reduceSub, Nat.reduceMul, ne_eq, Nat.reduceBEq, Nat.reduceAdd, Nat.reduceLeDiff, Nat.reduceEqDiff, and_self, and_false, false_and, if_true, if_false, am_nb, am_nb0, am_nb1, am_lc1, am_lc2, am_lc3, am_b0, am_b1, am_10, am_c8, am_c16, am_c24, am_c32, am_c40, am_c48, am_c56, am_c64, am_c72, Nat.add_zero, Bool.false_eq_true, Nat.zero_le, hN, hk, Int32.le_refl]
    exact hK ν hF hT
theorem day4 (hC : CC N ru c μ) (hs : spL h (am_k μ) (am_R μ)) (h0 : 0 < h) (h2 : h + 10 < 40)
    (hK : ∀ ν, Fr (fun a _ => inSp h a) μ ν → cS ν h = spU (foS notS N (cS μ h)) 80 (foS notS N (cS μ h) 80 + 1) → K none ν) :
    am_Wp (d + 2) mX1_dayGoes 238 [.ref 0, .ref h, .int x, .int (nI 0)] [] μ K := by
  have h8 := hC.2.2.1
  refine am_for (N := N) (fun j ls ν => ls = [.ref 0, .ref h, .int x, .int (nI j)] ∧ Fr (fun a _ => inSp h a) μ ν ∧ cS ν h = foS notS j (cS μ h)) ?_ ?_ N 0 _ _ (by omega) ⟨rfl, Fr.refl, rfl⟩
  · rintro j ls ν hj ⟨rfl, hF, hT⟩ ih
    have hC1 : CC N ru c ν := hC.fr hF (fun a b q => by unfold inSp at q; omega)
    have hs1 : spL h (am_k ν) (am_R ν) := hF.spL h0 (by omega) hs
    have hk := hC1.1.c
    have hN := hC1.2.1
    have hs' := hs1
    unfold spL at hs'
    have hj8 : j < 8 := by omega
    have hin : vp_in (nI j) 8 := vp_in_nI (by omega) (by omega)
    have hcl : (nI j).toNatClampNeg = j := nI_clamp (by omega)
    have hlt : ¬ nI N ≤ nI j := nI_ge hj (by omega)
    have g : ∀ k, k ≤ 10 → inSp h (h + k) := fun k q => ⟨by omega, by omega⟩
    rw [gX1_dayGoes_238]
    by_cases hy : 0 ≤ cS ν h (32 + j)
    · simp only [gX1_dayGoes_239, gX1_dayGoes_240, gX1_dayGoes_243, gX1_dayGoes_246, gX1_dayGoes_246n, gX1_dayGoes_247, gX1_dayGoes_250, gX1_dayGoes_251, gX1_dayGoes_251n, gX1_dayGoes_252, gX1_dayGoes_253, gX1_dayGoes_256, gX1_dayGoes_259, gX1_dayGoes_261, gX1_dayGoes_261n, gX1_dayGoes_262, gX1_dayGoes_265, gX1_dayGoes_266, gX1_dayGoes_267, gX1_dayGoes_268, gX1_dayGoes_269, gX1_dayGoes_272, gX1_dayGoes_275, gX1_dayGoes_276, gX1_dayGoes_277, gX1_dayGoes_280, am_kill_int, am_kill_ref, am_kill_null, am_kill_F, am_kill_long, am_cat_n, am_cat_i, am_cat_r, am_cat_0, am_cat_l, am_nr_n, am_nr_i, am_nr_r, am_nr_0, am_nr_l, Option.toList_some, Option.toList_none, List.nil_append, List.cons_append, va_rf_s, va_rf_n, am_II, am_I_sR, am_I_sL, am_R_sI, am_RR, am_R_sL, am_L_sI, am_L_sR, am_LL, am_k_sI, am_k_sR, am_k_sL, am_n_sI, am_n_sR, am_n_sL, true_and, and_true, true_or, or_true, or_false, false_or, not_true_eq_false, not_false_eq_true, Nat.reduceLT, am_dS, am_dP, am_d1, Nat.reduceSub, Nat.reduceMul, ne_eq, Nat.reduceBEq, Nat.reduceAdd, Nat.reduceLeDiff, Nat.reduceEqDiff, and_self, and_false, false_and, if_true, if_false, am_nb, am_nb0, am_nb1, am_lc1, am_lc2, am_lc3, am_b0, am_b1, am_10, am_c8, am_c16, am_c24, am_c32, am_c40, am_c48, am_c56, am_c64, am_c72, Nat.add_zero, Bool.false_eq_true, Nat.zero_le, hN, hk, hs', hs1, hj8, hin, hcl, hlt, wX2_isNoticed, hy, nI_1]
      refine ih _ _ ⟨rfl, hF.I (g 5 (by omega)), ?_⟩
      rw [cS_w4 hj8, ← cS_4 hj8]
      rw [hT] at hy ⊢
      simp only [foS, notS, if_pos hy]
      rfl
    · simp only [gX1_dayGoes_239, gX1_dayGoes_240, gX1_dayGoes_243, gX1_dayGoes_246, gX1_dayGoes_246n, gX1_dayGoes_247, gX1_dayGoes_250, gX1_dayGoes_251, gX1_dayGoes_251n, gX1_dayGoes_252, gX1_dayGoes_253, gX1_dayGoes_256, gX1_dayGoes_259, gX1_dayGoes_261, gX1_dayGoes_261n, gX1_dayGoes_262, gX1_dayGoes_265, gX1_dayGoes_266, gX1_dayGoes_267, gX1_dayGoes_268, gX1_dayGoes_269, gX1_dayGoes_272, gX1_dayGoes_275, gX1_dayGoes_276, gX1_dayGoes_277, gX1_dayGoes_280, am_kill_int, am_kill_ref, am_kill_null, am_kill_F, am_kill_long, am_cat_n, am_cat_i, am_cat_r, am_cat_0, am_cat_l, am_nr_n, am_nr_i, am_nr_r, am_nr_0, am_nr_l, Option.toList_some, Option.toList_none, List.nil_append, List.cons_append, va_rf_s, va_rf_n, am_II, am_I_sR, am_I_sL, am_R_sI, am_RR, am_R_sL, am_L_sI, am_L_sR, am_LL, am_k_sI, am_k_sR, am_k_sL, am_n_sI, am_n_sR, am_n_sL, true_and, and_true, true_or, or_true, or_false, false_or, not_true_eq_false, not_false_eq_true, Nat.reduceLT, am_dS, am_dP, am_d1, Nat.reduceSub, Nat.reduceMul, ne_eq, Nat.reduceBEq, Nat.reduceAdd, Nat.reduceLeDiff, Nat.reduceEqDiff, and_self, and_false, false_and, if_true, if_false, am_nb, am_nb0, am_nb1, am_lc1, am_lc2, am_lc3, am_b0, am_b1, am_10, am_c8, am_c16, am_c24, am_c32, am_c40, am_c48, am_c56, am_c64, am_c72, Nat.add_zero, Bool.false_eq_true, Nat.zero_le, hN, hk, hs', hs1, hj8, hin, hcl, hlt, wX2_isNoticed, hy, nI_1]
      refine ih _ _ ⟨rfl, hF.I (g 5 (by omega)), ?_⟩
      rw [cS_w4 hj8]
      rw [hT] at hy ⊢
      simp only [foS, notS, if_neg hy]
  · rintro ls ν ⟨rfl, hF, hT⟩
    have hC1 : CC N ru c ν := hC.fr hF (fun a b q => by unfold inSp at q; omega)
    have hs1 : spL h (am_k ν) (am_R ν) := hF.spL h0 (by omega) hs
    have hk := hC1.1.c
    have hN := hC1.2.1
    have hs' := hs1
    unfold spL at hs'
    rw [gX1_dayGoes_238]
    simp only [gX1_dayGoes_239, gX1_dayGoes_240, gX1_dayGoes_243, gX1_dayGoes_246, gX1_dayGoes_246n, gX1_dayGoes_247, gX1_dayGoes_250, gX1_dayGoes_251, gX1_dayGoes_251n, gX1_dayGoes_252, gX1_dayGoes_253, gX1_dayGoes_256, gX1_dayGoes_259, gX1_dayGoes_261, gX1_dayGoes_261n, gX1_dayGoes_262, gX1_dayGoes_265, gX1_dayGoes_266, gX1_dayGoes_267, gX1_dayGoes_268, gX1_dayGoes_269, gX1_dayGoes_272, gX1_dayGoes_275, gX1_dayGoes_276, gX1_dayGoes_277, gX1_dayGoes_280, gX1_dayGoes_283, gX1_dayGoes_283n, gX1_dayGoes_284, gX1_dayGoes_285, gX1_dayGoes_288, gX1_dayGoes_289, gX1_dayGoes_290, gX1_dayGoes_293, am_kill_int, am_kill_ref, am_kill_null, am_kill_F, am_kill_long, am_cat_n, am_cat_i, am_cat_r, am_cat_0, am_cat_l, am_nr_n, am_nr_i, am_nr_r, am_nr_0, am_nr_l, Option.toList_some, Option.toList_none, List.nil_append, List.cons_append, va_rf_s, va_rf_n, am_II, am_I_sR, am_I_sL, am_R_sI, am_RR, am_R_sL, am_L_sI, am_L_sR, am_LL, am_k_sI, am_k_sR, am_k_sL, am_n_sI, am_n_sR, am_n_sL, true_and, and_true, true_or, or_true, or_false, false_or, not_true_eq_false, not_false_eq_true, Nat.reduceLT, am_dS, am_dP, am_d1, Nat.reduceSub, Nat.reduceMul, ne_eq, Nat.reduceBEq, Nat.reduceAdd, Nat.reduceLeDiff, Nat.reduceEqDiff, and_self, and_false, false_and, if_true, if_false, am_nb, am_nb0, am_nb1, am_lc1, am_lc2, am_lc3, am_b0, am_b1, am_10, am_c8, am_c16, am_c24, am_c32, am_c40, am_c48, am_c56, am_c64, am_c72, Nat.add_zero, Bool.false_eq_true, Nat.zero_le, hN, hk, Int32.le_refl, hs']
    refine hK _ (hF.I ⟨by omega, by omega⟩) ?_
    rw [cS_wd, hT, ← hT, ← cS_d]
theorem wX1_dayGoes (hC : CC N ru c μ) (hs : spL h (am_k μ) (am_R μ)) (h0 : 0 < h) (h2 : h + 10 < 40)
    (hK : ∀ ν, Fr (jS h) μ ν → cS ν h = dayC N ru (cS μ h) → K none ν) :
    am_Wp (d + 68) mX1_dayGoes 0 [.ref 0, .ref h, am_F, am_F] [] μ K := by
  have hk := hC.1.c
  simp only [gX1_dayGoes_0, gX1_dayGoes_1, gX1_dayGoes_1n, gX1_dayGoes_2, gX1_dayGoes_3, gX1_dayGoes_6, gX1_dayGoes_7, gX1_dayGoes_8, am_kill_int, am_kill_ref, am_kill_null, am_kill_F, am_kill_long, am_cat_n, am_cat_i, am_cat_r, am_cat_0, am_cat_l, am_nr_n, am_nr_i, am_nr_r, am_nr_0, am_nr_l, Option.toList_some, Option.toList_none, List.nil_append, List.cons_append, va_rf_s, va_rf_n, am_II, am_I_sR, am_I_sL, am_R_sI, am_RR, am_R_sL, am_L_sI, am_L_sR, am_LL, am_k_sI, am_k_sR, am_k_sL, am_n_sI, am_n_sR, am_n_sL, true_and, and_true, true_or, or_true, or_false, false_or, not_true_eq_false, not_false_eq_true, Nat.reduceLT, am_dS, am_dP, am_d1, Nat.reduceSub, Nat.reduceMul, ne_eq, Nat.reduceBEq, Nat.reduceAdd, Nat.reduceLeDiff, Nat.reduceEqDiff, and_self, and_false, false_and, if_true, if_false, am_nb, am_nb0, am_nb1, am_lc1, am_lc2, am_lc3, am_b0, am_b1, am_10, am_c8, am_c16, am_c24, am_c32, am_c40, am_c48, am_c56, am_c64, am_c72, Nat.add_zero, Bool.false_eq_true, Nat.zero_le, hk, wX1_guests hC.2.1 hC.2.2.1 hk hs]
  refine day1 hC hs h0 h2 (fun ν hF hO => ?_)
  have hC1 : CC N ru c ν := hC.fr hF (fun a b q => by unfold jO at q; omega)
  have hs1 : spL h (am_k ν) (am_R ν) := hF.spL h0 (by omega) hs
  have hS : cS ν h = cS μ h := cS_Fr hF (fun a b q r s => by unfold jO at s; omega)
  simp only [gX1_dayGoes_54, gX1_dayGoes_55, am_kill_int, am_kill_ref, am_kill_null, am_kill_F, am_kill_long, am_cat_n, am_cat_i, am_cat_r, am_cat_0, am_cat_l, am_nr_n, am_nr_i, am_nr_r, am_nr_0, am_nr_l, Option.toList_some, Option.toList_none, List.nil_append, List.cons_append, va_rf_s, va_rf_n, am_II, am_I_sR, am_I_sL, am_R_sI, am_RR, am_R_sL, am_L_sI, am_L_sR, am_LL, am_k_sI, am_k_sR, am_k_sL, am_n_sI, am_n_sR, am_n_sL, true_and, and_true, true_or, or_true, or_false, false_or, not_true_eq_false, not_false_eq_true, Nat.reduceLT, am_dS, am_dP, am_d1, Nat.reduceSub, Nat.reduceMul, ne_eq, Nat.reduceBEq, Nat.reduceAdd, Nat.reduceLeDiff, Nat.reduceEqDiff, and_self, and_false, false_and, if_true, if_false, am_nb, am_nb0, am_nb1, am_lc1, am_lc2, am_lc3, am_b0, am_b1, am_10, am_c8, am_c16, am_c24, am_c32, am_c40, am_c48, am_c56, am_c64, am_c72, Nat.add_zero, Bool.false_eq_true, Nat.zero_le]
  refine day2 (d := d + 67) hC1 hs1 h0 h2 hO (fun ξ hF2 hT => ?_)
  have hC2 : CC N ru c ξ := hC1.fr hF2 (fun a b q => by unfold inSp at q; omega)
  have hs2 : spL h (am_k ξ) (am_R ξ) := hF2.spL h0 (by omega) hs1
  simp only [gX1_dayGoes_156, gX1_dayGoes_157, am_kill_int, am_kill_ref, am_kill_null, am_kill_F, am_kill_long, am_cat_n, am_cat_i, am_cat_r, am_cat_0, am_cat_l, am_nr_n, am_nr_i, am_nr_r, am_nr_0, am_nr_l, Option.toList_some, Option.toList_none, List.nil_append, List.cons_append, va_rf_s, va_rf_n, am_II, am_I_sR, am_I_sL, am_R_sI, am_RR, am_R_sL, am_L_sI, am_L_sR, am_LL, am_k_sI, am_k_sR, am_k_sL, am_n_sI, am_n_sR, am_n_sL, true_and, and_true, true_or, or_true, or_false, false_or, not_true_eq_false, not_false_eq_true, Nat.reduceLT, am_dS, am_dP, am_d1, Nat.reduceSub, Nat.reduceMul, ne_eq, Nat.reduceBEq, Nat.reduceAdd, Nat.reduceLeDiff, Nat.reduceEqDiff, and_self, and_false, false_and, if_true, if_false, am_nb, am_nb0, am_nb1, am_lc1, am_lc2, am_lc3, am_b0, am_b1, am_10, am_c8, am_c16, am_c24, am_c32, am_c40, am_c48, am_c56, am_c64, am_c72, Nat.add_zero, Bool.false_eq_true, Nat.zero_le]
  refine day3 (d := d + 67) hC2 hs2 h0 h2 (fun ξ2 hF3 hT2 => ?_)
  have hC3 : CC N ru c ξ2 := hC2.fr hF3 (fun a b q => by unfold inSp at q; omega)
  have hs3 : spL h (am_k ξ2) (am_R ξ2) := hF3.spL h0 (by omega) hs2
  simp only [gX1_dayGoes_236, gX1_dayGoes_237, am_kill_int, am_kill_ref, am_kill_null, am_kill_F, am_kill_long, am_cat_n, am_cat_i, am_cat_r, am_cat_0, am_cat_l, am_nr_n, am_nr_i, am_nr_r, am_nr_0, am_nr_l, Option.toList_some, Option.toList_none, List.nil_append, List.cons_append, va_rf_s, va_rf_n, am_II, am_I_sR, am_I_sL, am_R_sI, am_RR, am_R_sL, am_L_sI, am_L_sR, am_LL, am_k_sI, am_k_sR, am_k_sL, am_n_sI, am_n_sR, am_n_sL, true_and, and_true, true_or, or_true, or_false, false_or, not_true_eq_false, not_false_eq_true, Nat.reduceLT, am_dS, am_dP, am_d1, Nat.reduceSub, Nat.reduceMul, ne_eq, Nat.reduceBEq, Nat.reduceAdd, Nat.reduceLeDiff, Nat.reduceEqDiff, and_self, and_false, false_and, if_true, if_false, am_nb, am_nb0, am_nb1, am_lc1, am_lc2, am_lc3, am_b0, am_b1, am_10, am_c8, am_c16, am_c24, am_c32, am_c40, am_c48, am_c56, am_c64, am_c72, Nat.add_zero, Bool.false_eq_true, Nat.zero_le]
  refine day4 (d := d + 66) hC3 hs3 h0 h2 (fun ξ3 hF4 hT3 => ?_)
  refine hK _ ?_ ?_
  · exact (((hF.le fun a b q => Or.inr q).trans (hF2.le fun a b q => Or.inl q)).trans (hF3.le fun a b q => Or.inl q)).trans (hF4.le fun a b q => Or.inl q)
  · rw [hT3, hT2, hT, hS]; rfl
end DAYV
