/-! the component: how odd a guest looks; announcing, replying, laying, tinting, exchanging -/
set_option maxRecDepth 100000
section ODDV
variable {d : Nat} {μ ν : am_M} {K : Option Value → am_M → Prop} {x y c : Int32} {h h' N j : Nat} {v : Int32} {ru : Option ((Nat → Int32) → Int32)} {F : Nat → Nat → Prop}
def ruC (μ : am_M) (ru : Option ((Nat → Int32) → Int32)) : Prop := match ru with
  | none => am_R μ 0 17 = none
  | some f => ∃ a, am_R μ 0 17 = some a ∧ Tr 64 μ a f
/-- what the component's methods rest on -/
def CC (N : Nat) (ru : Option ((Nat → Int32) → Int32)) (c : Int32) (μ : am_M) : Prop := cL (am_k μ) (am_R μ) ∧ am_I μ 0 2 = nI N ∧ N ≤ 8 ∧ am_I μ 0 3 = c ∧ ruC μ ru
theorem cL_congr {k : Nat → Nat × Nat} {R R' : Nat → Nat → Option Nat} (h : cL k R) (hr : ∀ a b, a < 54 → ¬ (a = 0 ∧ b = 15) → R' a b = R a b) : cL k R' := by
  unfold cL spL at h ⊢
  have e : ∀ a b, a < 54 → ¬ (a = 0 ∧ b = 15) → R a b = R' a b := fun a b q q2 => (hr a b q q2).symm
  simpa (disch := omega) only [e] using h
theorem spL_congr {k : Nat → Nat × Nat} {R R' : Nat → Nat → Option Nat} (h' : spL h k R) (hr : ∀ b, R' h b = R h b) : spL h k R' := by
  unfold spL at h' ⊢
  simpa only [hr] using h'
theorem Fr.spL (hf : Fr F μ ν) (h1 : 0 < h) (h2 : h ≠ 54) (hs : spL h (am_k μ) (am_R μ)) : spL h (am_k ν) (am_R ν) := by
  rw [hf.2.2.2.1]
  exact spL_congr hs (fun b => hf.2.1 h b (by omega) (by omega))
theorem Fr.cL (hf : Fr F μ ν) (hs : cL (am_k μ) (am_R μ)) : cL (am_k ν) (am_R ν) := by
  rw [hf.2.2.2.1]
  exact cL_congr hs (fun a b q q2 => hf.2.1 a b q2 (by omega))
theorem Fr.node (hf : Fr F μ ν) (hF : ∀ a b, F a b → a < 78) : nodeEq μ ν := ⟨by rw [hf.2.2.2.2.1]; exact Nat.le_refl _, fun h q _ _ _ =>
  ⟨by rw [hf.2.2.2.1], fun i => hf.1 h i (fun r => by have := hF _ _ r; omega), fun i => hf.2.1 h i (by omega) (by omega)⟩⟩
theorem Fr.ruC (hf : Fr F μ ν) (hF : ∀ a b, F a b → a < 78) (hr : ruC μ ru) : ruC ν ru := by
  cases ru with
  | none => exact (hf.2.1 0 17 (by omega) (by omega)).trans hr
  | some f =>
    obtain ⟨a, h1, h2⟩ := hr
    exact ⟨a, (hf.2.1 0 17 (by omega) (by omega)).trans h1, h2.mono (hf.node hF)⟩
theorem CC.fr (hC : CC N ru c μ) (hf : Fr F μ ν) (hF : ∀ a b, F a b → a < 78 ∧ ¬ (a = 0 ∧ (b = 2 ∨ b = 3))) : CC N ru c ν :=
  ⟨hf.cL hC.1, (hf.1 0 2 (fun r => (hF _ _ r).2 ⟨rfl, Or.inl rfl⟩)).trans hC.2.1, hC.2.2.1, (hf.1 0 3 (fun r => (hF _ _ r).2 ⟨rfl, Or.inr rfl⟩)).trans hC.2.2.2.1, hf.ruC (fun a b r => (hF a b r).1) hC.2.2.2.2⟩
def jA (a b : Nat) : Prop := a = 0 ∧ b = 16
def jO (a b : Nat) : Prop := a = 40 ∨ (a = 0 ∧ b = 16)
def oddS (N : Nat) (ru : Option ((Nat → Int32) → Int32)) (S : Nat → Int32) (j : Nat) : Int32 := match ru with
  | none => 3 * abI (S (56 + j) - S (16 + j)) - maI 0 (S (32 + j)) - S j
  | some f => f (envS N S j)
theorem wX1_oddOf (hC : CC N ru c μ) (hs : spL h (am_k μ) (am_R μ)) (h0 : 0 < h) (hB : h < am_B) (hj : j < 8) (hK : ∀ ν, Fr jA μ ν → K (some (.int (oddS N ru (cS μ h) j))) ν) :
    am_Wp (d + 67) mX1_oddOf 0 [.ref 0, .ref h, .int (nI j)] [] μ K := by
  obtain ⟨hc, hN, h8, hcl0, hru⟩ := hC
  have hk := hc.c
  have hs' := hs
  unfold spL at hs'
  have hin : vp_in (nI j) 8 := vp_in_nI (by omega) (by omega)
  have hcl : (nI j).toNatClampNeg = j := nI_clamp (by omega)
  cases ru with
  | none =>
    have hru' : am_R μ 0 17 = none := hru
    have hK' := hK μ Fr.refl
    simp only [oddS, cS_7 hj, cS_2 hj, cS_4 hj, cS_0 hj, abI, maI] at hK'
    simp only [gX1_oddOf_0, gX1_oddOf_1, gX1_oddOf_4, gX1_oddOf_4n, gX1_oddOf_7, gX1_oddOf_8, gX1_oddOf_8n, gX1_oddOf_9, gX1_oddOf_12, gX1_oddOf_13, gX1_oddOf_14, gX1_oddOf_14n, gX1_oddOf_15, gX1_oddOf_18, gX1_oddOf_19, gX1_oddOf_20, gX1_oddOf_21, gX1_oddOf_24, gX1_oddOf_25, gX1_oddOf_26, gX1_oddOf_26n, gX1_oddOf_27, gX1_oddOf_30, gX1_oddOf_31, gX1_oddOf_32, gX1_oddOf_35, gX1_oddOf_36, gX1_oddOf_36n, gX1_oddOf_37, gX1_oddOf_40, gX1_oddOf_41, gX1_oddOf_42, gX1_oddOf_43, gX1_oddOf_44, gX1_oddOf_45, gX1_oddOf_45n, gX1_oddOf_46, gX1_oddOf_46n, gX1_oddOf_49, gX1_oddOf_50, gX1_oddOf_51, gX1_oddOf_54, gX1_oddOf_55, gX1_oddOf_61, am_kill_int, am_kill_ref, am_kill_null, am_kill_F, am_kill_long, am_cat_n, am_cat_i, am_cat_r, am_cat_0, am_cat_l, am_nr_n, am_nr_i, am_nr_r, am_nr_0, am_nr_l, Option.toList_some, Option.toList_none, List.nil_append, List.cons_append, va_rf_s, va_rf_n, am_II, am_I_sR, am_I_sL, am_R_sI, am_RR, am_R_sL, am_L_sI, am_L_sR, am_LL, am_k_sI, am_k_sR, am_k_sL, am_n_sI, am_n_sR, am_n_sL, true_and, and_true, true_or, or_true, or_false, false_or, not_true_eq_false, not_false_eq_true, Nat.reduceLT, am_dS, am_dP, am_d1, Nat.reduceSub, Nat.reduceMul, ne_eq, Nat.reduceBEq, Nat.reduceAdd, Nat.reduceLeDiff, Nat.reduceEqDiff, and_self, and_false, false_and, if_true, if_false, am_nb, am_nb0, am_nb1, am_lc1, am_lc2, am_lc3, am_b0, am_b1, am_10, am_c8, am_c16, am_c24, am_c32, am_c40, am_c48, am_c56, am_c64, am_c72, Nat.add_zero, Bool.false_eq_true, Nat.zero_le, hk, hru', hs', hin, hcl]
    exact hK'
  | some f =>
    obtain ⟨a, h1, h2⟩ := hru
    have h0' : (0 = h) = False := eq_false (by omega)
    have hn : ∀ (r : Option Nat) v, nodeEq μ (am_sI (am_sR μ 0 15 r) 0 16 v) := fun r v => by
      refine ⟨Nat.le_refl _, fun g q _ _ _ => ?_⟩
      refine ⟨rfl, fun i => ?_, fun i => ?_⟩
      · rw [am_I_sI, if_neg (by omega)]; rfl
      · show am_R (am_sR μ 0 15 r) g i = _
        rw [am_R_sR, if_neg (by omega)]
    have hs2 : ∀ (r : Option Nat) v, spL h (am_k (am_sI (am_sR μ 0 15 r) 0 16 v)) (am_R (am_sI (am_sR μ 0 15 r) 0 16 v)) := fun r v => spL_congr hs (fun b => by
      show am_R (am_sR μ 0 15 r) h b = _
      rw [am_R_sR, if_neg (by omega)])
    simp only [gX1_oddOf_0, gX1_oddOf_1, gX1_oddOf_4, gX1_oddOf_4n, gX1_oddOf_7, gX1_oddOf_8, gX1_oddOf_8n, gX1_oddOf_9, gX1_oddOf_12, gX1_oddOf_13, gX1_oddOf_14, gX1_oddOf_14n, gX1_oddOf_15, gX1_oddOf_18, gX1_oddOf_19, gX1_oddOf_20, gX1_oddOf_21, gX1_oddOf_24, gX1_oddOf_25, gX1_oddOf_26, gX1_oddOf_26n, gX1_oddOf_27, gX1_oddOf_30, gX1_oddOf_31, gX1_oddOf_32, gX1_oddOf_35, gX1_oddOf_36, gX1_oddOf_36n, gX1_oddOf_37, gX1_oddOf_40, gX1_oddOf_41, gX1_oddOf_42, gX1_oddOf_43, gX1_oddOf_44, gX1_oddOf_45, gX1_oddOf_45n, gX1_oddOf_46, gX1_oddOf_46n, gX1_oddOf_49, gX1_oddOf_50, gX1_oddOf_51, gX1_oddOf_54, gX1_oddOf_55, gX1_oddOf_61, am_kill_int, am_kill_ref, am_kill_null, am_kill_F, am_kill_long, am_cat_n, am_cat_i, am_cat_r, am_cat_0, am_cat_l, am_nr_n, am_nr_i, am_nr_r, am_nr_0, am_nr_l, Option.toList_some, Option.toList_none, List.nil_append, List.cons_append, va_rf_s, va_rf_n, am_II, am_I_sR, am_I_sL, am_R_sI, am_RR, am_R_sL, am_L_sI, am_L_sR, am_LL, am_k_sI, am_k_sR, am_k_sL, am_n_sI, am_n_sR, am_n_sL, true_and, and_true, true_or, or_true, or_false, false_or, not_true_eq_false, not_false_eq_true, Nat.reduceLT, am_dS, am_dP, am_d1, Nat.reduceSub, Nat.reduceMul, ne_eq, Nat.reduceBEq, Nat.reduceAdd, Nat.reduceLeDiff, Nat.reduceEqDiff, and_self, and_false, false_and, if_true, if_false, am_nb, am_nb0, am_nb1, am_lc1, am_lc2, am_lc3, am_b0, am_b1, am_10, am_c8, am_c16, am_c24, am_c32, am_c40, am_c48, am_c56, am_c64, am_c72, Nat.add_zero, Bool.false_eq_true, Nat.zero_le, hk, h1, hB]
    have hf : Fr jA μ (am_sI (am_sR μ 0 15 (some h)) 0 16 (nI j)) := (Fr.refl.R).I ⟨rfl, rfl⟩
    have hq := h2.tag
    simp only [gX1_oddOf_58, am_kill_int, am_kill_ref, am_kill_null, am_kill_F, am_kill_long, am_cat_n, am_cat_i, am_cat_r, am_cat_0, am_cat_l, am_nr_n, am_nr_i, am_nr_r, am_nr_0, am_nr_l, Option.toList_some, Option.toList_none, List.nil_append, List.cons_append, va_rf_s, va_rf_n, am_II, am_I_sR, am_I_sL, am_R_sI, am_RR, am_R_sL, am_L_sI, am_L_sR, am_LL, am_k_sI, am_k_sR, am_k_sL, am_n_sI, am_n_sR, am_n_sL, true_and, and_true, true_or, or_true, or_false, false_or, not_true_eq_false, not_false_eq_true, Nat.reduceLT, am_dS, am_dP, am_d1, Nat.reduceSub, Nat.reduceMul, ne_eq, Nat.reduceBEq, Nat.reduceAdd, Nat.reduceLeDiff, Nat.reduceEqDiff, and_self, and_false, false_and, if_true, if_false, am_nb, am_nb0, am_nb1, am_lc1, am_lc2, am_lc3, am_b0, am_b1, am_10, am_c8, am_c16, am_c24, am_c32, am_c40, am_c48, am_c56, am_c64, am_c72, Nat.add_zero, Bool.false_eq_true, Nat.zero_le, hq]
    have h3 := h2.mono (hn (some h) (nI j))
    have e := wAsk (d := d) (j := j) (h' := h) (N := N) (μ := am_sI (am_sR μ 0 15 (some h)) 0 16 (nI j)) (K := fun r1 μ1 => am_nr r1 ∧ am_Wp (d + 67) mX1_oddOf 61 [.ref 0, .ref h, .int (nI j)] (r1.toList ++ []) μ1 K) hN h8 hk (hs2 _ _) rfl rfl hj h3
    refine e.mpr ?_
    rw [cS_o (by omega), cS_sR]
    simp only [gX1_oddOf_0, gX1_oddOf_1, gX1_oddOf_4, gX1_oddOf_4n, gX1_oddOf_7, gX1_oddOf_8, gX1_oddOf_8n, gX1_oddOf_9, gX1_oddOf_12, gX1_oddOf_13, gX1_oddOf_14, gX1_oddOf_14n, gX1_oddOf_15, gX1_oddOf_18, gX1_oddOf_19, gX1_oddOf_20, gX1_oddOf_21, gX1_oddOf_24, gX1_oddOf_25, gX1_oddOf_26, gX1_oddOf_26n, gX1_oddOf_27, gX1_oddOf_30, gX1_oddOf_31, gX1_oddOf_32, gX1_oddOf_35, gX1_oddOf_36, gX1_oddOf_36n, gX1_oddOf_37, gX1_oddOf_40, gX1_oddOf_41, gX1_oddOf_42, gX1_oddOf_43, gX1_oddOf_44, gX1_oddOf_45, gX1_oddOf_45n, gX1_oddOf_46, gX1_oddOf_46n, gX1_oddOf_49, gX1_oddOf_50, gX1_oddOf_51, gX1_oddOf_54, gX1_oddOf_55, gX1_oddOf_61, am_kill_int, am_kill_ref, am_kill_null, am_kill_F, am_kill_long, am_cat_n, am_cat_i, am_cat_r, am_cat_0, am_cat_l, am_nr_n, am_nr_i, am_nr_r, am_nr_0, am_nr_l, Option.toList_some, Option.toList_none, List.nil_append, List.cons_append, va_rf_s, va_rf_n, am_II, am_I_sR, am_I_sL, am_R_sI, am_RR, am_R_sL, am_L_sI, am_L_sR, am_LL, am_k_sI, am_k_sR, am_k_sL, am_n_sI, am_n_sR, am_n_sL, true_and, and_true, true_or, or_true, or_false, false_or, not_true_eq_false, not_false_eq_true, Nat.reduceLT, am_dS, am_dP, am_d1, Nat.reduceSub, Nat.reduceMul, ne_eq, Nat.reduceBEq, Nat.reduceAdd, Nat.reduceLeDiff, Nat.reduceEqDiff, and_self, and_false, false_and, if_true, if_false, am_nb, am_nb0, am_nb1, am_lc1, am_lc2, am_lc3, am_b0, am_b1, am_10, am_c8, am_c16, am_c24, am_c32, am_c40, am_c48, am_c56, am_c64, am_c72, Nat.add_zero, Bool.false_eq_true, Nat.zero_le]
    exact hK _ hf
end ODDV
