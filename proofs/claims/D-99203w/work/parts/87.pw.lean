/-! calls that write: sign -/
set_option maxRecDepth 100000
section PWV
variable {d : Nat} {μ ν ξ : am_M} {K : Option Value → am_M → Prop} {x y z c w : Int32} {h N C j i k r n M b q t u : Nat} {v : Int32} {ru : Option PF} {F G : Nat → Nat → Prop} {S T row a a' : Nat → Int32} {p : Int64}
theorem b255 (hi : i < 32) : (255 : Int32).toBitVec.getLsbD i = decide (i < 8) := by
  rw [show (255 : Int32) = nI 255 from rfl, nI_bit hi, show (255 : Nat) = 2 ^ 8 - 1 from rfl, Nat.testBit_two_pow_sub_one]
theorem and255 (w : Int32) : ∃ q : Nat, q < 256 ∧ w &&& 255 = nI q := by
  refine ⟨(w.toBitVec &&& 255#32).toNat, ?_, ?_⟩
  · rw [BitVec.toNat_and]
    exact Nat.lt_of_le_of_lt Nat.and_le_right (by decide)
  · refine bitsI fun i hi => ?_
    rw [nI_bit hi]
    show _ = (w.toBitVec &&& 255#32).getLsbD i
    rw [Int32.toBitVec_and]
    rfl
theorem byR (w : Int32) : ∃ q : Nat, q < 256 ∧ w.toInt8.toInt32 = nI q - 128 := by
  have h1 := w.toInt8.le_toInt
  have h2 := w.toInt8.toInt_lt
  refine ⟨(w.toInt8.toInt + 128).toNat, by omega, ?_⟩
  rw [← Int32.toInt_inj, Int8.toInt_toInt32, Int32.toInt_sub, nI_toInt (by omega)]
  have e : (128 : Int32).toInt = 128 := by decide
  rw [e]
  have : ((w.toInt8.toInt + 128).toNat : Int) = w.toInt8.toInt + 128 := by omega
  rw [this, show w.toInt8.toInt + 128 - 128 = w.toInt8.toInt by omega]
  exact (Int.bmod_eq_of_le (by omega) (by omega)).symm
theorem byA (w : Int32) : w.toInt8.toInt32 &&& 255 = w &&& 255 := by
  refine bitsI fun i hi => ?_
  rw [Int32.toBitVec_and, Int32.toBitVec_and, BitVec.getLsbD_and, BitVec.getLsbD_and, b255 hi]
  by_cases f : i < 8
  · rw [Int8.toBitVec_toInt32, Int32.toBitVec_toInt8, BitVec.getLsbD_signExtend, decide_eq_true hi, Bool.true_and, if_pos f, BitVec.getLsbD_signExtend, decide_eq_true f, Bool.true_and, if_pos hi]
  · rw [decide_eq_false f, Bool.and_false, Bool.and_false]
theorem shE : ∀ k : Fin 4, (24 - 8 * nI k.val : Int32) &&& 31 = 8 * nI (3 - k.val) &&& 31 := by decide
theorem nar8 (w : Int32) : vp_nar .byte w.toInt8.toInt32 = w.toInt8.toInt32 := by
  have e : w.toInt8.toInt32.toInt8 = w.toInt8 := by simp
  unfold vp_nar
  simp [narrow, e]
/-- the sign put at a place -/
def sgW (v : Int32) (k : Nat) : Int32 := v >>> (8 * nI (3 - k) &&& 31)
theorem op_sign (hI : Inv q μ) : OP q mX1_sign mX3_sign [.ref 0, .int v, am_F] [.ref 54, .int v, am_F] μ := by
  intro d
  have hI' := hI
  obtain ⟨⟨N, C, ru, c, hP⟩, ⟨t, t1, t2, t3⟩, hR, b1, b2, b3⟩ := hI
  have hC := hP.1.1
  have hcu := hC.1
  simp only [cL, spL, Nat.reduceAdd] at hcu
  have hS := hP.1.2.1
  have hmu := hS.1.1
  unfold mL at hmu
  have e76 : (76 : Int32) = nI 76 := rfl
  have e4 : (4 : Int32) = nI 4 := rfl
  by_cases ht : t ≤ 76
  · have l1 : nI t ≤ nI 76 := nI_le ht (by omega)
    simp only [gX1_sign_0, gX1_sign_1, gX1_sign_4, gX1_sign_6, gX1_sign_9, gX1_sign_10, gX1_sign_11, gX1_sign_12, am_kill_int, am_kill_ref, am_kill_null, am_kill_F, am_kill_long, am_cat_n, am_cat_i, am_cat_r, am_cat_0, am_cat_l, am_nr_n, am_nr_i, am_nr_r, am_nr_0, am_nr_l, Option.toList_some, Option.toList_none, List.nil_append, List.cons_append, va_rf_s, va_rf_n, am_II, am_I_sR, am_I_sL, am_R_sI, am_RR, am_R_sL, am_L_sI, am_L_sR, am_LL, am_k_sI, am_k_sR, am_k_sL, am_n_sI, am_n_sR, am_n_sL, true_and, and_true, true_or, or_true, or_false, false_or, not_true_eq_false, not_false_eq_true, Nat.reduceLT, am_dS, am_dP, am_d1, Nat.reduceSub, Nat.reduceMul, ne_eq, Nat.reduceBEq, Nat.reduceAdd, Nat.reduceLeDiff, Nat.reduceEqDiff, and_self, and_false, false_and, if_true, if_false, am_nb, am_nb0, am_nb1, am_lc1, am_lc2, am_lc3, am_b0, am_b1, am_10, am_c8, am_c16, am_c24, am_c32, am_c40, am_c48, am_c56, am_c64, am_c72, Nat.add_zero, Bool.false_eq_true, Nat.zero_le, hcu, t2, e76, l1]
    refine am_for (N := 4) (fun k ls ν => ls = [.ref 0, .int v, .int (nI k)] ∧ Fr (fun a _ => a = 23) μ ν ∧ (∀ i, i < k → am_I ν 23 (t + i) = sgW v i &&& 255) ∧ ∀ i, (i < t ∨ t + k ≤ i) → am_I ν 23 i = am_I μ 23 i) ?_ ?_ 4 0 _ _ (by omega) ⟨rfl, Fr.refl, fun i hi => absurd hi (Nat.not_lt_zero i), fun i _ => rfl⟩
    · rintro k ls ν hk4 ⟨rfl, hF, h1, h2⟩ ih
      have hlt : ¬ nI 4 ≤ nI k := nI_ge hk4 (by omega)
      have hcν : cL (am_k ν) (am_R ν) := hF.cL hC.1
      simp only [cL, spL, Nat.reduceAdd] at hcν
      have t2' : am_I ν 0 6 = nI t := (hF.1 0 6 (by decide)).trans t2
      have hin : vp_in (nI (t + k)) 80 := vp_in_nI (by omega) (by omega)
      have hcl : (nI (t + k)).toNatClampNeg = t + k := nI_clamp (by omega)
      have es : v >>> ((24 - 8 * nI k : Int32) &&& 31) &&& 255 = sgW v k &&& 255 := by unfold sgW; rw [shE ⟨k, hk4⟩]
      rw [gX1_sign_13]
      simp only [gX1_sign_14, gX1_sign_15, gX1_sign_18, gX1_sign_19, gX1_sign_22, gX1_sign_23, gX1_sign_26, gX1_sign_27, gX1_sign_28, gX1_sign_29, gX1_sign_31, gX1_sign_33, gX1_sign_34, gX1_sign_35, gX1_sign_36, gX1_sign_37, gX1_sign_40, gX1_sign_41, gX1_sign_42, gX1_sign_45, am_kill_int, am_kill_ref, am_kill_null, am_kill_F, am_kill_long, am_cat_n, am_cat_i, am_cat_r, am_cat_0, am_cat_l, am_nr_n, am_nr_i, am_nr_r, am_nr_0, am_nr_l, Option.toList_some, Option.toList_none, List.nil_append, List.cons_append, va_rf_s, va_rf_n, am_II, am_I_sR, am_I_sL, am_R_sI, am_RR, am_R_sL, am_L_sI, am_L_sR, am_LL, am_k_sI, am_k_sR, am_k_sL, am_n_sI, am_n_sR, am_n_sL, true_and, and_true, true_or, or_true, or_false, false_or, not_true_eq_false, not_false_eq_true, Nat.reduceLT, am_dS, am_dP, am_d1, Nat.reduceSub, Nat.reduceMul, ne_eq, Nat.reduceBEq, Nat.reduceAdd, Nat.reduceLeDiff, Nat.reduceEqDiff, and_self, and_false, false_and, if_true, if_false, am_nb, am_nb0, am_nb1, am_lc1, am_lc2, am_lc3, am_b0, am_b1, am_10, am_c8, am_c16, am_c24, am_c32, am_c40, am_c48, am_c56, am_c64, am_c72, Nat.add_zero, Bool.false_eq_true, Nat.zero_le, hcν, e4, hlt, t2', nI_add, hin, hcl, es, nI_1]
      refine ih _ _ ⟨rfl, Fr.I hF rfl, fun i hi => ?_, fun i hi => ?_⟩
      · by_cases f : i = k
        · subst f; rw [am_I_sI, if_pos ⟨rfl, rfl⟩]
        · rw [am_I_sI, if_neg (by omega)]; exact h1 i (by omega)
      · rw [am_I_sI, if_neg (by omega)]; exact h2 i (by omega)
    · rintro ls ν ⟨rfl, hF, h1, h2⟩
      have hcν : cL (am_k ν) (am_R ν) := hF.cL hC.1
      simp only [cL, spL, Nat.reduceAdd] at hcν
      have t2' : am_I ν 0 6 = nI t := (hF.1 0 6 (by decide)).trans t2
      rw [gX1_sign_13]
      simp only [gX1_sign_14, gX1_sign_15, gX1_sign_48, gX1_sign_49, gX1_sign_50, gX1_sign_53, gX1_sign_54, gX1_sign_55, gX1_sign_58, gX1_sign_59, gX1_sign_62, am_kill_int, am_kill_ref, am_kill_null, am_kill_F, am_kill_long, am_cat_n, am_cat_i, am_cat_r, am_cat_0, am_cat_l, am_nr_n, am_nr_i, am_nr_r, am_nr_0, am_nr_l, Option.toList_some, Option.toList_none, List.nil_append, List.cons_append, va_rf_s, va_rf_n, am_II, am_I_sR, am_I_sL, am_R_sI, am_RR, am_R_sL, am_L_sI, am_L_sR, am_LL, am_k_sI, am_k_sR, am_k_sL, am_n_sI, am_n_sR, am_n_sL, true_and, and_true, true_or, or_true, or_false, false_or, not_true_eq_false, not_false_eq_true, Nat.reduceLT, am_dS, am_dP, am_d1, Nat.reduceSub, Nat.reduceMul, ne_eq, Nat.reduceBEq, Nat.reduceAdd, Nat.reduceLeDiff, Nat.reduceEqDiff, and_self, and_false, false_and, if_true, if_false, am_nb, am_nb0, am_nb1, am_lc1, am_lc2, am_lc3, am_b0, am_b1, am_10, am_c8, am_c16, am_c24, am_c32, am_c40, am_c48, am_c56, am_c64, am_c72, Nat.add_zero, Bool.false_eq_true, Nat.zero_le, hcν, e4, Int32.le_refl, t2', nI_add]
      refine ⟨_, rfl, ?_⟩
      have hF2 : Fr (fun a b => a = 23 ∨ (a = 0 ∧ b = 6)) μ (am_sI ν 0 6 (nI (t + 4))) := Fr.I (hF.le fun a b q => Or.inl q) (Or.inr ⟨rfl, rfl⟩)
      have hm2 := hF2.mLk hS.1.1
      unfold mL at hm2
      have t3' : am_I (am_sI ν 0 6 (nI (t + 4))) 54 4 = nI t := (hF2.1 54 4 (by omega)).trans t3
      have t3'' : am_I ν 54 4 = nI t := (hF.1 54 4 (by decide)).trans t3
      have hm0 := hF.mLk hS.1.1
      unfold mL at hm0
      have l2 : nI (t + 4) ≤ 80 := nI_le (b := 80) (by omega) (by omega)
      simp only [gX3_sign_0, gX3_sign_1, gX3_sign_2, gX3_sign_5, gX3_sign_6, gX3_sign_9, gX3_sign_10, gX3_sign_11, gX3_sign_13, gX3_sign_16, gX3_sign_17, gX3_sign_18, gX3_sign_19, am_kill_int, am_kill_ref, am_kill_null, am_kill_F, am_kill_long, am_cat_n, am_cat_i, am_cat_r, am_cat_0, am_cat_l, am_nr_n, am_nr_i, am_nr_r, am_nr_0, am_nr_l, Option.toList_some, Option.toList_none, List.nil_append, List.cons_append, va_rf_s, va_rf_n, am_II, am_I_sR, am_I_sL, am_R_sI, am_RR, am_R_sL, am_L_sI, am_L_sR, am_LL, am_k_sI, am_k_sR, am_k_sL, am_n_sI, am_n_sR, am_n_sL, true_and, and_true, true_or, or_true, or_false, false_or, not_true_eq_false, not_false_eq_true, Nat.reduceLT, am_dS, am_dP, am_d1, Nat.reduceSub, Nat.reduceMul, ne_eq, Nat.reduceBEq, Nat.reduceAdd, Nat.reduceLeDiff, Nat.reduceEqDiff, and_self, and_false, false_and, if_true, if_false, am_nb, am_nb0, am_nb1, am_lc1, am_lc2, am_lc3, am_b0, am_b1, am_10, am_c8, am_c16, am_c24, am_c32, am_c40, am_c48, am_c56, am_c64, am_c72, Nat.add_zero, Bool.false_eq_true, Nat.zero_le, hm0, t3'', e4, nI_add, l2]
      have e3 : (3 : Int32) = nI 3 := rfl
      have down : ∀ m k (ξ : am_M), k + m = 4 → Fr (fun a b => a = 56 ∨ (a = 54 ∧ (b = 4 ∨ b = 7))) (am_sI ν 0 6 (nI (t + 4))) ξ → am_I ξ 54 4 = nI (t + k) → (∀ i, i < k → am_I ξ 56 (t + i) = (sgW v i).toInt8.toInt32) → (∀ i, (i < t ∨ t + k ≤ i) → am_I ξ 56 i = am_I μ 56 i) →
          am_Wp (d + 200) mX3_sign 20 [.ref 54, .int v, .int (nI (4 - k) - 1)] [] ξ (fun r2 μ2 => r2 = some (.int (nI (t + 4))) ∧ Inv (q + 1) μ2) := fun m => by
        induction m with
        | zero =>
          intro k ξ hk hFx g1 g2 g3
          have e : k = 4 := hk
          subst e
          have hm3 := hFx.mLk (hF2.mLk hS.1.1)
          unfold mL at hm3
          have lm : nI (4 - 4) - 1 < 0 := by decide
          rw [gX3_sign_20]
          simp only [gX3_sign_21, gX3_sign_53, gX3_sign_54, gX3_sign_57, am_kill_int, am_kill_ref, am_kill_null, am_kill_F, am_kill_long, am_cat_n, am_cat_i, am_cat_r, am_cat_0, am_cat_l, am_nr_n, am_nr_i, am_nr_r, am_nr_0, am_nr_l, Option.toList_some, Option.toList_none, List.nil_append, List.cons_append, va_rf_s, va_rf_n, am_II, am_I_sR, am_I_sL, am_R_sI, am_RR, am_R_sL, am_L_sI, am_L_sR, am_LL, am_k_sI, am_k_sR, am_k_sL, am_n_sI, am_n_sR, am_n_sL, true_and, and_true, true_or, or_true, or_false, false_or, not_true_eq_false, not_false_eq_true, Nat.reduceLT, am_dS, am_dP, am_d1, Nat.reduceSub, Nat.reduceMul, ne_eq, Nat.reduceBEq, Nat.reduceAdd, Nat.reduceLeDiff, Nat.reduceEqDiff, and_self, and_false, false_and, if_true, if_false, am_nb, am_nb0, am_nb1, am_lc1, am_lc2, am_lc3, am_b0, am_b1, am_10, am_c8, am_c16, am_c24, am_c32, am_c40, am_c48, am_c56, am_c64, am_c72, Nat.add_zero, Bool.false_eq_true, Nat.zero_le, lm, hm3, g1]
          have hFa : Fr (fun a b => a = 23 ∨ a = 56 ∨ (a = 0 ∧ b = 6) ∨ (a = 54 ∧ (b = 4 ∨ b = 7))) μ ξ := (hF2.le fun a b z => by omega).trans (hFx.le fun a b z => by omega)
          obtain ⟨p1, p2, p3, p4, p5, p6, p7, p8, p9, p10⟩ := hP
          have h17 : am_I ξ 54 17 = 0 := (hFa.1 54 17 (by omega)).trans p1.2.1.2.1.1.1
          have c23 : ∀ i, am_I ξ 23 i = am_I ν 23 i := fun i => by rw [hFx.1 23 i (by omega), am_I_sI, if_neg (by omega)]
          refine Inv.mk' (N := N) (C := C) (ru := ru) (c := c) ⟨p1.fw hFa.toW (fun a b z => by omega) h17, p2.fwN hFa.toW (fun a b z => by omega), p3.fw hFa.toW (fun a b z => by omega), fun i hi => ?_, p5.fw hFa.toW (fun a b z => by omega), p6.fw hFa.toW, p7.fw p6 hFa.toW (fun a b z => by omega), p8.fw p6 hFa.toW (fun a b z => by omega), p9.fw hFa.toW (fun a b z => by omega), by rw [hFa.2.2.2.2.1]; exact p10⟩ ⟨t + 4, by omega, ?_, g1⟩ (hR.fr hFa (fun a b z => by omega)) hFa hI' (hI'.2.2.2.2.2.2.fw p6 hFa.toW fun a b z => by omega)
          · rw [c23]
            by_cases f : t ≤ i ∧ i < t + 4
            · obtain ⟨k, hk⟩ : ∃ k, i = t + k := ⟨i - t, by omega⟩
              subst hk
              rw [h1 k (by omega), g2 k (by omega)]
              exact ⟨and255 _, byR _, byA _⟩
            · rw [h2 i (by omega), g3 i (by omega)]
              exact p4 i hi
          · rw [hFx.1 0 6 (by omega), am_I_sI, if_pos ⟨rfl, rfl⟩]
        | succ m ihm =>
          intro k ξ hk hFx g1 g2 g3
          have hk4 : k < 4 := by omega
          have hm3 := hFx.mLk (hF2.mLk hS.1.1)
          unfold mL at hm3
          have ek : nI (4 - k) - 1 = nI (3 - k) := by rw [show 4 - k = (3 - k) + 1 by omega, nI_pred]
          have lm : ¬ nI (3 - k) < 0 := by rw [← nI_0]; exact nI_nlt (by omega) (by omega)
          have hin : vp_in (nI (t + k)) 80 := vp_in_nI (by omega) (by omega)
          have hcl : (nI (t + k)).toNatClampNeg = t + k := nI_clamp (by omega)
          have ekm : nI (3 - k) + -1 = nI (4 - (k + 1)) - 1 := by rw [← Int32.sub_eq_add_neg, show 4 - (k + 1) = 3 - k by omega]
          rw [gX3_sign_20]
          have hk56 : (am_k (am_sI ξ 54 4 (nI (t + k + 1))) 56).1 = 11 := by rw [am_k_sI, hm3.1.2.2.1]
          have hi56 : vp_in (nI (t + k)) (am_k (am_sI ξ 54 4 (nI (t + k + 1))) 56).2 := by rw [am_k_sI, hm3.1.2.2.1]; exact hin
          simp only [gX3_sign_21, gX3_sign_24, gX3_sign_25, gX3_sign_28, gX3_sign_29, gX3_sign_30, gX3_sign_33, gX3_sign_34, gX3_sign_35, gX3_sign_36, gX3_sign_39, gX3_sign_40, gX3_sign_42, gX3_sign_43, gX3_sign_44, gX3_sign_45, am_kill_int, am_kill_ref, am_kill_null, am_kill_F, am_kill_long, am_cat_n, am_cat_i, am_cat_r, am_cat_0, am_cat_l, am_nr_n, am_nr_i, am_nr_r, am_nr_0, am_nr_l, Option.toList_some, Option.toList_none, List.nil_append, List.cons_append, va_rf_s, va_rf_n, am_II, am_I_sR, am_I_sL, am_R_sI, am_RR, am_R_sL, am_L_sI, am_L_sR, am_LL, am_k_sI, am_k_sR, am_k_sL, am_n_sI, am_n_sR, am_n_sL, true_and, and_true, true_or, or_true, or_false, false_or, not_true_eq_false, not_false_eq_true, Nat.reduceLT, am_dS, am_dP, am_d1, Nat.reduceSub, Nat.reduceMul, ne_eq, Nat.reduceBEq, Nat.reduceAdd, Nat.reduceLeDiff, Nat.reduceEqDiff, and_self, and_false, false_and, if_true, if_false, am_nb, am_nb0, am_nb1, am_lc1, am_lc2, am_lc3, am_b0, am_b1, am_10, am_c8, am_c16, am_c24, am_c32, am_c40, am_c48, am_c56, am_c64, am_c72, Nat.add_zero, Bool.false_eq_true, Nat.zero_le, ek, lm, hm3, g1, nI_1]
          rw [gX3_sign_46 hk56 hi56, nar8, hcl]
          simp only [gX3_sign_47, gX3_sign_50, am_kill_int, am_kill_ref, am_kill_null, am_kill_F, am_kill_long, am_cat_n, am_cat_i, am_cat_r, am_cat_0, am_cat_l, am_nr_n, am_nr_i, am_nr_r, am_nr_0, am_nr_l, Option.toList_some, Option.toList_none, List.nil_append, List.cons_append, va_rf_s, va_rf_n, am_II, am_I_sR, am_I_sL, am_R_sI, am_RR, am_R_sL, am_L_sI, am_L_sR, am_LL, am_k_sI, am_k_sR, am_k_sL, am_n_sI, am_n_sR, am_n_sL, true_and, and_true, true_or, or_true, or_false, false_or, not_true_eq_false, not_false_eq_true, Nat.reduceLT, am_dS, am_dP, am_d1, Nat.reduceSub, Nat.reduceMul, ne_eq, Nat.reduceBEq, Nat.reduceAdd, Nat.reduceLeDiff, Nat.reduceEqDiff, and_self, and_false, false_and, if_true, if_false, am_nb, am_nb0, am_nb1, am_lc1, am_lc2, am_lc3, am_b0, am_b1, am_10, am_c8, am_c16, am_c24, am_c32, am_c40, am_c48, am_c56, am_c64, am_c72, Nat.add_zero, Bool.false_eq_true, Nat.zero_le, ekm]
          refine ihm (k + 1) _ (by omega) (Fr.I (Fr.I hFx (Or.inr ⟨rfl, Or.inl rfl⟩)) (Or.inl rfl)) ?_ (fun i hi => ?_) (fun i hi => ?_)
          · rw [am_I_sI, if_neg (by omega), am_I_sI, if_pos ⟨rfl, rfl⟩]; rfl
          · by_cases f : i = k
            · subst f; rw [am_I_sI, if_pos ⟨rfl, rfl⟩]; rfl
            · rw [am_I_sI, if_neg (by omega), am_I_sI, if_neg (by omega)]; exact g2 i (by omega)
          · rw [am_I_sI, if_neg (by omega), am_I_sI, if_neg (by omega)]; exact g3 i (by omega)
      have e30 : (3 : Int32) = nI (4 - 0) - 1 := by decide
      rw [e30]
      refine down 4 0 _ (by omega) (Fr.I Fr.refl (by omega)) (by rw [am_I_sI, if_neg (by omega)]; exact t3') (fun i hi => absurd hi (Nat.not_lt_zero i)) (fun i _ => ?_)
      rw [am_I_sI, if_neg (by omega)]
      exact hF2.1 56 i (by omega)
  · have l1 : ¬ nI t ≤ nI 76 := nI_ge (by omega) (by omega)
    have l2 : ¬ nI (t + 4) ≤ 80 := nI_ge (a := 80) (by omega) (by omega)
    simp only [gX1_sign_0, gX1_sign_1, gX1_sign_4, gX1_sign_6, gX1_sign_9, gX1_sign_10, am_kill_int, am_kill_ref, am_kill_null, am_kill_F, am_kill_long, am_cat_n, am_cat_i, am_cat_r, am_cat_0, am_cat_l, am_nr_n, am_nr_i, am_nr_r, am_nr_0, am_nr_l, Option.toList_some, Option.toList_none, List.nil_append, List.cons_append, va_rf_s, va_rf_n, am_II, am_I_sR, am_I_sL, am_R_sI, am_RR, am_R_sL, am_L_sI, am_L_sR, am_LL, am_k_sI, am_k_sR, am_k_sL, am_n_sI, am_n_sR, am_n_sL, true_and, and_true, true_or, or_true, or_false, false_or, not_true_eq_false, not_false_eq_true, Nat.reduceLT, am_dS, am_dP, am_d1, Nat.reduceSub, Nat.reduceMul, ne_eq, Nat.reduceBEq, Nat.reduceAdd, Nat.reduceLeDiff, Nat.reduceEqDiff, and_self, and_false, false_and, if_true, if_false, am_nb, am_nb0, am_nb1, am_lc1, am_lc2, am_lc3, am_b0, am_b1, am_10, am_c8, am_c16, am_c24, am_c32, am_c40, am_c48, am_c56, am_c64, am_c72, Nat.add_zero, Bool.false_eq_true, Nat.zero_le, hcu, t2, e76, l1]
    refine ⟨_, rfl, ?_⟩
    simp only [gX3_sign_0, gX3_sign_1, gX3_sign_2, gX3_sign_5, gX3_sign_6, gX3_sign_9, gX3_sign_10, gX3_sign_11, gX3_sign_13, gX3_sign_16, gX3_sign_17, am_kill_int, am_kill_ref, am_kill_null, am_kill_F, am_kill_long, am_cat_n, am_cat_i, am_cat_r, am_cat_0, am_cat_l, am_nr_n, am_nr_i, am_nr_r, am_nr_0, am_nr_l, Option.toList_some, Option.toList_none, List.nil_append, List.cons_append, va_rf_s, va_rf_n, am_II, am_I_sR, am_I_sL, am_R_sI, am_RR, am_R_sL, am_L_sI, am_L_sR, am_LL, am_k_sI, am_k_sR, am_k_sL, am_n_sI, am_n_sR, am_n_sL, true_and, and_true, true_or, or_true, or_false, false_or, not_true_eq_false, not_false_eq_true, Nat.reduceLT, am_dS, am_dP, am_d1, Nat.reduceSub, Nat.reduceMul, ne_eq, Nat.reduceBEq, Nat.reduceAdd, Nat.reduceLeDiff, Nat.reduceEqDiff, and_self, and_false, false_and, if_true, if_false, am_nb, am_nb0, am_nb1, am_lc1, am_lc2, am_lc3, am_b0, am_b1, am_10, am_c8, am_c16, am_c24, am_c32, am_c40, am_c48, am_c56, am_c64, am_c72, Nat.add_zero, Bool.false_eq_true, Nat.zero_le, hmu, t3, e4, nI_add, l2]
    exact hI'.thr
end PWV
