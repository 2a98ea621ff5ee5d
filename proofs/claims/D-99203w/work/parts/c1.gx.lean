/-! calls that may throw: guest -/
set_option maxRecDepth 100000
section GXV
variable {d : Nat} {μ ν ξ μ1 ν1 : am_M} {K : Option Value → am_M → Prop} {x y z c w : Int32} {h h' N C i j k r n M m a b e q q' t u s f B : Nat} {v : Int32} {ru : Option PF} {F G : Nat → Nat → Prop} {S S' T : Nat → Int32} {p : Int64} {mc mm : am_MI} {lc lm : List Value}
theorem Inv.eqv (hI : Inv q μ) (he : eqL μ ν) (hc : am_c ν = am_c μ) (hs : am_s ν = am_s μ) : Inv q ν := by
  obtain ⟨⟨N, C, ru, c, hP⟩, ⟨t, t1, t2, t3⟩, ⟨r, r1, r2, r3, r4⟩, b1, b2, b3, b4⟩ := hI
  have hPν := he.per hP
  obtain ⟨e1, e2, e3, e4, e5, e6, e7⟩ := he
  refine ⟨⟨N, C, ru, c, hPν⟩, ⟨t, t1, by rw [e1]; exact t2, by rw [e1]; exact t3⟩, ⟨r, r1, by rw [e1]; exact r2, by rw [e1]; exact r3, fun i hi => by rw [(e7 i).1, (e7 i).2]; exact r4 i hi⟩, by omega, by omega, by omega, by rw [e1]; exact b4.1, fun s h hs e => ?_⟩
  rw [e1]
  refine b4.2 s h hs ?_
  unfold slR at e ⊢
  rw [e2] at e; exact e
/-- behind both askings of how odd a guest is, the answer noted in between -/
theorem inv_odd (hI : Inv q μ) (hP : Per N C ru c μ) (h1 : Fr jA μ ν) (h2 : Fr jM (am_sI (am_sL ν 77 0 p) 54 7 0) ξ) (h17 : am_I ξ 54 17 = 0) : Inv (q + 1) ξ := by
  have eL : ∀ a b, am_L ξ a b = if a = 77 ∧ b = 0 then p else am_L μ a b := fun a b => by
    rw [h2.L, am_L_sI, am_LL]
    split
    · rfl
    · exact h1.L
  have hF : Fr fZ μ (am_I ξ, am_L μ, am_R ξ, am_k ξ, am_n ξ, am_c ξ, am_s ξ) := by
    refine ⟨fun a b z => ?_, fun a b z z2 => ?_, rfl, ?_, ?_, ?_, ?_⟩
    · show am_I ξ a b = _
      rw [h2.1 a b (fun w => z (Or.inr (Or.inl w))), am_I_sI, if_neg (fun w => z (Or.inr (Or.inr w))), am_I_sL]
      exact h1.1 a b (fun w => z (Or.inl (Or.inr (Or.inr (Or.inr w)))))
    · show am_R ξ a b = _
      rw [h2.2.1 a b z z2]; exact h1.2.1 a b z z2
    · exact h2.2.2.2.1.trans h1.2.2.2.1
    · exact h2.2.2.2.2.1.trans h1.2.2.2.2.1
    · exact h2.2.2.2.2.2.1.trans h1.2.2.2.2.2.1
    · exact h2.2.2.2.2.2.2.trans h1.2.2.2.2.2.2
  have e1 : cS (am_I ξ, am_L μ, am_R ξ, am_k ξ, am_n ξ, am_c ξ, am_s ξ) 1 = cS μ 1 := by
    have a1 : cS ξ 1 = cS μ 1 := by
      rw [cS_Fr h2 fun a b z1 z2 z3 => by unfold jM at z3; omega, cS_o (by omega), cS_sL]
      exact cS_Fr h1 fun a b z1 z2 z3 => by unfold jA at z3; omega
    exact a1
  have hI2 := inv_0 hI hP hF e1 h17
  exact hI2.eqv ⟨rfl, rfl, rfl, rfl, Nat.le_add_right _ _, Nat.le_add_right _ _, fun i => ⟨by rw [eL, if_neg (by omega)]; rfl, by rw [eL, if_neg (by omega)]; rfl⟩⟩ rfl rfl
theorem op_guest (hI : Inv q μ) : OPi q mX1_guest mX3_guest [.ref 0, .int x, .int y] [.ref 54, .int x, .int y] μ := by
  intro d
  have hI' := hI
  obtain ⟨⟨N, C, ru, c, hP⟩, hT, hR, b1, b2, b3⟩ := hI
  have hC := hP.1.1
  have hcu := hC.1
  simp only [cL, spL, Nat.reduceAdd] at hcu
  have hN := hC.2.1
  have h8 := hC.2.2.1
  have hk := hC.1.c
  have hS := hP.1.2.1
  have hMC := hS.1
  have hmu := hMC.1
  unfold mL at hmu
  have hsim : Sim N (cS μ 1) (am_I μ 55) := hP.2.1
  have o10 : ¬ (1 : Int32) = 0 := by decide
  have i5 : (4 : Int32) = nI 5 - 1 := by decide
  have hM4 : ∀ ν v, eqL μ ν → MC N c (am_sI ν 54 7 v) := fun ν v he => by
    have h1 : MC N c ν := mC_L (L' := am_L μ) hMC he.1 he.2.1 he.2.2.1
    exact h1.fr (F := fun a b => a = 54 ∧ b = 7) (Fr.I Fr.refl ⟨rfl, rfl⟩) (fun a b z => by omega)
  have no : ¬ (isN x N = true ∧ isN y 5 = true) → am_Wp (d + 200) mX3_guest 0 [.ref 54, .int x, .int y] [] (am_bump μ) (fun r2 μ2 => (∃ x, r2 = some (.int x)) ∧ am_I μ2 54 7 = 1 ∧ Inv (q + 1) μ2) := fun hn => by
    have hmb : am_k (am_bump μ) 54 = (2, 0) := hmu.1.1
    have hMb := hM4 (am_bump μ) 0 eqL.bump
    have fin : (∃ v, some (Value.int (0 : Int32)) = some (Value.int v)) ∧ am_I (am_sI (am_sI (am_bump μ) 54 7 0) 54 7 1) 54 7 = 1 ∧ Inv (q + 1) (am_sI (am_sI (am_bump μ) 54 7 0) 54 7 1) := ⟨⟨_, rfl⟩, by rw [am_I_sI, if_pos ⟨rfl, rfl⟩], by rw [am_sI_sI]; exact hI'.thx eqL.bump⟩
    by_cases hx : isN x N = true
    · have hy : ¬ isN y 5 = true := fun z => hn ⟨hx, z⟩
      simp only [gX3_guest_0, gX3_guest_1, gX3_guest_2, gX3_guest_5, gX3_guest_6, gX3_guest_7, gX3_guest_10, gX3_guest_13, gX3_guest_14, gX3_guest_15, gX3_guest_16, gX3_guest_19, gX3_guest_22, gX3_guest_23, gX3_guest_26, am_kill_int, am_kill_ref, am_kill_null, am_kill_F, am_kill_long, am_cat_n, am_cat_i, am_cat_r, am_cat_0, am_cat_l, am_nr_n, am_nr_i, am_nr_r, am_nr_0, am_nr_l, Option.toList_some, Option.toList_none, List.nil_append, List.cons_append, va_rf_s, va_rf_n, am_I_sR, am_I_sL, am_R_sI, am_R_sL, am_L_sI, am_L_sR, am_k_sI, am_k_sR, am_k_sL, am_n_sI, am_n_sR, am_n_sL, true_and, and_true, true_or, or_true, or_false, false_or, not_true_eq_false, not_false_eq_true, Nat.reduceLT, am_dS, am_dP, am_d1, Nat.reduceSub, Nat.reduceMul, ne_eq, Nat.reduceBEq, Nat.reduceAdd, Nat.reduceLeDiff, Nat.reduceEqDiff, and_self, and_false, false_and, if_true, if_false, am_nb, am_nb0, am_nb1, am_lc1, am_lc2, am_lc3, am_b0, am_b1, am_10, am_c8, am_c16, am_c24, am_c32, am_c40, am_c48, am_c56, am_c64, am_c72, Nat.add_zero, Bool.false_eq_true, Nat.zero_le, hmb, wX3_isNest hMb, wX3_in, wX3_lost hMb, i5, am_isb, hx, hy, o10]
      exact fin
    · simp only [gX3_guest_0, gX3_guest_1, gX3_guest_2, gX3_guest_5, gX3_guest_6, gX3_guest_7, gX3_guest_10, gX3_guest_13, gX3_guest_14, gX3_guest_15, gX3_guest_16, gX3_guest_19, gX3_guest_22, gX3_guest_23, gX3_guest_26, am_kill_int, am_kill_ref, am_kill_null, am_kill_F, am_kill_long, am_cat_n, am_cat_i, am_cat_r, am_cat_0, am_cat_l, am_nr_n, am_nr_i, am_nr_r, am_nr_0, am_nr_l, Option.toList_some, Option.toList_none, List.nil_append, List.cons_append, va_rf_s, va_rf_n, am_I_sR, am_I_sL, am_R_sI, am_R_sL, am_L_sI, am_L_sR, am_k_sI, am_k_sR, am_k_sL, am_n_sI, am_n_sR, am_n_sL, true_and, and_true, true_or, or_true, or_false, false_or, not_true_eq_false, not_false_eq_true, Nat.reduceLT, am_dS, am_dP, am_d1, Nat.reduceSub, Nat.reduceMul, ne_eq, Nat.reduceBEq, Nat.reduceAdd, Nat.reduceLeDiff, Nat.reduceEqDiff, and_self, and_false, false_and, if_true, if_false, am_nb, am_nb0, am_nb1, am_lc1, am_lc2, am_lc3, am_b0, am_b1, am_10, am_c8, am_c16, am_c24, am_c32, am_c40, am_c48, am_c56, am_c64, am_c72, Nat.add_zero, Bool.false_eq_true, Nat.zero_le, hmb, wX3_isNest hMb, wX3_lost hMb, hx, o10]
      exact fin
  by_cases hx : isN x N = true
  · by_cases hy : isN y 5 = true
    · obtain ⟨n, hn, rfl⟩ := isN_of (by omega) hx
      have hn8 : n < 8 := by omega
      have hin : vp_in (nI n) 8 := vp_in_nI (by omega) (by omega)
      have hcl : (nI n).toNatClampNeg = n := nI_clamp (by omega)
      have e6 := hsim.r6 hn
      have hv48 : vp_in (nI (48 + n)) 83 := vp_in_nI (by omega) (by omega)
      have hc48 : (nI (48 + n)).toNatClampNeg = 48 + n := nI_clamp (by omega)
      have n400 : ¬ (1 : Int32) = 0 := by decide
      -- the model, up to what is asked
      have mo : ∀ (y' : Int32) (ν : am_M) (K : Option Value → am_M → Prop), isN y' 5 = true → MC N c ν → am_k ν 54 = (2, 0) → (MC N c (am_sI ν 54 7 0) → am_I (am_sI ν 54 7 0) 55 = am_I ν 55 → am_Wp (d + 200) mX3_guest 27 [.ref 54, .int (nI n), .int y'] [] (am_sI ν 54 7 0) K) → am_Wp (d + 200) mX3_guest 0 [.ref 54, .int (nI n), .int y'] [] ν K := fun y' ν K hy' hm hk54 h1 => by
        have hMb : MC N c (am_sI ν 54 7 0) := hm.fr (F := fun a b => a = 54 ∧ b = 7) (Fr.I Fr.refl ⟨rfl, rfl⟩) (fun a b z => by omega)
        have h2 := h1 hMb (am_row_o (by decide))
        have hmc := hMb.1
        unfold mL at hmc
        simp only [gX3_guest_0, gX3_guest_1, gX3_guest_2, am_kill_int, am_kill_ref, am_kill_null, am_kill_F, am_kill_long, am_cat_n, am_cat_i, am_cat_r, am_cat_0, am_cat_l, am_nr_n, am_nr_i, am_nr_r, am_nr_0, am_nr_l, Option.toList_some, Option.toList_none, List.nil_append, List.cons_append, va_rf_s, va_rf_n, am_I_sR, am_I_sL, am_R_sI, am_R_sL, am_L_sI, am_L_sR, am_k_sI, am_k_sR, am_k_sL, am_n_sI, am_n_sR, am_n_sL, true_and, and_true, true_or, or_true, or_false, false_or, not_true_eq_false, not_false_eq_true, Nat.reduceLT, am_dS, am_dP, am_d1, Nat.reduceSub, Nat.reduceMul, ne_eq, Nat.reduceBEq, Nat.reduceAdd, Nat.reduceLeDiff, Nat.reduceEqDiff, and_self, and_false, false_and, if_true, if_false, am_nb, am_nb0, am_nb1, am_lc1, am_lc2, am_lc3, am_b0, am_b1, am_10, am_c8, am_c16, am_c24, am_c32, am_c40, am_c48, am_c56, am_c64, am_c72, Nat.add_zero, Bool.false_eq_true, Nat.zero_le, hk54]
        generalize am_sI ν 54 7 0 = μ4 at hMb h2 hmc ⊢
        simp only [gX3_guest_5, gX3_guest_6, gX3_guest_7, gX3_guest_10, gX3_guest_13, gX3_guest_14, gX3_guest_15, gX3_guest_16, gX3_guest_19, am_kill_int, am_kill_ref, am_kill_null, am_kill_F, am_kill_long, am_cat_n, am_cat_i, am_cat_r, am_cat_0, am_cat_l, am_nr_n, am_nr_i, am_nr_r, am_nr_0, am_nr_l, Option.toList_some, Option.toList_none, List.nil_append, List.cons_append, va_rf_s, va_rf_n, am_I_sR, am_I_sL, am_R_sI, am_R_sL, am_L_sI, am_L_sR, am_k_sI, am_k_sR, am_k_sL, am_n_sI, am_n_sR, am_n_sL, true_and, and_true, true_or, or_true, or_false, false_or, not_true_eq_false, not_false_eq_true, Nat.reduceLT, am_dS, am_dP, am_d1, Nat.reduceSub, Nat.reduceMul, ne_eq, Nat.reduceBEq, Nat.reduceAdd, Nat.reduceLeDiff, Nat.reduceEqDiff, and_self, and_false, false_and, if_true, if_false, am_nb, am_nb0, am_nb1, am_lc1, am_lc2, am_lc3, am_b0, am_b1, am_10, am_c8, am_c16, am_c24, am_c32, am_c40, am_c48, am_c56, am_c64, am_c72, Nat.add_zero, Bool.false_eq_true, Nat.zero_le, hmc, wX3_isNest hMb, wX3_in, i5, am_isb, hx, hy', o10]
        exact h2
      have mOut : ∀ v : Int32, MC N c (am_sL μ 77 0 v.toInt64) := fun v => mC_L (L' := am_L μ) hMC rfl rfl rfl
      have fin : ∀ v v' : Int32, v' = v → some (Value.int v') = some (Value.int v) ∧ am_I (am_sI (am_sL μ 77 0 v.toInt64) 54 7 0) 54 7 = 0 ∧ am_L (am_sI (am_sL μ 77 0 v.toInt64) 54 7 0) 77 0 = v.toInt64 ∧ Inv (q + 1) (am_sI (am_sL μ 77 0 v.toInt64) 54 7 0) := fun v v' e => ⟨by rw [e], by rw [am_I_sI, if_pos ⟨rfl, rfl⟩], by rw [am_L_sI, am_LL, if_pos ⟨rfl, rfl⟩], hI'.thx eqL.out⟩
      rcases is5 hy with f | f | f | f | f
      · subst f
        simp only [gX1_guest_0, gX1_guest_1, gX1_guest_2, gX1_guest_5, gX1_guest_16, gX1_guest_17, gX1_guest_52, gX1_guest_53, gX1_guest_56, gX1_guest_59, gX1_guest_60, gX1_guest_61, am_kill_int, am_kill_ref, am_kill_null, am_kill_F, am_kill_long, am_cat_n, am_cat_i, am_cat_r, am_cat_0, am_cat_l, am_nr_n, am_nr_i, am_nr_r, am_nr_0, am_nr_l, Option.toList_some, Option.toList_none, List.nil_append, List.cons_append, va_rf_s, va_rf_n, am_II, am_I_sR, am_I_sL, am_R_sI, am_RR, am_R_sL, am_L_sI, am_L_sR, am_LL, am_k_sI, am_k_sR, am_k_sL, am_n_sI, am_n_sR, am_n_sL, true_and, and_true, true_or, or_true, or_false, false_or, not_true_eq_false, not_false_eq_true, Nat.reduceLT, am_dS, am_dP, am_d1, Nat.reduceSub, Nat.reduceMul, ne_eq, Nat.reduceBEq, Nat.reduceAdd, Nat.reduceLeDiff, Nat.reduceEqDiff, and_self, and_false, false_and, if_true, if_false, am_nb, am_nb0, am_nb1, am_lc1, am_lc2, am_lc3, am_b0, am_b1, am_10, am_c8, am_c16, am_c24, am_c32, am_c40, am_c48, am_c56, am_c64, am_c72, Nat.add_zero, Bool.false_eq_true, Nat.zero_le, hcu, wX1_isNest hN h8 hk, hx, hin, hcl, o10]
        refine Or.inr ⟨_, rfl, mo _ _ _ hy (mOut _) hmu.1.1 (fun hM r55 => ?_)⟩
        have hmc := hM.1
        unfold mL at hmc
        have r55' : am_I (am_sI (am_sL μ 77 0 (am_I μ 8 n).toInt64) 54 7 0) 55 (48 + n) = am_I μ 8 n := by rw [r55]; exact e6.symm.trans (cS_6 hn8)
        have ff := fin (am_I μ 8 n) (am_I μ 8 n) rfl
        generalize am_sI (am_sL μ 77 0 (am_I μ 8 n).toInt64) 54 7 0 = μ4 at hM hmc r55' ff ⊢
        simp only [gX3_guest_27, gX3_guest_28, gX3_guest_31, gX3_guest_32, gX3_guest_35, gX3_guest_37, gX3_guest_38, gX3_guest_39, gX3_guest_40, am_kill_int, am_kill_ref, am_kill_null, am_kill_F, am_kill_long, am_cat_n, am_cat_i, am_cat_r, am_cat_0, am_cat_l, am_nr_n, am_nr_i, am_nr_r, am_nr_0, am_nr_l, Option.toList_some, Option.toList_none, List.nil_append, List.cons_append, va_rf_s, va_rf_n, am_I_sR, am_I_sL, am_R_sI, am_R_sL, am_L_sI, am_L_sR, am_k_sI, am_k_sR, am_k_sL, am_n_sI, am_n_sR, am_n_sL, true_and, and_true, true_or, or_true, or_false, false_or, not_true_eq_false, not_false_eq_true, Nat.reduceLT, am_dS, am_dP, am_d1, Nat.reduceSub, Nat.reduceMul, ne_eq, Nat.reduceBEq, Nat.reduceAdd, Nat.reduceLeDiff, Nat.reduceEqDiff, and_self, and_false, false_and, if_true, if_false, am_nb, am_nb0, am_nb1, am_lc1, am_lc2, am_lc3, am_b0, am_b1, am_10, am_c8, am_c16, am_c24, am_c32, am_c40, am_c48, am_c56, am_c64, am_c72, Nat.add_zero, Bool.false_eq_true, Nat.zero_le, hmc, hv48, hc48, r55']
        exact ff.2
      · subst f
        have n10 : ¬ (1 : Int32) = 0 := by decide
        have ny : ¬ (1 : Int32) = 0 := by decide
        have le4 : ¬ (4 : Int32) ≤ 1 := by decide
        have hv2 : vp_in (nI (56 + n)) 83 := vp_in_nI (by omega) (by omega)
        have hc2 : (nI (56 + n)).toNatClampNeg = 56 + n := nI_clamp (by omega)
        have e8 : (48 : Int32) + 8 * 1 + nI n = nI (56 + n) := by rw [show (48 : Int32) + 8 * 1 = nI 56 by decide, nI_add]
        simp only [gX1_guest_0, gX1_guest_1, gX1_guest_2, gX1_guest_5, gX1_guest_16, gX1_guest_17, gX1_guest_62, gX1_guest_63, gX1_guest_66, gX1_guest_69, gX1_guest_70, gX1_guest_71, am_kill_int, am_kill_ref, am_kill_null, am_kill_F, am_kill_long, am_cat_n, am_cat_i, am_cat_r, am_cat_0, am_cat_l, am_nr_n, am_nr_i, am_nr_r, am_nr_0, am_nr_l, Option.toList_some, Option.toList_none, List.nil_append, List.cons_append, va_rf_s, va_rf_n, am_II, am_I_sR, am_I_sL, am_R_sI, am_RR, am_R_sL, am_L_sI, am_L_sR, am_LL, am_k_sI, am_k_sR, am_k_sL, am_n_sI, am_n_sR, am_n_sL, true_and, and_true, true_or, or_true, or_false, false_or, not_true_eq_false, not_false_eq_true, Nat.reduceLT, am_dS, am_dP, am_d1, Nat.reduceSub, Nat.reduceMul, ne_eq, Nat.reduceBEq, Nat.reduceAdd, Nat.reduceLeDiff, Nat.reduceEqDiff, and_self, and_false, false_and, if_true, if_false, am_nb, am_nb0, am_nb1, am_lc1, am_lc2, am_lc3, am_b0, am_b1, am_10, am_c8, am_c16, am_c24, am_c32, am_c40, am_c48, am_c56, am_c64, am_c72, Nat.add_zero, Bool.false_eq_true, Nat.zero_le, hcu, wX1_isNest hN h8 hk, hx, hin, hcl, o10, n10]
        refine Or.inr ⟨_, rfl, mo _ _ _ hy (mOut _) hmu.1.1 (fun hM r55 => ?_)⟩
        have hmc := hM.1
        unfold mL at hmc
        have ff := fin (am_I μ 9 n)
        have r2 : ∀ i, am_I (am_sI (am_sL μ 77 0 (am_I μ 9 n).toInt64) 54 7 0) 55 i = am_I μ 55 i := fun i => by rw [r55]; rfl
        generalize am_sI (am_sL μ 77 0 (am_I μ 9 n).toInt64) 54 7 0 = μ4 at hM hmc r2 ff ⊢
        have ec : cS μ 1 (56 + n) = am_I μ 9 n := cS_7 hn8
        by_cases g : am_I μ 55 (48 + n) = 0
        · simp only [gX3_guest_27, gX3_guest_28, gX3_guest_41, gX3_guest_42, gX3_guest_45, gX3_guest_47, gX3_guest_48, gX3_guest_49, gX3_guest_50, gX3_guest_53, gX3_guest_54, am_kill_int, am_kill_ref, am_kill_null, am_kill_F, am_kill_long, am_cat_n, am_cat_i, am_cat_r, am_cat_0, am_cat_l, am_nr_n, am_nr_i, am_nr_r, am_nr_0, am_nr_l, Option.toList_some, Option.toList_none, List.nil_append, List.cons_append, va_rf_s, va_rf_n, am_I_sR, am_I_sL, am_R_sI, am_R_sL, am_L_sI, am_L_sR, am_k_sI, am_k_sR, am_k_sL, am_n_sI, am_n_sR, am_n_sL, true_and, and_true, true_or, or_true, or_false, false_or, not_true_eq_false, not_false_eq_true, Nat.reduceLT, am_dS, am_dP, am_d1, Nat.reduceSub, Nat.reduceMul, ne_eq, Nat.reduceBEq, Nat.reduceAdd, Nat.reduceLeDiff, Nat.reduceEqDiff, and_self, and_false, false_and, if_true, if_false, am_nb, am_nb0, am_nb1, am_lc1, am_lc2, am_lc3, am_b0, am_b1, am_10, am_c8, am_c16, am_c24, am_c32, am_c40, am_c48, am_c56, am_c64, am_c72, Nat.add_zero, Bool.false_eq_true, Nat.zero_le, hmc, ny, hv48, hc48, r2, g]
          have hg := (hsim.cg hn).1
          rw [col6, col7, col8, col9, e6, g] at hg
          have hz : cS μ 1 (56 + n) = 0 := by
            rcases hg with z | z | z
            · exact z.2.1
            · exact absurd z (by decide)
            · exact absurd z (by decide)
          rw [ec] at hz
          exact ff 0 hz.symm
        · simp only [gX3_guest_27, gX3_guest_28, gX3_guest_41, gX3_guest_42, gX3_guest_45, gX3_guest_47, gX3_guest_48, gX3_guest_49, gX3_guest_50, gX3_guest_55, gX3_guest_56, gX3_guest_57, gX3_guest_60, gX3_guest_61, gX3_guest_64, gX3_guest_66, gX3_guest_68, gX3_guest_69, gX3_guest_70, gX3_guest_71, gX3_guest_72, gX3_guest_73, gX3_guest_74, gX3_guest_86, am_kill_int, am_kill_ref, am_kill_null, am_kill_F, am_kill_long, am_cat_n, am_cat_i, am_cat_r, am_cat_0, am_cat_l, am_nr_n, am_nr_i, am_nr_r, am_nr_0, am_nr_l, Option.toList_some, Option.toList_none, List.nil_append, List.cons_append, va_rf_s, va_rf_n, am_I_sR, am_I_sL, am_R_sI, am_R_sL, am_L_sI, am_L_sR, am_k_sI, am_k_sR, am_k_sL, am_n_sI, am_n_sR, am_n_sL, true_and, and_true, true_or, or_true, or_false, false_or, not_true_eq_false, not_false_eq_true, Nat.reduceLT, am_dS, am_dP, am_d1, Nat.reduceSub, Nat.reduceMul, ne_eq, Nat.reduceBEq, Nat.reduceAdd, Nat.reduceLeDiff, Nat.reduceEqDiff, and_self, and_false, false_and, if_true, if_false, am_nb, am_nb0, am_nb1, am_lc1, am_lc2, am_lc3, am_b0, am_b1, am_10, am_c8, am_c16, am_c24, am_c32, am_c40, am_c48, am_c56, am_c64, am_c72, Nat.add_zero, Bool.false_eq_true, Nat.zero_le, hmc, ny, le4, hv48, hc48, e8, hv2, hc2, r2, g]
          exact ff _ (by rw [← ec, hsim.r7 hn (by rw [e6]; exact g)])
      · subst f
        have n20 : ¬ (2 : Int32) = 0 := by decide
        have n21 : ¬ (2 : Int32) = 1 := by decide
        have ny : ¬ (2 : Int32) = 0 := by decide
        have le4 : ¬ (4 : Int32) ≤ 2 := by decide
        have hv2 : vp_in (nI (64 + n)) 83 := vp_in_nI (by omega) (by omega)
        have hc2 : (nI (64 + n)).toNatClampNeg = 64 + n := nI_clamp (by omega)
        have e8 : (48 : Int32) + 8 * 2 + nI n = nI (64 + n) := by rw [show (48 : Int32) + 8 * 2 = nI 64 by decide, nI_add]
        simp only [gX1_guest_0, gX1_guest_1, gX1_guest_2, gX1_guest_5, gX1_guest_16, gX1_guest_17, gX1_guest_72, gX1_guest_73, gX1_guest_76, gX1_guest_79, gX1_guest_80, gX1_guest_81, am_kill_int, am_kill_ref, am_kill_null, am_kill_F, am_kill_long, am_cat_n, am_cat_i, am_cat_r, am_cat_0, am_cat_l, am_nr_n, am_nr_i, am_nr_r, am_nr_0, am_nr_l, Option.toList_some, Option.toList_none, List.nil_append, List.cons_append, va_rf_s, va_rf_n, am_II, am_I_sR, am_I_sL, am_R_sI, am_RR, am_R_sL, am_L_sI, am_L_sR, am_LL, am_k_sI, am_k_sR, am_k_sL, am_n_sI, am_n_sR, am_n_sL, true_and, and_true, true_or, or_true, or_false, false_or, not_true_eq_false, not_false_eq_true, Nat.reduceLT, am_dS, am_dP, am_d1, Nat.reduceSub, Nat.reduceMul, ne_eq, Nat.reduceBEq, Nat.reduceAdd, Nat.reduceLeDiff, Nat.reduceEqDiff, and_self, and_false, false_and, if_true, if_false, am_nb, am_nb0, am_nb1, am_lc1, am_lc2, am_lc3, am_b0, am_b1, am_10, am_c8, am_c16, am_c24, am_c32, am_c40, am_c48, am_c56, am_c64, am_c72, Nat.add_zero, Bool.false_eq_true, Nat.zero_le, hcu, wX1_isNest hN h8 hk, hx, hin, hcl, o10, n20, n21]
        refine Or.inr ⟨_, rfl, mo _ _ _ hy (mOut _) hmu.1.1 (fun hM r55 => ?_)⟩
        have hmc := hM.1
        unfold mL at hmc
        have ff := fin (am_I μ 10 n)
        have r2 : ∀ i, am_I (am_sI (am_sL μ 77 0 (am_I μ 10 n).toInt64) 54 7 0) 55 i = am_I μ 55 i := fun i => by rw [r55]; rfl
        generalize am_sI (am_sL μ 77 0 (am_I μ 10 n).toInt64) 54 7 0 = μ4 at hM hmc r2 ff ⊢
        have ec : cS μ 1 (64 + n) = am_I μ 10 n := cS_8 hn8
        by_cases g : am_I μ 55 (48 + n) = 0
        · simp only [gX3_guest_27, gX3_guest_28, gX3_guest_41, gX3_guest_42, gX3_guest_45, gX3_guest_47, gX3_guest_48, gX3_guest_49, gX3_guest_50, gX3_guest_53, gX3_guest_54, am_kill_int, am_kill_ref, am_kill_null, am_kill_F, am_kill_long, am_cat_n, am_cat_i, am_cat_r, am_cat_0, am_cat_l, am_nr_n, am_nr_i, am_nr_r, am_nr_0, am_nr_l, Option.toList_some, Option.toList_none, List.nil_append, List.cons_append, va_rf_s, va_rf_n, am_I_sR, am_I_sL, am_R_sI, am_R_sL, am_L_sI, am_L_sR, am_k_sI, am_k_sR, am_k_sL, am_n_sI, am_n_sR, am_n_sL, true_and, and_true, true_or, or_true, or_false, false_or, not_true_eq_false, not_false_eq_true, Nat.reduceLT, am_dS, am_dP, am_d1, Nat.reduceSub, Nat.reduceMul, ne_eq, Nat.reduceBEq, Nat.reduceAdd, Nat.reduceLeDiff, Nat.reduceEqDiff, and_self, and_false, false_and, if_true, if_false, am_nb, am_nb0, am_nb1, am_lc1, am_lc2, am_lc3, am_b0, am_b1, am_10, am_c8, am_c16, am_c24, am_c32, am_c40, am_c48, am_c56, am_c64, am_c72, Nat.add_zero, Bool.false_eq_true, Nat.zero_le, hmc, ny, hv48, hc48, r2, g]
          have hg := (hsim.cg hn).1
          rw [col6, col7, col8, col9, e6, g] at hg
          have hz : cS μ 1 (64 + n) = 0 := by
            rcases hg with z | z | z
            · exact z.2.2.1
            · exact absurd z (by decide)
            · exact absurd z (by decide)
          rw [ec] at hz
          exact ff 0 hz.symm
        · simp only [gX3_guest_27, gX3_guest_28, gX3_guest_41, gX3_guest_42, gX3_guest_45, gX3_guest_47, gX3_guest_48, gX3_guest_49, gX3_guest_50, gX3_guest_55, gX3_guest_56, gX3_guest_57, gX3_guest_60, gX3_guest_61, gX3_guest_64, gX3_guest_66, gX3_guest_68, gX3_guest_69, gX3_guest_70, gX3_guest_71, gX3_guest_72, gX3_guest_73, gX3_guest_74, gX3_guest_86, am_kill_int, am_kill_ref, am_kill_null, am_kill_F, am_kill_long, am_cat_n, am_cat_i, am_cat_r, am_cat_0, am_cat_l, am_nr_n, am_nr_i, am_nr_r, am_nr_0, am_nr_l, Option.toList_some, Option.toList_none, List.nil_append, List.cons_append, va_rf_s, va_rf_n, am_I_sR, am_I_sL, am_R_sI, am_R_sL, am_L_sI, am_L_sR, am_k_sI, am_k_sR, am_k_sL, am_n_sI, am_n_sR, am_n_sL, true_and, and_true, true_or, or_true, or_false, false_or, not_true_eq_false, not_false_eq_true, Nat.reduceLT, am_dS, am_dP, am_d1, Nat.reduceSub, Nat.reduceMul, ne_eq, Nat.reduceBEq, Nat.reduceAdd, Nat.reduceLeDiff, Nat.reduceEqDiff, and_self, and_false, false_and, if_true, if_false, am_nb, am_nb0, am_nb1, am_lc1, am_lc2, am_lc3, am_b0, am_b1, am_10, am_c8, am_c16, am_c24, am_c32, am_c40, am_c48, am_c56, am_c64, am_c72, Nat.add_zero, Bool.false_eq_true, Nat.zero_le, hmc, ny, le4, hv48, hc48, e8, hv2, hc2, r2, g]
          exact ff _ (by rw [← ec, hsim.r8 hn (by rw [e6]; exact g)])
      · subst f
        have n30 : ¬ (3 : Int32) = 0 := by decide
        have n31 : ¬ (3 : Int32) = 1 := by decide
        have n32 : ¬ (3 : Int32) = 2 := by decide
        have ny : ¬ (3 : Int32) = 0 := by decide
        have le4 : ¬ (4 : Int32) ≤ 3 := by decide
        have hv2 : vp_in (nI (72 + n)) 83 := vp_in_nI (by omega) (by omega)
        have hc2 : (nI (72 + n)).toNatClampNeg = 72 + n := nI_clamp (by omega)
        have e8 : (48 : Int32) + 8 * 3 + nI n = nI (72 + n) := by rw [show (48 : Int32) + 8 * 3 = nI 72 by decide, nI_add]
        simp only [gX1_guest_0, gX1_guest_1, gX1_guest_2, gX1_guest_5, gX1_guest_16, gX1_guest_17, gX1_guest_82, gX1_guest_83, gX1_guest_86, gX1_guest_89, gX1_guest_90, gX1_guest_91, am_kill_int, am_kill_ref, am_kill_null, am_kill_F, am_kill_long, am_cat_n, am_cat_i, am_cat_r, am_cat_0, am_cat_l, am_nr_n, am_nr_i, am_nr_r, am_nr_0, am_nr_l, Option.toList_some, Option.toList_none, List.nil_append, List.cons_append, va_rf_s, va_rf_n, am_II, am_I_sR, am_I_sL, am_R_sI, am_RR, am_R_sL, am_L_sI, am_L_sR, am_LL, am_k_sI, am_k_sR, am_k_sL, am_n_sI, am_n_sR, am_n_sL, true_and, and_true, true_or, or_true, or_false, false_or, not_true_eq_false, not_false_eq_true, Nat.reduceLT, am_dS, am_dP, am_d1, Nat.reduceSub, Nat.reduceMul, ne_eq, Nat.reduceBEq, Nat.reduceAdd, Nat.reduceLeDiff, Nat.reduceEqDiff, and_self, and_false, false_and, if_true, if_false, am_nb, am_nb0, am_nb1, am_lc1, am_lc2, am_lc3, am_b0, am_b1, am_10, am_c8, am_c16, am_c24, am_c32, am_c40, am_c48, am_c56, am_c64, am_c72, Nat.add_zero, Bool.false_eq_true, Nat.zero_le, hcu, wX1_isNest hN h8 hk, hx, hin, hcl, o10, n30, n31, n32]
        refine Or.inr ⟨_, rfl, mo _ _ _ hy (mOut _) hmu.1.1 (fun hM r55 => ?_)⟩
        have hmc := hM.1
        unfold mL at hmc
        have ff := fin (am_I μ 11 n)
        have r2 : ∀ i, am_I (am_sI (am_sL μ 77 0 (am_I μ 11 n).toInt64) 54 7 0) 55 i = am_I μ 55 i := fun i => by rw [r55]; rfl
        generalize am_sI (am_sL μ 77 0 (am_I μ 11 n).toInt64) 54 7 0 = μ4 at hM hmc r2 ff ⊢
        have ec : cS μ 1 (72 + n) = am_I μ 11 n := cS_9 hn8
        by_cases g : am_I μ 55 (48 + n) = 0
        · simp only [gX3_guest_27, gX3_guest_28, gX3_guest_41, gX3_guest_42, gX3_guest_45, gX3_guest_47, gX3_guest_48, gX3_guest_49, gX3_guest_50, gX3_guest_53, gX3_guest_54, am_kill_int, am_kill_ref, am_kill_null, am_kill_F, am_kill_long, am_cat_n, am_cat_i, am_cat_r, am_cat_0, am_cat_l, am_nr_n, am_nr_i, am_nr_r, am_nr_0, am_nr_l, Option.toList_some, Option.toList_none, List.nil_append, List.cons_append, va_rf_s, va_rf_n, am_I_sR, am_I_sL, am_R_sI, am_R_sL, am_L_sI, am_L_sR, am_k_sI, am_k_sR, am_k_sL, am_n_sI, am_n_sR, am_n_sL, true_and, and_true, true_or, or_true, or_false, false_or, not_true_eq_false, not_false_eq_true, Nat.reduceLT, am_dS, am_dP, am_d1, Nat.reduceSub, Nat.reduceMul, ne_eq, Nat.reduceBEq, Nat.reduceAdd, Nat.reduceLeDiff, Nat.reduceEqDiff, and_self, and_false, false_and, if_true, if_false, am_nb, am_nb0, am_nb1, am_lc1, am_lc2, am_lc3, am_b0, am_b1, am_10, am_c8, am_c16, am_c24, am_c32, am_c40, am_c48, am_c56, am_c64, am_c72, Nat.add_zero, Bool.false_eq_true, Nat.zero_le, hmc, ny, hv48, hc48, r2, g]
          have hg := (hsim.cg hn).1
          rw [col6, col7, col8, col9, e6, g] at hg
          have hz : cS μ 1 (72 + n) = 0 := by
            rcases hg with z | z | z
            · exact z.2.2.2
            · exact absurd z (by decide)
            · exact absurd z (by decide)
          rw [ec] at hz
          exact ff 0 hz.symm
        · simp only [gX3_guest_27, gX3_guest_28, gX3_guest_41, gX3_guest_42, gX3_guest_45, gX3_guest_47, gX3_guest_48, gX3_guest_49, gX3_guest_50, gX3_guest_55, gX3_guest_56, gX3_guest_57, gX3_guest_60, gX3_guest_61, gX3_guest_64, gX3_guest_66, gX3_guest_68, gX3_guest_69, gX3_guest_70, gX3_guest_71, gX3_guest_72, gX3_guest_73, gX3_guest_74, gX3_guest_86, am_kill_int, am_kill_ref, am_kill_null, am_kill_F, am_kill_long, am_cat_n, am_cat_i, am_cat_r, am_cat_0, am_cat_l, am_nr_n, am_nr_i, am_nr_r, am_nr_0, am_nr_l, Option.toList_some, Option.toList_none, List.nil_append, List.cons_append, va_rf_s, va_rf_n, am_I_sR, am_I_sL, am_R_sI, am_R_sL, am_L_sI, am_L_sR, am_k_sI, am_k_sR, am_k_sL, am_n_sI, am_n_sR, am_n_sL, true_and, and_true, true_or, or_true, or_false, false_or, not_true_eq_false, not_false_eq_true, Nat.reduceLT, am_dS, am_dP, am_d1, Nat.reduceSub, Nat.reduceMul, ne_eq, Nat.reduceBEq, Nat.reduceAdd, Nat.reduceLeDiff, Nat.reduceEqDiff, and_self, and_false, false_and, if_true, if_false, am_nb, am_nb0, am_nb1, am_lc1, am_lc2, am_lc3, am_b0, am_b1, am_10, am_c8, am_c16, am_c24, am_c32, am_c40, am_c48, am_c56, am_c64, am_c72, Nat.add_zero, Bool.false_eq_true, Nat.zero_le, hmc, ny, le4, hv48, hc48, e8, hv2, hc2, r2, g]
          exact ff _ (by rw [← ec, hsim.r9 hn (by rw [e6]; exact g)])
      · subst f
        have n40 : ¬ (4 : Int32) = 0 := by decide
        have n41 : ¬ (4 : Int32) = 1 := by decide
        have n42 : ¬ (4 : Int32) = 2 := by decide
        have n43 : ¬ (4 : Int32) = 3 := by decide
        have ec : am_I μ 8 n = am_I μ 55 (48 + n) := (cS_6 hn8).symm.trans e6
        by_cases g : am_I μ 55 (48 + n) = 0
        · simp only [gX1_guest_0, gX1_guest_1, gX1_guest_2, gX1_guest_5, gX1_guest_16, gX1_guest_17, gX1_guest_92, gX1_guest_93, gX1_guest_96, gX1_guest_99, gX1_guest_100, gX1_guest_101, gX1_guest_104, gX1_guest_105, gX1_guest_117, am_kill_int, am_kill_ref, am_kill_null, am_kill_F, am_kill_long, am_cat_n, am_cat_i, am_cat_r, am_cat_0, am_cat_l, am_nr_n, am_nr_i, am_nr_r, am_nr_0, am_nr_l, Option.toList_some, Option.toList_none, List.nil_append, List.cons_append, va_rf_s, va_rf_n, am_II, am_I_sR, am_I_sL, am_R_sI, am_RR, am_R_sL, am_L_sI, am_L_sR, am_LL, am_k_sI, am_k_sR, am_k_sL, am_n_sI, am_n_sR, am_n_sL, true_and, and_true, true_or, or_true, or_false, false_or, not_true_eq_false, not_false_eq_true, Nat.reduceLT, am_dS, am_dP, am_d1, Nat.reduceSub, Nat.reduceMul, ne_eq, Nat.reduceBEq, Nat.reduceAdd, Nat.reduceLeDiff, Nat.reduceEqDiff, and_self, and_false, false_and, if_true, if_false, am_nb, am_nb0, am_nb1, am_lc1, am_lc2, am_lc3, am_b0, am_b1, am_10, am_c8, am_c16, am_c24, am_c32, am_c40, am_c48, am_c56, am_c64, am_c72, Nat.add_zero, Bool.false_eq_true, Nat.zero_le, hcu, wX1_isNest hN h8 hk, hx, hin, hcl, o10, n40, n41, n42, n43, ec, g]
          refine Or.inr ⟨_, rfl, mo _ _ _ hy (mOut _) hmu.1.1 (fun hM r55 => ?_)⟩
          have hmc := hM.1
          unfold mL at hmc
          have ff := fin 0 0 rfl
          have r2 : ∀ i, am_I (am_sI (am_sL μ 77 0 (0 : Int32).toInt64) 54 7 0) 55 i = am_I μ 55 i := fun i => by rw [r55]; rfl
          generalize am_sI (am_sL μ 77 0 (0 : Int32).toInt64) 54 7 0 = μ4 at hM hmc r2 ff ⊢
          simp only [gX3_guest_27, gX3_guest_28, gX3_guest_41, gX3_guest_42, gX3_guest_45, gX3_guest_47, gX3_guest_48, gX3_guest_49, gX3_guest_50, gX3_guest_53, gX3_guest_54, am_kill_int, am_kill_ref, am_kill_null, am_kill_F, am_kill_long, am_cat_n, am_cat_i, am_cat_r, am_cat_0, am_cat_l, am_nr_n, am_nr_i, am_nr_r, am_nr_0, am_nr_l, Option.toList_some, Option.toList_none, List.nil_append, List.cons_append, va_rf_s, va_rf_n, am_I_sR, am_I_sL, am_R_sI, am_R_sL, am_L_sI, am_L_sR, am_k_sI, am_k_sR, am_k_sL, am_n_sI, am_n_sR, am_n_sL, true_and, and_true, true_or, or_true, or_false, false_or, not_true_eq_false, not_false_eq_true, Nat.reduceLT, am_dS, am_dP, am_d1, Nat.reduceSub, Nat.reduceMul, ne_eq, Nat.reduceBEq, Nat.reduceAdd, Nat.reduceLeDiff, Nat.reduceEqDiff, and_self, and_false, false_and, if_true, if_false, am_nb, am_nb0, am_nb1, am_lc1, am_lc2, am_lc3, am_b0, am_b1, am_10, am_c8, am_c16, am_c24, am_c32, am_c40, am_c48, am_c56, am_c64, am_c72, Nat.add_zero, Bool.false_eq_true, Nat.zero_le, hmc, n40, hv48, hc48, r2, g]
          exact ff.2
        · simp only [gX1_guest_0, gX1_guest_1, gX1_guest_2, gX1_guest_5, gX1_guest_16, gX1_guest_17, gX1_guest_92, gX1_guest_93, gX1_guest_96, gX1_guest_99, gX1_guest_100, gX1_guest_101, gX1_guest_108, gX1_guest_109, gX1_guest_110, gX1_guest_113, gX1_guest_114, am_kill_int, am_kill_ref, am_kill_null, am_kill_F, am_kill_long, am_cat_n, am_cat_i, am_cat_r, am_cat_0, am_cat_l, am_nr_n, am_nr_i, am_nr_r, am_nr_0, am_nr_l, Option.toList_some, Option.toList_none, List.nil_append, List.cons_append, va_rf_s, va_rf_n, am_II, am_I_sR, am_I_sL, am_R_sI, am_RR, am_R_sL, am_L_sI, am_L_sR, am_LL, am_k_sI, am_k_sR, am_k_sL, am_n_sI, am_n_sR, am_n_sL, true_and, and_true, true_or, or_true, or_false, false_or, not_true_eq_false, not_false_eq_true, Nat.reduceLT, am_dS, am_dP, am_d1, Nat.reduceSub, Nat.reduceMul, ne_eq, Nat.reduceBEq, Nat.reduceAdd, Nat.reduceLeDiff, Nat.reduceEqDiff, and_self, and_false, false_and, if_true, if_false, am_nb, am_nb0, am_nb1, am_lc1, am_lc2, am_lc3, am_b0, am_b1, am_10, am_c8, am_c16, am_c24, am_c32, am_c40, am_c48, am_c56, am_c64, am_c72, Nat.add_zero, Bool.false_eq_true, Nat.zero_le, hcu, wX1_isNest hN h8 hk, hx, hin, hcl, o10, n40, n41, n42, n43, ec, g]
          refine wX1_oddOf (d := d + 132) hC hC.1.s1 (by decide) (by decide) hn8 (fun ν h1 => ?_)
          have h6 : cS μ 1 (48 + n) ≠ 0 := by rw [e6]; exact g
          rw [odd_W hS.2.2 hsim hn h6]
          refine ⟨trivial, ?_⟩
          simp only [Option.toList_some, List.cons_append, List.nil_append, gX1_guest_117, am_kill_int, am_kill_ref, am_kill_null, am_kill_F, am_kill_long, am_cat_n, am_cat_i, am_cat_r, am_cat_0, am_cat_l, am_nr_n, am_nr_i, am_nr_r, am_nr_0, am_nr_l, Option.toList_some, Option.toList_none, List.nil_append, List.cons_append, va_rf_s, va_rf_n, am_II, am_I_sR, am_I_sL, am_R_sI, am_RR, am_R_sL, am_L_sI, am_L_sR, am_LL, am_k_sI, am_k_sR, am_k_sL, am_n_sI, am_n_sR, am_n_sL, true_and, and_true, true_or, or_true, or_false, false_or, not_true_eq_false, not_false_eq_true, Nat.reduceLT, am_dS, am_dP, am_d1, Nat.reduceSub, Nat.reduceMul, ne_eq, Nat.reduceBEq, Nat.reduceAdd, Nat.reduceLeDiff, Nat.reduceEqDiff, and_self, and_false, false_and, if_true, if_false, am_nb, am_nb0, am_nb1, am_lc1, am_lc2, am_lc3, am_b0, am_b1, am_10, am_c8, am_c16, am_c24, am_c32, am_c40, am_c48, am_c56, am_c64, am_c72, Nat.add_zero, Bool.false_eq_true, Nat.zero_le]
          refine Or.inr ⟨_, rfl, ?_⟩
          generalize ev : oddW N ru (am_I μ 55) n = v
          have hMν : MC N c ν := hMC.fr h1 (fun a b z => by unfold jA at z; omega)
          refine mo _ _ _ hy (mC_L (L' := am_L ν) hMν rfl rfl rfl) (by show am_k ν 54 = _; rw [h1.2.2.2.1]; exact hmu.1.1) (fun hM r55 => ?_)
          have hS4 : MS N ru c (am_sI (am_sL ν 77 0 v.toInt64) 54 7 0) := by
            have h17 : am_I (am_sI (am_sL ν 77 0 v.toInt64) 54 7 0) 54 17 = 0 := by rw [am_I_sI, if_neg (by omega), am_I_sL, h1.1 54 17 (by unfold jA; omega)]; exact hP.h17
            have s1 : MS N ru c ν := hS.fr h1 (fun a b z => by unfold jA at z; omega) ((h1.1 54 17 (by unfold jA; omega)).trans hP.h17)
            refine ⟨hM, ⟨⟨h17, s1.2.1.1.2⟩, ?_⟩, s1.2.2⟩
            have hr := s1.2.1.2
            cases ru with
            | none =>
              show am_I (am_sI (am_sL ν 77 0 v.toInt64) 54 7 0) 54 16 = 0
              rw [am_I_sI, if_neg (by omega)]; exact hr
            | some f =>
              obtain ⟨n', g', w1, w2, w3, w4, w5, w6, w7, w8⟩ := hr
              have eg : am_I (am_sI (am_sL ν 77 0 v.toInt64) 54 7 0) g' = am_I ν g' := (am_row_o (by omega)).trans rfl
              exact ⟨n', g', w1, w2, w3, w4, w5, by rw [am_I_sI, if_neg (by omega)]; exact w6, by rw [eg]; exact w7, by rw [eg]; exact w8⟩
          have hmc := hS4.1.1
          unfold mL at hmc
          have r2 : ∀ i, am_I (am_sI (am_sL ν 77 0 v.toInt64) 54 7 0) 55 i = am_I μ 55 i := fun i => by rw [r55]; exact h1.1 55 i (by unfold jA; omega)
          have r3 : am_I (am_sI (am_sL ν 77 0 v.toInt64) 54 7 0) 55 = am_I μ 55 := funext r2
          have i7 : am_I (am_sI (am_sL ν 77 0 v.toInt64) 54 7 0) 54 7 = 0 := by rw [am_I_sI, if_pos ⟨rfl, rfl⟩]
          have l77 : am_L (am_sI (am_sL ν 77 0 v.toInt64) 54 7 0) 77 0 = v.toInt64 := by rw [am_L_sI, am_LL, if_pos ⟨rfl, rfl⟩]
          have hInv : ∀ ξ, Fr jM (am_sI (am_sL ν 77 0 v.toInt64) 54 7 0) ξ → am_I ξ 54 17 = 0 → Inv (q + 1) ξ := fun ξ z1 z2 => inv_odd hI' hP h1 z1 z2
          generalize am_sI (am_sL ν 77 0 v.toInt64) 54 7 0 = μ4 at hS4 hmc r2 r3 i7 l77 hInv ⊢
          simp only [gX3_guest_27, gX3_guest_28, gX3_guest_41, gX3_guest_42, gX3_guest_45, gX3_guest_47, gX3_guest_48, gX3_guest_49, gX3_guest_50, gX3_guest_55, gX3_guest_56, gX3_guest_57, gX3_guest_77, gX3_guest_78, gX3_guest_79, gX3_guest_82, gX3_guest_83, am_kill_int, am_kill_ref, am_kill_null, am_kill_F, am_kill_long, am_cat_n, am_cat_i, am_cat_r, am_cat_0, am_cat_l, am_nr_n, am_nr_i, am_nr_r, am_nr_0, am_nr_l, Option.toList_some, Option.toList_none, List.nil_append, List.cons_append, va_rf_s, va_rf_n, am_I_sR, am_I_sL, am_R_sI, am_R_sL, am_L_sI, am_L_sR, am_k_sI, am_k_sR, am_k_sL, am_n_sI, am_n_sR, am_n_sL, true_and, and_true, true_or, or_true, or_false, false_or, not_true_eq_false, not_false_eq_true, Nat.reduceLT, am_dS, am_dP, am_d1, Nat.reduceSub, Nat.reduceMul, ne_eq, Nat.reduceBEq, Nat.reduceAdd, Nat.reduceLeDiff, Nat.reduceEqDiff, and_self, and_false, false_and, if_true, if_false, am_nb, am_nb0, am_nb1, am_lc1, am_lc2, am_lc3, am_b0, am_b1, am_10, am_c8, am_c16, am_c24, am_c32, am_c40, am_c48, am_c56, am_c64, am_c72, Nat.add_zero, Bool.false_eq_true, Nat.zero_le, hmc, n40, Int32.le_refl, hv48, hc48, r2, g]
          refine wX3_oddNow (d := d + 129) hS4 hn8 hmc.1.2.1 (fun ξ w1 w2 => ?_)
          rw [r3, ev]
          refine ⟨trivial, ?_⟩
          simp only [Option.toList_some, List.cons_append, List.nil_append, gX3_guest_86, am_kill_int, am_kill_ref, am_kill_null, am_kill_F, am_kill_long, am_cat_n, am_cat_i, am_cat_r, am_cat_0, am_cat_l, am_nr_n, am_nr_i, am_nr_r, am_nr_0, am_nr_l, Option.toList_some, Option.toList_none, List.nil_append, List.cons_append, va_rf_s, va_rf_n, am_I_sR, am_I_sL, am_R_sI, am_R_sL, am_L_sI, am_L_sR, am_k_sI, am_k_sR, am_k_sL, am_n_sI, am_n_sR, am_n_sL, true_and, and_true, true_or, or_true, or_false, false_or, not_true_eq_false, not_false_eq_true, Nat.reduceLT, am_dS, am_dP, am_d1, Nat.reduceSub, Nat.reduceMul, ne_eq, Nat.reduceBEq, Nat.reduceAdd, Nat.reduceLeDiff, Nat.reduceEqDiff, and_self, and_false, false_and, if_true, if_false, am_nb, am_nb0, am_nb1, am_lc1, am_lc2, am_lc3, am_b0, am_b1, am_10, am_c8, am_c16, am_c24, am_c32, am_c40, am_c48, am_c56, am_c64, am_c72, Nat.add_zero, Bool.false_eq_true, Nat.zero_le]
          exact ⟨(w1.1 54 7 (by unfold jM; omega)).trans i7, w1.L.trans l77, hInv ξ w1 w2⟩
    · have ny : ∀ k : Nat, k < 5 → ¬ y = nI k := fun k hk2 e => hy (by rw [e]; exact isN_nI (by omega) hk2)
      have n0 : ¬ y = 0 := ny 0 (by omega)
      have n1 : ¬ y = 1 := ny 1 (by omega)
      have n2 : ¬ y = 2 := ny 2 (by omega)
      have n3 : ¬ y = 3 := ny 3 (by omega)
      have n4 : ¬ y = 4 := ny 4 (by omega)
      simp only [gX1_guest_0, gX1_guest_1, gX1_guest_2, gX1_guest_5, gX1_guest_16, gX1_guest_17, gX1_guest_118, am_kill_int, am_kill_ref, am_kill_null, am_kill_F, am_kill_long, am_cat_n, am_cat_i, am_cat_r, am_cat_0, am_cat_l, am_nr_n, am_nr_i, am_nr_r, am_nr_0, am_nr_l, Option.toList_some, Option.toList_none, List.nil_append, List.cons_append, va_rf_s, va_rf_n, am_II, am_I_sR, am_I_sL, am_R_sI, am_RR, am_R_sL, am_L_sI, am_L_sR, am_LL, am_k_sI, am_k_sR, am_k_sL, am_n_sI, am_n_sR, am_n_sL, true_and, and_true, true_or, or_true, or_false, false_or, not_true_eq_false, not_false_eq_true, Nat.reduceLT, am_dS, am_dP, am_d1, Nat.reduceSub, Nat.reduceMul, ne_eq, Nat.reduceBEq, Nat.reduceAdd, Nat.reduceLeDiff, Nat.reduceEqDiff, and_self, and_false, false_and, if_true, if_false, am_nb, am_nb0, am_nb1, am_lc1, am_lc2, am_lc3, am_b0, am_b1, am_10, am_c8, am_c16, am_c24, am_c32, am_c40, am_c48, am_c56, am_c64, am_c72, Nat.add_zero, Bool.false_eq_true, Nat.zero_le, hcu, wX1_isNest hN h8 hk, hx, o10, n0, n1, n2, n3, n4]
      exact Or.inl (no (fun z => hy z.2))
  · simp only [gX1_guest_0, gX1_guest_1, gX1_guest_2, gX1_guest_5, gX1_guest_8, am_kill_int, am_kill_ref, am_kill_null, am_kill_F, am_kill_long, am_cat_n, am_cat_i, am_cat_r, am_cat_0, am_cat_l, am_nr_n, am_nr_i, am_nr_r, am_nr_0, am_nr_l, Option.toList_some, Option.toList_none, List.nil_append, List.cons_append, va_rf_s, va_rf_n, am_II, am_I_sR, am_I_sL, am_R_sI, am_RR, am_R_sL, am_L_sI, am_L_sR, am_LL, am_k_sI, am_k_sR, am_k_sL, am_n_sI, am_n_sR, am_n_sL, true_and, and_true, true_or, or_true, or_false, false_or, not_true_eq_false, not_false_eq_true, Nat.reduceLT, am_dS, am_dP, am_d1, Nat.reduceSub, Nat.reduceMul, ne_eq, Nat.reduceBEq, Nat.reduceAdd, Nat.reduceLeDiff, Nat.reduceEqDiff, and_self, and_false, false_and, if_true, if_false, am_nb, am_nb0, am_nb1, am_lc1, am_lc2, am_lc3, am_b0, am_b1, am_10, am_c8, am_c16, am_c24, am_c32, am_c40, am_c48, am_c56, am_c64, am_c72, Nat.add_zero, Bool.false_eq_true, Nat.zero_le, hcu, wX1_isNest hN h8 hk, hx]
    exact Or.inl (no (fun z => hx z.1))
end GXV
