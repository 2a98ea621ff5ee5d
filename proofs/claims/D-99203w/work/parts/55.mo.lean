/-! the model: how odd a guest looks, by its rule's text -/
set_option maxRecDepth 100000
section MOV
variable {d : Nat} {μ ν : am_M} {K : Option Value → am_M → Prop} {x y z c w co ag ow mn : Int32} {h N j i k r n : Nat} {v : Int32} {ru : Option PF} {F : Nat → Nat → Prop}
/-- the model's rule -/
def ruM (μ : am_M) (ru : Option PF) : Prop := (am_I μ 54 17 = 0 ∧ am_k μ 61 = (10, 8)) ∧ match ru with
  | none => am_I μ 54 16 = 0
  | some f => ∃ n g, am_R μ 54 14 = some g ∧ (g = 59 ∨ g = 60) ∧ am_k μ g = (11, 40) ∧ 0 < n ∧ n ≤ 40 ∧ am_I μ 54 16 = nI n ∧ (∀ i, i < 40 → ∃ q : Nat, q < 256 ∧ am_I μ g i = nI q - 128) ∧ pP (chM (am_I μ g) n 40) 62 0 0 0 = .inr (f, n)
def jM (a b : Nat) : Prop := a = 61 ∨ (a = 54 ∧ (b = 9 ∨ b = 10 ∨ b = 11 ∨ b = 12 ∨ b = 17))
theorem Fr.ruM (hf : Fr F μ ν) (hF : ∀ a b, F a b → ¬ (a = 59 ∨ a = 60 ∨ a = 54 ∧ b = 16)) (h17 : am_I ν 54 17 = 0) (hr : ruM μ ru) : ruM ν ru := by
  refine ⟨⟨h17, by rw [hf.2.2.2.1]; exact hr.1.2⟩, ?_⟩
  have e16 := hf.1 54 16 (fun q => hF _ _ q (Or.inr (Or.inr ⟨rfl, rfl⟩)))
  cases ru with
  | none => exact e16.trans hr.2
  | some f =>
    obtain ⟨n, g, h1, h2, h3, h4, h5, h6, h7, h8⟩ := hr.2
    have eg : am_I ν g = am_I μ g := funext fun b => hf.1 g b (fun q => by have := hF _ _ q; omega)
    exact ⟨n, g, (hf.2.1 54 14 (by omega) (by omega)).trans h1, h2, by rw [hf.2.2.2.1]; exact h3, h4, h5, e16.trans h6, by rw [eg]; exact h7, by rw [eg]; exact h8⟩
theorem Fr.mLk (hf : Fr F μ ν) (hm : mL (am_k μ) (am_R μ)) : mL (am_k ν) (am_R ν) := by
  have e : mL (am_k ν) (am_R ν) = mL (am_k μ) (am_R μ) := by
    unfold mL
    rw [hf.2.2.2.1]
    simp (disch := omega) only [hf.2.1]
  rw [e]; exact hm
theorem MC.fr (hC : MC N c μ) (hf : Fr F μ ν) (hF : ∀ a b, F a b → ¬ (a = 54 ∧ (b = 1 ∨ b = 2))) : MC N c ν :=
  ⟨hf.mLk hC.1, (hf.1 54 1 (fun q => hF _ _ q ⟨rfl, Or.inl rfl⟩)).trans hC.2.1, hC.2.2.1, (hf.1 54 2 (fun q => hF _ _ q ⟨rfl, Or.inr rfl⟩)).trans hC.2.2.2⟩
theorem TM.ask {r L a ln tp : Nat} (hT : TM r L a ln tp w μ) : TM r L a ln tp w (am_sI μ 54 17 x) := by
  have hne := hT.ne
  obtain ⟨hm, hr, hk, ha, hl, ht, hw, b, hL, hB⟩ := hT
  exact ⟨hm, hr, hk, by rw [am_I_sI, if_neg (by omega)]; exact ha, by rw [am_I_sI, if_neg (by omega)]; exact hl, by rw [am_I_sI, if_neg (by omega)]; exact ht, by rw [am_I_sI, if_neg (by omega)]; exact hw, b, hL, by rw [am_row_o hne]; exact hB⟩
theorem wX3_oddOf (hC : MC N c μ) (hr : ruM μ ru) (hru : ru8 ru) (hj : j < 8) (hk : am_k μ h = (10, 83)) (hh : ¬ h = 61) (hK : ∀ ν, Fr jM μ ν → am_I ν 54 17 = 0 → K (some (.int (oddM ru (am_I μ h) j co ag ow mn))) ν) :
    am_Wp (d + 69) mX3_oddOf 0 [.ref 54, .ref h, .int (nI j), .int co, .int ag, .int ow, .int mn, am_F, am_F, am_F] [] μ K := by
  obtain ⟨hm, hN, h8, hcl0⟩ := hC
  have hmu := hm
  unfold mL at hmu
  have hv : ∀ k, k ≤ 72 → vp_in (nI (k + j)) 83 := fun k q => vp_in_nI (by omega) (by omega)
  have hcl : ∀ k, k ≤ 72 → (nI (k + j)).toNatClampNeg = k + j := fun k q => nI_clamp (by omega)
  have hv0 : vp_in (nI j) 83 := vp_in_nI (by omega) (by omega)
  have hcj : (nI j).toNatClampNeg = j := nI_clamp (by omega)
  cases ru with
  | none =>
    have h16 : am_I μ 54 16 = 0 := hr.2
    have h := hK μ Fr.refl hr.1.1
    simp only [oddM, abI, maI] at h
    simp only [gX3_oddOf_0, gX3_oddOf_0n, gX3_oddOf_1, gX3_oddOf_3, gX3_oddOf_4, gX3_oddOf_5, gX3_oddOf_6, gX3_oddOf_7, gX3_oddOf_8, gX3_oddOf_11, gX3_oddOf_13, gX3_oddOf_14, gX3_oddOf_14n, gX3_oddOf_15, gX3_oddOf_17, gX3_oddOf_18, gX3_oddOf_19, gX3_oddOf_20, gX3_oddOf_23, gX3_oddOf_25, gX3_oddOf_26, gX3_oddOf_29, gX3_oddOf_32, gX3_oddOf_34, gX3_oddOf_35, gX3_oddOf_36, gX3_oddOf_38, gX3_oddOf_39, gX3_oddOf_39n, gX3_oddOf_40, gX3_oddOf_41, gX3_oddOf_42, gX3_oddOf_43, am_kill_int, am_kill_ref, am_kill_null, am_kill_F, am_kill_long, am_cat_n, am_cat_i, am_cat_r, am_cat_0, am_cat_l, am_nr_n, am_nr_i, am_nr_r, am_nr_0, am_nr_l, Option.toList_some, Option.toList_none, List.nil_append, List.cons_append, va_rf_s, va_rf_n, am_II, am_I_sR, am_I_sL, am_R_sI, am_RR, am_R_sL, am_L_sI, am_L_sR, am_LL, am_k_sI, am_k_sR, am_k_sL, am_n_sI, am_n_sR, am_n_sL, true_and, and_true, true_or, or_true, or_false, false_or, not_true_eq_false, not_false_eq_true, Nat.reduceLT, am_dS, am_dP, am_d1, Nat.reduceSub, Nat.reduceMul, ne_eq, Nat.reduceBEq, Nat.reduceAdd, Nat.reduceLeDiff, Nat.reduceEqDiff, and_self, and_false, false_and, if_true, if_false, am_nb, am_nb0, am_nb1, am_lc1, am_lc2, am_lc3, am_b0, am_b1, am_10, am_c8, am_c16, am_c24, am_c32, am_c40, am_c48, am_c56, am_c64, am_c72, Nat.add_zero, Bool.false_eq_true, Nat.zero_le, hmu, hk, hv, hcl, hv0, hcj, h16]
    exact h
  | some f =>
    obtain ⟨n, g, h1, h2, h3, h4, h5, h6, h7, h8'⟩ := hr.2
    have h16 : ¬ am_I μ 54 16 = 0 := by
      rw [h6]
      intro q
      have := nI_clamp (n := n) (by omega)
      rw [q] at this
      have z0 : (0 : Int32).toNatClampNeg = 0 := by decide
      omega
    have z0 : (0 : Int32).toNatClampNeg = 0 := by decide
    have z1 : (1 : Int32).toNatClampNeg = 1 := by decide
    have z2 : (2 : Int32).toNatClampNeg = 2 := by decide
    have z3 : (3 : Int32).toNatClampNeg = 3 := by decide
    have z4 : (4 : Int32).toNatClampNeg = 4 := by decide
    have z5 : (5 : Int32).toNatClampNeg = 5 := by decide
    have z6 : (6 : Int32).toNatClampNeg = 6 := by decide
    have z7 : (7 : Int32).toNatClampNeg = 7 := by decide
    have z80 : (80 : Int32).toNatClampNeg = 80 := by decide
    have v0 : vp_in 0 8 := vp_in_nI (n := 0) (by decide) (by decide)
    have v1 : vp_in 1 8 := vp_in_nI (n := 1) (by decide) (by decide)
    have v2 : vp_in 2 8 := vp_in_nI (n := 2) (by decide) (by decide)
    have v3 : vp_in 3 8 := vp_in_nI (n := 3) (by decide) (by decide)
    have v4 : vp_in 4 8 := vp_in_nI (n := 4) (by decide) (by decide)
    have v5 : vp_in 5 8 := vp_in_nI (n := 5) (by decide) (by decide)
    have v6 : vp_in 6 8 := vp_in_nI (n := 6) (by decide) (by decide)
    have v7 : vp_in 7 8 := vp_in_nI (n := 7) (by decide) (by decide)
    have v80 : vp_in 80 83 := vp_in_nI (n := 80) (by decide) (by decide)
    have n8 : ¬ (8 : Int32) = 0 := by decide
    have hgB : g < am_B := by rcases h2 with q | q <;> subst q <;> decide
    have hgne : ¬ g = 61 ∧ ¬ g = 54 := by omega
    simp only [gX3_oddOf_0, gX3_oddOf_0n, gX3_oddOf_1, gX3_oddOf_3, gX3_oddOf_4, gX3_oddOf_5, gX3_oddOf_6, gX3_oddOf_7, gX3_oddOf_8, gX3_oddOf_11, gX3_oddOf_13, gX3_oddOf_14, gX3_oddOf_14n, gX3_oddOf_15, gX3_oddOf_17, gX3_oddOf_18, gX3_oddOf_19, gX3_oddOf_20, gX3_oddOf_23, gX3_oddOf_25, gX3_oddOf_26, gX3_oddOf_29, am_kill_int, am_kill_ref, am_kill_null, am_kill_F, am_kill_long, am_cat_n, am_cat_i, am_cat_r, am_cat_0, am_cat_l, am_nr_n, am_nr_i, am_nr_r, am_nr_0, am_nr_l, Option.toList_some, Option.toList_none, List.nil_append, List.cons_append, va_rf_s, va_rf_n, am_II, am_I_sR, am_I_sL, am_R_sI, am_RR, am_R_sL, am_L_sI, am_L_sR, am_LL, am_k_sI, am_k_sR, am_k_sL, am_n_sI, am_n_sR, am_n_sL, true_and, and_true, true_or, or_true, or_false, false_or, not_true_eq_false, not_false_eq_true, Nat.reduceLT, am_dS, am_dP, am_d1, Nat.reduceSub, Nat.reduceMul, ne_eq, Nat.reduceBEq, Nat.reduceAdd, Nat.reduceLeDiff, Nat.reduceEqDiff, and_self, and_false, false_and, if_true, if_false, am_nb, am_nb0, am_nb1, am_lc1, am_lc2, am_lc3, am_b0, am_b1, am_10, am_c8, am_c16, am_c24, am_c32, am_c40, am_c48, am_c56, am_c64, am_c72, Nat.add_zero, Bool.false_eq_true, Nat.zero_le, hmu, hk, hv, hcl, hv0, hcj, h16]
    simp only [gX3_oddOf_44, gX3_oddOf_45, gX3_oddOf_48, gX3_oddOf_49, gX3_oddOf_51, gX3_oddOf_52, gX3_oddOf_53, gX3_oddOf_56, gX3_oddOf_57, gX3_oddOf_59, gX3_oddOf_60, gX3_oddOf_61, gX3_oddOf_64, gX3_oddOf_65, gX3_oddOf_65n, gX3_oddOf_66, gX3_oddOf_67, gX3_oddOf_68, gX3_oddOf_69, gX3_oddOf_70, gX3_oddOf_73, gX3_oddOf_74, gX3_oddOf_76, gX3_oddOf_77, gX3_oddOf_78, gX3_oddOf_81, gX3_oddOf_82, gX3_oddOf_82n, gX3_oddOf_83, gX3_oddOf_85, gX3_oddOf_86, gX3_oddOf_87, gX3_oddOf_88, gX3_oddOf_89, am_kill_int, am_kill_ref, am_kill_null, am_kill_F, am_kill_long, am_cat_n, am_cat_i, am_cat_r, am_cat_0, am_cat_l, am_nr_n, am_nr_i, am_nr_r, am_nr_0, am_nr_l, Option.toList_some, Option.toList_none, List.nil_append, List.cons_append, va_rf_s, va_rf_n, am_I_sR, am_I_sL, am_R_sI, am_R_sL, am_L_sI, am_L_sR, am_k_sI, am_k_sR, am_k_sL, am_n_sI, am_n_sR, am_n_sL, true_and, and_true, true_or, or_true, or_false, false_or, not_true_eq_false, not_false_eq_true, Nat.reduceLT, am_dS, am_dP, am_d1, Nat.reduceSub, Nat.reduceMul, ne_eq, Nat.reduceBEq, Nat.reduceAdd, Nat.reduceLeDiff, Nat.reduceEqDiff, and_self, and_false, false_and, if_true, if_false, am_nb, am_nb0, am_nb1, am_lc1, am_lc2, am_lc3, am_b0, am_b1, am_10, am_c8, am_c16, am_c24, am_c32, am_c40, am_c48, am_c56, am_c64, am_c72, Nat.add_zero, Bool.false_eq_true, Nat.zero_le, hmu, hk, hr.1.2, hv, hcl, hv0, hcj, z0, z1, z2, z3, z4, v0, v1, v2, v3, v4, am_row_o hh]
    simp only [gX3_oddOf_90, gX3_oddOf_93, gX3_oddOf_94, gX3_oddOf_96, gX3_oddOf_97, gX3_oddOf_98, gX3_oddOf_101, gX3_oddOf_103, gX3_oddOf_105, gX3_oddOf_106, gX3_oddOf_107, gX3_oddOf_110, gX3_oddOf_112, gX3_oddOf_112n, gX3_oddOf_113, gX3_oddOf_115, gX3_oddOf_116, gX3_oddOf_118, gX3_oddOf_119, gX3_oddOf_120, gX3_oddOf_121, gX3_oddOf_122, gX3_oddOf_125, gX3_oddOf_126, gX3_oddOf_129, am_kill_int, am_kill_ref, am_kill_null, am_kill_F, am_kill_long, am_cat_n, am_cat_i, am_cat_r, am_cat_0, am_cat_l, am_nr_n, am_nr_i, am_nr_r, am_nr_0, am_nr_l, Option.toList_some, Option.toList_none, List.nil_append, List.cons_append, va_rf_s, va_rf_n, am_I_sR, am_I_sL, am_R_sI, am_R_sL, am_L_sI, am_L_sR, am_k_sI, am_k_sR, am_k_sL, am_n_sI, am_n_sR, am_n_sL, true_and, and_true, true_or, or_true, or_false, false_or, not_true_eq_false, not_false_eq_true, Nat.reduceLT, am_dS, am_dP, am_d1, Nat.reduceSub, Nat.reduceMul, ne_eq, Nat.reduceBEq, Nat.reduceAdd, Nat.reduceLeDiff, Nat.reduceEqDiff, and_self, and_false, false_and, if_true, if_false, am_nb, am_nb0, am_nb1, am_lc1, am_lc2, am_lc3, am_b0, am_b1, am_10, am_c8, am_c16, am_c24, am_c32, am_c40, am_c48, am_c56, am_c64, am_c72, Nat.add_zero, Bool.false_eq_true, Nat.zero_le, hmu, hk, hr.1.2, hv, hcl, hv0, hcj, z5, z6, z7, v5, v6, v7, z80, v80, n8, am_row_o hh, am_II, h1, h6]
    generalize hμ1 : am_sI (am_sI (am_sI (am_sI (am_sI (am_sI (am_sI (am_sI μ 61 0 _) 61 1 _) 61 2 _) 61 3 _) 61 4 _) 61 5 _) 61 6 _) 61 7 _ = μ1
    have k1 : am_k μ1 = am_k μ := by rw [← hμ1]; rfl
    have R1 : am_R μ1 = am_R μ := by rw [← hμ1]; rfl
    have o1 : ∀ a, a ≠ 61 → am_I μ1 a = am_I μ a := fun a q => by rw [← hμ1, am_row_o q, am_row_o q, am_row_o q, am_row_o q, am_row_o q, am_row_o q, am_row_o q, am_row_o q]
    have F1 : Fr jM μ μ1 := by
      rw [← hμ1]
      exact (((((((Fr.refl.I (Or.inl rfl)).I (Or.inl rfl)).I (Or.inl rfl)).I (Or.inl rfl)).I (Or.inl rfl)).I (Or.inl rfl)).I (Or.inl rfl)).I (Or.inl rfl)
    have E1 : ∀ i, i < 8 → am_I μ1 61 i = envA (am_I μ h) j co ag ow mn i := fun i hi => by
      rw [← hμ1]
      rcases (by omega : i = 0 ∨ i = 1 ∨ i = 2 ∨ i = 3 ∨ i = 4 ∨ i = 5 ∨ i = 6 ∨ i = 7) with q | q | q | q | q | q | q | q <;> subst q <;> simp (decide := true) only [am_II, if_true, if_false, true_and, and_false, envA, abI, maI]
    clear hμ1
    have hk1 : am_k μ1 54 = (2, 0) := by rw [k1]; exact hmu.1.1
    have e40 : (40 : Int32) = nI 40 := rfl
    have hT : TM g 40 0 n 40 (-1) (bgM g (nI n) (nI 40) μ1) := bgM_TM (by rw [k1, R1]; exact hm) (by rw [k1]; exact h3) (by omega) (by decide) (by decide) (Or.inl h5) (fun i hi => by rw [o1 g hgne.1]; exact h7 i hi)
    have hT2 : TM g 40 0 n 40 (-1) (am_sI (bgM g (nI n) (nI 40) μ1) 54 17 1) := hT.ask
    have hRg : am_I (am_sI (bgM g (nI n) (nI 40) μ1) 54 17 1) g = am_I μ g := by
      unfold bgM
      rw [am_row_o hgne.2, am_row_o hgne.2, am_row_o hgne.2, am_row_o hgne.2, am_row_o hgne.2, am_I_sR, o1 g hgne.1]
    have hE : f (envM (am_sI (bgM g (nI n) (nI 40) μ1) 54 17 1)) = f (envA (am_I μ h) j co ag ow mn) := by
      refine hru _ _ fun i hi => ?_
      have n10 : ¬ (1 : Int32) = 0 := by decide
      have e17 : am_I (am_sI (bgM g (nI n) (nI 40) μ1) 54 17 1) 54 17 = 1 := by rw [am_I_sI, if_pos ⟨rfl, rfl⟩]
      unfold envM
      rw [e17, if_neg n10]
      unfold bgM
      rw [am_row_o (by decide), am_row_o (by decide), am_row_o (by decide), am_row_o (by decide), am_row_o (by decide), am_I_sR, E1 i hi]
    have hkb : am_k (bgM g (nI n) (nI 40) μ1) = am_k μ := by show am_k μ1 = _; exact k1
    have fb1 : fits .boolean (.int 1) = true := by decide
    have fb0 : fits .boolean (.int 0) = true := by decide
    simp only [gX3_oddOf_131, gX3_oddOf_134, gX3_oddOf_135, gX3_oddOf_136, gX3_oddOf_139, gX3_oddOf_140, gX3_oddOf_141, am_kill_int, am_kill_ref, am_kill_null, am_kill_F, am_kill_long, am_cat_n, am_cat_i, am_cat_r, am_cat_0, am_cat_l, am_nr_n, am_nr_i, am_nr_r, am_nr_0, am_nr_l, Option.toList_some, Option.toList_none, List.nil_append, List.cons_append, va_rf_s, va_rf_n, am_I_sR, am_I_sL, am_R_sI, am_R_sL, am_L_sI, am_L_sR, am_k_sI, am_k_sR, am_k_sL, am_n_sI, am_n_sR, am_n_sL, true_and, and_true, true_or, or_true, or_false, false_or, not_true_eq_false, not_false_eq_true, Nat.reduceLT, am_dS, am_dP, am_d1, Nat.reduceSub, Nat.reduceMul, ne_eq, Nat.reduceBEq, Nat.reduceAdd, Nat.reduceLeDiff, Nat.reduceEqDiff, and_self, and_false, false_and, if_true, if_false, am_nb, am_nb0, am_nb1, am_lc1, am_lc2, am_lc3, am_b0, am_b1, am_10, am_c8, am_c16, am_c24, am_c32, am_c40, am_c48, am_c56, am_c64, am_c72, Nat.add_zero, Bool.false_eq_true, Nat.zero_le, hk1, k1, hmu, wX3_begin hk1 hgB, e40, hkb, fb1]
    refine wX3_held (d := d + 1) (by decide) hRg hT2 ?_
    rw [h8', okM_inr, hE]
    simp only [gX3_oddOf_144, gX3_oddOf_146, gX3_oddOf_147, gX3_oddOf_148, gX3_oddOf_151, gX3_oddOf_153, am_kill_int, am_kill_ref, am_kill_null, am_kill_F, am_kill_long, am_cat_n, am_cat_i, am_cat_r, am_cat_0, am_cat_l, am_nr_n, am_nr_i, am_nr_r, am_nr_0, am_nr_l, Option.toList_some, Option.toList_none, List.nil_append, List.cons_append, va_rf_s, va_rf_n, am_I_sR, am_I_sL, am_R_sI, am_R_sL, am_L_sI, am_L_sR, am_k_sI, am_k_sR, am_k_sL, am_n_sI, am_n_sR, am_n_sL, true_and, and_true, true_or, or_true, or_false, false_or, not_true_eq_false, not_false_eq_true, Nat.reduceLT, am_dS, am_dP, am_d1, Nat.reduceSub, Nat.reduceMul, ne_eq, Nat.reduceBEq, Nat.reduceAdd, Nat.reduceLeDiff, Nat.reduceEqDiff, and_self, and_false, false_and, if_true, if_false, am_nb, am_nb0, am_nb1, am_lc1, am_lc2, am_lc3, am_b0, am_b1, am_10, am_c8, am_c16, am_c24, am_c32, am_c40, am_c48, am_c56, am_c64, am_c72, Nat.add_zero, Bool.false_eq_true, Nat.zero_le, hkb, hmu, fb0]
    refine hK _ ?_ ?_
    · have o9 : jM 54 9 := Or.inr ⟨rfl, Or.inl rfl⟩
      have o10 : jM 54 10 := Or.inr ⟨rfl, Or.inr (Or.inl rfl)⟩
      have o11 : jM 54 11 := Or.inr ⟨rfl, Or.inr (Or.inr (Or.inl rfl))⟩
      have o12 : jM 54 12 := Or.inr ⟨rfl, Or.inr (Or.inr (Or.inr (Or.inl rfl)))⟩
      have o17 : jM 54 17 := Or.inr ⟨rfl, Or.inr (Or.inr (Or.inr (Or.inr rfl)))⟩
      exact (((((((F1.R').I o9).I o10).I o11).I o12).I o17).I o11).I o17
    · rw [am_I_sI, if_pos ⟨rfl, rfl⟩]
end MOV
