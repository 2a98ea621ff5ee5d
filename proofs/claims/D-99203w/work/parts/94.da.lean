/-! calls that put: days -/
set_option maxRecDepth 100000
section DAV
variable {d : Nat} {μ ν ξ μ1 ν1 : am_M} {K : Option Value → am_M → Prop} {x y z c w : Int32} {h h' N C i j k r n M m b q q' t u s f : Nat} {v : Int32} {ru : Option PF} {F G : Nat → Nat → Prop} {S S' T a a' : Nat → Int32} {p : Int64}
theorem fl_cn {p : Nat → Bool} (hx : x = nI f) : ∀ n, ∃ k, k ≤ n ∧ cnI p n x = nI (f + k)
  | 0 => ⟨0, Nat.le_refl _, hx⟩
  | n + 1 => by
    obtain ⟨k, h1, h2⟩ := fl_cn (p := p) hx n
    unfold cnI
    split
    · exact ⟨k + 1, by omega, by rw [h2, nI_1]; rfl⟩
    · exact ⟨k, by omega, h2⟩
theorem fl_day (h8 : N ≤ 8) (h : S 81 = nI f) : ∃ k, k ≤ 8 ∧ dayC N ru S 81 = nI (f + k) := by
  rw [dayC_81 h8]
  obtain ⟨k, h1, h2⟩ := fl_cn (p := fun j => gF 2 S j && !decide (miI 99 (S (72 + j) + S (8 + j)) < 30)) h N
  exact ⟨k, by omega, h2⟩
theorem fl_days (h8 : N ≤ 8) (h : S 81 = nI f) : ∀ n, ∃ k, k ≤ 8 * n ∧ itS (dayC N ru) n S 81 = nI (f + k)
  | 0 => ⟨0, Nat.le_refl _, h⟩
  | n + 1 => by
    obtain ⟨k, h1, h2⟩ := fl_days h8 h n
    obtain ⟨k', h3, h4⟩ := fl_day (ru := ru) h8 h2
    exact ⟨k + k', by omega, by rw [← Nat.add_assoc]; exact h4⟩
theorem wX3_goDaysG (hS : MS N ru c μ) (hk : am_k μ h = (10, 83)) (hM : M ≤ 1000) (hK : ∀ ν, Fr (jH h) μ ν → MS N ru c ν → am_I ν h = itS (dayM N ru) M (am_I μ h) → K none ν) :
    am_Wp (d + 73) mX3_goDays 0 [.ref 54, .ref h, .int (nI M), am_F] [] μ K := by
  obtain ⟨n1, n2, n3, n4⟩ := hS.1.ne hk
  have hmv : ∀ ν, Fr (jH h) μ ν → am_I ν 54 17 = 0 → MS N ru c ν := fun ν hF h17 => hS.fr hF (fun a b z => by unfold jH jM at z; omega) h17
  simp only [gX3_goDays_0, gX3_goDays_1, am_kill_int, am_kill_ref, am_kill_null, am_kill_F, am_kill_long, am_cat_n, am_cat_i, am_cat_r, am_cat_0, am_cat_l, am_nr_n, am_nr_i, am_nr_r, am_nr_0, am_nr_l, Option.toList_some, Option.toList_none, List.nil_append, List.cons_append, va_rf_s, va_rf_n, am_I_sR, am_I_sL, am_R_sI, am_R_sL, am_L_sI, am_L_sR, am_k_sI, am_k_sR, am_k_sL, am_n_sI, am_n_sR, am_n_sL, true_and, and_true, true_or, or_true, or_false, false_or, not_true_eq_false, not_false_eq_true, Nat.reduceLT, am_dS, am_dP, am_d1, Nat.reduceSub, Nat.reduceMul, ne_eq, Nat.reduceBEq, Nat.reduceAdd, Nat.reduceLeDiff, Nat.reduceEqDiff, and_self, and_false, false_and, if_true, if_false, am_nb, am_nb0, am_nb1, am_lc1, am_lc2, am_lc3, am_b0, am_b1, am_10, am_c8, am_c16, am_c24, am_c32, am_c40, am_c48, am_c56, am_c64, am_c72, Nat.add_zero, Bool.false_eq_true, Nat.zero_le]
  refine am_for (N := M) (fun j ls ν => ls = [.ref 54, .ref h, .int (nI M), .int (nI j)] ∧ Fr (jH h) μ ν ∧ am_I ν 54 17 = 0 ∧ am_I ν h = itS (dayM N ru) j (am_I μ h)) ?_ ?_ M 0 _ _ (by omega) ⟨rfl, Fr.refl, hS.2.1.1.1, rfl⟩
  · rintro j ls ν hj ⟨rfl, hF, h17, hT⟩ ih
    have hS1 := hmv ν hF h17
    have hlt : ¬ nI M ≤ nI j := nI_ge hj (by omega)
    have hm := hS1.1.1.1.1
    rw [gX3_goDays_2]
    simp only [gX3_goDays_3, gX3_goDays_4, gX3_goDays_7, gX3_goDays_8, gX3_goDays_8n, gX3_goDays_9, am_kill_int, am_kill_ref, am_kill_null, am_kill_F, am_kill_long, am_cat_n, am_cat_i, am_cat_r, am_cat_0, am_cat_l, am_nr_n, am_nr_i, am_nr_r, am_nr_0, am_nr_l, Option.toList_some, Option.toList_none, List.nil_append, List.cons_append, va_rf_s, va_rf_n, am_I_sR, am_I_sL, am_R_sI, am_R_sL, am_L_sI, am_L_sR, am_k_sI, am_k_sR, am_k_sL, am_n_sI, am_n_sR, am_n_sL, true_and, and_true, true_or, or_true, or_false, false_or, not_true_eq_false, not_false_eq_true, Nat.reduceLT, am_dS, am_dP, am_d1, Nat.reduceSub, Nat.reduceMul, ne_eq, Nat.reduceBEq, Nat.reduceAdd, Nat.reduceLeDiff, Nat.reduceEqDiff, and_self, and_false, false_and, if_true, if_false, am_nb, am_nb0, am_nb1, am_lc1, am_lc2, am_lc3, am_b0, am_b1, am_10, am_c8, am_c16, am_c24, am_c32, am_c40, am_c48, am_c56, am_c64, am_c72, Nat.add_zero, Bool.false_eq_true, Nat.zero_le, hm, hlt]
    refine wX3_goDay (d := d) hS1 (by rw [hF.2.2.2.1]; exact hk) (fun ξ hF2 h172 hT2 => ?_)
    simp only [gX3_goDays_12, gX3_goDays_15, am_kill_int, am_kill_ref, am_kill_null, am_kill_F, am_kill_long, am_cat_n, am_cat_i, am_cat_r, am_cat_0, am_cat_l, am_nr_n, am_nr_i, am_nr_r, am_nr_0, am_nr_l, Option.toList_some, Option.toList_none, List.nil_append, List.cons_append, va_rf_s, va_rf_n, am_I_sR, am_I_sL, am_R_sI, am_R_sL, am_L_sI, am_L_sR, am_k_sI, am_k_sR, am_k_sL, am_n_sI, am_n_sR, am_n_sL, true_and, and_true, true_or, or_true, or_false, false_or, not_true_eq_false, not_false_eq_true, Nat.reduceLT, am_dS, am_dP, am_d1, Nat.reduceSub, Nat.reduceMul, ne_eq, Nat.reduceBEq, Nat.reduceAdd, Nat.reduceLeDiff, Nat.reduceEqDiff, and_self, and_false, false_and, if_true, if_false, am_nb, am_nb0, am_nb1, am_lc1, am_lc2, am_lc3, am_b0, am_b1, am_10, am_c8, am_c16, am_c24, am_c32, am_c40, am_c48, am_c56, am_c64, am_c72, Nat.add_zero, Bool.false_eq_true, Nat.zero_le, nI_1]
    exact ih _ _ ⟨rfl, hF.trans hF2, h172, by rw [hT2, hT]; rfl⟩
  · rintro ls ν ⟨rfl, hF, h17, hT⟩
    rw [gX3_goDays_2]
    simp only [gX3_goDays_3, gX3_goDays_4, gX3_goDays_7, gX3_goDays_8, gX3_goDays_8n, gX3_goDays_9, gX3_goDays_12, gX3_goDays_15, gX3_goDays_18, am_kill_int, am_kill_ref, am_kill_null, am_kill_F, am_kill_long, am_cat_n, am_cat_i, am_cat_r, am_cat_0, am_cat_l, am_nr_n, am_nr_i, am_nr_r, am_nr_0, am_nr_l, Option.toList_some, Option.toList_none, List.nil_append, List.cons_append, va_rf_s, va_rf_n, am_I_sR, am_I_sL, am_R_sI, am_R_sL, am_L_sI, am_L_sR, am_k_sI, am_k_sR, am_k_sL, am_n_sI, am_n_sR, am_n_sL, true_and, and_true, true_or, or_true, or_false, false_or, not_true_eq_false, not_false_eq_true, Nat.reduceLT, am_dS, am_dP, am_d1, Nat.reduceSub, Nat.reduceMul, ne_eq, Nat.reduceBEq, Nat.reduceAdd, Nat.reduceLeDiff, Nat.reduceEqDiff, and_self, and_false, false_and, if_true, if_false, am_nb, am_nb0, am_nb1, am_lc1, am_lc2, am_lc3, am_b0, am_b1, am_10, am_c8, am_c16, am_c24, am_c32, am_c40, am_c48, am_c56, am_c64, am_c72, Nat.add_zero, Bool.false_eq_true, Nat.zero_le, Int32.le_refl]
    exact hK ν hF (hmv ν hF h17) hT
/-- what the component's days write -/
def fD (a b : Nat) : Prop := jS 1 a b ∨ (a = 0 ∧ b = 40)
/-- the component's days from pc 26 on, at a spring S -/
theorem daysC (hC : CC N ru c μ) (hm : m ≤ 1000) (z1 z2 : Value) (hK : ∀ ν, Fw fD μ ν → cS ν 1 = itS (dayC N ru) m (cS μ 1) → am_I ν 0 40 = 2 → am_L ν 53 0 = (itS (dayC N ru) m (cS μ 1) 82 - cS μ 1 82).toInt64 → am_L ν 53 1 = (orB (gF 1 (itS (dayC N ru) m (cS μ 1))) N).toInt64 → (∀ i, am_L ν 57 i = am_L μ 57 i) → K (some (.int (itS (dayC N ru) m (cS μ 1) 81 - cS μ 1 81))) ν) :
    am_Wp (d + 200) mX1_days 26 [.ref 0, .int (nI m), z1, z2] [] μ K := by
  have hcu := hC.1
  simp only [cL, spL, Nat.reduceAdd] at hcu
  have hN := hC.2.1
  have h8 := hC.2.2.1
  have q1 : am_I μ 1 11 = cS μ 1 81 := rfl
  have q2 : am_I μ 1 12 = cS μ 1 82 := rfl
  have kz : am_kill z1 = am_kill z1 := rfl
  simp only [gX1_days_26, gX1_days_27, gX1_days_30, gX1_days_33, gX1_days_34, gX1_days_35, gX1_days_38, gX1_days_41, gX1_days_42, gX1_days_43, gX1_days_44, gX1_days_47, gX1_days_48, am_kill_int, am_kill_ref, am_kill_null, am_kill_F, am_kill_long, am_cat_n, am_cat_i, am_cat_r, am_cat_0, am_cat_l, am_nr_n, am_nr_i, am_nr_r, am_nr_0, am_nr_l, Option.toList_some, Option.toList_none, List.nil_append, List.cons_append, va_rf_s, va_rf_n, am_II, am_I_sR, am_I_sL, am_R_sI, am_RR, am_R_sL, am_L_sI, am_L_sR, am_LL, am_k_sI, am_k_sR, am_k_sL, am_n_sI, am_n_sR, am_n_sL, true_and, and_true, true_or, or_true, or_false, false_or, not_true_eq_false, not_false_eq_true, Nat.reduceLT, am_dS, am_dP, am_d1, Nat.reduceSub, Nat.reduceMul, ne_eq, Nat.reduceBEq, Nat.reduceAdd, Nat.reduceLeDiff, Nat.reduceEqDiff, and_self, and_false, false_and, if_true, if_false, am_nb, am_nb0, am_nb1, am_lc1, am_lc2, am_lc3, am_b0, am_b1, am_10, am_c8, am_c16, am_c24, am_c32, am_c40, am_c48, am_c56, am_c64, am_c72, Nat.add_zero, Bool.false_eq_true, Nat.zero_le, hcu, q1, q2]
  refine wX1_daysGo (d := d + 130) hC hC.1.s1 (by decide) (by decide) (M := m) hm (fun ξ hF2 hT2 => ?_)
  have hC2 := hC.js (by decide) (by decide) hF2
  have hcu2 := hC2.1
  simp only [cL, spL, Nat.reduceAdd] at hcu2
  have g1 : am_I ξ 1 12 = itS (dayC N ru) m (cS μ 1) 82 := by rw [← hT2]; rfl
  have g3 : am_I ξ 1 11 = itS (dayC N ru) m (cS μ 1) 81 := by rw [← hT2]; rfl
  have gg := wX1_guests (d := d + 199) (μ := am_sI (am_sL (am_sI ξ 0 40 0) 53 0 (itS (dayC N ru) m (cS μ 1) 82 - cS μ 1 82).toInt64) 0 40 1) (N := N) (h := 1) (fr := 1) (K := fun r1 μ1 => am_nr r1 ∧ am_Wp (d + 200) mX1_days 80 [.ref 0, .int (nI m), .int (cS μ 1 81), .int (cS μ 1 82)] (r1.toList ++ [.ref 0]) μ1 K) (by rw [am_I_sI, if_neg (by omega), am_I_sL, am_I_sI, if_neg (by omega)]; exact hC2.2.1) h8 hC2.1.c hC2.1.s1
  rw [cS_o (by omega), cS_sL, cS_o (by omega), hT2] at gg
  simp only [gX1_days_51, gX1_days_52, gX1_days_53, gX1_days_56, gX1_days_57, gX1_days_58, gX1_days_61, gX1_days_64, gX1_days_65, gX1_days_66, gX1_days_67, gX1_days_70, gX1_days_71, gX1_days_72, gX1_days_73, gX1_days_76, gX1_days_77, am_kill_int, am_kill_ref, am_kill_null, am_kill_F, am_kill_long, am_cat_n, am_cat_i, am_cat_r, am_cat_0, am_cat_l, am_nr_n, am_nr_i, am_nr_r, am_nr_0, am_nr_l, Option.toList_some, Option.toList_none, List.nil_append, List.cons_append, va_rf_s, va_rf_n, am_II, am_I_sR, am_I_sL, am_R_sI, am_RR, am_R_sL, am_L_sI, am_L_sR, am_LL, am_k_sI, am_k_sR, am_k_sL, am_n_sI, am_n_sR, am_n_sL, true_and, and_true, true_or, or_true, or_false, false_or, not_true_eq_false, not_false_eq_true, Nat.reduceLT, am_dS, am_dP, am_d1, Nat.reduceSub, Nat.reduceMul, ne_eq, Nat.reduceBEq, Nat.reduceAdd, Nat.reduceLeDiff, Nat.reduceEqDiff, and_self, and_false, false_and, if_true, if_false, am_nb, am_nb0, am_nb1, am_lc1, am_lc2, am_lc3, am_b0, am_b1, am_10, am_c8, am_c16, am_c24, am_c32, am_c40, am_c48, am_c56, am_c64, am_c72, Nat.add_zero, Bool.false_eq_true, Nat.zero_le, hcu2, g1, wX1_tells0]
  rw [gg]
  simp only [gX1_days_80, gX1_days_81, gX1_days_84, gX1_days_85, gX1_days_88, gX1_days_91, gX1_days_92, gX1_days_93, am_kill_int, am_kill_ref, am_kill_null, am_kill_F, am_kill_long, am_cat_n, am_cat_i, am_cat_r, am_cat_0, am_cat_l, am_nr_n, am_nr_i, am_nr_r, am_nr_0, am_nr_l, Option.toList_some, Option.toList_none, List.nil_append, List.cons_append, va_rf_s, va_rf_n, am_II, am_I_sR, am_I_sL, am_R_sI, am_RR, am_R_sL, am_L_sI, am_L_sR, am_LL, am_k_sI, am_k_sR, am_k_sL, am_n_sI, am_n_sR, am_n_sL, true_and, and_true, true_or, or_true, or_false, false_or, not_true_eq_false, not_false_eq_true, Nat.reduceLT, am_dS, am_dP, am_d1, Nat.reduceSub, Nat.reduceMul, ne_eq, Nat.reduceBEq, Nat.reduceAdd, Nat.reduceLeDiff, Nat.reduceEqDiff, and_self, and_false, false_and, if_true, if_false, am_nb, am_nb0, am_nb1, am_lc1, am_lc2, am_lc3, am_b0, am_b1, am_10, am_c8, am_c16, am_c24, am_c32, am_c40, am_c48, am_c56, am_c64, am_c72, Nat.add_zero, Bool.false_eq_true, Nat.zero_le, hcu2, g3, wX1_tells1]
  have g : Fw fD μ ξ := hF2.toW.le fun a b z => Or.inl z
  refine hK _ (((((g.I (Or.inr ⟨rfl, rfl⟩)).L (Or.inl rfl)).I (Or.inr ⟨rfl, rfl⟩)).L (Or.inl rfl)).I (Or.inr ⟨rfl, rfl⟩)) ?_ ?_ ?_ ?_ (fun i => ?_)
  · rw [cS_o (by omega), cS_sL, cS_o (by omega), cS_sL, cS_o (by omega)]; exact hT2
  · simp only [am_II, and_self, if_true]
  · simp only [am_L_sI, am_LL, and_self, if_true, Nat.reduceEqDiff, and_false, if_false]
  · simp only [am_L_sI, am_LL, and_self, if_true]
  · simp only [am_L_sI, am_LL, Nat.reduceEqDiff, false_and, if_false]; exact hF2.L
/-- what the model's days write -/
def fE (a b : Nat) : Prop := jH 55 a b ∨ (a = 54 ∧ b = 6)
theorem daysM (hS : MS N ru c μ) (hm : m ≤ 1000) (z1 z2 : Value) (hK : ∀ ν, Fw fE μ ν → am_I ν 54 17 = 0 → am_I ν 55 = itS (dayM N ru) m (am_I μ 55) → am_I ν 54 6 = 2 → am_L ν 57 0 = (itS (dayM N ru) m (am_I μ 55) 82 - am_I μ 55 82).toInt64 → am_L ν 57 1 = (orB (gM (itS (dayM N ru) m (am_I μ 55))) N).toInt64 → (∀ i, am_L ν 53 i = am_L μ 53 i) → K (some (.int (itS (dayM N ru) m (am_I μ 55) 81 - am_I μ 55 81))) ν) :
    am_Wp (d + 200) mX3_days 29 [.ref 54, .int (nI m), z1, z2] [] μ K := by
  have hmu := hS.1.1
  unfold mL at hmu
  have z82 : (82 : Int32).toNatClampNeg = 82 := by decide
  have z81 : (81 : Int32).toNatClampNeg = 81 := by decide
  have v82 : vp_in 82 83 := vp_in_nI (n := 82) (by decide) (by decide)
  have v81 : vp_in 81 83 := vp_in_nI (n := 81) (by decide) (by decide)
  simp only [gX3_days_29, gX3_days_30, gX3_days_33, gX3_days_35, gX3_days_36, gX3_days_37, gX3_days_38, gX3_days_41, gX3_days_43, gX3_days_44, gX3_days_45, gX3_days_46, gX3_days_47, gX3_days_50, gX3_days_51, am_kill_int, am_kill_ref, am_kill_null, am_kill_F, am_kill_long, am_cat_n, am_cat_i, am_cat_r, am_cat_0, am_cat_l, am_nr_n, am_nr_i, am_nr_r, am_nr_0, am_nr_l, Option.toList_some, Option.toList_none, List.nil_append, List.cons_append, va_rf_s, va_rf_n, am_I_sR, am_I_sL, am_R_sI, am_R_sL, am_L_sI, am_L_sR, am_k_sI, am_k_sR, am_k_sL, am_n_sI, am_n_sR, am_n_sL, true_and, and_true, true_or, or_true, or_false, false_or, not_true_eq_false, not_false_eq_true, Nat.reduceLT, am_dS, am_dP, am_d1, Nat.reduceSub, Nat.reduceMul, ne_eq, Nat.reduceBEq, Nat.reduceAdd, Nat.reduceLeDiff, Nat.reduceEqDiff, and_self, and_false, false_and, if_true, if_false, am_nb, am_nb0, am_nb1, am_lc1, am_lc2, am_lc3, am_b0, am_b1, am_10, am_c8, am_c16, am_c24, am_c32, am_c40, am_c48, am_c56, am_c64, am_c72, Nat.add_zero, Bool.false_eq_true, Nat.zero_le, hmu, z82, z81, v82, v81]
  refine wX3_goDaysG (d := d + 126) hS hmu.1.2.1 (M := m) hm (fun ξ hF2 hS2 hT2 => ?_)
  have hmξ := hS2.1.1
  unfold mL at hmξ
  have h17 : am_I ξ 54 17 = 0 := hS2.2.1.1.1
  have g1 : am_I ξ 55 82 = itS (dayM N ru) m (am_I μ 55) 82 := by rw [hT2]
  have g3 : am_I ξ 55 81 = itS (dayM N ru) m (am_I μ 55) 81 := by rw [hT2]
  have hF4 : Fw sM ξ (am_sI (am_sL (am_sI ξ 54 6 0) 57 0 (itS (dayM N ru) m (am_I μ 55) 82 - am_I μ 55 82).toInt64) 54 6 1) := ((Fw.refl.I (by unfold sM; omega)).L (Or.inr rfl)).I (by unfold sM; omega)
  have hS3 := hS2.sMm hF4 (by rw [am_I_sI, if_neg (by omega), am_I_sL, am_I_sI, if_neg (by omega)]; exact h17)
  have gg := wX3_guests (d := d + 199) (K := fun r1 μ1 => am_nr r1 ∧ am_Wp (d + 200) mX3_days 82 [.ref 54, .int (nI m), .int (am_I μ 55 81), .int (am_I μ 55 82)] (r1.toList ++ [.ref 54]) μ1 K) hS3.1 (h := 55) hmξ.1.2.1
  rw [am_row_o (by decide), am_I_sL, am_row_o (by decide), hT2] at gg
  simp only [gX3_days_54, gX3_days_55, gX3_days_56, gX3_days_59, gX3_days_60, gX3_days_61, gX3_days_64, gX3_days_66, gX3_days_67, gX3_days_68, gX3_days_69, gX3_days_70, gX3_days_73, gX3_days_74, gX3_days_75, gX3_days_76, gX3_days_79, am_kill_int, am_kill_ref, am_kill_null, am_kill_F, am_kill_long, am_cat_n, am_cat_i, am_cat_r, am_cat_0, am_cat_l, am_nr_n, am_nr_i, am_nr_r, am_nr_0, am_nr_l, Option.toList_some, Option.toList_none, List.nil_append, List.cons_append, va_rf_s, va_rf_n, am_II, am_I_sR, am_I_sL, am_R_sI, am_RR, am_R_sL, am_L_sI, am_L_sR, am_LL, am_k_sI, am_k_sR, am_k_sL, am_n_sI, am_n_sR, am_n_sL, true_and, and_true, true_or, or_true, or_false, false_or, not_true_eq_false, not_false_eq_true, Nat.reduceLT, am_dS, am_dP, am_d1, Nat.reduceSub, Nat.reduceMul, ne_eq, Nat.reduceBEq, Nat.reduceAdd, Nat.reduceLeDiff, Nat.reduceEqDiff, and_self, and_false, false_and, if_true, if_false, am_nb, am_nb0, am_nb1, am_lc1, am_lc2, am_lc3, am_b0, am_b1, am_10, am_c8, am_c16, am_c24, am_c32, am_c40, am_c48, am_c56, am_c64, am_c72, Nat.add_zero, Bool.false_eq_true, Nat.zero_le, hmξ, z82, v82, g1, wX3_tell0]
  rw [gg]
  simp only [gX3_days_82, gX3_days_83, gX3_days_86, gX3_days_87, gX3_days_90, gX3_days_92, gX3_days_93, gX3_days_94, gX3_days_95, am_kill_int, am_kill_ref, am_kill_null, am_kill_F, am_kill_long, am_cat_n, am_cat_i, am_cat_r, am_cat_0, am_cat_l, am_nr_n, am_nr_i, am_nr_r, am_nr_0, am_nr_l, Option.toList_some, Option.toList_none, List.nil_append, List.cons_append, va_rf_s, va_rf_n, am_II, am_I_sR, am_I_sL, am_R_sI, am_RR, am_R_sL, am_L_sI, am_L_sR, am_LL, am_k_sI, am_k_sR, am_k_sL, am_n_sI, am_n_sR, am_n_sL, true_and, and_true, true_or, or_true, or_false, false_or, not_true_eq_false, not_false_eq_true, Nat.reduceLT, am_dS, am_dP, am_d1, Nat.reduceSub, Nat.reduceMul, ne_eq, Nat.reduceBEq, Nat.reduceAdd, Nat.reduceLeDiff, Nat.reduceEqDiff, and_self, and_false, false_and, if_true, if_false, am_nb, am_nb0, am_nb1, am_lc1, am_lc2, am_lc3, am_b0, am_b1, am_10, am_c8, am_c16, am_c24, am_c32, am_c40, am_c48, am_c56, am_c64, am_c72, Nat.add_zero, Bool.false_eq_true, Nat.zero_le, hmξ, z81, v81, g3, wX3_tell1]
  have g : Fw fE μ ξ := hF2.toW.le fun a b z => Or.inl z
  refine hK _ (((((g.I (Or.inr ⟨rfl, rfl⟩)).L (Or.inr rfl)).I (Or.inr ⟨rfl, rfl⟩)).L (Or.inr rfl)).I (Or.inr ⟨rfl, rfl⟩)) ?_ ?_ ?_ ?_ ?_ (fun i => ?_)
  · simp only [am_II, am_I_sL, Nat.reduceEqDiff, and_false, if_false]; exact h17
  · rw [am_row_o (by decide), am_I_sL, am_row_o (by decide), am_I_sL, am_row_o (by decide)]; exact hT2
  · simp only [am_II, and_self, if_true]
  · simp only [am_L_sI, am_LL, and_self, if_true, Nat.reduceEqDiff, and_false, if_false]
  · simp only [am_L_sI, am_LL, and_self, if_true]
  · simp only [am_L_sI, am_LL, Nat.reduceEqDiff, false_and, if_false]; exact hF2.L
theorem nI_ps {m : Nat} (hm : 0 < m) (h : m < 100000) : ¬ nI m ≤ 0 := by
  rw [← nI_0]; exact nI_ge hm (by omega)
theorem op_days (hq : q ≤ 100) (hI : Inv q μ) : OP q mX1_days mX3_days [.ref 0, .int x, am_F, am_F] [.ref 54, .int x, am_F, am_F] μ := by
  intro d
  have hI' := hI
  obtain ⟨⟨N, C, ru, c, hP⟩, ⟨t, t1, t2, t3⟩, ⟨r, r1, r2, r3, r4⟩, b1, b2, b3, b4⟩ := hI
  have hC := hP.1.1
  have hcu := hC.1
  simp only [cL, spL, Nat.reduceAdd] at hcu
  have hS := hP.1.2.1
  have hmu := hS.1.1
  unfold mL at hmu
  have h8 := hC.2.2.1
  have hsim : Sim N (cS μ 1) (am_I μ 55) := hP.2.1
  obtain ⟨u, u12, u1, u2, u3⟩ : pU N μ := hP.2.2.2.2.2.2.1
  have u4 : ∀ k, k < u → ∃ h, slR μ k = some h := fun k hk => by
    obtain ⟨h, g, _⟩ := u3 k hk
    exact ⟨h, g⟩
  have e60L : (60 : Int64) = (nI 61 - 1).toInt64 := by decide
  have e60I : (60 : Int32) = nI 61 - 1 := by decide
  by_cases hx : isN x 61 = true
  · obtain ⟨m, hm, rfl⟩ := isN_of (by omega) hx
    have hdays := hsim.days hS.2.2 h8 m
    obtain ⟨f0, z1, z2⟩ := b4.1
    obtain ⟨k0, z3, z4⟩ := fl_days (ru := ru) h8 (show cS μ 1 81 = nI f0 from z2) m
    have hb : ∃ f, f ≤ 5000 * (q + 1) ∧ itS (dayC N ru) m (cS μ 1) 81 = nI f := ⟨_, by omega, z4⟩
    have gG : orB (gF 1 (itS (dayC N ru) m (cS μ 1))) N = orB (gM (itS (dayM N ru) m (am_I μ 55))) N := hdays.gFM
    have q1 := hdays.2.2.1
    have q2 := hdays.2.2.2
    have q3 := hsim.2.2.1
    have q4 := hsim.2.2.2
    by_cases h0 : 0 < m
    · have hp := nI_ps h0 (by omega)
      simp only [gX1_days_0, gX1_days_1, gX1_days_2, gX1_days_3, gX1_days_6, gX1_days_9, gX1_days_12, gX1_days_13, gX1_days_14, gX1_days_15, gX1_days_18, gX1_days_19, gX1_days_20, gX1_days_23, am_kill_int, am_kill_ref, am_kill_null, am_kill_F, am_kill_long, am_cat_n, am_cat_i, am_cat_r, am_cat_0, am_cat_l, am_nr_n, am_nr_i, am_nr_r, am_nr_0, am_nr_l, Option.toList_some, Option.toList_none, List.nil_append, List.cons_append, va_rf_s, va_rf_n, am_II, am_I_sR, am_I_sL, am_R_sI, am_RR, am_R_sL, am_L_sI, am_L_sR, am_LL, am_k_sI, am_k_sR, am_k_sL, am_n_sI, am_n_sR, am_n_sL, true_and, and_true, true_or, or_true, or_false, false_or, not_true_eq_false, not_false_eq_true, Nat.reduceLT, am_dS, am_dP, am_d1, Nat.reduceSub, Nat.reduceMul, ne_eq, Nat.reduceBEq, Nat.reduceAdd, Nat.reduceLeDiff, Nat.reduceEqDiff, and_self, and_false, false_and, if_true, if_false, am_nb, am_nb0, am_nb1, am_lc1, am_lc2, am_lc3, am_b0, am_b1, am_10, am_c8, am_c16, am_c24, am_c32, am_c40, am_c48, am_c56, am_c64, am_c72, Nat.add_zero, Bool.false_eq_true, Nat.zero_le, hcu, wX1_in, am_l0, e60L, am_leL, am_isb, hx, hp]
      refine wX1_putA (d := d + 197) hI' hq hP u12 u1 u4 (Or.inl rfl) Fr.refl rfl rfl fun ν hν => ?_
      obtain ⟨c1, c2, c3, c4, c5, c6, c7, c8, c9, c10, c11, c12, c13⟩ := id hν
      refine ⟨trivial, daysC (d := d) c12 (by omega) _ _ fun ξ g1 g2 g3 g4 g5 g6 => ?_⟩
      rw [c2] at g2 g4 g5 ⊢
      refine ⟨_, rfl, ?_⟩
      have hF0 : Fw fP ν (am_sI ξ 54 7 0) := (g1.le fun a b z => by unfold fD jS inSp jO at z; unfold fP sC; omega).I (by unfold fP sM; omega)
      have l54 : ∀ a b, 54 ≤ a → a < 78 → am_I ξ a b = am_I μ a b := fun a b w1 w2 => (g1.1 a b (by unfold fD jS inSp jO; omega)).trans (c11 a b w1 w2)
      have h17 : am_I (am_sI ξ 54 7 0) 54 17 = 0 := by rw [am_I_sI, if_neg (by omega), l54 54 17 (by omega) (by omega)]; exact hP.h17
      have hS4 : MS N ru c (am_sI ξ 54 7 0) := c13.fw (F := fun a b => fD a b ∨ (a = 54 ∧ b = 7)) ((g1.le fun a b z => Or.inl z).I (Or.inr ⟨rfl, rfl⟩)) (fun a b z => by unfold fD jS inSp jO at z; omega) h17
      have hmξ := c13.1.1
      have hk54 : am_k ξ 54 = (2, 0) := by rw [g1.2.2.2.1]; unfold mL at hmξ; exact hmξ.1.1
      have r55 : am_I (am_sI ξ 54 7 0) 55 = am_I μ 55 := (am_row_o (by decide)).trans (funext fun b => l54 55 b (by omega) (by omega))
      have r62 : am_I (am_sI ξ 54 7 0) 62 = am_I μ 62 := (am_row_o (by decide)).trans (funext fun b => l54 62 b (by omega) (by omega))
      have r20 : am_I (am_sI ξ 54 7 0) 54 20 = nI u := by rw [am_I_sI, if_neg (by omega), l54 54 20 (by omega) (by omega)]; exact u2
      have k1 : cS (am_sI ξ 54 7 0) 1 = itS (dayC N ru) m (cS μ 1) := (cS_o (by omega)).trans g2
      have k21 : am_I (am_sI ξ 54 7 0) 0 21 = nI (upN u) := by rw [am_I_sI, if_neg (by omega), g1.1 0 21 (by unfold fD jS inSp jO; omega)]; exact c4
      have k40 : am_I (am_sI ξ 54 7 0) 0 40 = 2 := by rw [am_I_sI, if_neg (by omega)]; exact g3
      have k6 : am_I (am_sI ξ 54 7 0) 0 6 = nI t := by rw [am_I_sI, if_neg (by omega), g1.1 0 6 (by unfold fD jS inSp jO; omega), c10]; exact t2
      have k4 : am_I (am_sI ξ 54 7 0) 54 4 = nI t := by rw [am_I_sI, if_neg (by omega), l54 54 4 (by omega) (by omega)]; exact t3
      have kL0 : am_L (am_sI ξ 54 7 0) 53 0 = (itS (dayC N ru) m (cS μ 1) 82 - cS μ 1 82).toInt64 := g4
      have kL1 : am_L (am_sI ξ 54 7 0) 53 1 = (orB (gF 1 (itS (dayC N ru) m (cS μ 1))) N).toInt64 := g5
      simp only [gX3_days_0, gX3_days_1, gX3_days_2, am_kill_int, am_kill_ref, am_kill_null, am_kill_F, am_kill_long, am_cat_n, am_cat_i, am_cat_r, am_cat_0, am_cat_l, am_nr_n, am_nr_i, am_nr_r, am_nr_0, am_nr_l, Option.toList_some, Option.toList_none, List.nil_append, List.cons_append, va_rf_s, va_rf_n, am_I_sR, am_I_sL, am_R_sI, am_R_sL, am_L_sI, am_L_sR, am_k_sI, am_k_sR, am_k_sL, am_n_sI, am_n_sR, am_n_sL, true_and, and_true, true_or, or_true, or_false, false_or, not_true_eq_false, not_false_eq_true, Nat.reduceLT, am_dS, am_dP, am_d1, Nat.reduceSub, Nat.reduceMul, ne_eq, Nat.reduceBEq, Nat.reduceAdd, Nat.reduceLeDiff, Nat.reduceEqDiff, and_self, and_false, false_and, if_true, if_false, am_nb, am_nb0, am_nb1, am_lc1, am_lc2, am_lc3, am_b0, am_b1, am_10, am_c8, am_c16, am_c24, am_c32, am_c40, am_c48, am_c56, am_c64, am_c72, Nat.add_zero, Bool.false_eq_true, Nat.zero_le, hk54]
      generalize am_sI ξ 54 7 0 = ξ1 at hF0 h17 hS4 r55 r62 r20 k1 k21 k40 k6 k4 kL0 kL1 ⊢
      have hm4 := hS4.1.1
      unfold mL at hm4
      simp only [gX3_days_5, gX3_days_6, gX3_days_7, gX3_days_9, gX3_days_12, gX3_days_15, gX3_days_16, gX3_days_17, gX3_days_18, gX3_days_21, gX3_days_22, gX3_days_23, gX3_days_26, am_kill_int, am_kill_ref, am_kill_null, am_kill_F, am_kill_long, am_cat_n, am_cat_i, am_cat_r, am_cat_0, am_cat_l, am_nr_n, am_nr_i, am_nr_r, am_nr_0, am_nr_l, Option.toList_some, Option.toList_none, List.nil_append, List.cons_append, va_rf_s, va_rf_n, am_I_sR, am_I_sL, am_R_sI, am_R_sL, am_L_sI, am_L_sR, am_k_sI, am_k_sR, am_k_sL, am_n_sI, am_n_sR, am_n_sL, true_and, and_true, true_or, or_true, or_false, false_or, not_true_eq_false, not_false_eq_true, Nat.reduceLT, am_dS, am_dP, am_d1, Nat.reduceSub, Nat.reduceMul, ne_eq, Nat.reduceBEq, Nat.reduceAdd, Nat.reduceLeDiff, Nat.reduceEqDiff, and_self, and_false, false_and, if_true, if_false, am_nb, am_nb0, am_nb1, am_lc1, am_lc2, am_lc3, am_b0, am_b1, am_10, am_c8, am_c16, am_c24, am_c32, am_c40, am_c48, am_c56, am_c64, am_c72, Nat.add_zero, Bool.false_eq_true, Nat.zero_le, hm4, wX3_in, e60I, am_isb, hx, hp]
      refine wX3_rem (d := d + 198) (ν := ξ1) (μ := μ) u12 hS4 Fr.refl h17 r55 r62 r20 fun ξ2 w1 w2 w3 w4 w5 w6 => ?_
      refine ⟨trivial, daysM (d := d) w1 (by omega) _ _ fun ξ3 y1 y2 y3 y4 y5 y6 y7 => ?_⟩
      rw [w5] at y3 y5 y6 ⊢
      have hFF : Fw (fun a b => fY a b ∨ fE a b) ξ1 ξ3 := (w2.toW.le fun a b z => Or.inl z).trans (y1.le fun a b z => Or.inr z)
      have nn : ∀ a b, a < 54 → ¬ (fY a b ∨ fE a b) := fun a b z1 z2 => by unfold fY fE jH jM at z2; omega
      refine ⟨by rw [q1, q3], put_fin hI' hP u12 u3 hν (hF0.trans (hFF.le fun a b z => by unfold fY fE jH jM at z; unfold fP sM; omega)) ((cS_Fw hFF fun a b z1 z2 z3 => nn a b (by omega) z3).trans k1) ((hFF.1 0 21 (nn _ _ (by omega))).trans k21) ?_ (fun k i z1 z2 => ?_) y2 (by rw [y3]; exact hdays) hb ⟨t, t1, (hFF.1 0 6 (nn _ _ (by omega))).trans k6, ?_⟩ ⟨2, by omega, (hFF.1 0 40 (nn _ _ (by omega))).trans k40, y4, fun i hi => ?_⟩⟩
      · rw [y1.1 54 20 (by unfold fE jH jM; omega)]; exact w3
      · rw [y1.1 62 _ (by unfold fE jH jM; omega)]; exact w4 k i z1 z2
      · rw [y1.1 54 4 (by unfold fE jH jM; omega), w2.1 54 4 (by unfold fY jM; omega)]; exact k4
      · rcases (by omega : i = 0 ∨ i = 1) with e | e <;> subst e
        · rw [y7, w2.L, kL0, y5, q2, q4]
        · rw [y7, w2.L, kL1, y6, gG]
    · have e0 : m = 0 := by omega
      have hp : nI m ≤ 0 := by rw [e0]; decide
      simp only [gX1_days_0, gX1_days_1, gX1_days_2, gX1_days_3, gX1_days_6, gX1_days_9, gX1_days_12, gX1_days_13, gX1_days_14, gX1_days_15, am_kill_int, am_kill_ref, am_kill_null, am_kill_F, am_kill_long, am_cat_n, am_cat_i, am_cat_r, am_cat_0, am_cat_l, am_nr_n, am_nr_i, am_nr_r, am_nr_0, am_nr_l, Option.toList_some, Option.toList_none, List.nil_append, List.cons_append, va_rf_s, va_rf_n, am_II, am_I_sR, am_I_sL, am_R_sI, am_RR, am_R_sL, am_L_sI, am_L_sR, am_LL, am_k_sI, am_k_sR, am_k_sL, am_n_sI, am_n_sR, am_n_sL, true_and, and_true, true_or, or_true, or_false, false_or, not_true_eq_false, not_false_eq_true, Nat.reduceLT, am_dS, am_dP, am_d1, Nat.reduceSub, Nat.reduceMul, ne_eq, Nat.reduceBEq, Nat.reduceAdd, Nat.reduceLeDiff, Nat.reduceEqDiff, and_self, and_false, false_and, if_true, if_false, am_nb, am_nb0, am_nb1, am_lc1, am_lc2, am_lc3, am_b0, am_b1, am_10, am_c8, am_c16, am_c24, am_c32, am_c40, am_c48, am_c56, am_c64, am_c72, Nat.add_zero, Bool.false_eq_true, Nat.zero_le, hcu, wX1_in, am_l0, e60L, am_leL, am_isb, hx, hp]
      refine daysC (d := d) hC (by omega) _ _ fun ξ g1 g2 g3 g4 g5 g6 => ?_
      refine ⟨_, rfl, ?_⟩
      have h17 : am_I (am_sI ξ 54 7 0) 54 17 = 0 := by rw [am_I_sI, if_neg (by omega), g1.1 54 17 (by unfold fD jS inSp jO; omega)]; exact hP.h17
      have hF0 : Fw (fun a b => fD a b ∨ (a = 54 ∧ b = 7)) μ (am_sI ξ 54 7 0) := (g1.le fun a b z => Or.inl z).I (Or.inr ⟨rfl, rfl⟩)
      have hS4 : MS N ru c (am_sI ξ 54 7 0) := hS.fw hF0 (fun a b z => by unfold fD jS inSp jO at z; omega) h17
      have hk54 : am_k ξ 54 = (2, 0) := by rw [g1.2.2.2.1]; exact hmu.1.1
      have r55 : am_I (am_sI ξ 54 7 0) 55 = am_I μ 55 := (am_row_o (by decide)).trans (funext fun b => g1.1 55 b (by unfold fD jS inSp jO; omega))
      have k1 : cS (am_sI ξ 54 7 0) 1 = itS (dayC N ru) m (cS μ 1) := (cS_o (by omega)).trans g2
      have k40 : am_I (am_sI ξ 54 7 0) 0 40 = 2 := by rw [am_I_sI, if_neg (by omega)]; exact g3
      have kL0 : am_L (am_sI ξ 54 7 0) 53 0 = (itS (dayC N ru) m (cS μ 1) 82 - cS μ 1 82).toInt64 := g4
      have kL1 : am_L (am_sI ξ 54 7 0) 53 1 = (orB (gF 1 (itS (dayC N ru) m (cS μ 1))) N).toInt64 := g5
      simp only [gX3_days_0, gX3_days_1, gX3_days_2, am_kill_int, am_kill_ref, am_kill_null, am_kill_F, am_kill_long, am_cat_n, am_cat_i, am_cat_r, am_cat_0, am_cat_l, am_nr_n, am_nr_i, am_nr_r, am_nr_0, am_nr_l, Option.toList_some, Option.toList_none, List.nil_append, List.cons_append, va_rf_s, va_rf_n, am_I_sR, am_I_sL, am_R_sI, am_R_sL, am_L_sI, am_L_sR, am_k_sI, am_k_sR, am_k_sL, am_n_sI, am_n_sR, am_n_sL, true_and, and_true, true_or, or_true, or_false, false_or, not_true_eq_false, not_false_eq_true, Nat.reduceLT, am_dS, am_dP, am_d1, Nat.reduceSub, Nat.reduceMul, ne_eq, Nat.reduceBEq, Nat.reduceAdd, Nat.reduceLeDiff, Nat.reduceEqDiff, and_self, and_false, false_and, if_true, if_false, am_nb, am_nb0, am_nb1, am_lc1, am_lc2, am_lc3, am_b0, am_b1, am_10, am_c8, am_c16, am_c24, am_c32, am_c40, am_c48, am_c56, am_c64, am_c72, Nat.add_zero, Bool.false_eq_true, Nat.zero_le, hk54]
      generalize am_sI ξ 54 7 0 = ξ1 at hF0 h17 hS4 r55 k1 k40 kL0 kL1 ⊢
      have hm4 := hS4.1.1
      unfold mL at hm4
      simp only [gX3_days_5, gX3_days_6, gX3_days_7, gX3_days_9, gX3_days_12, gX3_days_15, gX3_days_16, gX3_days_17, gX3_days_18, am_kill_int, am_kill_ref, am_kill_null, am_kill_F, am_kill_long, am_cat_n, am_cat_i, am_cat_r, am_cat_0, am_cat_l, am_nr_n, am_nr_i, am_nr_r, am_nr_0, am_nr_l, Option.toList_some, Option.toList_none, List.nil_append, List.cons_append, va_rf_s, va_rf_n, am_I_sR, am_I_sL, am_R_sI, am_R_sL, am_L_sI, am_L_sR, am_k_sI, am_k_sR, am_k_sL, am_n_sI, am_n_sR, am_n_sL, true_and, and_true, true_or, or_true, or_false, false_or, not_true_eq_false, not_false_eq_true, Nat.reduceLT, am_dS, am_dP, am_d1, Nat.reduceSub, Nat.reduceMul, ne_eq, Nat.reduceBEq, Nat.reduceAdd, Nat.reduceLeDiff, Nat.reduceEqDiff, and_self, and_false, false_and, if_true, if_false, am_nb, am_nb0, am_nb1, am_lc1, am_lc2, am_lc3, am_b0, am_b1, am_10, am_c8, am_c16, am_c24, am_c32, am_c40, am_c48, am_c56, am_c64, am_c72, Nat.add_zero, Bool.false_eq_true, Nat.zero_le, hm4, wX3_in, e60I, am_isb, hx, hp]
      refine daysM (d := d) hS4 (by omega) _ _ fun ξ3 y1 y2 y3 y4 y5 y6 y7 => ?_
      rw [r55] at y3 y5 y6 ⊢
      have hFF : Fw (fun a b => fD a b ∨ (a = 54 ∧ b = 7) ∨ fE a b) μ ξ3 := (hF0.le fun a b z => z.elim Or.inl (fun e => Or.inr (Or.inl e))).trans (y1.le fun a b z => Or.inr (Or.inr z))
      have hlt : ∀ a b, (fD a b ∨ (a = 54 ∧ b = 7) ∨ fE a b) → a < 78 := fun a b z => by unfold fD jS inSp jO fE jH jM at z; omega
      obtain ⟨p1, p2, p3, p4, p5, p6, p7, p8, p9, p10⟩ := hP
      have e1 : cS ξ3 1 = itS (dayC N ru) m (cS μ 1) := (cS_Fw y1 fun a b z1 z2 z3 => by unfold fE jH jM at z3; omega).trans k1
      refine ⟨by rw [q1, q3], ⟨N, C, ru, c, p1.fw hFF (fun a b z => by unfold fD jS inSp jO fE jH jM at z; omega) y2, by rw [e1, y3]; exact hdays, p3.fw hFF (fun a b z => by unfold fD jS inSp jO fE jH jM at z; omega), p4.fw hFF (fun a b z => by unfold fD jS inSp jO fE jH jM at z; omega), p5.fw hFF (fun a b z => by unfold fD jS inSp jO fE jH jM at z; omega), p6.fw hFF, p7.fw p6 hFF (fun a b z => by unfold fD jS inSp jO fE jH jM at z; omega), p8.fw p6 hFF (fun a b z => by unfold fD jS inSp jO fE jH jM at z; omega), p9.fw hFF (fun a b z => by unfold fD jS inSp jO fE jH jM at z; omega), by rw [hFF.2.2.2.2.1]; exact p10⟩, ⟨t, t1, (hFF.1 0 6 (by unfold fD jS inSp jO fE jH jM; omega)).trans t2, (hFF.1 54 4 (by unfold fD jS inSp jO fE jH jM; omega)).trans t3⟩, ⟨2, by omega, (y1.1 0 40 (by unfold fE jH jM; omega)).trans k40, y4, fun i hi => ?_⟩, by rw [hFF.2.2.2.2.1]; omega, by rw [hFF.2.2.2.2.2.1]; omega, by rw [hFF.2.2.2.2.2.2]; omega, b4.fwS p6 hFF hlt ?_⟩
      · rcases (by omega : i = 0 ∨ i = 1) with e | e <;> subst e
        · rw [y7, kL0, y5, q2, q4]
        · rw [y7, kL1, y6, gG]
      · obtain ⟨f, z5, z6⟩ := hb
        exact ⟨f, z5, by rw [← z6, ← e1]; rfl⟩
  · simp only [gX1_days_0, gX1_days_1, gX1_days_2, gX1_days_3, gX1_days_6, gX1_days_9, gX1_days_12, gX1_days_13, am_kill_int, am_kill_ref, am_kill_null, am_kill_F, am_kill_long, am_cat_n, am_cat_i, am_cat_r, am_cat_0, am_cat_l, am_nr_n, am_nr_i, am_nr_r, am_nr_0, am_nr_l, Option.toList_some, Option.toList_none, List.nil_append, List.cons_append, va_rf_s, va_rf_n, am_II, am_I_sR, am_I_sL, am_R_sI, am_RR, am_R_sL, am_L_sI, am_L_sR, am_LL, am_k_sI, am_k_sR, am_k_sL, am_n_sI, am_n_sR, am_n_sL, true_and, and_true, true_or, or_true, or_false, false_or, not_true_eq_false, not_false_eq_true, Nat.reduceLT, am_dS, am_dP, am_d1, Nat.reduceSub, Nat.reduceMul, ne_eq, Nat.reduceBEq, Nat.reduceAdd, Nat.reduceLeDiff, Nat.reduceEqDiff, and_self, and_false, false_and, if_true, if_false, am_nb, am_nb0, am_nb1, am_lc1, am_lc2, am_lc3, am_b0, am_b1, am_10, am_c8, am_c16, am_c24, am_c32, am_c40, am_c48, am_c56, am_c64, am_c72, Nat.add_zero, Bool.false_eq_true, Nat.zero_le, hcu, wX1_in, am_l0, e60L, am_leL, am_isb, hx]
    refine ⟨_, rfl, ?_⟩
    simp only [gX3_days_0, gX3_days_1, gX3_days_2, gX3_days_5, gX3_days_6, gX3_days_7, gX3_days_9, gX3_days_12, gX3_days_15, gX3_days_16, am_kill_int, am_kill_ref, am_kill_null, am_kill_F, am_kill_long, am_cat_n, am_cat_i, am_cat_r, am_cat_0, am_cat_l, am_nr_n, am_nr_i, am_nr_r, am_nr_0, am_nr_l, Option.toList_some, Option.toList_none, List.nil_append, List.cons_append, va_rf_s, va_rf_n, am_II, am_I_sR, am_I_sL, am_R_sI, am_RR, am_R_sL, am_L_sI, am_L_sR, am_LL, am_k_sI, am_k_sR, am_k_sL, am_n_sI, am_n_sR, am_n_sL, true_and, and_true, true_or, or_true, or_false, false_or, not_true_eq_false, not_false_eq_true, Nat.reduceLT, am_dS, am_dP, am_d1, Nat.reduceSub, Nat.reduceMul, ne_eq, Nat.reduceBEq, Nat.reduceAdd, Nat.reduceLeDiff, Nat.reduceEqDiff, and_self, and_false, false_and, if_true, if_false, am_nb, am_nb0, am_nb1, am_lc1, am_lc2, am_lc3, am_b0, am_b1, am_10, am_c8, am_c16, am_c24, am_c32, am_c40, am_c48, am_c56, am_c64, am_c72, Nat.add_zero, Bool.false_eq_true, Nat.zero_le, hmu, wX3_in, e60I, am_isb, hx]
    exact hI'.thr
end DAV
