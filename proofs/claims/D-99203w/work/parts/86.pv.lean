/-! calls that ask: years, the model's loop and the call -/
set_option maxRecDepth 100000
section PVV
variable {d : Nat} {μ ν ξ : am_M} {K : Option Value → am_M → Prop} {x y z c : Int32} {h N C j i k r n M b q w u : Nat} {v : Int32} {ru : Option PF} {F G : Nat → Nat → Prop} {S T row a a' : Nat → Int32} {p : Int64} {dn : Int32 → Int32} {dv : Int32 → Int32 → Int32}
def jZ (a b : Nat) : Prop := jW a b ∨ (a = 54 ∧ b = 34)
theorem jZ_sM (hf : Fr jZ μ ν) : Fw sM μ ν := hf.toW.le fun a b q => by unfold jZ jW jM at q; unfold sM; omega
theorem jZ_W (hf : Fr jW μ ν) : Fr jZ μ ν := hf.le fun a b q => Or.inl q
theorem jZ_34 : Fr jZ μ (am_sI μ 54 34 x) := Fr.I Fr.refl (Or.inr ⟨rfl, rfl⟩)
theorem MS.jZ (hS : MS N ru c μ) (hf : Fr jZ μ ν) (h17 : am_I ν 54 17 = 0) : MS N ru c ν := hS.sMm (jZ_sM hf) h17
def HD3 (dn : Int32 → Int32) (dv : Int32 → Int32 → Int32) : Prop := ∀ (d : Nat) (K : Option Value → am_M → Prop) (μ : am_M) (x : Int32), am_k μ 54 = (2, 0) → ¬ x = 0 → (am_Wp d mX3_draw 0 [.ref 54, .int x] [] μ K ↔ K (some (.int (dv (dn (am_I μ 54 34)) x))) (am_sI μ 54 34 (dn (am_I μ 54 34))))
def HD1 (dn : Int32 → Int32) (dv : Int32 → Int32 → Int32) : Prop := ∀ (d : Nat) (K : Option Value → am_M → Prop) (μ : am_M) (x : Int32), am_k μ 0 = (0, 0) → ¬ x = 0 → (am_Wp d mX1_draws 0 [.ref 0, .int x] [] μ K ↔ K (some (.int (dv (dn (am_I μ 0 36)) x))) (am_sI μ 0 36 (dn (am_I μ 0 36))))
theorem q5L_years (hdr : HD3 dn dv) (hd5 : ∀ r, dv r 5 = 0 ∨ dv r 5 = 1 ∨ dv r 5 = 2 ∨ dv r 5 = 3 ∨ dv r 5 = 4) (hn : n ≤ 1000) : ∀ (m k : Nat) (μ : am_M) (s : Int32 × (Nat → Int32)) (z4 z5 z6 : Value), k + m = n → MS N ru c μ → am_I μ 54 34 = (yIt dn dv N ru c s k).1 → Sim N (yIt dn dv N ru c s k).2 (am_I μ 64) → (∀ ν z4 z5 z6, Fr jZ μ ν → am_I ν 54 17 = 0 → Sim N (yIt dn dv N ru c s n).2 (am_I ν 64) → am_Wp (d + 200) mX3_years 190 [.ref 54, .int x, .int (nI n), .int (nI n), z4, z5, z6] [] ν K) →
    am_Wp (d + 200) mX3_years 36 [.ref 54, .int x, .int (nI n), .int (nI k), z4, z5, z6] [] μ K := by
  intro m
  induction m with
  | zero =>
    intro k μ s z4 z5 z6 hk hS h34 hs hK
    have e : k = n := hk
    subst e
    rw [gX3_years_36]
    simp only [gX3_years_37, gX3_years_38, am_kill_int, am_kill_ref, am_kill_null, am_kill_F, am_kill_long, am_cat_n, am_cat_i, am_cat_r, am_cat_0, am_cat_l, am_nr_n, am_nr_i, am_nr_r, am_nr_0, am_nr_l, Option.toList_some, Option.toList_none, List.nil_append, List.cons_append, va_rf_s, va_rf_n, am_II, am_I_sR, am_I_sL, am_R_sI, am_RR, am_R_sL, am_L_sI, am_L_sR, am_LL, am_k_sI, am_k_sR, am_k_sL, am_n_sI, am_n_sR, am_n_sL, true_and, and_true, true_or, or_true, or_false, false_or, not_true_eq_false, not_false_eq_true, Nat.reduceLT, am_dS, am_dP, am_d1, Nat.reduceSub, Nat.reduceMul, ne_eq, Nat.reduceBEq, Nat.reduceAdd, Nat.reduceLeDiff, Nat.reduceEqDiff, and_self, and_false, false_and, if_true, if_false, am_nb, am_nb0, am_nb1, am_lc1, am_lc2, am_lc3, am_b0, am_b1, am_10, am_c8, am_c16, am_c24, am_c32, am_c40, am_c48, am_c56, am_c64, am_c72, Nat.add_zero, Bool.false_eq_true, Nat.zero_le, Int32.le_refl]
    exact hK μ z4 z5 z6 Fr.refl hS.2.1.1.1 hs
  | succ m ih =>
    intro k μ s z4 z5 z6 hk hS h34 hs hK
    have hlt : ¬ nI n ≤ nI k := nI_ge (by omega) (by omega)
    have hmu := hS.1.1
    unfold mL at hmu
    have hN := hS.1.2.1
    have h8 := hS.1.2.2.1
    have n5 : ¬ (5 : Int32) = 0 := by decide
    have n10 : ¬ (10 : Int32) = 0 := by decide
    have n23 : ¬ (2 : Int32) = 3 := by decide
    have n24 : ¬ (2 : Int32) = 4 := by decide
    have n34 : ¬ (3 : Int32) = 4 := by decide
    have n32 : ¬ (3 : Int32) = 2 := by decide
    have n42 : ¬ (4 : Int32) = 2 := by decide
    have n43 : ¬ (4 : Int32) = 3 := by decide
    have l32 : ¬ (3 : Int32) < 2 := by decide
    have l42 : ¬ (4 : Int32) < 2 := by decide
    have l22 : ¬ (2 : Int32) < 2 := by decide
    have g22 : (2 : Int32) ≤ 2 := by decide
    have g23 : (2 : Int32) ≤ 3 := by decide
    have g24 : (2 : Int32) ≤ 4 := by decide
    generalize hsk : yIt dn dv N ru c s k = sk at h34 hs
    have hst : yIt dn dv N ru c s (k + 1) = ySt dn dv N ru c sk := by rw [← hsk]; rfl
    have next : ∀ ν z4 z5 z6, Fr jZ μ ν → am_I ν 54 17 = 0 → am_I ν 54 34 = (ySt dn dv N ru c sk).1 → Sim N (ySt dn dv N ru c sk).2 (am_I ν 64) → am_Wp (d + 200) mX3_years 184 [.ref 54, .int x, .int (nI n), .int (nI k), z4, z5, z6] [] ν K := fun ν z4 z5 z6 hF h17 g1 g2 => by
      simp only [gX3_years_184, gX3_years_187, am_kill_int, am_kill_ref, am_kill_null, am_kill_F, am_kill_long, am_cat_n, am_cat_i, am_cat_r, am_cat_0, am_cat_l, am_nr_n, am_nr_i, am_nr_r, am_nr_0, am_nr_l, Option.toList_some, Option.toList_none, List.nil_append, List.cons_append, va_rf_s, va_rf_n, am_II, am_I_sR, am_I_sL, am_R_sI, am_RR, am_R_sL, am_L_sI, am_L_sR, am_LL, am_k_sI, am_k_sR, am_k_sL, am_n_sI, am_n_sR, am_n_sL, true_and, and_true, true_or, or_true, or_false, false_or, not_true_eq_false, not_false_eq_true, Nat.reduceLT, am_dS, am_dP, am_d1, Nat.reduceSub, Nat.reduceMul, ne_eq, Nat.reduceBEq, Nat.reduceAdd, Nat.reduceLeDiff, Nat.reduceEqDiff, and_self, and_false, false_and, if_true, if_false, am_nb, am_nb0, am_nb1, am_lc1, am_lc2, am_lc3, am_b0, am_b1, am_10, am_c8, am_c16, am_c24, am_c32, am_c40, am_c48, am_c56, am_c64, am_c72, Nat.add_zero, Bool.false_eq_true, Nat.zero_le, nI_1]
      refine ih (k + 1) ν s z4 z5 z6 (by omega) (hS.jZ hF h17) (by rw [hst]; exact g1) (by rw [hst]; exact g2) (fun ξ z4 z5 z6 hF2 h17 h => hK ξ z4 z5 z6 (hF.trans hF2) h17 h)
    unfold ySt at next
    have h171 : am_I (am_sI μ 54 34 (dn sk.1)) 54 17 = 0 := by rw [am_I_sI, if_neg (by omega)]; exact hS.2.1.1.1
    have hS1 := hS.jZ (jZ_34 (x := dn sk.1)) h171
    have r64 : am_I (am_sI μ 54 34 (dn sk.1)) 64 = am_I μ 64 := am_row_o (by decide)
    have hd1 := fun K => hdr (d + 199) K μ 5 hmu.1.1 n5
    rw [h34] at hd1
    rw [gX3_years_36]
    simp only [gX3_years_37, gX3_years_38, gX3_years_41, gX3_years_42, gX3_years_43, am_kill_int, am_kill_ref, am_kill_null, am_kill_F, am_kill_long, am_cat_n, am_cat_i, am_cat_r, am_cat_0, am_cat_l, am_nr_n, am_nr_i, am_nr_r, am_nr_0, am_nr_l, Option.toList_some, Option.toList_none, List.nil_append, List.cons_append, va_rf_s, va_rf_n, am_II, am_I_sR, am_I_sL, am_R_sI, am_RR, am_R_sL, am_L_sI, am_L_sR, am_LL, am_k_sI, am_k_sR, am_k_sL, am_n_sI, am_n_sR, am_n_sL, true_and, and_true, true_or, or_true, or_false, false_or, not_true_eq_false, not_false_eq_true, Nat.reduceLT, am_dS, am_dP, am_d1, Nat.reduceSub, Nat.reduceMul, ne_eq, Nat.reduceBEq, Nat.reduceAdd, Nat.reduceLeDiff, Nat.reduceEqDiff, and_self, and_false, false_and, if_true, if_false, am_nb, am_nb0, am_nb1, am_lc1, am_lc2, am_lc3, am_b0, am_b1, am_10, am_c8, am_c16, am_c24, am_c32, am_c40, am_c48, am_c56, am_c64, am_c72, Nat.add_zero, Bool.false_eq_true, Nat.zero_le, hlt, hmu]
    rw [hd1]
    by_cases f2 : dv (dn sk.1) 5 < 2
    · simp only [if_pos f2] at next
      simp only [gX3_years_46, gX3_years_48, gX3_years_50, gX3_years_51, gX3_years_54, gX3_years_55, gX3_years_56, gX3_years_59, am_kill_int, am_kill_ref, am_kill_null, am_kill_F, am_kill_long, am_cat_n, am_cat_i, am_cat_r, am_cat_0, am_cat_l, am_nr_n, am_nr_i, am_nr_r, am_nr_0, am_nr_l, Option.toList_some, Option.toList_none, List.nil_append, List.cons_append, va_rf_s, va_rf_n, am_II, am_I_sR, am_I_sL, am_R_sI, am_RR, am_R_sL, am_L_sI, am_L_sR, am_LL, am_k_sI, am_k_sR, am_k_sL, am_n_sI, am_n_sR, am_n_sL, true_and, and_true, true_or, or_true, or_false, false_or, not_true_eq_false, not_false_eq_true, Nat.reduceLT, am_dS, am_dP, am_d1, Nat.reduceSub, Nat.reduceMul, ne_eq, Nat.reduceBEq, Nat.reduceAdd, Nat.reduceLeDiff, Nat.reduceEqDiff, and_self, and_false, false_and, if_true, if_false, am_nb, am_nb0, am_nb1, am_lc1, am_lc2, am_lc3, am_b0, am_b1, am_10, am_c8, am_c16, am_c24, am_c32, am_c40, am_c48, am_c56, am_c64, am_c72, Nat.add_zero, Bool.false_eq_true, Nat.zero_le, Int32.not_le.mpr f2, hmu]
      refine wX3_goDay (d := d + 127) hS1 hmu.1.2.2.2.2.2.2.2.2.2.2.1 (fun ν hF h17 hT => ?_)
      simp only [gX3_years_62, gX3_years_64, gX3_years_65, am_kill_int, am_kill_ref, am_kill_null, am_kill_F, am_kill_long, am_cat_n, am_cat_i, am_cat_r, am_cat_0, am_cat_l, am_nr_n, am_nr_i, am_nr_r, am_nr_0, am_nr_l, Option.toList_some, Option.toList_none, List.nil_append, List.cons_append, va_rf_s, va_rf_n, am_II, am_I_sR, am_I_sL, am_R_sI, am_RR, am_R_sL, am_L_sI, am_L_sR, am_LL, am_k_sI, am_k_sR, am_k_sL, am_n_sI, am_n_sR, am_n_sL, true_and, and_true, true_or, or_true, or_false, false_or, not_true_eq_false, not_false_eq_true, Nat.reduceLT, am_dS, am_dP, am_d1, Nat.reduceSub, Nat.reduceMul, ne_eq, Nat.reduceBEq, Nat.reduceAdd, Nat.reduceLeDiff, Nat.reduceEqDiff, and_self, and_false, false_and, if_true, if_false, am_nb, am_nb0, am_nb1, am_lc1, am_lc2, am_lc3, am_b0, am_b1, am_10, am_c8, am_c16, am_c24, am_c32, am_c40, am_c48, am_c56, am_c64, am_c72, Nat.add_zero, Bool.false_eq_true, Nat.zero_le, f2]
      refine next ν _ _ _ (jZ_34.trans (jZ_W (jH64 hF))) h17 ?_ ?_
      · rw [hF.1 54 34 (by unfold jH jM; omega), am_I_sI, if_pos ⟨rfl, rfl⟩]
      · rw [hT, r64]; exact hs.day hS.2.2 h8
    · simp only [if_neg f2] at next
      by_cases f0 : N = 0
      · simp only [if_pos f0] at next
        have hN0 : am_I μ 54 1 = 0 := by rw [hN, f0]; rfl
        simp only [gX3_years_46, gX3_years_48, gX3_years_50, gX3_years_51, gX3_years_54, gX3_years_55, gX3_years_56, gX3_years_59, gX3_years_62, gX3_years_64, gX3_years_65, gX3_years_68, gX3_years_69, gX3_years_72, gX3_years_75, am_kill_int, am_kill_ref, am_kill_null, am_kill_F, am_kill_long, am_cat_n, am_cat_i, am_cat_r, am_cat_0, am_cat_l, am_nr_n, am_nr_i, am_nr_r, am_nr_0, am_nr_l, Option.toList_some, Option.toList_none, List.nil_append, List.cons_append, va_rf_s, va_rf_n, am_II, am_I_sR, am_I_sL, am_R_sI, am_RR, am_R_sL, am_L_sI, am_L_sR, am_LL, am_k_sI, am_k_sR, am_k_sL, am_n_sI, am_n_sR, am_n_sL, true_and, and_true, true_or, or_true, or_false, false_or, not_true_eq_false, not_false_eq_true, Nat.reduceLT, am_dS, am_dP, am_d1, Nat.reduceSub, Nat.reduceMul, ne_eq, Nat.reduceBEq, Nat.reduceAdd, Nat.reduceLeDiff, Nat.reduceEqDiff, and_self, and_false, false_and, if_true, if_false, am_nb, am_nb0, am_nb1, am_lc1, am_lc2, am_lc3, am_b0, am_b1, am_10, am_c8, am_c16, am_c24, am_c32, am_c40, am_c48, am_c56, am_c64, am_c72, Nat.add_zero, Bool.false_eq_true, Nat.zero_le, Int32.not_lt.mp f2, f2, hmu, hN0]
        exact next _ _ _ _ jZ_34 h171 (by rw [am_I_sI, if_pos ⟨rfl, rfl⟩]) (by rw [r64]; exact hs)
      · simp only [if_neg f0] at next
        have hNne : ¬ nI N = 0 := fun e => by
          have := nI_clamp (n := N) (by omega)
          rw [e] at this
          have z : (0 : Int32).toNatClampNeg = 0 := by decide
          omega
        have h172 : am_I (am_sI (am_sI μ 54 34 (dn sk.1)) 54 34 (dn (dn sk.1))) 54 17 = 0 := by rw [am_I_sI, if_neg (by omega)]; exact h171
        have F2 : Fr jZ μ (am_sI (am_sI μ 54 34 (dn sk.1)) 54 34 (dn (dn sk.1))) := jZ_34.trans jZ_34
        have hS2 := hS.jZ F2 h172
        have r642 : am_I (am_sI (am_sI μ 54 34 (dn sk.1)) 54 34 (dn (dn sk.1))) 64 = am_I μ 64 := by rw [am_row_o (by decide)]; exact r64
        have hd2 := fun K => hdr (d + 199) K (am_sI μ 54 34 (dn sk.1)) (nI N) hmu.1.1 hNne
        rw [am_I_sI, if_pos ⟨rfl, rfl⟩] at hd2
        have hk64 : am_k (am_sI (am_sI μ 54 34 (dn sk.1)) 54 34 (dn (dn sk.1))) 64 = (10, 83) := hmu.1.2.2.2.2.2.2.2.2.2.2.1
        simp only [gX3_years_46, gX3_years_48, gX3_years_50, gX3_years_51, gX3_years_54, gX3_years_55, gX3_years_56, gX3_years_59, gX3_years_62, gX3_years_64, gX3_years_65, gX3_years_68, gX3_years_69, gX3_years_72, gX3_years_75, gX3_years_78, gX3_years_79, gX3_years_80, gX3_years_83, am_kill_int, am_kill_ref, am_kill_null, am_kill_F, am_kill_long, am_cat_n, am_cat_i, am_cat_r, am_cat_0, am_cat_l, am_nr_n, am_nr_i, am_nr_r, am_nr_0, am_nr_l, Option.toList_some, Option.toList_none, List.nil_append, List.cons_append, va_rf_s, va_rf_n, am_II, am_I_sR, am_I_sL, am_R_sI, am_RR, am_R_sL, am_L_sI, am_L_sR, am_LL, am_k_sI, am_k_sR, am_k_sL, am_n_sI, am_n_sR, am_n_sL, true_and, and_true, true_or, or_true, or_false, false_or, not_true_eq_false, not_false_eq_true, Nat.reduceLT, am_dS, am_dP, am_d1, Nat.reduceSub, Nat.reduceMul, ne_eq, Nat.reduceBEq, Nat.reduceAdd, Nat.reduceLeDiff, Nat.reduceEqDiff, and_self, and_false, false_and, if_true, if_false, am_nb, am_nb0, am_nb1, am_lc1, am_lc2, am_lc3, am_b0, am_b1, am_10, am_c8, am_c16, am_c24, am_c32, am_c40, am_c48, am_c56, am_c64, am_c72, Nat.add_zero, Bool.false_eq_true, Nat.zero_le, Int32.not_lt.mp f2, f2, hmu, hN, hNne]
        rw [hd2]
        rcases hd5 (dn sk.1) with w0 | w0 | w0 | w0 | w0
        · rw [w0] at f2; exact absurd (by decide) f2
        · rw [w0] at f2; exact absurd (by decide) f2
        · simp only [if_pos w0] at next
          have hra := fun K => wX3_refusesAnnounce (d := d + 197) (K := K) (x := dv (dn (dn sk.1)) (nI N)) hS2.1 hk64
          rw [r642] at hra
          simp only [gX3_years_86, gX3_years_88, gX3_years_90, gX3_years_91, gX3_years_94, gX3_years_95, gX3_years_96, gX3_years_99, gX3_years_101, am_kill_int, am_kill_ref, am_kill_null, am_kill_F, am_kill_long, am_cat_n, am_cat_i, am_cat_r, am_cat_0, am_cat_l, am_nr_n, am_nr_i, am_nr_r, am_nr_0, am_nr_l, Option.toList_some, Option.toList_none, List.nil_append, List.cons_append, va_rf_s, va_rf_n, am_II, am_I_sR, am_I_sL, am_R_sI, am_RR, am_R_sL, am_L_sI, am_L_sR, am_LL, am_k_sI, am_k_sR, am_k_sL, am_n_sI, am_n_sR, am_n_sL, true_and, and_true, true_or, or_true, or_false, false_or, not_true_eq_false, not_false_eq_true, Nat.reduceLT, am_dS, am_dP, am_d1, Nat.reduceSub, Nat.reduceMul, ne_eq, Nat.reduceBEq, Nat.reduceAdd, Nat.reduceLeDiff, Nat.reduceEqDiff, and_self, and_false, false_and, if_true, if_false, am_nb, am_nb0, am_nb1, am_lc1, am_lc2, am_lc3, am_b0, am_b1, am_10, am_c8, am_c16, am_c24, am_c32, am_c40, am_c48, am_c56, am_c64, am_c72, Nat.add_zero, Bool.false_eq_true, Nat.zero_le, w0, hmu]
          rw [hra]
          by_cases f : rAn N (am_I μ 64) (dv (dn (dn sk.1)) (nI N)) = 0
          · obtain ⟨j, hj, ej, hsj⟩ := ann_t hs h8 f
            rw [ej] at next f ⊢
            rw [ej] at hsj
            simp only [gX3_years_104, gX3_years_107, gX3_years_108, gX3_years_111, gX3_years_113, am_kill_int, am_kill_ref, am_kill_null, am_kill_F, am_kill_long, am_cat_n, am_cat_i, am_cat_r, am_cat_0, am_cat_l, am_nr_n, am_nr_i, am_nr_r, am_nr_0, am_nr_l, Option.toList_some, Option.toList_none, List.nil_append, List.cons_append, va_rf_s, va_rf_n, am_II, am_I_sR, am_I_sL, am_R_sI, am_RR, am_R_sL, am_L_sI, am_L_sR, am_LL, am_k_sI, am_k_sR, am_k_sL, am_n_sI, am_n_sR, am_n_sL, true_and, and_true, true_or, or_true, or_false, false_or, not_true_eq_false, not_false_eq_true, Nat.reduceLT, am_dS, am_dP, am_d1, Nat.reduceSub, Nat.reduceMul, ne_eq, Nat.reduceBEq, Nat.reduceAdd, Nat.reduceLeDiff, Nat.reduceEqDiff, and_self, and_false, false_and, if_true, if_false, am_nb, am_nb0, am_nb1, am_lc1, am_lc2, am_lc3, am_b0, am_b1, am_10, am_c8, am_c16, am_c24, am_c32, am_c40, am_c48, am_c56, am_c64, am_c72, Nat.add_zero, Bool.false_eq_true, Nat.zero_le, f, hmu, wX3_goAnnounce (show j < 8 by omega) hk64]
            simp only [gX3_years_116, gX3_years_118, gX3_years_119, gX3_years_144, gX3_years_146, gX3_years_147, am_kill_int, am_kill_ref, am_kill_null, am_kill_F, am_kill_long, am_cat_n, am_cat_i, am_cat_r, am_cat_0, am_cat_l, am_nr_n, am_nr_i, am_nr_r, am_nr_0, am_nr_l, Option.toList_some, Option.toList_none, List.nil_append, List.cons_append, va_rf_s, va_rf_n, am_II, am_I_sR, am_I_sL, am_R_sI, am_RR, am_R_sL, am_L_sI, am_L_sR, am_LL, am_k_sI, am_k_sR, am_k_sL, am_n_sI, am_n_sR, am_n_sL, true_and, and_true, true_or, or_true, or_false, false_or, not_true_eq_false, not_false_eq_true, Nat.reduceLT, am_dS, am_dP, am_d1, Nat.reduceSub, Nat.reduceMul, ne_eq, Nat.reduceBEq, Nat.reduceAdd, Nat.reduceLeDiff, Nat.reduceEqDiff, and_self, and_false, false_and, if_true, if_false, am_nb, am_nb0, am_nb1, am_lc1, am_lc2, am_lc3, am_b0, am_b1, am_10, am_c8, am_c16, am_c24, am_c32, am_c40, am_c48, am_c56, am_c64, am_c72, Nat.add_zero, Bool.false_eq_true, Nat.zero_le, n23, n24]
            refine next _ _ _ _ (F2.trans (jZ_W (e64 (Fr.I (Fr.I Fr.refl rfl) rfl)))) ?_ ?_ ?_
            · simp only [am_II, Nat.reduceEqDiff, and_false, false_and, if_false]; exact hS.2.1.1.1
            · simp only [am_II, Nat.reduceEqDiff, and_false, false_and, if_false, and_self, if_true]
            · rw [am_row, am_row, r642]; exact hsj
          · have hn' := ann_n hs h8 f
            rw [hn'] at next
            simp only [gX3_years_104, gX3_years_116, gX3_years_118, gX3_years_119, gX3_years_144, gX3_years_146, gX3_years_147, am_kill_int, am_kill_ref, am_kill_null, am_kill_F, am_kill_long, am_cat_n, am_cat_i, am_cat_r, am_cat_0, am_cat_l, am_nr_n, am_nr_i, am_nr_r, am_nr_0, am_nr_l, Option.toList_some, Option.toList_none, List.nil_append, List.cons_append, va_rf_s, va_rf_n, am_II, am_I_sR, am_I_sL, am_R_sI, am_RR, am_R_sL, am_L_sI, am_L_sR, am_LL, am_k_sI, am_k_sR, am_k_sL, am_n_sI, am_n_sR, am_n_sL, true_and, and_true, true_or, or_true, or_false, false_or, not_true_eq_false, not_false_eq_true, Nat.reduceLT, am_dS, am_dP, am_d1, Nat.reduceSub, Nat.reduceMul, ne_eq, Nat.reduceBEq, Nat.reduceAdd, Nat.reduceLeDiff, Nat.reduceEqDiff, and_self, and_false, false_and, if_true, if_false, am_nb, am_nb0, am_nb1, am_lc1, am_lc2, am_lc3, am_b0, am_b1, am_10, am_c8, am_c16, am_c24, am_c32, am_c40, am_c48, am_c56, am_c64, am_c72, Nat.add_zero, Bool.false_eq_true, Nat.zero_le, f, n23, n24]
            exact next _ _ _ _ F2 h172 (by rw [am_I_sI, if_pos ⟨rfl, rfl⟩]) (by rw [r642]; exact hs)
        · have w2 : ¬ dv (dn sk.1) 5 = 2 := by rw [w0]; decide
          simp only [if_neg w2, if_pos w0] at next
          have hra := fun K => wX3_refusesReply (d := d + 197) (K := K) (x := dv (dn (dn sk.1)) (nI N)) hS2.1 hk64
          rw [r642] at hra
          simp only [gX3_years_86, gX3_years_88, gX3_years_90, gX3_years_91, gX3_years_116, gX3_years_118, gX3_years_119, gX3_years_122, gX3_years_123, gX3_years_124, gX3_years_127, gX3_years_129, am_kill_int, am_kill_ref, am_kill_null, am_kill_F, am_kill_long, am_cat_n, am_cat_i, am_cat_r, am_cat_0, am_cat_l, am_nr_n, am_nr_i, am_nr_r, am_nr_0, am_nr_l, Option.toList_some, Option.toList_none, List.nil_append, List.cons_append, va_rf_s, va_rf_n, am_II, am_I_sR, am_I_sL, am_R_sI, am_RR, am_R_sL, am_L_sI, am_L_sR, am_LL, am_k_sI, am_k_sR, am_k_sL, am_n_sI, am_n_sR, am_n_sL, true_and, and_true, true_or, or_true, or_false, false_or, not_true_eq_false, not_false_eq_true, Nat.reduceLT, am_dS, am_dP, am_d1, Nat.reduceSub, Nat.reduceMul, ne_eq, Nat.reduceBEq, Nat.reduceAdd, Nat.reduceLeDiff, Nat.reduceEqDiff, and_self, and_false, false_and, if_true, if_false, am_nb, am_nb0, am_nb1, am_lc1, am_lc2, am_lc3, am_b0, am_b1, am_10, am_c8, am_c16, am_c24, am_c32, am_c40, am_c48, am_c56, am_c64, am_c72, Nat.add_zero, Bool.false_eq_true, Nat.zero_le, w0, n32, hmu]
          rw [hra]
          by_cases f : rRe N (am_I μ 64) (dv (dn (dn sk.1)) (nI N)) = 0
          · obtain ⟨j, hj, ej, hsj⟩ := rep_t hs h8 f
            rw [ej] at next f ⊢
            rw [ej] at hsj
            simp only [gX3_years_132, gX3_years_135, gX3_years_136, gX3_years_139, gX3_years_141, am_kill_int, am_kill_ref, am_kill_null, am_kill_F, am_kill_long, am_cat_n, am_cat_i, am_cat_r, am_cat_0, am_cat_l, am_nr_n, am_nr_i, am_nr_r, am_nr_0, am_nr_l, Option.toList_some, Option.toList_none, List.nil_append, List.cons_append, va_rf_s, va_rf_n, am_II, am_I_sR, am_I_sL, am_R_sI, am_RR, am_R_sL, am_L_sI, am_L_sR, am_LL, am_k_sI, am_k_sR, am_k_sL, am_n_sI, am_n_sR, am_n_sL, true_and, and_true, true_or, or_true, or_false, false_or, not_true_eq_false, not_false_eq_true, Nat.reduceLT, am_dS, am_dP, am_d1, Nat.reduceSub, Nat.reduceMul, ne_eq, Nat.reduceBEq, Nat.reduceAdd, Nat.reduceLeDiff, Nat.reduceEqDiff, and_self, and_false, false_and, if_true, if_false, am_nb, am_nb0, am_nb1, am_lc1, am_lc2, am_lc3, am_b0, am_b1, am_10, am_c8, am_c16, am_c24, am_c32, am_c40, am_c48, am_c56, am_c64, am_c72, Nat.add_zero, Bool.false_eq_true, Nat.zero_le, f, hmu, wX3_goReply (d := d + 198) (show j < 8 by omega) hk64]
            simp only [gX3_years_144, gX3_years_146, gX3_years_147, am_kill_int, am_kill_ref, am_kill_null, am_kill_F, am_kill_long, am_cat_n, am_cat_i, am_cat_r, am_cat_0, am_cat_l, am_nr_n, am_nr_i, am_nr_r, am_nr_0, am_nr_l, Option.toList_some, Option.toList_none, List.nil_append, List.cons_append, va_rf_s, va_rf_n, am_II, am_I_sR, am_I_sL, am_R_sI, am_RR, am_R_sL, am_L_sI, am_L_sR, am_LL, am_k_sI, am_k_sR, am_k_sL, am_n_sI, am_n_sR, am_n_sL, true_and, and_true, true_or, or_true, or_false, false_or, not_true_eq_false, not_false_eq_true, Nat.reduceLT, am_dS, am_dP, am_d1, Nat.reduceSub, Nat.reduceMul, ne_eq, Nat.reduceBEq, Nat.reduceAdd, Nat.reduceLeDiff, Nat.reduceEqDiff, and_self, and_false, false_and, if_true, if_false, am_nb, am_nb0, am_nb1, am_lc1, am_lc2, am_lc3, am_b0, am_b1, am_10, am_c8, am_c16, am_c24, am_c32, am_c40, am_c48, am_c56, am_c64, am_c72, Nat.add_zero, Bool.false_eq_true, Nat.zero_le, n34]
            refine next _ _ _ _ (F2.trans (jZ_W (e64 (Fr.I (Fr.I Fr.refl rfl) rfl)))) ?_ ?_ ?_
            · simp only [am_II, Nat.reduceEqDiff, and_false, false_and, if_false]; exact hS.2.1.1.1
            · simp only [am_II, Nat.reduceEqDiff, and_false, false_and, if_false, and_self, if_true]
            · rw [am_row, am_row, r642]; exact hsj
          · have hn' := rep_n hs h8 f
            rw [hn'] at next
            simp only [gX3_years_132, gX3_years_144, gX3_years_146, gX3_years_147, am_kill_int, am_kill_ref, am_kill_null, am_kill_F, am_kill_long, am_cat_n, am_cat_i, am_cat_r, am_cat_0, am_cat_l, am_nr_n, am_nr_i, am_nr_r, am_nr_0, am_nr_l, Option.toList_some, Option.toList_none, List.nil_append, List.cons_append, va_rf_s, va_rf_n, am_II, am_I_sR, am_I_sL, am_R_sI, am_RR, am_R_sL, am_L_sI, am_L_sR, am_LL, am_k_sI, am_k_sR, am_k_sL, am_n_sI, am_n_sR, am_n_sL, true_and, and_true, true_or, or_true, or_false, false_or, not_true_eq_false, not_false_eq_true, Nat.reduceLT, am_dS, am_dP, am_d1, Nat.reduceSub, Nat.reduceMul, ne_eq, Nat.reduceBEq, Nat.reduceAdd, Nat.reduceLeDiff, Nat.reduceEqDiff, and_self, and_false, false_and, if_true, if_false, am_nb, am_nb0, am_nb1, am_lc1, am_lc2, am_lc3, am_b0, am_b1, am_10, am_c8, am_c16, am_c24, am_c32, am_c40, am_c48, am_c56, am_c64, am_c72, Nat.add_zero, Bool.false_eq_true, Nat.zero_le, f, n34]
            exact next _ _ _ _ F2 h172 (by rw [am_I_sI, if_pos ⟨rfl, rfl⟩]) (by rw [r642]; exact hs)
        · have w2 : ¬ dv (dn sk.1) 5 = 2 := by rw [w0]; decide
          have w3 : ¬ dv (dn sk.1) 5 = 3 := by rw [w0]; decide
          simp only [if_neg w2, if_neg w3] at next
          have h173 : am_I (am_sI (am_sI (am_sI μ 54 34 (dn sk.1)) 54 34 (dn (dn sk.1))) 54 34 (dn (dn (dn sk.1)))) 54 17 = 0 := by rw [am_I_sI, if_neg (by omega)]; exact h172
          have F3 : Fr jZ μ (am_sI (am_sI (am_sI μ 54 34 (dn sk.1)) 54 34 (dn (dn sk.1))) 54 34 (dn (dn (dn sk.1)))) := F2.trans jZ_34
          have hS3 := hS.jZ F3 h173
          have r643 : am_I (am_sI (am_sI (am_sI μ 54 34 (dn sk.1)) 54 34 (dn (dn sk.1))) 54 34 (dn (dn (dn sk.1)))) 64 = am_I μ 64 := by rw [am_row_o (by decide)]; exact r642
          have hk643 : am_k (am_sI (am_sI (am_sI μ 54 34 (dn sk.1)) 54 34 (dn (dn sk.1))) 54 34 (dn (dn (dn sk.1)))) 64 = (10, 83) := hk64
          have hd3 := fun K => hdr (d + 199) K (am_sI (am_sI μ 54 34 (dn sk.1)) 54 34 (dn (dn sk.1))) 10 hmu.1.1 n10
          rw [am_I_sI, if_pos ⟨rfl, rfl⟩] at hd3
          have hra := fun K => wX3_refusesLay (d := d + 197) (K := K) (x := dv (dn (dn sk.1)) (nI N)) (y := dv (dn (dn (dn sk.1))) 10) hS3.1 hk643
          rw [r643] at hra
          simp only [gX3_years_86, gX3_years_88, gX3_years_90, gX3_years_91, gX3_years_116, gX3_years_118, gX3_years_119, gX3_years_144, gX3_years_146, gX3_years_147, gX3_years_150, gX3_years_151, gX3_years_153, am_kill_int, am_kill_ref, am_kill_null, am_kill_F, am_kill_long, am_cat_n, am_cat_i, am_cat_r, am_cat_0, am_cat_l, am_nr_n, am_nr_i, am_nr_r, am_nr_0, am_nr_l, Option.toList_some, Option.toList_none, List.nil_append, List.cons_append, va_rf_s, va_rf_n, am_II, am_I_sR, am_I_sL, am_R_sI, am_RR, am_R_sL, am_L_sI, am_L_sR, am_LL, am_k_sI, am_k_sR, am_k_sL, am_n_sI, am_n_sR, am_n_sL, true_and, and_true, true_or, or_true, or_false, false_or, not_true_eq_false, not_false_eq_true, Nat.reduceLT, am_dS, am_dP, am_d1, Nat.reduceSub, Nat.reduceMul, ne_eq, Nat.reduceBEq, Nat.reduceAdd, Nat.reduceLeDiff, Nat.reduceEqDiff, and_self, and_false, false_and, if_true, if_false, am_nb, am_nb0, am_nb1, am_lc1, am_lc2, am_lc3, am_b0, am_b1, am_10, am_c8, am_c16, am_c24, am_c32, am_c40, am_c48, am_c56, am_c64, am_c72, Nat.add_zero, Bool.false_eq_true, Nat.zero_le, w0, n42, n43, hmu]
          rw [hd3]
          simp only [gX3_years_156, gX3_years_158, gX3_years_159, gX3_years_160, gX3_years_163, gX3_years_165, gX3_years_167, am_kill_int, am_kill_ref, am_kill_null, am_kill_F, am_kill_long, am_cat_n, am_cat_i, am_cat_r, am_cat_0, am_cat_l, am_nr_n, am_nr_i, am_nr_r, am_nr_0, am_nr_l, Option.toList_some, Option.toList_none, List.nil_append, List.cons_append, va_rf_s, va_rf_n, am_II, am_I_sR, am_I_sL, am_R_sI, am_RR, am_R_sL, am_L_sI, am_L_sR, am_LL, am_k_sI, am_k_sR, am_k_sL, am_n_sI, am_n_sR, am_n_sL, true_and, and_true, true_or, or_true, or_false, false_or, not_true_eq_false, not_false_eq_true, Nat.reduceLT, am_dS, am_dP, am_d1, Nat.reduceSub, Nat.reduceMul, ne_eq, Nat.reduceBEq, Nat.reduceAdd, Nat.reduceLeDiff, Nat.reduceEqDiff, and_self, and_false, false_and, if_true, if_false, am_nb, am_nb0, am_nb1, am_lc1, am_lc2, am_lc3, am_b0, am_b1, am_10, am_c8, am_c16, am_c24, am_c32, am_c40, am_c48, am_c56, am_c64, am_c72, Nat.add_zero, Bool.false_eq_true, Nat.zero_le, hmu]
          rw [hra]
          by_cases f : rLa N c (am_I μ 64) (dv (dn (dn sk.1)) (nI N)) (dv (dn (dn (dn sk.1))) 10) = 0
          · obtain ⟨j, hj, ej, hy9, hsj⟩ := lay_t (ru := ru) hs h8 f
            rw [ej] at next f ⊢
            rw [ej] at hsj
            simp only [gX3_years_170, gX3_years_173, gX3_years_174, gX3_years_177, gX3_years_179, gX3_years_181, am_kill_int, am_kill_ref, am_kill_null, am_kill_F, am_kill_long, am_cat_n, am_cat_i, am_cat_r, am_cat_0, am_cat_l, am_nr_n, am_nr_i, am_nr_r, am_nr_0, am_nr_l, Option.toList_some, Option.toList_none, List.nil_append, List.cons_append, va_rf_s, va_rf_n, am_II, am_I_sR, am_I_sL, am_R_sI, am_RR, am_R_sL, am_L_sI, am_L_sR, am_LL, am_k_sI, am_k_sR, am_k_sL, am_n_sI, am_n_sR, am_n_sL, true_and, and_true, true_or, or_true, or_false, false_or, not_true_eq_false, not_false_eq_true, Nat.reduceLT, am_dS, am_dP, am_d1, Nat.reduceSub, Nat.reduceMul, ne_eq, Nat.reduceBEq, Nat.reduceAdd, Nat.reduceLeDiff, Nat.reduceEqDiff, and_self, and_false, false_and, if_true, if_false, am_nb, am_nb0, am_nb1, am_lc1, am_lc2, am_lc3, am_b0, am_b1, am_10, am_c8, am_c16, am_c24, am_c32, am_c40, am_c48, am_c56, am_c64, am_c72, Nat.add_zero, Bool.false_eq_true, Nat.zero_le, f, hmu]
            refine wX3_goLayK (d := d + 198) (show j < 8 by omega) hk643 (fun ν hF hT => ?_)
            simp only [am_nr_n, Option.toList_none, List.nil_append, true_and]
            refine next _ _ _ _ (F3.trans (jZ_W (e64 hF))) ?_ ?_ ?_
            · rw [hF.1 54 17 (by decide)]; exact h173
            · rw [hF.1 54 34 (by decide), am_I_sI, if_pos ⟨rfl, rfl⟩]
            · rw [hT, r643]; exact hsj
          · have hn' := lay_n (ru := ru) hs h8 f
            rw [hn'] at next
            simp only [gX3_years_170, am_kill_int, am_kill_ref, am_kill_null, am_kill_F, am_kill_long, am_cat_n, am_cat_i, am_cat_r, am_cat_0, am_cat_l, am_nr_n, am_nr_i, am_nr_r, am_nr_0, am_nr_l, Option.toList_some, Option.toList_none, List.nil_append, List.cons_append, va_rf_s, va_rf_n, am_II, am_I_sR, am_I_sL, am_R_sI, am_RR, am_R_sL, am_L_sI, am_L_sR, am_LL, am_k_sI, am_k_sR, am_k_sL, am_n_sI, am_n_sR, am_n_sL, true_and, and_true, true_or, or_true, or_false, false_or, not_true_eq_false, not_false_eq_true, Nat.reduceLT, am_dS, am_dP, am_d1, Nat.reduceSub, Nat.reduceMul, ne_eq, Nat.reduceBEq, Nat.reduceAdd, Nat.reduceLeDiff, Nat.reduceEqDiff, and_self, and_false, false_and, if_true, if_false, am_nb, am_nb0, am_nb1, am_lc1, am_lc2, am_lc3, am_b0, am_b1, am_10, am_c8, am_c16, am_c24, am_c32, am_c40, am_c48, am_c56, am_c64, am_c72, Nat.add_zero, Bool.false_eq_true, Nat.zero_le, f]
            exact next _ _ _ _ F3 h173 (by rw [am_I_sI, if_pos ⟨rfl, rfl⟩]) (by rw [r643]; exact hs)
def tYr (dn : Int32 → Int32) (dv : Int32 → Int32 → Int32) (N : Nat) (ru : Option PF) (c : Int32) (S : Nat → Int32) (x y : Int32) : Nat → Int32 := (yIt dn dv N ru c (x, S) y.toNatClampNeg).2
def vYr (dn : Int32 → Int32) (dv : Int32 → Int32 → Int32) (N : Nat) (ru : Option PF) (c : Int32) (S : Nat → Int32) (x y : Int32) : Int32 := if 1 ≤ y ∧ y ≤ 60 then tYr dn dv N ru c S x y 81 - S 81 else -1
def pYr (dn : Int32 → Int32) (dv : Int32 → Int32 → Int32) (N : Nat) (ru : Option PF) (c : Int32) (S : Nat → Int32) (x y : Int32) : Option (List Int64) := if 1 ≤ y ∧ y ≤ 60 then some [(tYr dn dv N ru c S x y 82 - S 82).toInt64, (orB (gF 1 (tYr dn dv N ru c S x y)) N).toInt64] else none
theorem e60L : (60 : Int64) = (60 : Int32).toInt64 := by decide
theorem qc_years (hdr : HD1 dn dv) (hP : Per N C ru c μ) : QC mX1_years [.ref 0, .int x, .int y, am_F, am_F, am_F] μ (vYr dn dv N ru c (cS μ 1) x y) (pYr dn dv N ru c (cS μ 1) x y) := by
  intro d K hK
  have hC := hP.1.1
  have hcu := hC.1
  simp only [cL, spL, Nat.reduceAdd] at hcu
  have hN := hC.2.1
  have h8 := hC.2.2.1
  have hk := hC.1.c
  unfold vYr pYr at hK
  by_cases hy : 1 ≤ y ∧ y ≤ 60
  · simp only [if_pos hy] at hK
    obtain ⟨n, hn, rfl⟩ := rngI (M := 60) (by decide) (Int32.le_trans (by decide) hy.1) hy.2
    have hcl : (nI n).toNatClampNeg = n := nI_clamp (by omega)
    have hC0 : CC N ru c (am_sI μ 0 36 x) := hC.jY jY_36
    simp only [gX1_years_0, gX1_years_1, gX1_years_2, gX1_years_3, gX1_years_6, gX1_years_9, gX1_years_12, gX1_years_13, gX1_years_14, gX1_years_15, gX1_years_16, gX1_years_19, gX1_years_20, gX1_years_23, gX1_years_24, gX1_years_27, am_kill_int, am_kill_ref, am_kill_null, am_kill_F, am_kill_long, am_cat_n, am_cat_i, am_cat_r, am_cat_0, am_cat_l, am_nr_n, am_nr_i, am_nr_r, am_nr_0, am_nr_l, Option.toList_some, Option.toList_none, List.nil_append, List.cons_append, va_rf_s, va_rf_n, am_II, am_I_sR, am_I_sL, am_R_sI, am_RR, am_R_sL, am_L_sI, am_L_sR, am_LL, am_k_sI, am_k_sR, am_k_sL, am_n_sI, am_n_sR, am_n_sL, true_and, and_true, true_or, or_true, or_false, false_or, not_true_eq_false, not_false_eq_true, Nat.reduceLT, am_dS, am_dP, am_d1, Nat.reduceSub, Nat.reduceMul, ne_eq, Nat.reduceBEq, Nat.reduceAdd, Nat.reduceLeDiff, Nat.reduceEqDiff, and_self, and_false, false_and, if_true, if_false, am_nb, am_nb0, am_nb1, am_lc1, am_lc2, am_lc3, am_b0, am_b1, am_10, am_c8, am_c16, am_c24, am_c32, am_c40, am_c48, am_c56, am_c64, am_c72, Nat.add_zero, Bool.false_eq_true, Nat.zero_le, hcu, wX1_in, l1L, e60L, am_leL, hy]
    refine wX2_becomes (d := d + 198) (μ := am_sI μ 0 36 x) (h := 1) (h' := 12) hC.1.s1 hC.1.s2 (by decide) (fun ν hF hT => ?_)
    have hF' : Fr jY μ ν := jY_36.trans (jY_S (jS_le hF))
    have hC1 := hC.jY hF'
    rw [cS_o (by omega)] at hT
    simp only [gX1_years_30, gX1_years_31, am_kill_int, am_kill_ref, am_kill_null, am_kill_F, am_kill_long, am_cat_n, am_cat_i, am_cat_r, am_cat_0, am_cat_l, am_nr_n, am_nr_i, am_nr_r, am_nr_0, am_nr_l, Option.toList_some, Option.toList_none, List.nil_append, List.cons_append, va_rf_s, va_rf_n, am_II, am_I_sR, am_I_sL, am_R_sI, am_RR, am_R_sL, am_L_sI, am_L_sR, am_LL, am_k_sI, am_k_sR, am_k_sL, am_n_sI, am_n_sR, am_n_sL, true_and, and_true, true_or, or_true, or_false, false_or, not_true_eq_false, not_false_eq_true, Nat.reduceLT, am_dS, am_dP, am_d1, Nat.reduceSub, Nat.reduceMul, ne_eq, Nat.reduceBEq, Nat.reduceAdd, Nat.reduceLeDiff, Nat.reduceEqDiff, and_self, and_false, false_and, if_true, if_false, am_nb, am_nb0, am_nb1, am_lc1, am_lc2, am_lc3, am_b0, am_b1, am_10, am_c8, am_c16, am_c24, am_c32, am_c40, am_c48, am_c56, am_c64, am_c72, Nat.add_zero, Bool.false_eq_true, Nat.zero_le]
    rw [← nI_0]
    refine qcL_years hdr (n := n) (by omega) n 0 ν (x, cS μ 1) _ _ (by omega) hC1 ?_ hT (fun ξ z4 z5 hF2 hT2 => ?_)
    · rw [hF.1 0 36 (by unfold inSp; omega), am_I_sI, if_pos ⟨rfl, rfl⟩]; rfl
    · have hF3 := hF'.trans hF2
      have hC2 := hC.jY hF3
      have hcu2 := hC2.1
      simp only [cL, spL, Nat.reduceAdd] at hcu2
      have hT3 : cS ξ 12 = tYr dn dv N ru c (cS μ 1) x (nI n) := by rw [hT2]; unfold tYr; rw [hcl]
      generalize tYr dn dv N ru c (cS μ 1) x (nI n) = T at hT3 hK
      have g1 : am_I ξ 12 12 = T 82 := by rw [← hT3]; rfl
      have g2 : am_I ξ 1 12 = cS μ 1 82 := by rw [← jY_1 hF3]; rfl
      have g3 : am_I ξ 12 11 = T 81 := by rw [← hT3]; rfl
      have g4 : am_I ξ 1 11 = cS μ 1 81 := by rw [← jY_1 hF3]; rfl
      have hF4 : Fw sC ξ (am_sI (am_sL (am_sI ξ 0 40 0) 53 0 (T 82 - cS μ 1 82).toInt64) 0 40 1) := ((Fw.refl.I (by unfold sC; omega)).L (Or.inl rfl)).I (by unfold sC; omega)
      have hC4 := hC2.fw hF4 (fun a b q => by unfold sC at q; omega)
      have gg := fun K => wX1_guests (d := d + 199) (K := K) (h := 12) (fr := 1) hC4.2.1 h8 hC4.1.c hC4.1.s2
      rw [cS_o (by omega), cS_sL, cS_o (by omega), hT3] at gg
      simp only [gX1_years_141, gX1_years_142, gX1_years_143, gX1_years_146, gX1_years_147, gX1_years_148, gX1_years_151, gX1_years_154, gX1_years_155, gX1_years_158, gX1_years_161, gX1_years_162, gX1_years_163, gX1_years_166, gX1_years_167, gX1_years_168, gX1_years_169, gX1_years_172, gX1_years_173, am_kill_int, am_kill_ref, am_kill_null, am_kill_F, am_kill_long, am_cat_n, am_cat_i, am_cat_r, am_cat_0, am_cat_l, am_nr_n, am_nr_i, am_nr_r, am_nr_0, am_nr_l, Option.toList_some, Option.toList_none, List.nil_append, List.cons_append, va_rf_s, va_rf_n, am_II, am_I_sR, am_I_sL, am_R_sI, am_RR, am_R_sL, am_L_sI, am_L_sR, am_LL, am_k_sI, am_k_sR, am_k_sL, am_n_sI, am_n_sR, am_n_sL, true_and, and_true, true_or, or_true, or_false, false_or, not_true_eq_false, not_false_eq_true, Nat.reduceLT, am_dS, am_dP, am_d1, Nat.reduceSub, Nat.reduceMul, ne_eq, Nat.reduceBEq, Nat.reduceAdd, Nat.reduceLeDiff, Nat.reduceEqDiff, and_self, and_false, false_and, if_true, if_false, am_nb, am_nb0, am_nb1, am_lc1, am_lc2, am_lc3, am_b0, am_b1, am_10, am_c8, am_c16, am_c24, am_c32, am_c40, am_c48, am_c56, am_c64, am_c72, Nat.add_zero, Bool.false_eq_true, Nat.zero_le, hcu2, g1, g2, wX1_tells0]
      rw [gg]
      simp only [gX1_years_176, gX1_years_177, gX1_years_180, gX1_years_181, gX1_years_184, gX1_years_187, gX1_years_188, gX1_years_191, gX1_years_194, gX1_years_195, am_kill_int, am_kill_ref, am_kill_null, am_kill_F, am_kill_long, am_cat_n, am_cat_i, am_cat_r, am_cat_0, am_cat_l, am_nr_n, am_nr_i, am_nr_r, am_nr_0, am_nr_l, Option.toList_some, Option.toList_none, List.nil_append, List.cons_append, va_rf_s, va_rf_n, am_II, am_I_sR, am_I_sL, am_R_sI, am_RR, am_R_sL, am_L_sI, am_L_sR, am_LL, am_k_sI, am_k_sR, am_k_sL, am_n_sI, am_n_sR, am_n_sL, true_and, and_true, true_or, or_true, or_false, false_or, not_true_eq_false, not_false_eq_true, Nat.reduceLT, am_dS, am_dP, am_d1, Nat.reduceSub, Nat.reduceMul, ne_eq, Nat.reduceBEq, Nat.reduceAdd, Nat.reduceLeDiff, Nat.reduceEqDiff, and_self, and_false, false_and, if_true, if_false, am_nb, am_nb0, am_nb1, am_lc1, am_lc2, am_lc3, am_b0, am_b1, am_10, am_c8, am_c16, am_c24, am_c32, am_c40, am_c48, am_c56, am_c64, am_c72, Nat.add_zero, Bool.false_eq_true, Nat.zero_le, hcu2, g3, g4, wX1_tells1]
      refine hK _ ((((jY_qc hF3).1.trans hF4).L (Or.inl rfl)).I (by unfold sC; omega)) (TC2 ?_ ?_ ?_) (fun i => ?_)
      · simp only [am_II, and_self, if_true]
      · simp only [am_L_sI, am_LL, and_self, if_true, Nat.reduceEqDiff, and_false, if_false]
      · simp only [am_L_sI, am_LL, and_self, if_true]
      · simp only [am_L_sI, am_LL, Nat.reduceEqDiff, false_and, if_false]; exact hF3.L
  · simp only [if_neg hy] at hK
    simp only [gX1_years_0, gX1_years_1, gX1_years_2, gX1_years_3, gX1_years_6, gX1_years_9, gX1_years_12, gX1_years_13, am_kill_int, am_kill_ref, am_kill_null, am_kill_F, am_kill_long, am_cat_n, am_cat_i, am_cat_r, am_cat_0, am_cat_l, am_nr_n, am_nr_i, am_nr_r, am_nr_0, am_nr_l, Option.toList_some, Option.toList_none, List.nil_append, List.cons_append, va_rf_s, va_rf_n, am_II, am_I_sR, am_I_sL, am_R_sI, am_RR, am_R_sL, am_L_sI, am_L_sR, am_LL, am_k_sI, am_k_sR, am_k_sL, am_n_sI, am_n_sR, am_n_sL, true_and, and_true, true_or, or_true, or_false, false_or, not_true_eq_false, not_false_eq_true, Nat.reduceLT, am_dS, am_dP, am_d1, Nat.reduceSub, Nat.reduceMul, ne_eq, Nat.reduceBEq, Nat.reduceAdd, Nat.reduceLeDiff, Nat.reduceEqDiff, and_self, and_false, false_and, if_true, if_false, am_nb, am_nb0, am_nb1, am_lc1, am_lc2, am_lc3, am_b0, am_b1, am_10, am_c8, am_c16, am_c24, am_c32, am_c40, am_c48, am_c56, am_c64, am_c72, Nat.add_zero, Bool.false_eq_true, Nat.zero_le, wX1_in, l1L, e60L, am_leL, hy]
    exact hK μ Fw.refl TC0 (fun _ => rfl)
theorem q5_years (hdr : HD3 dn dv) (hd5 : ∀ r, dv r 5 = 0 ∨ dv r 5 = 1 ∨ dv r 5 = 2 ∨ dv r 5 = 3 ∨ dv r 5 = 4) (hP : Per N C ru c μ) : Q5 mX3_years [.ref 54, .int x, .int y, am_F, am_F, am_F, am_F] μ (vYr dn dv N ru c (cS μ 1) x y) (pYr dn dv N ru c (cS μ 1) x y) := by
  intro d K hK
  have hS := hP.1.2.1
  have hC := hS.1
  have hmu := hC.1
  unfold mL at hmu
  have hN := hC.2.1
  have h8 := hC.2.2.1
  unfold vYr pYr at hK
  have z82 : (82 : Int32).toNatClampNeg = 82 := by decide
  have z81 : (81 : Int32).toNatClampNeg = 81 := by decide
  have v82 : vp_in 82 83 := vp_in_nI (n := 82) (by decide) (by decide)
  have v81 : vp_in 81 83 := vp_in_nI (n := 81) (by decide) (by decide)
  by_cases hy : 1 ≤ y ∧ y ≤ 60
  · simp only [if_pos hy] at hK
    obtain ⟨n, hn, rfl⟩ := rngI (M := 60) (by decide) (Int32.le_trans (by decide) hy.1) hy.2
    have hcl : (nI n).toNatClampNeg = n := nI_clamp (by omega)
    simp only [gX3_years_5, gX3_years_6, gX3_years_7, gX3_years_9, gX3_years_12, gX3_years_15, gX3_years_16, gX3_years_17, gX3_years_18, gX3_years_19, gX3_years_22, gX3_years_23, gX3_years_26, gX3_years_27, gX3_years_30, gX3_years_31, am_kill_int, am_kill_ref, am_kill_null, am_kill_F, am_kill_long, am_cat_n, am_cat_i, am_cat_r, am_cat_0, am_cat_l, am_nr_n, am_nr_i, am_nr_r, am_nr_0, am_nr_l, Option.toList_some, Option.toList_none, List.nil_append, List.cons_append, va_rf_s, va_rf_n, am_II, am_I_sR, am_I_sL, am_R_sI, am_RR, am_R_sL, am_L_sI, am_L_sR, am_LL, am_k_sI, am_k_sR, am_k_sL, am_n_sI, am_n_sR, am_n_sL, true_and, and_true, true_or, or_true, or_false, false_or, not_true_eq_false, not_false_eq_true, Nat.reduceLT, am_dS, am_dP, am_d1, Nat.reduceSub, Nat.reduceMul, ne_eq, Nat.reduceBEq, Nat.reduceAdd, Nat.reduceLeDiff, Nat.reduceEqDiff, and_self, and_false, false_and, if_true, if_false, am_nb, am_nb0, am_nb1, am_lc1, am_lc2, am_lc3, am_b0, am_b1, am_10, am_c8, am_c16, am_c24, am_c32, am_c40, am_c48, am_c56, am_c64, am_c72, Nat.add_zero, Bool.false_eq_true, Nat.zero_le, hmu, wX3_in, hy]
    have h170 : am_I (am_sI μ 54 34 x) 54 17 = 0 := by rw [am_I_sI, if_neg (by omega)]; exact hP.h17
    refine wX3_lay00 (μ := am_sI μ 54 34 x) (h := 55) (h' := 64) hmu.1.2.1 hmu.1.2.2.2.2.2.2.2.2.2.2.1 (by decide) (fun ν hF hT => ?_)
    have hF' : Fr jZ μ ν := jZ_34.trans (jZ_W (e64 hF))
    have h17' : am_I ν 54 17 = 0 := (hF.1 54 17 (by decide)).trans h170
    have hS1 := hS.jZ hF' h17'
    rw [am_row_o (by decide)] at hT
    have hsim := hP.2.1.row h8 hT
    simp only [gX3_years_34, gX3_years_35, am_kill_int, am_kill_ref, am_kill_null, am_kill_F, am_kill_long, am_cat_n, am_cat_i, am_cat_r, am_cat_0, am_cat_l, am_nr_n, am_nr_i, am_nr_r, am_nr_0, am_nr_l, Option.toList_some, Option.toList_none, List.nil_append, List.cons_append, va_rf_s, va_rf_n, am_II, am_I_sR, am_I_sL, am_R_sI, am_RR, am_R_sL, am_L_sI, am_L_sR, am_LL, am_k_sI, am_k_sR, am_k_sL, am_n_sI, am_n_sR, am_n_sL, true_and, and_true, true_or, or_true, or_false, false_or, not_true_eq_false, not_false_eq_true, Nat.reduceLT, am_dS, am_dP, am_d1, Nat.reduceSub, Nat.reduceMul, ne_eq, Nat.reduceBEq, Nat.reduceAdd, Nat.reduceLeDiff, Nat.reduceEqDiff, and_self, and_false, false_and, if_true, if_false, am_nb, am_nb0, am_nb1, am_lc1, am_lc2, am_lc3, am_b0, am_b1, am_10, am_c8, am_c16, am_c24, am_c32, am_c40, am_c48, am_c56, am_c64, am_c72, Nat.add_zero, Bool.false_eq_true, Nat.zero_le]
    rw [← nI_0]
    refine q5L_years hdr hd5 (n := n) (by omega) n 0 ν (x, cS μ 1) _ _ _ (by omega) hS1 ?_ hsim (fun ξ z4 z5 z6 hF2 h17 hs2 => ?_)
    · rw [hF.1 54 34 (by decide), am_I_sI, if_pos ⟨rfl, rfl⟩]; rfl
    · have hF3 := hF'.trans hF2
      have hS2 := hS.jZ hF3 h17
      have hmξ := hS2.1.1
      unfold mL at hmξ
      have hs3 : Sim N (tYr dn dv N ru c (cS μ 1) x (nI n)) (am_I ξ 64) := by unfold tYr; rw [hcl]; exact hs2
      generalize tYr dn dv N ru c (cS μ 1) x (nI n) = T at hs3 hK
      have r55 : am_I ξ 55 = am_I μ 55 := funext fun b => hF3.1 55 b (by unfold jZ jW jM; omega)
      have g1 : am_I ξ 64 82 = T 82 := hs3.2.2.2.symm
      have g2 : am_I ξ 55 82 = cS μ 1 82 := by rw [r55]; exact hP.2.1.2.2.2.symm
      have g3 : am_I ξ 64 81 = T 81 := hs3.2.2.1.symm
      have g4 : am_I ξ 55 81 = cS μ 1 81 := by rw [r55]; exact hP.2.1.2.2.1.symm
      have hF4 : Fw sM ξ (am_sI (am_sL (am_sI ξ 54 6 0) 57 0 (T 82 - cS μ 1 82).toInt64) 54 6 1) := ((Fw.refl.I (by unfold sM; omega)).L (Or.inr rfl)).I (by unfold sM; omega)
      have hS3 := hS2.sMm hF4 (by rw [am_I_sI, if_neg (by omega), am_I_sL, am_I_sI, if_neg (by omega)]; exact h17)
      have gg := fun K => wX3_guests (d := d + 199) (K := K) hS3.1 (h := 64) hmξ.1.2.2.2.2.2.2.2.2.2.2.1
      rw [am_row_o (by decide), am_I_sL, am_row_o (by decide), ← hs3.gFM] at gg
      simp only [gX3_years_190, gX3_years_191, gX3_years_192, gX3_years_195, gX3_years_196, gX3_years_197, gX3_years_200, gX3_years_202, gX3_years_203, gX3_years_204, gX3_years_207, gX3_years_209, gX3_years_210, gX3_years_211, gX3_years_212, gX3_years_215, gX3_years_216, gX3_years_217, gX3_years_218, gX3_years_221, am_kill_int, am_kill_ref, am_kill_null, am_kill_F, am_kill_long, am_cat_n, am_cat_i, am_cat_r, am_cat_0, am_cat_l, am_nr_n, am_nr_i, am_nr_r, am_nr_0, am_nr_l, Option.toList_some, Option.toList_none, List.nil_append, List.cons_append, va_rf_s, va_rf_n, am_II, am_I_sR, am_I_sL, am_R_sI, am_RR, am_R_sL, am_L_sI, am_L_sR, am_LL, am_k_sI, am_k_sR, am_k_sL, am_n_sI, am_n_sR, am_n_sL, true_and, and_true, true_or, or_true, or_false, false_or, not_true_eq_false, not_false_eq_true, Nat.reduceLT, am_dS, am_dP, am_d1, Nat.reduceSub, Nat.reduceMul, ne_eq, Nat.reduceBEq, Nat.reduceAdd, Nat.reduceLeDiff, Nat.reduceEqDiff, and_self, and_false, false_and, if_true, if_false, am_nb, am_nb0, am_nb1, am_lc1, am_lc2, am_lc3, am_b0, am_b1, am_10, am_c8, am_c16, am_c24, am_c32, am_c40, am_c48, am_c56, am_c64, am_c72, Nat.add_zero, Bool.false_eq_true, Nat.zero_le, hmξ, z82, v82, g1, g2, wX3_tell0]
      rw [gg]
      simp only [gX3_years_224, gX3_years_225, gX3_years_228, gX3_years_229, gX3_years_232, gX3_years_234, gX3_years_235, gX3_years_236, gX3_years_239, gX3_years_241, gX3_years_242, gX3_years_243, am_kill_int, am_kill_ref, am_kill_null, am_kill_F, am_kill_long, am_cat_n, am_cat_i, am_cat_r, am_cat_0, am_cat_l, am_nr_n, am_nr_i, am_nr_r, am_nr_0, am_nr_l, Option.toList_some, Option.toList_none, List.nil_append, List.cons_append, va_rf_s, va_rf_n, am_II, am_I_sR, am_I_sL, am_R_sI, am_RR, am_R_sL, am_L_sI, am_L_sR, am_LL, am_k_sI, am_k_sR, am_k_sL, am_n_sI, am_n_sR, am_n_sL, true_and, and_true, true_or, or_true, or_false, false_or, not_true_eq_false, not_false_eq_true, Nat.reduceLT, am_dS, am_dP, am_d1, Nat.reduceSub, Nat.reduceMul, ne_eq, Nat.reduceBEq, Nat.reduceAdd, Nat.reduceLeDiff, Nat.reduceEqDiff, and_self, and_false, false_and, if_true, if_false, am_nb, am_nb0, am_nb1, am_lc1, am_lc2, am_lc3, am_b0, am_b1, am_10, am_c8, am_c16, am_c24, am_c32, am_c40, am_c48, am_c56, am_c64, am_c72, Nat.add_zero, Bool.false_eq_true, Nat.zero_le, hmξ, z81, v81, g3, g4, wX3_tell1]
      refine hK _ ((((jZ_sM hF3).trans hF4).L (Or.inr rfl)).I (by unfold sM; omega)) ?_ (TN2 ?_ ?_ ?_) (fun i => ?_)
      · simp only [am_II, am_I_sL, Nat.reduceEqDiff, and_false, if_false]; exact h17
      · simp only [am_II, and_self, if_true]
      · simp only [am_L_sI, am_LL, and_self, if_true, Nat.reduceEqDiff, and_false, if_false]
      · simp only [am_L_sI, am_LL, and_self, if_true]
      · simp only [am_L_sI, am_LL, Nat.reduceEqDiff, false_and, if_false]; exact hF3.L
  · simp only [if_neg hy] at hK
    simp only [gX3_years_5, gX3_years_6, gX3_years_7, gX3_years_9, gX3_years_12, gX3_years_15, gX3_years_16, am_kill_int, am_kill_ref, am_kill_null, am_kill_F, am_kill_long, am_cat_n, am_cat_i, am_cat_r, am_cat_0, am_cat_l, am_nr_n, am_nr_i, am_nr_r, am_nr_0, am_nr_l, Option.toList_some, Option.toList_none, List.nil_append, List.cons_append, va_rf_s, va_rf_n, am_II, am_I_sR, am_I_sL, am_R_sI, am_RR, am_R_sL, am_L_sI, am_L_sR, am_LL, am_k_sI, am_k_sR, am_k_sL, am_n_sI, am_n_sR, am_n_sL, true_and, and_true, true_or, or_true, or_false, false_or, not_true_eq_false, not_false_eq_true, Nat.reduceLT, am_dS, am_dP, am_d1, Nat.reduceSub, Nat.reduceMul, ne_eq, Nat.reduceBEq, Nat.reduceAdd, Nat.reduceLeDiff, Nat.reduceEqDiff, and_self, and_false, false_and, if_true, if_false, am_nb, am_nb0, am_nb1, am_lc1, am_lc2, am_lc3, am_b0, am_b1, am_10, am_c8, am_c16, am_c24, am_c32, am_c40, am_c48, am_c56, am_c64, am_c72, Nat.add_zero, Bool.false_eq_true, Nat.zero_le, hmu, wX3_in, hy]
    exact hK μ Fw.refl hP.h17 TN0 (fun _ => rfl)
theorem op_yearsG (h1 : HD1 dn dv) (h3 : HD3 dn dv) (hd5 : ∀ r, dv r 5 = 0 ∨ dv r 5 = 1 ∨ dv r 5 = 2 ∨ dv r 5 = 3 ∨ dv r 5 = 4) (hI : Inv q μ) : OP q mX1_years mX3_years [.ref 0, .int x, .int y, am_F, am_F, am_F] [.ref 54, .int x, .int y, am_F, am_F, am_F, am_F] μ :=
  op_S (V := fun N ru c S => vYr dn dv N ru c S x y) (P := fun N ru c S => pYr dn dv N ru c S x y) (fun hP => qc_years h1 hP) (fun d K μ h h' => by simp only [gX3_years_0, gX3_years_1, gX3_years_2, am_kill_int, am_kill_ref, am_kill_null, am_kill_F, am_kill_long, am_cat_n, am_cat_i, am_cat_r, am_cat_0, am_cat_l, am_nr_n, am_nr_i, am_nr_r, am_nr_0, am_nr_l, Option.toList_some, Option.toList_none, List.nil_append, List.cons_append, va_rf_s, va_rf_n, am_I_sR, am_I_sL, am_R_sI, am_R_sL, am_L_sI, am_L_sR, am_k_sI, am_k_sR, am_k_sL, am_n_sI, am_n_sR, am_n_sL, true_and, and_true, true_or, or_true, or_false, false_or, not_true_eq_false, not_false_eq_true, Nat.reduceLT, am_dS, am_dP, am_d1, Nat.reduceSub, Nat.reduceMul, ne_eq, Nat.reduceBEq, Nat.reduceAdd, Nat.reduceLeDiff, Nat.reduceEqDiff, and_self, and_false, false_and, if_true, if_false, am_nb, am_nb0, am_nb1, am_lc1, am_lc2, am_lc3, am_b0, am_b1, am_10, am_c8, am_c16, am_c24, am_c32, am_c40, am_c48, am_c56, am_c64, am_c72, Nat.add_zero, Bool.false_eq_true, Nat.zero_le, h]; exact h') (fun hP => q5_years h3 hd5 hP) hI
theorem op_years (hI : Inv q μ) : OP q mX1_years mX3_years [.ref 0, .int x, .int y, am_F, am_F, am_F] [.ref 54, .int x, .int y, am_F, am_F, am_F, am_F] μ :=
  op_yearsG (dn := drN) (dv := drV) (fun d K μ x h hx => wX1_draws h hx) (fun d K μ x h hx => wX3_draw h hx) drV_5 hI
end PVV
