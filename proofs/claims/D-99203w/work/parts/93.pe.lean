/-! calls that put: announce, reply, lay, tint, exchange -/
set_option maxRecDepth 100000
section PEV
variable {d : Nat} {μ ν ξ μ1 ν1 : am_M} {K : Option Value → am_M → Prop} {x y z c w : Int32} {h h' N C j i k r n M b q q' t u s : Nat} {v : Int32} {ru : Option PF} {F G : Nat → Nat → Prop} {S S' T a a' : Nat → Int32} {p : Int64}
theorem op_announce (hq : q ≤ 100) (hI : Inv q μ) : OP q mX1_announce mX3_announce [.ref 0, .int x] [.ref 54, .int x, am_F] μ := by
  intro d
  have hI' := hI
  obtain ⟨⟨N, C, ru, c, hP⟩, hT, hR, b1, b2, b3⟩ := hI
  have hC := hP.1.1
  have hcu := hC.1
  simp only [cL, spL, Nat.reduceAdd] at hcu
  have hS := hP.1.2.1
  have h8 := hC.2.2.1
  have hsim : Sim N (cS μ 1) (am_I μ 55) := hP.2.1
  obtain ⟨u, u12, u1, u2, u3⟩ : pU N μ := hP.2.2.2.2.2.2.1
  have u4 : ∀ k, k < u → ∃ h, slR μ k = some h := fun k hk => by
    obtain ⟨h, g, _⟩ := u3 k hk
    exact ⟨h, g⟩
  simp only [gX1_announce_0, gX1_announce_1, gX1_announce_4, gX1_announce_5, gX1_announce_8, am_kill_int, am_kill_ref, am_kill_null, am_kill_F, am_kill_long, am_cat_n, am_cat_i, am_cat_r, am_cat_0, am_cat_l, am_nr_n, am_nr_i, am_nr_r, am_nr_0, am_nr_l, Option.toList_some, Option.toList_none, List.nil_append, List.cons_append, va_rf_s, va_rf_n, am_II, am_I_sR, am_I_sL, am_R_sI, am_RR, am_R_sL, am_L_sI, am_L_sR, am_LL, am_k_sI, am_k_sR, am_k_sL, am_n_sI, am_n_sR, am_n_sL, true_and, and_true, true_or, or_true, or_false, false_or, not_true_eq_false, not_false_eq_true, Nat.reduceLT, am_dS, am_dP, am_d1, Nat.reduceSub, Nat.reduceMul, ne_eq, Nat.reduceBEq, Nat.reduceAdd, Nat.reduceLeDiff, Nat.reduceEqDiff, and_self, and_false, false_and, if_true, if_false, am_nb, am_nb0, am_nb1, am_lc1, am_lc2, am_lc3, am_b0, am_b1, am_10, am_c8, am_c16, am_c24, am_c32, am_c40, am_c48, am_c56, am_c64, am_c72, Nat.add_zero, Bool.false_eq_true, Nat.zero_le, hcu]
  refine wX2_becomes (d := d + 198) hC.1.s1 hC.1.s3 (by decide) (fun ν1 hF1 hT1 => ?_)
  have hFa : Fr fQ μ ν1 := hF1.le fun a b z => by unfold inSp at z; unfold fQ; omega
  have hC1 : CC N ru c ν1 := hC.fr hFa (fun a b z => by unfold fQ jO at z; omega)
  have hS1 : cS ν1 1 = cS μ 1 := cS_Fr hF1 fun a b z1 z2 z3 => by unfold inSp at z3; omega
  have hcu1 := hC1.1
  simp only [cL, spL, Nat.reduceAdd] at hcu1
  simp only [gX1_announce_11, gX1_announce_12, gX1_announce_13, gX1_announce_14, gX1_announce_17, gX1_announce_18, am_kill_int, am_kill_ref, am_kill_null, am_kill_F, am_kill_long, am_cat_n, am_cat_i, am_cat_r, am_cat_0, am_cat_l, am_nr_n, am_nr_i, am_nr_r, am_nr_0, am_nr_l, Option.toList_some, Option.toList_none, List.nil_append, List.cons_append, va_rf_s, va_rf_n, am_II, am_I_sR, am_I_sL, am_R_sI, am_RR, am_R_sL, am_L_sI, am_L_sR, am_LL, am_k_sI, am_k_sR, am_k_sL, am_n_sI, am_n_sR, am_n_sL, true_and, and_true, true_or, or_true, or_false, false_or, not_true_eq_false, not_false_eq_true, Nat.reduceLT, am_dS, am_dP, am_d1, Nat.reduceSub, Nat.reduceMul, ne_eq, Nat.reduceBEq, Nat.reduceAdd, Nat.reduceLeDiff, Nat.reduceEqDiff, and_self, and_false, false_and, if_true, if_false, am_nb, am_nb0, am_nb1, am_lc1, am_lc2, am_lc3, am_b0, am_b1, am_10, am_c8, am_c16, am_c24, am_c32, am_c40, am_c48, am_c56, am_c64, am_c72, Nat.add_zero, Bool.false_eq_true, Nat.zero_le, hcu1]
  refine wX1_announces (d := d + 196) hC1 hC1.1.s1 (by decide) (fun ν2 hF2 hT2 => ?_)
  rw [hS1] at hT2 ⊢
  have hFb : Fr fQ μ ν2 := hFa.trans (hF2.le fun a b z => by unfold inSp at z; unfold fQ jO; omega)
  have hk2 : am_k ν2 0 = (0, 0) := by rw [hFb.2.2.2.1]; exact hC.1.c
  have e29 : cS ν2 29 = cS μ 1 := (cS_Fr hF2 (fun a b z1 z2 z3 => by unfold inSp at z3; omega)).trans hT1
  simp only [gX1_announce_21, am_kill_int, am_kill_ref, am_kill_null, am_kill_F, am_kill_long, am_cat_n, am_cat_i, am_cat_r, am_cat_0, am_cat_l, am_nr_n, am_nr_i, am_nr_r, am_nr_0, am_nr_l, Option.toList_some, Option.toList_none, List.nil_append, List.cons_append, va_rf_s, va_rf_n, am_II, am_I_sR, am_I_sL, am_R_sI, am_RR, am_R_sL, am_L_sI, am_L_sR, am_LL, am_k_sI, am_k_sR, am_k_sL, am_n_sI, am_n_sR, am_n_sL, true_and, and_true, true_or, or_true, or_false, false_or, not_true_eq_false, not_false_eq_true, Nat.reduceLT, am_dS, am_dP, am_d1, Nat.reduceSub, Nat.reduceMul, ne_eq, Nat.reduceBEq, Nat.reduceAdd, Nat.reduceLeDiff, Nat.reduceEqDiff, and_self, and_false, false_and, if_true, if_false, am_nb, am_nb0, am_nb1, am_lc1, am_lc2, am_lc3, am_b0, am_b1, am_10, am_c8, am_c16, am_c24, am_c32, am_c40, am_c48, am_c56, am_c64, am_c72, Nat.add_zero, Bool.false_eq_true, Nat.zero_le, hk2]
  refine wX1_counts (d := d + 196) hI' hq hP u12 u1 u4 hFb hT2 e29 (fun hv => ?_) (fun hv ν3 hc3 => ?_)
  · simp only [gX1_announce_24, am_kill_int, am_kill_ref, am_kill_null, am_kill_F, am_kill_long, am_cat_n, am_cat_i, am_cat_r, am_cat_0, am_cat_l, am_nr_n, am_nr_i, am_nr_r, am_nr_0, am_nr_l, Option.toList_some, Option.toList_none, List.nil_append, List.cons_append, va_rf_s, va_rf_n, am_II, am_I_sR, am_I_sL, am_R_sI, am_RR, am_R_sL, am_L_sI, am_L_sR, am_LL, am_k_sI, am_k_sR, am_k_sL, am_n_sI, am_n_sR, am_n_sL, true_and, and_true, true_or, or_true, or_false, false_or, not_true_eq_false, not_false_eq_true, Nat.reduceLT, am_dS, am_dP, am_d1, Nat.reduceSub, Nat.reduceMul, ne_eq, Nat.reduceBEq, Nat.reduceAdd, Nat.reduceLeDiff, Nat.reduceEqDiff, and_self, and_false, false_and, if_true, if_false, am_nb, am_nb0, am_nb1, am_lc1, am_lc2, am_lc3, am_b0, am_b1, am_10, am_c8, am_c16, am_c24, am_c32, am_c40, am_c48, am_c56, am_c64, am_c72, Nat.add_zero, Bool.false_eq_true, Nat.zero_le]
    refine ⟨_, rfl, ?_⟩
    have hF0 : Fr fZ μ (am_sI ν2 54 7 0) := Fr.I (hFb.le fun a b z => Or.inl z) (by unfold fZ; omega)
    have h17 : am_I (am_sI ν2 54 7 0) 54 17 = 0 := by
      rw [am_I_sI, if_neg (by omega)]
      exact (hFb.1 54 17 (by unfold fQ jO; omega)).trans hP.h17
    have e1 : (annO N (cS μ 1) x).2 = cS μ 1 → cS (am_sI ν2 54 7 0) 1 = cS μ 1 := fun z => (cS_o (by omega)).trans (hT2.trans z)
    have hm2 := hFb.mLk hS.1.1
    unfold mL at hm2
    simp only [gX3_announce_0, gX3_announce_1, gX3_announce_2, am_kill_int, am_kill_ref, am_kill_null, am_kill_F, am_kill_long, am_cat_n, am_cat_i, am_cat_r, am_cat_0, am_cat_l, am_nr_n, am_nr_i, am_nr_r, am_nr_0, am_nr_l, Option.toList_some, Option.toList_none, List.nil_append, List.cons_append, va_rf_s, va_rf_n, am_I_sR, am_I_sL, am_R_sI, am_R_sL, am_L_sI, am_L_sR, am_k_sI, am_k_sR, am_k_sL, am_n_sI, am_n_sR, am_n_sL, true_and, and_true, true_or, or_true, or_false, false_or, not_true_eq_false, not_false_eq_true, Nat.reduceLT, am_dS, am_dP, am_d1, Nat.reduceSub, Nat.reduceMul, ne_eq, Nat.reduceBEq, Nat.reduceAdd, Nat.reduceLeDiff, Nat.reduceEqDiff, and_self, and_false, false_and, if_true, if_false, am_nb, am_nb0, am_nb1, am_lc1, am_lc2, am_lc3, am_b0, am_b1, am_10, am_c8, am_c16, am_c24, am_c32, am_c40, am_c48, am_c56, am_c64, am_c72, Nat.add_zero, Bool.false_eq_true, Nat.zero_le, hm2]
    generalize am_sI ν2 54 7 0 = ν4 at hF0 h17 e1 ⊢
    have hS4 : MS N ru c ν4 := hS.fr hF0 (fun a b z => by unfold fZ fQ jO jM at z; omega) h17
    have hm4 := hS4.1.1
    unfold mL at hm4
    have r55 : am_I ν4 55 = am_I μ 55 := funext fun b => hF0.1 55 b (by unfold fZ fQ jO jM; omega)
    have ev : rAn N (am_I μ 55) x = (annO N (cS μ 1) x).1 ∧ (annO N (cS μ 1) x).2 = cS μ 1 := by
      unfold annO rAn at *
      by_cases hx : isN x N = true
      · obtain ⟨j, hj, rfl⟩ := isN_of (by omega) hx
        have hcl : (nI j).toNatClampNeg = j := nI_clamp (by omega)
        have e := hsim.noI hj
        simp only [hx, if_true, hcl, e] at hv ⊢
        by_cases f : am_I μ 55 (32 + j) = -1
        · simp only [f, not_true_eq_false, if_false] at hv
          exact absurd hv (bc_ge h8)
        · simp only [f, not_false_eq_true, if_true, if_false, and_self]
      · simp only [hx, Bool.false_eq_true, if_false, and_self]
    simp only [gX3_announce_5, gX3_announce_6, gX3_announce_7, gX3_announce_10, gX3_announce_11, gX3_announce_14, gX3_announce_15, gX3_announce_16, gX3_announce_19, gX3_announce_20, am_kill_int, am_kill_ref, am_kill_null, am_kill_F, am_kill_long, am_cat_n, am_cat_i, am_cat_r, am_cat_0, am_cat_l, am_nr_n, am_nr_i, am_nr_r, am_nr_0, am_nr_l, Option.toList_some, Option.toList_none, List.nil_append, List.cons_append, va_rf_s, va_rf_n, am_I_sR, am_I_sL, am_R_sI, am_R_sL, am_L_sI, am_L_sR, am_k_sI, am_k_sR, am_k_sL, am_n_sI, am_n_sR, am_n_sL, true_and, and_true, true_or, or_true, or_false, false_or, not_true_eq_false, not_false_eq_true, Nat.reduceLT, am_dS, am_dP, am_d1, Nat.reduceSub, Nat.reduceMul, ne_eq, Nat.reduceBEq, Nat.reduceAdd, Nat.reduceLeDiff, Nat.reduceEqDiff, and_self, and_false, false_and, if_true, if_false, am_nb, am_nb0, am_nb1, am_lc1, am_lc2, am_lc3, am_b0, am_b1, am_10, am_c8, am_c16, am_c24, am_c32, am_c40, am_c48, am_c56, am_c64, am_c72, Nat.add_zero, Bool.false_eq_true, Nat.zero_le, hm4, wX3_refusesAnnounce hS4.1 hm4.1.2.1, r55, ev.1, Int32.not_le.mpr hv]
    exact inv_0 hI' hP hF0 (e1 ev.2) h17
  · simp only [gX1_announce_24, am_kill_int, am_kill_ref, am_kill_null, am_kill_F, am_kill_long, am_cat_n, am_cat_i, am_cat_r, am_cat_0, am_cat_l, am_nr_n, am_nr_i, am_nr_r, am_nr_0, am_nr_l, Option.toList_some, Option.toList_none, List.nil_append, List.cons_append, va_rf_s, va_rf_n, am_II, am_I_sR, am_I_sL, am_R_sI, am_RR, am_R_sL, am_L_sI, am_L_sR, am_LL, am_k_sI, am_k_sR, am_k_sL, am_n_sI, am_n_sR, am_n_sL, true_and, and_true, true_or, or_true, or_false, false_or, not_true_eq_false, not_false_eq_true, Nat.reduceLT, am_dS, am_dP, am_d1, Nat.reduceSub, Nat.reduceMul, ne_eq, Nat.reduceBEq, Nat.reduceAdd, Nat.reduceLeDiff, Nat.reduceEqDiff, and_self, and_false, false_and, if_true, if_false, am_nb, am_nb0, am_nb1, am_lc1, am_lc2, am_lc3, am_b0, am_b1, am_10, am_c8, am_c16, am_c24, am_c32, am_c40, am_c48, am_c56, am_c64, am_c72, Nat.add_zero, Bool.false_eq_true, Nat.zero_le]
    refine ⟨_, rfl, ?_⟩
    have hm3 := hc3.2.2.2.2.2.2.2.2.2.2.2.2.1.1
    unfold mL at hm3
    obtain ⟨ν4, q4, hS4, r55, r62, r20, hF4, h17⟩ := hc3.m4 hP.h17
    rw [u2] at r20
    simp only [gX3_announce_0, gX3_announce_1, gX3_announce_2, am_kill_int, am_kill_ref, am_kill_null, am_kill_F, am_kill_long, am_cat_n, am_cat_i, am_cat_r, am_cat_0, am_cat_l, am_nr_n, am_nr_i, am_nr_r, am_nr_0, am_nr_l, Option.toList_some, Option.toList_none, List.nil_append, List.cons_append, va_rf_s, va_rf_n, am_I_sR, am_I_sL, am_R_sI, am_R_sL, am_L_sI, am_L_sR, am_k_sI, am_k_sR, am_k_sL, am_n_sI, am_n_sR, am_n_sL, true_and, and_true, true_or, or_true, or_false, false_or, not_true_eq_false, not_false_eq_true, Nat.reduceLT, am_dS, am_dP, am_d1, Nat.reduceSub, Nat.reduceMul, ne_eq, Nat.reduceBEq, Nat.reduceAdd, Nat.reduceLeDiff, Nat.reduceEqDiff, and_self, and_false, false_and, if_true, if_false, am_nb, am_nb0, am_nb1, am_lc1, am_lc2, am_lc3, am_b0, am_b1, am_10, am_c8, am_c16, am_c24, am_c32, am_c40, am_c48, am_c56, am_c64, am_c72, Nat.add_zero, Bool.false_eq_true, Nat.zero_le, hm3]
    rw [← q4]
    have hm4 := hS4.1.1
    unfold mL at hm4
    have hx : isN x N = true := by
      by_cases hx : isN x N = true
      · exact hx
      · unfold annO at hv
        simp only [hx, Bool.false_eq_true, if_false] at hv
        exact absurd (by decide) hv
    obtain ⟨j, hj, rfl⟩ := isN_of (by omega) hx
    have hj8 : j < 8 := by omega
    have hcl : (nI j).toNatClampNeg = j := nI_clamp (by omega)
    have e := hsim.noI hj
    have ea : am_I μ 55 (32 + j) = -1 := by
      by_cases f : am_I μ 55 (32 + j) = -1
      · exact f
      · unfold annO at hv
        simp only [hx, if_true, hcl, e, f, not_false_eq_true] at hv
        exact absurd (by decide) hv
    have ev : annO N (cS μ 1) (nI j) = (bcI (orB (nF (annT (cS μ 1) j)) N), annT (cS μ 1) j) := by
      unfold annO
      simp only [hx, if_true, hcl, e, ea, not_true_eq_false, if_false]
    have er : rAn N (am_I μ 55) (nI j) = 0 := by
      unfold rAn
      simp only [hx, if_true, hcl, ea]
    have n00 : ¬ (0 : Int32) < 0 := by decide
    rw [ev] at hc3 ⊢
    simp only [gX3_announce_5, gX3_announce_6, gX3_announce_7, gX3_announce_10, gX3_announce_11, gX3_announce_14, gX3_announce_15, gX3_announce_16, gX3_announce_19, gX3_announce_20, gX3_announce_21, gX3_announce_22, gX3_announce_23, gX3_announce_26, am_kill_int, am_kill_ref, am_kill_null, am_kill_F, am_kill_long, am_cat_n, am_cat_i, am_cat_r, am_cat_0, am_cat_l, am_nr_n, am_nr_i, am_nr_r, am_nr_0, am_nr_l, Option.toList_some, Option.toList_none, List.nil_append, List.cons_append, va_rf_s, va_rf_n, am_I_sR, am_I_sL, am_R_sI, am_R_sL, am_L_sI, am_L_sR, am_k_sI, am_k_sR, am_k_sL, am_n_sI, am_n_sR, am_n_sL, true_and, and_true, true_or, or_true, or_false, false_or, not_true_eq_false, not_false_eq_true, Nat.reduceLT, am_dS, am_dP, am_d1, Nat.reduceSub, Nat.reduceMul, ne_eq, Nat.reduceBEq, Nat.reduceAdd, Nat.reduceLeDiff, Nat.reduceEqDiff, and_self, and_false, false_and, if_true, if_false, am_nb, am_nb0, am_nb1, am_lc1, am_lc2, am_lc3, am_b0, am_b1, am_10, am_c8, am_c16, am_c24, am_c32, am_c40, am_c48, am_c56, am_c64, am_c72, Nat.add_zero, Bool.false_eq_true, Nat.zero_le, hm4, wX3_refusesAnnounce hS4.1 hm4.1.2.1, r55, er, n00]
    refine wX3_rem (d := d + 198) (ν := ν3) (μ := μ) u12 hS4 hF4 h17 r55 r62 r20 fun ξ g1 g2 g3 g4 g5 g6 => ?_
    have hmξ := g1.1.1
    unfold mL at hmξ
    simp only [gX3_announce_29, gX3_announce_30, gX3_announce_33, gX3_announce_34, am_kill_int, am_kill_ref, am_kill_null, am_kill_F, am_kill_long, am_cat_n, am_cat_i, am_cat_r, am_cat_0, am_cat_l, am_nr_n, am_nr_i, am_nr_r, am_nr_0, am_nr_l, Option.toList_some, Option.toList_none, List.nil_append, List.cons_append, va_rf_s, va_rf_n, am_I_sR, am_I_sL, am_R_sI, am_R_sL, am_L_sI, am_L_sR, am_k_sI, am_k_sR, am_k_sL, am_n_sI, am_n_sR, am_n_sL, true_and, and_true, true_or, or_true, or_false, false_or, not_true_eq_false, not_false_eq_true, Nat.reduceLT, am_dS, am_dP, am_d1, Nat.reduceSub, Nat.reduceMul, ne_eq, Nat.reduceBEq, Nat.reduceAdd, Nat.reduceLeDiff, Nat.reduceEqDiff, and_self, and_false, false_and, if_true, if_false, am_nb, am_nb0, am_nb1, am_lc1, am_lc2, am_lc3, am_b0, am_b1, am_10, am_c8, am_c16, am_c24, am_c32, am_c40, am_c48, am_c56, am_c64, am_c72, Nat.add_zero, Bool.false_eq_true, Nat.zero_le, hmξ, wX3_goAnnounce hj8 hmξ.1.2.1]
    have hF5 : Fr fY ξ (am_sI (am_sI ξ 55 (32 + j) 0) 55 (40 + j) 0) := Fr.I (Fr.I Fr.refl (by unfold fY; omega)) (by unfold fY; omega)
    have r5 : am_I (am_sI (am_sI ξ 55 (32 + j) 0) 55 (40 + j) 0) 55 = annT (am_I μ 55) j := by
      rw [am_row, am_row, g5]; rfl
    have k17 : am_I (am_sI (am_sI ξ 55 (32 + j) 0) 55 (40 + j) 0) 54 17 = 0 := by
      rw [am_I_sI, if_neg (by omega), am_I_sI, if_neg (by omega)]; exact g6
    have k20 : am_I (am_sI (am_sI ξ 55 (32 + j) 0) 55 (40 + j) 0) 54 20 = nI (upN u) := by
      rw [am_I_sI, if_neg (by omega), am_I_sI, if_neg (by omega)]; exact g3
    have k62 : am_I (am_sI (am_sI ξ 55 (32 + j) 0) 55 (40 + j) 0) 62 = am_I ξ 62 := by
      rw [am_row_o (by decide), am_row_o (by decide)]
    generalize am_sI (am_sI ξ 55 (32 + j) 0) 55 (40 + j) 0 = ξ2 at hF5 r5 k17 k20 k62 ⊢
    have hS5 : MS N ru c ξ2 := g1.fr hF5 (fun a b z => by unfold fY jM at z; omega) k17
    have hm5 := hS5.1.1
    unfold mL at hm5
    have hsim' := hsim.ann h8 hj
    simp only [gX3_announce_37, gX3_announce_38, gX3_announce_39, gX3_announce_42, gX3_announce_45, gX3_announce_48, am_kill_int, am_kill_ref, am_kill_null, am_kill_F, am_kill_long, am_cat_n, am_cat_i, am_cat_r, am_cat_0, am_cat_l, am_nr_n, am_nr_i, am_nr_r, am_nr_0, am_nr_l, Option.toList_some, Option.toList_none, List.nil_append, List.cons_append, va_rf_s, va_rf_n, am_I_sR, am_I_sL, am_R_sI, am_R_sL, am_L_sI, am_L_sR, am_k_sI, am_k_sR, am_k_sL, am_n_sI, am_n_sR, am_n_sL, true_and, and_true, true_or, or_true, or_false, false_or, not_true_eq_false, not_false_eq_true, Nat.reduceLT, am_dS, am_dP, am_d1, Nat.reduceSub, Nat.reduceMul, ne_eq, Nat.reduceBEq, Nat.reduceAdd, Nat.reduceLeDiff, Nat.reduceEqDiff, and_self, and_false, false_and, if_true, if_false, am_nb, am_nb0, am_nb1, am_lc1, am_lc2, am_lc3, am_b0, am_b1, am_10, am_c8, am_c16, am_c24, am_c32, am_c40, am_c48, am_c56, am_c64, am_c72, Nat.add_zero, Bool.false_eq_true, Nat.zero_le, hm5, wX3_notices hS5.1 hm5.1.2.1, r5, wJ10_bitCount]
    refine ⟨by rw [hsim'.nFM], put_fr hI' hP u12 u3 hc3 (g2.trans hF5) k20 (fun k i z1 z2 => by rw [k62]; exact g4 k i z1 z2) k17 (by rw [r5]; exact hsim') ?_⟩
    show annT (cS μ 1) j 81 = _
    unfold annT
    rw [spU_n (by omega), spU_n (by omega)]
theorem op_reply (hq : q ≤ 100) (hI : Inv q μ) : OP q mX1_reply mX3_reply [.ref 0, .int x] [.ref 54, .int x, am_F] μ := by
  intro d
  have hI' := hI
  obtain ⟨⟨N, C, ru, c, hP⟩, hT, hR, b1, b2, b3⟩ := hI
  have hC := hP.1.1
  have hcu := hC.1
  simp only [cL, spL, Nat.reduceAdd] at hcu
  have hS := hP.1.2.1
  have h8 := hC.2.2.1
  have hsim : Sim N (cS μ 1) (am_I μ 55) := hP.2.1
  obtain ⟨u, u12, u1, u2, u3⟩ : pU N μ := hP.2.2.2.2.2.2.1
  have u4 : ∀ k, k < u → ∃ h, slR μ k = some h := fun k hk => by
    obtain ⟨h, g, _⟩ := u3 k hk
    exact ⟨h, g⟩
  simp only [gX1_reply_0, gX1_reply_1, gX1_reply_4, gX1_reply_5, gX1_reply_8, am_kill_int, am_kill_ref, am_kill_null, am_kill_F, am_kill_long, am_cat_n, am_cat_i, am_cat_r, am_cat_0, am_cat_l, am_nr_n, am_nr_i, am_nr_r, am_nr_0, am_nr_l, Option.toList_some, Option.toList_none, List.nil_append, List.cons_append, va_rf_s, va_rf_n, am_II, am_I_sR, am_I_sL, am_R_sI, am_RR, am_R_sL, am_L_sI, am_L_sR, am_LL, am_k_sI, am_k_sR, am_k_sL, am_n_sI, am_n_sR, am_n_sL, true_and, and_true, true_or, or_true, or_false, false_or, not_true_eq_false, not_false_eq_true, Nat.reduceLT, am_dS, am_dP, am_d1, Nat.reduceSub, Nat.reduceMul, ne_eq, Nat.reduceBEq, Nat.reduceAdd, Nat.reduceLeDiff, Nat.reduceEqDiff, and_self, and_false, false_and, if_true, if_false, am_nb, am_nb0, am_nb1, am_lc1, am_lc2, am_lc3, am_b0, am_b1, am_10, am_c8, am_c16, am_c24, am_c32, am_c40, am_c48, am_c56, am_c64, am_c72, Nat.add_zero, Bool.false_eq_true, Nat.zero_le, hcu]
  refine wX2_becomes (d := d + 198) hC.1.s1 hC.1.s3 (by decide) (fun ν1 hF1 hT1 => ?_)
  have hFa : Fr fQ μ ν1 := hF1.le fun a b z => by unfold inSp at z; unfold fQ; omega
  have hC1 : CC N ru c ν1 := hC.fr hFa (fun a b z => by unfold fQ jO at z; omega)
  have hS1 : cS ν1 1 = cS μ 1 := cS_Fr hF1 fun a b z1 z2 z3 => by unfold inSp at z3; omega
  have hcu1 := hC1.1
  simp only [cL, spL, Nat.reduceAdd] at hcu1
  simp only [gX1_reply_11, gX1_reply_12, gX1_reply_13, gX1_reply_14, gX1_reply_17, gX1_reply_18, am_kill_int, am_kill_ref, am_kill_null, am_kill_F, am_kill_long, am_cat_n, am_cat_i, am_cat_r, am_cat_0, am_cat_l, am_nr_n, am_nr_i, am_nr_r, am_nr_0, am_nr_l, Option.toList_some, Option.toList_none, List.nil_append, List.cons_append, va_rf_s, va_rf_n, am_II, am_I_sR, am_I_sL, am_R_sI, am_RR, am_R_sL, am_L_sI, am_L_sR, am_LL, am_k_sI, am_k_sR, am_k_sL, am_n_sI, am_n_sR, am_n_sL, true_and, and_true, true_or, or_true, or_false, false_or, not_true_eq_false, not_false_eq_true, Nat.reduceLT, am_dS, am_dP, am_d1, Nat.reduceSub, Nat.reduceMul, ne_eq, Nat.reduceBEq, Nat.reduceAdd, Nat.reduceLeDiff, Nat.reduceEqDiff, and_self, and_false, false_and, if_true, if_false, am_nb, am_nb0, am_nb1, am_lc1, am_lc2, am_lc3, am_b0, am_b1, am_10, am_c8, am_c16, am_c24, am_c32, am_c40, am_c48, am_c56, am_c64, am_c72, Nat.add_zero, Bool.false_eq_true, Nat.zero_le, hcu1]
  refine wX1_repliesTo (d := d + 196) hC1 hC1.1.s1 (fun ν2 hF2 hT2 => ?_)
  rw [hS1] at hT2 ⊢
  have hFb : Fr fQ μ ν2 := hFa.trans (hF2.le fun a b z => by unfold inSp at z; unfold fQ jO; omega)
  have hk2 : am_k ν2 0 = (0, 0) := by rw [hFb.2.2.2.1]; exact hC.1.c
  have e29 : cS ν2 29 = cS μ 1 := (cS_Fr hF2 (fun a b z1 z2 z3 => by unfold inSp at z3; omega)).trans hT1
  simp only [gX1_reply_21, am_kill_int, am_kill_ref, am_kill_null, am_kill_F, am_kill_long, am_cat_n, am_cat_i, am_cat_r, am_cat_0, am_cat_l, am_nr_n, am_nr_i, am_nr_r, am_nr_0, am_nr_l, Option.toList_some, Option.toList_none, List.nil_append, List.cons_append, va_rf_s, va_rf_n, am_II, am_I_sR, am_I_sL, am_R_sI, am_RR, am_R_sL, am_L_sI, am_L_sR, am_LL, am_k_sI, am_k_sR, am_k_sL, am_n_sI, am_n_sR, am_n_sL, true_and, and_true, true_or, or_true, or_false, false_or, not_true_eq_false, not_false_eq_true, Nat.reduceLT, am_dS, am_dP, am_d1, Nat.reduceSub, Nat.reduceMul, ne_eq, Nat.reduceBEq, Nat.reduceAdd, Nat.reduceLeDiff, Nat.reduceEqDiff, and_self, and_false, false_and, if_true, if_false, am_nb, am_nb0, am_nb1, am_lc1, am_lc2, am_lc3, am_b0, am_b1, am_10, am_c8, am_c16, am_c24, am_c32, am_c40, am_c48, am_c56, am_c64, am_c72, Nat.add_zero, Bool.false_eq_true, Nat.zero_le, hk2]
  refine wX1_counts (d := d + 196) hI' hq hP u12 u1 u4 hFb hT2 e29 (fun hv => ?_) (fun hv ν3 hc3 => ?_)
  · simp only [gX1_reply_24, am_kill_int, am_kill_ref, am_kill_null, am_kill_F, am_kill_long, am_cat_n, am_cat_i, am_cat_r, am_cat_0, am_cat_l, am_nr_n, am_nr_i, am_nr_r, am_nr_0, am_nr_l, Option.toList_some, Option.toList_none, List.nil_append, List.cons_append, va_rf_s, va_rf_n, am_II, am_I_sR, am_I_sL, am_R_sI, am_RR, am_R_sL, am_L_sI, am_L_sR, am_LL, am_k_sI, am_k_sR, am_k_sL, am_n_sI, am_n_sR, am_n_sL, true_and, and_true, true_or, or_true, or_false, false_or, not_true_eq_false, not_false_eq_true, Nat.reduceLT, am_dS, am_dP, am_d1, Nat.reduceSub, Nat.reduceMul, ne_eq, Nat.reduceBEq, Nat.reduceAdd, Nat.reduceLeDiff, Nat.reduceEqDiff, and_self, and_false, false_and, if_true, if_false, am_nb, am_nb0, am_nb1, am_lc1, am_lc2, am_lc3, am_b0, am_b1, am_10, am_c8, am_c16, am_c24, am_c32, am_c40, am_c48, am_c56, am_c64, am_c72, Nat.add_zero, Bool.false_eq_true, Nat.zero_le]
    refine ⟨_, rfl, ?_⟩
    have hF0 : Fr fZ μ (am_sI ν2 54 7 0) := Fr.I (hFb.le fun a b z => Or.inl z) (by unfold fZ; omega)
    have h17 : am_I (am_sI ν2 54 7 0) 54 17 = 0 := by
      rw [am_I_sI, if_neg (by omega)]
      exact (hFb.1 54 17 (by unfold fQ jO; omega)).trans hP.h17
    have e1 : (repO N (cS μ 1) x).2 = cS μ 1 → cS (am_sI ν2 54 7 0) 1 = cS μ 1 := fun z => (cS_o (by omega)).trans (hT2.trans z)
    have hm2 := hFb.mLk hS.1.1
    unfold mL at hm2
    simp only [gX3_reply_0, gX3_reply_1, gX3_reply_2, am_kill_int, am_kill_ref, am_kill_null, am_kill_F, am_kill_long, am_cat_n, am_cat_i, am_cat_r, am_cat_0, am_cat_l, am_nr_n, am_nr_i, am_nr_r, am_nr_0, am_nr_l, Option.toList_some, Option.toList_none, List.nil_append, List.cons_append, va_rf_s, va_rf_n, am_I_sR, am_I_sL, am_R_sI, am_R_sL, am_L_sI, am_L_sR, am_k_sI, am_k_sR, am_k_sL, am_n_sI, am_n_sR, am_n_sL, true_and, and_true, true_or, or_true, or_false, false_or, not_true_eq_false, not_false_eq_true, Nat.reduceLT, am_dS, am_dP, am_d1, Nat.reduceSub, Nat.reduceMul, ne_eq, Nat.reduceBEq, Nat.reduceAdd, Nat.reduceLeDiff, Nat.reduceEqDiff, and_self, and_false, false_and, if_true, if_false, am_nb, am_nb0, am_nb1, am_lc1, am_lc2, am_lc3, am_b0, am_b1, am_10, am_c8, am_c16, am_c24, am_c32, am_c40, am_c48, am_c56, am_c64, am_c72, Nat.add_zero, Bool.false_eq_true, Nat.zero_le, hm2]
    generalize am_sI ν2 54 7 0 = ν4 at hF0 h17 e1 ⊢
    have hS4 : MS N ru c ν4 := hS.fr hF0 (fun a b z => by unfold fZ fQ jO jM at z; omega) h17
    have hm4 := hS4.1.1
    unfold mL at hm4
    have r55 : am_I ν4 55 = am_I μ 55 := funext fun b => hF0.1 55 b (by unfold fZ fQ jO jM; omega)
    have ev : rRe N (am_I μ 55) x = (repO N (cS μ 1) x).1 ∧ (repO N (cS μ 1) x).2 = cS μ 1 := by
      unfold repO rRe at *
      by_cases hx : isN x N = true
      · obtain ⟨j, hj, rfl⟩ := isN_of (by omega) hx
        have hcl : (nI j).toNatClampNeg = j := nI_clamp (by omega)
        have e := hsim.noI hj
        have e5 := hsim.r5 hj
        simp only [hx, if_true, hcl, e, e5] at hv ⊢
        by_cases f : am_I μ 55 (32 + j) = -1
        · simp only [f, not_true_eq_false, if_false, if_true, and_self]
        · simp only [f, not_false_eq_true, if_true, if_false] at hv ⊢
          by_cases g : am_I μ 55 (40 + j) = 3
          · simp only [g, if_true, and_self]
          · simp only [g, if_false] at hv
            have := (hsim.cg hj).2.2.2.1
            rw [col5, e5] at this
            have := rgR this g
            exact absurd hv (Int32.not_lt.mpr this.1)
      · simp only [hx, Bool.false_eq_true, if_false, and_self]
    simp only [gX3_reply_5, gX3_reply_6, gX3_reply_7, gX3_reply_10, gX3_reply_11, gX3_reply_14, gX3_reply_15, gX3_reply_16, gX3_reply_19, gX3_reply_20, am_kill_int, am_kill_ref, am_kill_null, am_kill_F, am_kill_long, am_cat_n, am_cat_i, am_cat_r, am_cat_0, am_cat_l, am_nr_n, am_nr_i, am_nr_r, am_nr_0, am_nr_l, Option.toList_some, Option.toList_none, List.nil_append, List.cons_append, va_rf_s, va_rf_n, am_I_sR, am_I_sL, am_R_sI, am_R_sL, am_L_sI, am_L_sR, am_k_sI, am_k_sR, am_k_sL, am_n_sI, am_n_sR, am_n_sL, true_and, and_true, true_or, or_true, or_false, false_or, not_true_eq_false, not_false_eq_true, Nat.reduceLT, am_dS, am_dP, am_d1, Nat.reduceSub, Nat.reduceMul, ne_eq, Nat.reduceBEq, Nat.reduceAdd, Nat.reduceLeDiff, Nat.reduceEqDiff, and_self, and_false, false_and, if_true, if_false, am_nb, am_nb0, am_nb1, am_lc1, am_lc2, am_lc3, am_b0, am_b1, am_10, am_c8, am_c16, am_c24, am_c32, am_c40, am_c48, am_c56, am_c64, am_c72, Nat.add_zero, Bool.false_eq_true, Nat.zero_le, hm4, wX3_refusesReply hS4.1 hm4.1.2.1, r55, ev.1, Int32.not_le.mpr hv]
    exact inv_0 hI' hP hF0 (e1 ev.2) h17
  · simp only [gX1_reply_24, am_kill_int, am_kill_ref, am_kill_null, am_kill_F, am_kill_long, am_cat_n, am_cat_i, am_cat_r, am_cat_0, am_cat_l, am_nr_n, am_nr_i, am_nr_r, am_nr_0, am_nr_l, Option.toList_some, Option.toList_none, List.nil_append, List.cons_append, va_rf_s, va_rf_n, am_II, am_I_sR, am_I_sL, am_R_sI, am_RR, am_R_sL, am_L_sI, am_L_sR, am_LL, am_k_sI, am_k_sR, am_k_sL, am_n_sI, am_n_sR, am_n_sL, true_and, and_true, true_or, or_true, or_false, false_or, not_true_eq_false, not_false_eq_true, Nat.reduceLT, am_dS, am_dP, am_d1, Nat.reduceSub, Nat.reduceMul, ne_eq, Nat.reduceBEq, Nat.reduceAdd, Nat.reduceLeDiff, Nat.reduceEqDiff, and_self, and_false, false_and, if_true, if_false, am_nb, am_nb0, am_nb1, am_lc1, am_lc2, am_lc3, am_b0, am_b1, am_10, am_c8, am_c16, am_c24, am_c32, am_c40, am_c48, am_c56, am_c64, am_c72, Nat.add_zero, Bool.false_eq_true, Nat.zero_le]
    refine ⟨_, rfl, ?_⟩
    have hm3 := hc3.2.2.2.2.2.2.2.2.2.2.2.2.1.1
    unfold mL at hm3
    obtain ⟨ν4, q4, hS4, r55, r62, r20, hF4, h17⟩ := hc3.m4 hP.h17
    rw [u2] at r20
    simp only [gX3_reply_0, gX3_reply_1, gX3_reply_2, am_kill_int, am_kill_ref, am_kill_null, am_kill_F, am_kill_long, am_cat_n, am_cat_i, am_cat_r, am_cat_0, am_cat_l, am_nr_n, am_nr_i, am_nr_r, am_nr_0, am_nr_l, Option.toList_some, Option.toList_none, List.nil_append, List.cons_append, va_rf_s, va_rf_n, am_I_sR, am_I_sL, am_R_sI, am_R_sL, am_L_sI, am_L_sR, am_k_sI, am_k_sR, am_k_sL, am_n_sI, am_n_sR, am_n_sL, true_and, and_true, true_or, or_true, or_false, false_or, not_true_eq_false, not_false_eq_true, Nat.reduceLT, am_dS, am_dP, am_d1, Nat.reduceSub, Nat.reduceMul, ne_eq, Nat.reduceBEq, Nat.reduceAdd, Nat.reduceLeDiff, Nat.reduceEqDiff, and_self, and_false, false_and, if_true, if_false, am_nb, am_nb0, am_nb1, am_lc1, am_lc2, am_lc3, am_b0, am_b1, am_10, am_c8, am_c16, am_c24, am_c32, am_c40, am_c48, am_c56, am_c64, am_c72, Nat.add_zero, Bool.false_eq_true, Nat.zero_le, hm3]
    rw [← q4]
    have hm4 := hS4.1.1
    unfold mL at hm4
    have hx : isN x N = true := by
      by_cases hx : isN x N = true
      · exact hx
      · unfold repO at hv
        simp only [hx, Bool.false_eq_true, if_false] at hv
        exact absurd (by decide) hv
    obtain ⟨j, hj, rfl⟩ := isN_of (by omega) hx
    have hj8 : j < 8 := by omega
    have hcl : (nI j).toNatClampNeg = j := nI_clamp (by omega)
    have e := hsim.noI hj
    have e5 := hsim.r5 hj
    have ea : ¬ am_I μ 55 (32 + j) = -1 := fun f => by
      unfold repO at hv
      simp only [hx, if_true, hcl, e, f, not_true_eq_false, if_false] at hv
      exact absurd (by decide) hv
    have eb : ¬ am_I μ 55 (40 + j) = 3 := fun f => by
      unfold repO at hv
      simp only [hx, if_true, hcl, e, ea, not_false_eq_true, e5, f] at hv
      exact absurd (by decide) hv
    have ev : repO N (cS μ 1) (nI j) = (am_I μ 55 (40 + j) + 1, repT (cS μ 1) j) := by
      unfold repO
      simp only [hx, if_true, hcl, e, ea, not_false_eq_true, e5, eb, if_false]
    have er : rRe N (am_I μ 55) (nI j) = 0 := by
      unfold rRe
      simp only [hx, if_true, hcl, ea, eb, if_false]
    have n00 : ¬ (0 : Int32) < 0 := by decide
    rw [ev] at hc3 ⊢
    simp only [gX3_reply_5, gX3_reply_6, gX3_reply_7, gX3_reply_10, gX3_reply_11, gX3_reply_14, gX3_reply_15, gX3_reply_16, gX3_reply_19, gX3_reply_20, gX3_reply_21, gX3_reply_22, gX3_reply_23, gX3_reply_26, am_kill_int, am_kill_ref, am_kill_null, am_kill_F, am_kill_long, am_cat_n, am_cat_i, am_cat_r, am_cat_0, am_cat_l, am_nr_n, am_nr_i, am_nr_r, am_nr_0, am_nr_l, Option.toList_some, Option.toList_none, List.nil_append, List.cons_append, va_rf_s, va_rf_n, am_I_sR, am_I_sL, am_R_sI, am_R_sL, am_L_sI, am_L_sR, am_k_sI, am_k_sR, am_k_sL, am_n_sI, am_n_sR, am_n_sL, true_and, and_true, true_or, or_true, or_false, false_or, not_true_eq_false, not_false_eq_true, Nat.reduceLT, am_dS, am_dP, am_d1, Nat.reduceSub, Nat.reduceMul, ne_eq, Nat.reduceBEq, Nat.reduceAdd, Nat.reduceLeDiff, Nat.reduceEqDiff, and_self, and_false, false_and, if_true, if_false, am_nb, am_nb0, am_nb1, am_lc1, am_lc2, am_lc3, am_b0, am_b1, am_10, am_c8, am_c16, am_c24, am_c32, am_c40, am_c48, am_c56, am_c64, am_c72, Nat.add_zero, Bool.false_eq_true, Nat.zero_le, hm4, wX3_refusesReply hS4.1 hm4.1.2.1, r55, er, n00]
    refine wX3_rem (d := d + 198) (ν := ν3) (μ := μ) u12 hS4 hF4 h17 r55 r62 r20 fun ξ g1 g2 g3 g4 g5 g6 => ?_
    have hmξ := g1.1.1
    unfold mL at hmξ
    simp only [gX3_reply_29, gX3_reply_30, gX3_reply_33, gX3_reply_34, am_kill_int, am_kill_ref, am_kill_null, am_kill_F, am_kill_long, am_cat_n, am_cat_i, am_cat_r, am_cat_0, am_cat_l, am_nr_n, am_nr_i, am_nr_r, am_nr_0, am_nr_l, Option.toList_some, Option.toList_none, List.nil_append, List.cons_append, va_rf_s, va_rf_n, am_I_sR, am_I_sL, am_R_sI, am_R_sL, am_L_sI, am_L_sR, am_k_sI, am_k_sR, am_k_sL, am_n_sI, am_n_sR, am_n_sL, true_and, and_true, true_or, or_true, or_false, false_or, not_true_eq_false, not_false_eq_true, Nat.reduceLT, am_dS, am_dP, am_d1, Nat.reduceSub, Nat.reduceMul, ne_eq, Nat.reduceBEq, Nat.reduceAdd, Nat.reduceLeDiff, Nat.reduceEqDiff, and_self, and_false, false_and, if_true, if_false, am_nb, am_nb0, am_nb1, am_lc1, am_lc2, am_lc3, am_b0, am_b1, am_10, am_c8, am_c16, am_c24, am_c32, am_c40, am_c48, am_c56, am_c64, am_c72, Nat.add_zero, Bool.false_eq_true, Nat.zero_le, hmξ, wX3_goReply hj8 hmξ.1.2.1]
    rw [g5]
    have hF5 : Fr fY ξ (am_sI (am_sI ξ 55 (32 + j) (maI 0 (am_I μ 55 (32 + j) - 2))) 55 (40 + j) (am_I μ 55 (40 + j) + 1)) := Fr.I (Fr.I Fr.refl (by unfold fY; omega)) (by unfold fY; omega)
    have r5 : am_I (am_sI (am_sI ξ 55 (32 + j) (maI 0 (am_I μ 55 (32 + j) - 2))) 55 (40 + j) (am_I μ 55 (40 + j) + 1)) 55 = repT (am_I μ 55) j := by
      rw [am_row, am_row, g5]; rfl
    have k17 : am_I (am_sI (am_sI ξ 55 (32 + j) (maI 0 (am_I μ 55 (32 + j) - 2))) 55 (40 + j) (am_I μ 55 (40 + j) + 1)) 54 17 = 0 := by
      rw [am_I_sI, if_neg (by omega), am_I_sI, if_neg (by omega)]; exact g6
    have k20 : am_I (am_sI (am_sI ξ 55 (32 + j) (maI 0 (am_I μ 55 (32 + j) - 2))) 55 (40 + j) (am_I μ 55 (40 + j) + 1)) 54 20 = nI (upN u) := by
      rw [am_I_sI, if_neg (by omega), am_I_sI, if_neg (by omega)]; exact g3
    have k62 : am_I (am_sI (am_sI ξ 55 (32 + j) (maI 0 (am_I μ 55 (32 + j) - 2))) 55 (40 + j) (am_I μ 55 (40 + j) + 1)) 62 = am_I ξ 62 := by
      rw [am_row_o (by decide), am_row_o (by decide)]
    generalize am_sI (am_sI ξ 55 (32 + j) (maI 0 (am_I μ 55 (32 + j) - 2))) 55 (40 + j) (am_I μ 55 (40 + j) + 1) = ξ2 at hF5 r5 k17 k20 k62 ⊢
    have hS5 : MS N ru c ξ2 := g1.fr hF5 (fun a b z => by unfold fY jM at z; omega) k17
    have hm5 := hS5.1.1
    unfold mL at hm5
    have h0 : 0 ≤ cS μ 1 (32 + j) := by rw [e]; exact ea
    have hsim' := hsim.rep h8 hj h0 (by rw [e5]; exact eb)
    have hv40 : vp_in (nI (40 + j)) 83 := vp_in_nI (by omega) (by omega)
    have hc40 : (nI (40 + j)).toNatClampNeg = 40 + j := nI_clamp (by omega)
    have q40 : repT (am_I μ 55) j (40 + j) = am_I μ 55 (40 + j) + 1 := by unfold repT; rw [spU_e]
    simp only [gX3_reply_37, gX3_reply_38, gX3_reply_41, gX3_reply_43, gX3_reply_44, gX3_reply_45, gX3_reply_46, am_kill_int, am_kill_ref, am_kill_null, am_kill_F, am_kill_long, am_cat_n, am_cat_i, am_cat_r, am_cat_0, am_cat_l, am_nr_n, am_nr_i, am_nr_r, am_nr_0, am_nr_l, Option.toList_some, Option.toList_none, List.nil_append, List.cons_append, va_rf_s, va_rf_n, am_I_sR, am_I_sL, am_R_sI, am_R_sL, am_L_sI, am_L_sR, am_k_sI, am_k_sR, am_k_sL, am_n_sI, am_n_sR, am_n_sL, true_and, and_true, true_or, or_true, or_false, false_or, not_true_eq_false, not_false_eq_true, Nat.reduceLT, am_dS, am_dP, am_d1, Nat.reduceSub, Nat.reduceMul, ne_eq, Nat.reduceBEq, Nat.reduceAdd, Nat.reduceLeDiff, Nat.reduceEqDiff, and_self, and_false, false_and, if_true, if_false, am_nb, am_nb0, am_nb1, am_lc1, am_lc2, am_lc3, am_b0, am_b1, am_10, am_c8, am_c16, am_c24, am_c32, am_c40, am_c48, am_c56, am_c64, am_c72, Nat.add_zero, Bool.false_eq_true, Nat.zero_le, hm5, hv40, hc40, r5, q40]
    refine put_fr hI' hP u12 u3 hc3 (g2.trans hF5) k20 (fun k i z1 z2 => by rw [k62]; exact g4 k i z1 z2) k17 (by rw [r5]; exact hsim') ?_
    show repT (cS μ 1) j 81 = _
    unfold repT
    rw [spU_n (by omega), spU_n (by omega)]
theorem ma0_ge {x : Int32} : ¬ maI 0 x < 0 := by
  unfold maI
  by_cases f : 0 < x
  · rw [if_pos f]; exact Int32.lt_asymm f
  · rw [if_neg f]; decide
theorem op_lay (hq : q ≤ 100) (hI : Inv q μ) : OP q mX1_lay mX3_lay [.ref 0, .int x, .int y] [.ref 54, .int x, .int y, am_F] μ := by
  intro d
  have hI' := hI
  obtain ⟨⟨N, C, ru, c, hP⟩, hT, hR, b1, b2, b3⟩ := hI
  have hC := hP.1.1
  have hcu := hC.1
  simp only [cL, spL, Nat.reduceAdd] at hcu
  have hS := hP.1.2.1
  have h8 := hC.2.2.1
  have hsim : Sim N (cS μ 1) (am_I μ 55) := hP.2.1
  obtain ⟨u, u12, u1, u2, u3⟩ : pU N μ := hP.2.2.2.2.2.2.1
  have u4 : ∀ k, k < u → ∃ h, slR μ k = some h := fun k hk => by
    obtain ⟨h, g, _⟩ := u3 k hk
    exact ⟨h, g⟩
  simp only [gX1_lay_0, gX1_lay_1, gX1_lay_4, gX1_lay_5, gX1_lay_8, am_kill_int, am_kill_ref, am_kill_null, am_kill_F, am_kill_long, am_cat_n, am_cat_i, am_cat_r, am_cat_0, am_cat_l, am_nr_n, am_nr_i, am_nr_r, am_nr_0, am_nr_l, Option.toList_some, Option.toList_none, List.nil_append, List.cons_append, va_rf_s, va_rf_n, am_II, am_I_sR, am_I_sL, am_R_sI, am_RR, am_R_sL, am_L_sI, am_L_sR, am_LL, am_k_sI, am_k_sR, am_k_sL, am_n_sI, am_n_sR, am_n_sL, true_and, and_true, true_or, or_true, or_false, false_or, not_true_eq_false, not_false_eq_true, Nat.reduceLT, am_dS, am_dP, am_d1, Nat.reduceSub, Nat.reduceMul, ne_eq, Nat.reduceBEq, Nat.reduceAdd, Nat.reduceLeDiff, Nat.reduceEqDiff, and_self, and_false, false_and, if_true, if_false, am_nb, am_nb0, am_nb1, am_lc1, am_lc2, am_lc3, am_b0, am_b1, am_10, am_c8, am_c16, am_c24, am_c32, am_c40, am_c48, am_c56, am_c64, am_c72, Nat.add_zero, Bool.false_eq_true, Nat.zero_le, hcu]
  refine wX2_becomes (d := d + 198) hC.1.s1 hC.1.s3 (by decide) (fun ν1 hF1 hT1 => ?_)
  have hFa : Fr fQ μ ν1 := hF1.le fun a b z => by unfold inSp at z; unfold fQ; omega
  have hC1 : CC N ru c ν1 := hC.fr hFa (fun a b z => by unfold fQ jO at z; omega)
  have hS1 : cS ν1 1 = cS μ 1 := cS_Fr hF1 fun a b z1 z2 z3 => by unfold inSp at z3; omega
  have hcu1 := hC1.1
  simp only [cL, spL, Nat.reduceAdd] at hcu1
  simp only [gX1_lay_11, gX1_lay_12, gX1_lay_13, gX1_lay_14, gX1_lay_17, gX1_lay_18, gX1_lay_19, am_kill_int, am_kill_ref, am_kill_null, am_kill_F, am_kill_long, am_cat_n, am_cat_i, am_cat_r, am_cat_0, am_cat_l, am_nr_n, am_nr_i, am_nr_r, am_nr_0, am_nr_l, Option.toList_some, Option.toList_none, List.nil_append, List.cons_append, va_rf_s, va_rf_n, am_II, am_I_sR, am_I_sL, am_R_sI, am_RR, am_R_sL, am_L_sI, am_L_sR, am_LL, am_k_sI, am_k_sR, am_k_sL, am_n_sI, am_n_sR, am_n_sL, true_and, and_true, true_or, or_true, or_false, false_or, not_true_eq_false, not_false_eq_true, Nat.reduceLT, am_dS, am_dP, am_d1, Nat.reduceSub, Nat.reduceMul, ne_eq, Nat.reduceBEq, Nat.reduceAdd, Nat.reduceLeDiff, Nat.reduceEqDiff, and_self, and_false, false_and, if_true, if_false, am_nb, am_nb0, am_nb1, am_lc1, am_lc2, am_lc3, am_b0, am_b1, am_10, am_c8, am_c16, am_c24, am_c32, am_c40, am_c48, am_c56, am_c64, am_c72, Nat.add_zero, Bool.false_eq_true, Nat.zero_le, hcu1]
  refine wX1_lays (d := d + 131) hC1 hC1.1.s1 (by decide) (by decide) (fun ν2 hF2 hT2 => ?_)
  rw [hS1] at hT2 ⊢
  have hFb : Fr fQ μ ν2 := hFa.trans (hF2.le fun a b z => by unfold jS inSp jO at z; unfold fQ jO; omega)
  have hk2 : am_k ν2 0 = (0, 0) := by rw [hFb.2.2.2.1]; exact hC.1.c
  have e29 : cS ν2 29 = cS μ 1 := (cS_Fr hF2 (fun a b z1 z2 z3 => by unfold jS inSp jO at z3; omega)).trans hT1
  simp only [gX1_lay_22, am_kill_int, am_kill_ref, am_kill_null, am_kill_F, am_kill_long, am_cat_n, am_cat_i, am_cat_r, am_cat_0, am_cat_l, am_nr_n, am_nr_i, am_nr_r, am_nr_0, am_nr_l, Option.toList_some, Option.toList_none, List.nil_append, List.cons_append, va_rf_s, va_rf_n, am_II, am_I_sR, am_I_sL, am_R_sI, am_RR, am_R_sL, am_L_sI, am_L_sR, am_LL, am_k_sI, am_k_sR, am_k_sL, am_n_sI, am_n_sR, am_n_sL, true_and, and_true, true_or, or_true, or_false, false_or, not_true_eq_false, not_false_eq_true, Nat.reduceLT, am_dS, am_dP, am_d1, Nat.reduceSub, Nat.reduceMul, ne_eq, Nat.reduceBEq, Nat.reduceAdd, Nat.reduceLeDiff, Nat.reduceEqDiff, and_self, and_false, false_and, if_true, if_false, am_nb, am_nb0, am_nb1, am_lc1, am_lc2, am_lc3, am_b0, am_b1, am_10, am_c8, am_c16, am_c24, am_c32, am_c40, am_c48, am_c56, am_c64, am_c72, Nat.add_zero, Bool.false_eq_true, Nat.zero_le, hk2]
  refine wX1_counts (d := d + 196) hI' hq hP u12 u1 u4 hFb hT2 e29 (fun hv => ?_) (fun hv ν3 hc3 => ?_)
  · simp only [gX1_lay_25, am_kill_int, am_kill_ref, am_kill_null, am_kill_F, am_kill_long, am_cat_n, am_cat_i, am_cat_r, am_cat_0, am_cat_l, am_nr_n, am_nr_i, am_nr_r, am_nr_0, am_nr_l, Option.toList_some, Option.toList_none, List.nil_append, List.cons_append, va_rf_s, va_rf_n, am_II, am_I_sR, am_I_sL, am_R_sI, am_RR, am_R_sL, am_L_sI, am_L_sR, am_LL, am_k_sI, am_k_sR, am_k_sL, am_n_sI, am_n_sR, am_n_sL, true_and, and_true, true_or, or_true, or_false, false_or, not_true_eq_false, not_false_eq_true, Nat.reduceLT, am_dS, am_dP, am_d1, Nat.reduceSub, Nat.reduceMul, ne_eq, Nat.reduceBEq, Nat.reduceAdd, Nat.reduceLeDiff, Nat.reduceEqDiff, and_self, and_false, false_and, if_true, if_false, am_nb, am_nb0, am_nb1, am_lc1, am_lc2, am_lc3, am_b0, am_b1, am_10, am_c8, am_c16, am_c24, am_c32, am_c40, am_c48, am_c56, am_c64, am_c72, Nat.add_zero, Bool.false_eq_true, Nat.zero_le]
    refine ⟨_, rfl, ?_⟩
    have hF0 : Fr fZ μ (am_sI ν2 54 7 0) := Fr.I (hFb.le fun a b z => Or.inl z) (by unfold fZ; omega)
    have h17 : am_I (am_sI ν2 54 7 0) 54 17 = 0 := by
      rw [am_I_sI, if_neg (by omega)]
      exact (hFb.1 54 17 (by unfold fQ jO; omega)).trans hP.h17
    have e1 : (layO N ru c (cS μ 1) x y).2 = cS μ 1 → cS (am_sI ν2 54 7 0) 1 = cS μ 1 := fun z => (cS_o (by omega)).trans (hT2.trans z)
    have hm2 := hFb.mLk hS.1.1
    unfold mL at hm2
    simp only [gX3_lay_0, gX3_lay_1, gX3_lay_2, am_kill_int, am_kill_ref, am_kill_null, am_kill_F, am_kill_long, am_cat_n, am_cat_i, am_cat_r, am_cat_0, am_cat_l, am_nr_n, am_nr_i, am_nr_r, am_nr_0, am_nr_l, Option.toList_some, Option.toList_none, List.nil_append, List.cons_append, va_rf_s, va_rf_n, am_I_sR, am_I_sL, am_R_sI, am_R_sL, am_L_sI, am_L_sR, am_k_sI, am_k_sR, am_k_sL, am_n_sI, am_n_sR, am_n_sL, true_and, and_true, true_or, or_true, or_false, false_or, not_true_eq_false, not_false_eq_true, Nat.reduceLT, am_dS, am_dP, am_d1, Nat.reduceSub, Nat.reduceMul, ne_eq, Nat.reduceBEq, Nat.reduceAdd, Nat.reduceLeDiff, Nat.reduceEqDiff, and_self, and_false, false_and, if_true, if_false, am_nb, am_nb0, am_nb1, am_lc1, am_lc2, am_lc3, am_b0, am_b1, am_10, am_c8, am_c16, am_c24, am_c32, am_c40, am_c48, am_c56, am_c64, am_c72, Nat.add_zero, Bool.false_eq_true, Nat.zero_le, hm2]
    generalize am_sI ν2 54 7 0 = ν4 at hF0 h17 e1 ⊢
    have hS4 : MS N ru c ν4 := hS.fr hF0 (fun a b z => by unfold fZ fQ jO jM at z; omega) h17
    have hm4 := hS4.1.1
    unfold mL at hm4
    have r55 : am_I ν4 55 = am_I μ 55 := funext fun b => hF0.1 55 b (by unfold fZ fQ jO jM; omega)
    have ev : rLa N c (am_I μ 55) x y = (layO N ru c (cS μ 1) x y).1 ∧ (layO N ru c (cS μ 1) x y).2 = cS μ 1 := by
      unfold layO rLa at *
      by_cases hxy : isN x N = true ∧ isN y 10 = true
      · obtain ⟨j, hj, rfl⟩ := isN_of (by omega) hxy.1
        have hcl : (nI j).toNatClampNeg = j := nI_clamp (by omega)
        have e6 := hsim.r6 hj
        have e7 := hsim.inTm (cl := c) hj
        simp only [if_pos hxy, hcl, e6, e7, decide_eq_true_eq] at hv ⊢
        by_cases f : am_I μ 55 (48 + j) = 0
        · simp only [f, if_true] at hv ⊢
          by_cases g : ¬ am_I μ 55 (32 + j) = -1 ∧ c ≤ am_I μ 55 (32 + j)
          · simp only [if_pos g] at hv
            exact absurd hv ma0_ge
          · simp only [if_neg g, and_self]
        · simp only [f, if_false, and_self]
      · simp only [if_neg hxy, and_self]
    simp only [gX3_lay_5, gX3_lay_6, gX3_lay_7, gX3_lay_10, gX3_lay_11, gX3_lay_12, gX3_lay_15, gX3_lay_16, gX3_lay_17, gX3_lay_20, gX3_lay_21, am_kill_int, am_kill_ref, am_kill_null, am_kill_F, am_kill_long, am_cat_n, am_cat_i, am_cat_r, am_cat_0, am_cat_l, am_nr_n, am_nr_i, am_nr_r, am_nr_0, am_nr_l, Option.toList_some, Option.toList_none, List.nil_append, List.cons_append, va_rf_s, va_rf_n, am_I_sR, am_I_sL, am_R_sI, am_R_sL, am_L_sI, am_L_sR, am_k_sI, am_k_sR, am_k_sL, am_n_sI, am_n_sR, am_n_sL, true_and, and_true, true_or, or_true, or_false, false_or, not_true_eq_false, not_false_eq_true, Nat.reduceLT, am_dS, am_dP, am_d1, Nat.reduceSub, Nat.reduceMul, ne_eq, Nat.reduceBEq, Nat.reduceAdd, Nat.reduceLeDiff, Nat.reduceEqDiff, and_self, and_false, false_and, if_true, if_false, am_nb, am_nb0, am_nb1, am_lc1, am_lc2, am_lc3, am_b0, am_b1, am_10, am_c8, am_c16, am_c24, am_c32, am_c40, am_c48, am_c56, am_c64, am_c72, Nat.add_zero, Bool.false_eq_true, Nat.zero_le, hm4, wX3_refusesLay hS4.1 hm4.1.2.1, r55, ev.1, Int32.not_le.mpr hv]
    exact inv_0 hI' hP hF0 (e1 ev.2) h17
  · simp only [gX1_lay_25, am_kill_int, am_kill_ref, am_kill_null, am_kill_F, am_kill_long, am_cat_n, am_cat_i, am_cat_r, am_cat_0, am_cat_l, am_nr_n, am_nr_i, am_nr_r, am_nr_0, am_nr_l, Option.toList_some, Option.toList_none, List.nil_append, List.cons_append, va_rf_s, va_rf_n, am_II, am_I_sR, am_I_sL, am_R_sI, am_RR, am_R_sL, am_L_sI, am_L_sR, am_LL, am_k_sI, am_k_sR, am_k_sL, am_n_sI, am_n_sR, am_n_sL, true_and, and_true, true_or, or_true, or_false, false_or, not_true_eq_false, not_false_eq_true, Nat.reduceLT, am_dS, am_dP, am_d1, Nat.reduceSub, Nat.reduceMul, ne_eq, Nat.reduceBEq, Nat.reduceAdd, Nat.reduceLeDiff, Nat.reduceEqDiff, and_self, and_false, false_and, if_true, if_false, am_nb, am_nb0, am_nb1, am_lc1, am_lc2, am_lc3, am_b0, am_b1, am_10, am_c8, am_c16, am_c24, am_c32, am_c40, am_c48, am_c56, am_c64, am_c72, Nat.add_zero, Bool.false_eq_true, Nat.zero_le]
    refine ⟨_, rfl, ?_⟩
    have hm3 := hc3.2.2.2.2.2.2.2.2.2.2.2.2.1.1
    unfold mL at hm3
    obtain ⟨ν4, q4, hS4, r55, r62, r20, hF4, h17⟩ := hc3.m4 hP.h17
    rw [u2] at r20
    simp only [gX3_lay_0, gX3_lay_1, gX3_lay_2, am_kill_int, am_kill_ref, am_kill_null, am_kill_F, am_kill_long, am_cat_n, am_cat_i, am_cat_r, am_cat_0, am_cat_l, am_nr_n, am_nr_i, am_nr_r, am_nr_0, am_nr_l, Option.toList_some, Option.toList_none, List.nil_append, List.cons_append, va_rf_s, va_rf_n, am_I_sR, am_I_sL, am_R_sI, am_R_sL, am_L_sI, am_L_sR, am_k_sI, am_k_sR, am_k_sL, am_n_sI, am_n_sR, am_n_sL, true_and, and_true, true_or, or_true, or_false, false_or, not_true_eq_false, not_false_eq_true, Nat.reduceLT, am_dS, am_dP, am_d1, Nat.reduceSub, Nat.reduceMul, ne_eq, Nat.reduceBEq, Nat.reduceAdd, Nat.reduceLeDiff, Nat.reduceEqDiff, and_self, and_false, false_and, if_true, if_false, am_nb, am_nb0, am_nb1, am_lc1, am_lc2, am_lc3, am_b0, am_b1, am_10, am_c8, am_c16, am_c24, am_c32, am_c40, am_c48, am_c56, am_c64, am_c72, Nat.add_zero, Bool.false_eq_true, Nat.zero_le, hm3]
    rw [← q4]
    have hm4 := hS4.1.1
    unfold mL at hm4
    have hxy : isN x N = true ∧ isN y 10 = true := by
      by_cases hx : isN x N = true ∧ isN y 10 = true
      · exact hx
      · unfold layO at hv
        simp only [if_neg hx] at hv
        exact absurd (by decide) hv
    obtain ⟨j, hj, rfl⟩ := isN_of (by omega) hxy.1
    have hj8 : j < 8 := by omega
    have hcl : (nI j).toNatClampNeg = j := nI_clamp (by omega)
    have e6 := hsim.r6 hj
    have e7 := hsim.inTm (cl := c) hj
    have ea : am_I μ 55 (48 + j) = 0 := by
      by_cases f : am_I μ 55 (48 + j) = 0
      · exact f
      · unfold layO at hv
        simp only [if_pos hxy, hcl, e6, f, if_false] at hv
        exact absurd (by decide) hv
    have eb : ¬ am_I μ 55 (32 + j) = -1 ∧ c ≤ am_I μ 55 (32 + j) := by
      by_cases f : ¬ am_I μ 55 (32 + j) = -1 ∧ c ≤ am_I μ 55 (32 + j)
      · exact f
      · unfold layO at hv
        simp only [if_pos hxy, hcl, e6, ea, if_true, e7, decide_eq_true_eq, if_neg f] at hv
        exact absurd (by decide) hv
    have ev : layO N ru c (cS μ 1) (nI j) y = (maI 0 (miI 99 (oddS N ru (lieT (cS μ 1) j y) j)), lieT (cS μ 1) j y) := by
      unfold layO
      simp only [if_pos hxy, hcl, e6, ea, if_true, e7, decide_eq_true_eq, if_pos eb]
    have er : rLa N c (am_I μ 55) (nI j) y = 0 := by
      unfold rLa
      simp only [if_pos hxy, hcl, ea, if_true, if_pos eb]
    have n00 : ¬ (0 : Int32) < 0 := by decide
    rw [ev] at hc3 ⊢
    simp only [gX3_lay_5, gX3_lay_6, gX3_lay_7, gX3_lay_10, gX3_lay_11, gX3_lay_12, gX3_lay_15, gX3_lay_16, gX3_lay_17, gX3_lay_20, gX3_lay_21, gX3_lay_22, gX3_lay_23, gX3_lay_24, gX3_lay_27, am_kill_int, am_kill_ref, am_kill_null, am_kill_F, am_kill_long, am_cat_n, am_cat_i, am_cat_r, am_cat_0, am_cat_l, am_nr_n, am_nr_i, am_nr_r, am_nr_0, am_nr_l, Option.toList_some, Option.toList_none, List.nil_append, List.cons_append, va_rf_s, va_rf_n, am_I_sR, am_I_sL, am_R_sI, am_R_sL, am_L_sI, am_L_sR, am_k_sI, am_k_sR, am_k_sL, am_n_sI, am_n_sR, am_n_sL, true_and, and_true, true_or, or_true, or_false, false_or, not_true_eq_false, not_false_eq_true, Nat.reduceLT, am_dS, am_dP, am_d1, Nat.reduceSub, Nat.reduceMul, ne_eq, Nat.reduceBEq, Nat.reduceAdd, Nat.reduceLeDiff, Nat.reduceEqDiff, and_self, and_false, false_and, if_true, if_false, am_nb, am_nb0, am_nb1, am_lc1, am_lc2, am_lc3, am_b0, am_b1, am_10, am_c8, am_c16, am_c24, am_c32, am_c40, am_c48, am_c56, am_c64, am_c72, Nat.add_zero, Bool.false_eq_true, Nat.zero_le, hm4, wX3_refusesLay hS4.1 hm4.1.2.1, r55, er, n00]
    refine wX3_rem (d := d + 198) (ν := ν3) (μ := μ) u12 hS4 hF4 h17 r55 r62 r20 fun ξ g1 g2 g3 g4 g5 g6 => ?_
    have hmξ := g1.1.1
    unfold mL at hmξ
    simp only [gX3_lay_30, gX3_lay_31, gX3_lay_34, gX3_lay_35, gX3_lay_36, am_kill_int, am_kill_ref, am_kill_null, am_kill_F, am_kill_long, am_cat_n, am_cat_i, am_cat_r, am_cat_0, am_cat_l, am_nr_n, am_nr_i, am_nr_r, am_nr_0, am_nr_l, Option.toList_some, Option.toList_none, List.nil_append, List.cons_append, va_rf_s, va_rf_n, am_I_sR, am_I_sL, am_R_sI, am_R_sL, am_L_sI, am_L_sR, am_k_sI, am_k_sR, am_k_sL, am_n_sI, am_n_sR, am_n_sL, true_and, and_true, true_or, or_true, or_false, false_or, not_true_eq_false, not_false_eq_true, Nat.reduceLT, am_dS, am_dP, am_d1, Nat.reduceSub, Nat.reduceMul, ne_eq, Nat.reduceBEq, Nat.reduceAdd, Nat.reduceLeDiff, Nat.reduceEqDiff, and_self, and_false, false_and, if_true, if_false, am_nb, am_nb0, am_nb1, am_lc1, am_lc2, am_lc3, am_b0, am_b1, am_10, am_c8, am_c16, am_c24, am_c32, am_c40, am_c48, am_c56, am_c64, am_c72, Nat.add_zero, Bool.false_eq_true, Nat.zero_le, hmξ]
    refine wX3_goLayK (d := d + 198) hj8 hmξ.1.2.1 fun ξ2 hF5 r5 => ?_
    rw [g5] at r5
    have hF5' : Fr fY ξ ξ2 := hF5.le fun a b z => by unfold fY; omega
    have k17 : am_I ξ2 54 17 = 0 := (hF5.1 54 17 (by decide)).trans g6
    have hS5 : MS N ru c ξ2 := g1.fr hF5' (fun a b z => by unfold fY jM at z; omega) k17
    have hm5 := hS5.1.1
    unfold mL at hm5
    have hsim' := hsim.lie h8 hj (isC_r hxy.2)
    have h6 : lieT (cS μ 1) j y (48 + j) ≠ 0 := by
      rw [lie_e hj8, if_neg (by omega), if_neg (by omega), if_pos rfl]; decide
    simp only [gX3_lay_39, gX3_lay_40, gX3_lay_42, gX3_lay_43, gX3_lay_44, gX3_lay_47, gX3_lay_48, am_kill_int, am_kill_ref, am_kill_null, am_kill_F, am_kill_long, am_cat_n, am_cat_i, am_cat_r, am_cat_0, am_cat_l, am_nr_n, am_nr_i, am_nr_r, am_nr_0, am_nr_l, Option.toList_some, Option.toList_none, List.nil_append, List.cons_append, va_rf_s, va_rf_n, am_I_sR, am_I_sL, am_R_sI, am_R_sL, am_L_sI, am_L_sR, am_k_sI, am_k_sR, am_k_sL, am_n_sI, am_n_sR, am_n_sL, true_and, and_true, true_or, or_true, or_false, false_or, not_true_eq_false, not_false_eq_true, Nat.reduceLT, am_dS, am_dP, am_d1, Nat.reduceSub, Nat.reduceMul, ne_eq, Nat.reduceBEq, Nat.reduceAdd, Nat.reduceLeDiff, Nat.reduceEqDiff, and_self, and_false, false_and, if_true, if_false, am_nb, am_nb0, am_nb1, am_lc1, am_lc2, am_lc3, am_b0, am_b1, am_10, am_c8, am_c16, am_c24, am_c32, am_c40, am_c48, am_c56, am_c64, am_c72, Nat.add_zero, Bool.false_eq_true, Nat.zero_le, hm5]
    refine wX3_oddNow (d := d + 129) hS5 hj8 hm5.1.2.1 fun ξ3 w1 w2 => ?_
    rw [r5, ← odd_W hS.2.2 hsim' hj h6]
    simp only [gX3_lay_51, gX3_lay_54, gX3_lay_57, am_kill_int, am_kill_ref, am_kill_null, am_kill_F, am_kill_long, am_cat_n, am_cat_i, am_cat_r, am_cat_0, am_cat_l, am_nr_n, am_nr_i, am_nr_r, am_nr_0, am_nr_l, Option.toList_some, Option.toList_none, List.nil_append, List.cons_append, va_rf_s, va_rf_n, am_I_sR, am_I_sL, am_R_sI, am_R_sL, am_L_sI, am_L_sR, am_k_sI, am_k_sR, am_k_sL, am_n_sI, am_n_sR, am_n_sL, true_and, and_true, true_or, or_true, or_false, false_or, not_true_eq_false, not_false_eq_true, Nat.reduceLT, am_dS, am_dP, am_d1, Nat.reduceSub, Nat.reduceMul, ne_eq, Nat.reduceBEq, Nat.reduceAdd, Nat.reduceLeDiff, Nat.reduceEqDiff, and_self, and_false, false_and, if_true, if_false, am_nb, am_nb0, am_nb1, am_lc1, am_lc2, am_lc3, am_b0, am_b1, am_10, am_c8, am_c16, am_c24, am_c32, am_c40, am_c48, am_c56, am_c64, am_c72, Nat.add_zero, Bool.false_eq_true, Nat.zero_le]
    have r53 : am_I ξ3 55 = layM (am_I μ 55) j y := (jM_row w1 (by decide) (by decide)).trans r5
    refine ⟨rfl, put_fr hI' hP u12 u3 hc3 ((g2.trans hF5').trans (w1.le fun a b z => by unfold fY; exact Or.inr (Or.inr (Or.inl z)))) ?_ (fun k i z1 z2 => ?_) w2 (by rw [r53]; exact hsim') ?_⟩
    · rw [w1.1 54 20 (by unfold jM; omega), hF5.1 54 20 (by decide)]; exact g3
    · rw [w1.1 62 _ (by unfold jM; omega), hF5.1 62 _ (by show ¬ (62 = 55); decide)]; exact g4 k i z1 z2
    · show lieT (cS μ 1) j y 81 = _
      rw [lie_e hj8, if_neg (by omega), if_neg (by omega), if_neg (by omega), if_neg (by omega), if_neg (by omega)]
theorem op_tint (hq : q ≤ 100) (hI : Inv q μ) : OP q mX1_tint mX3_tint [.ref 0, .int x, .int y] [.ref 54, .int x, .int y, am_F, am_F] μ := by
  intro d
  have hI' := hI
  obtain ⟨⟨N, C, ru, c, hP⟩, hT, hR, b1, b2, b3⟩ := hI
  have hC := hP.1.1
  have hcu := hC.1
  simp only [cL, spL, Nat.reduceAdd] at hcu
  have hS := hP.1.2.1
  have h8 := hC.2.2.1
  have hsim : Sim N (cS μ 1) (am_I μ 55) := hP.2.1
  obtain ⟨u, u12, u1, u2, u3⟩ : pU N μ := hP.2.2.2.2.2.2.1
  have u4 : ∀ k, k < u → ∃ h, slR μ k = some h := fun k hk => by
    obtain ⟨h, g, _⟩ := u3 k hk
    exact ⟨h, g⟩
  simp only [gX1_tint_0, gX1_tint_1, gX1_tint_4, gX1_tint_5, gX1_tint_8, am_kill_int, am_kill_ref, am_kill_null, am_kill_F, am_kill_long, am_cat_n, am_cat_i, am_cat_r, am_cat_0, am_cat_l, am_nr_n, am_nr_i, am_nr_r, am_nr_0, am_nr_l, Option.toList_some, Option.toList_none, List.nil_append, List.cons_append, va_rf_s, va_rf_n, am_II, am_I_sR, am_I_sL, am_R_sI, am_RR, am_R_sL, am_L_sI, am_L_sR, am_LL, am_k_sI, am_k_sR, am_k_sL, am_n_sI, am_n_sR, am_n_sL, true_and, and_true, true_or, or_true, or_false, false_or, not_true_eq_false, not_false_eq_true, Nat.reduceLT, am_dS, am_dP, am_d1, Nat.reduceSub, Nat.reduceMul, ne_eq, Nat.reduceBEq, Nat.reduceAdd, Nat.reduceLeDiff, Nat.reduceEqDiff, and_self, and_false, false_and, if_true, if_false, am_nb, am_nb0, am_nb1, am_lc1, am_lc2, am_lc3, am_b0, am_b1, am_10, am_c8, am_c16, am_c24, am_c32, am_c40, am_c48, am_c56, am_c64, am_c72, Nat.add_zero, Bool.false_eq_true, Nat.zero_le, hcu]
  refine wX2_becomes (d := d + 198) hC.1.s1 hC.1.s3 (by decide) (fun ν1 hF1 hT1 => ?_)
  have hFa : Fr fQ μ ν1 := hF1.le fun a b z => by unfold inSp at z; unfold fQ; omega
  have hC1 : CC N ru c ν1 := hC.fr hFa (fun a b z => by unfold fQ jO at z; omega)
  have hS1 : cS ν1 1 = cS μ 1 := cS_Fr hF1 fun a b z1 z2 z3 => by unfold inSp at z3; omega
  have hcu1 := hC1.1
  simp only [cL, spL, Nat.reduceAdd] at hcu1
  simp only [gX1_tint_11, gX1_tint_12, gX1_tint_13, gX1_tint_14, gX1_tint_17, gX1_tint_18, gX1_tint_19, am_kill_int, am_kill_ref, am_kill_null, am_kill_F, am_kill_long, am_cat_n, am_cat_i, am_cat_r, am_cat_0, am_cat_l, am_nr_n, am_nr_i, am_nr_r, am_nr_0, am_nr_l, Option.toList_some, Option.toList_none, List.nil_append, List.cons_append, va_rf_s, va_rf_n, am_II, am_I_sR, am_I_sL, am_R_sI, am_RR, am_R_sL, am_L_sI, am_L_sR, am_LL, am_k_sI, am_k_sR, am_k_sL, am_n_sI, am_n_sR, am_n_sL, true_and, and_true, true_or, or_true, or_false, false_or, not_true_eq_false, not_false_eq_true, Nat.reduceLT, am_dS, am_dP, am_d1, Nat.reduceSub, Nat.reduceMul, ne_eq, Nat.reduceBEq, Nat.reduceAdd, Nat.reduceLeDiff, Nat.reduceEqDiff, and_self, and_false, false_and, if_true, if_false, am_nb, am_nb0, am_nb1, am_lc1, am_lc2, am_lc3, am_b0, am_b1, am_10, am_c8, am_c16, am_c24, am_c32, am_c40, am_c48, am_c56, am_c64, am_c72, Nat.add_zero, Bool.false_eq_true, Nat.zero_le, hcu1]
  refine wX1_tints (d := d + 196) hC1 hC1.1.s1 (fun ν2 hF2 hT2 => ?_)
  rw [hS1] at hT2 ⊢
  have hFb : Fr fQ μ ν2 := hFa.trans (hF2.le fun a b z => by unfold inSp at z; unfold fQ jO; omega)
  have hk2 : am_k ν2 0 = (0, 0) := by rw [hFb.2.2.2.1]; exact hC.1.c
  have e29 : cS ν2 29 = cS μ 1 := (cS_Fr hF2 (fun a b z1 z2 z3 => by unfold inSp at z3; omega)).trans hT1
  simp only [gX1_tint_22, am_kill_int, am_kill_ref, am_kill_null, am_kill_F, am_kill_long, am_cat_n, am_cat_i, am_cat_r, am_cat_0, am_cat_l, am_nr_n, am_nr_i, am_nr_r, am_nr_0, am_nr_l, Option.toList_some, Option.toList_none, List.nil_append, List.cons_append, va_rf_s, va_rf_n, am_II, am_I_sR, am_I_sL, am_R_sI, am_RR, am_R_sL, am_L_sI, am_L_sR, am_LL, am_k_sI, am_k_sR, am_k_sL, am_n_sI, am_n_sR, am_n_sL, true_and, and_true, true_or, or_true, or_false, false_or, not_true_eq_false, not_false_eq_true, Nat.reduceLT, am_dS, am_dP, am_d1, Nat.reduceSub, Nat.reduceMul, ne_eq, Nat.reduceBEq, Nat.reduceAdd, Nat.reduceLeDiff, Nat.reduceEqDiff, and_self, and_false, false_and, if_true, if_false, am_nb, am_nb0, am_nb1, am_lc1, am_lc2, am_lc3, am_b0, am_b1, am_10, am_c8, am_c16, am_c24, am_c32, am_c40, am_c48, am_c56, am_c64, am_c72, Nat.add_zero, Bool.false_eq_true, Nat.zero_le, hk2]
  refine wX1_counts (d := d + 196) hI' hq hP u12 u1 u4 hFb hT2 e29 (fun hv => ?_) (fun hv ν3 hc3 => ?_)
  · simp only [gX1_tint_25, am_kill_int, am_kill_ref, am_kill_null, am_kill_F, am_kill_long, am_cat_n, am_cat_i, am_cat_r, am_cat_0, am_cat_l, am_nr_n, am_nr_i, am_nr_r, am_nr_0, am_nr_l, Option.toList_some, Option.toList_none, List.nil_append, List.cons_append, va_rf_s, va_rf_n, am_II, am_I_sR, am_I_sL, am_R_sI, am_RR, am_R_sL, am_L_sI, am_L_sR, am_LL, am_k_sI, am_k_sR, am_k_sL, am_n_sI, am_n_sR, am_n_sL, true_and, and_true, true_or, or_true, or_false, false_or, not_true_eq_false, not_false_eq_true, Nat.reduceLT, am_dS, am_dP, am_d1, Nat.reduceSub, Nat.reduceMul, ne_eq, Nat.reduceBEq, Nat.reduceAdd, Nat.reduceLeDiff, Nat.reduceEqDiff, and_self, and_false, false_and, if_true, if_false, am_nb, am_nb0, am_nb1, am_lc1, am_lc2, am_lc3, am_b0, am_b1, am_10, am_c8, am_c16, am_c24, am_c32, am_c40, am_c48, am_c56, am_c64, am_c72, Nat.add_zero, Bool.false_eq_true, Nat.zero_le]
    refine ⟨_, rfl, ?_⟩
    have hF0 : Fr fZ μ (am_sI ν2 54 7 0) := Fr.I (hFb.le fun a b z => Or.inl z) (by unfold fZ; omega)
    have h17 : am_I (am_sI ν2 54 7 0) 54 17 = 0 := by
      rw [am_I_sI, if_neg (by omega)]
      exact (hFb.1 54 17 (by unfold fQ jO; omega)).trans hP.h17
    have e1 : (tinO N (cS μ 1) x y).2 = cS μ 1 → cS (am_sI ν2 54 7 0) 1 = cS μ 1 := fun z => (cS_o (by omega)).trans (hT2.trans z)
    have hm2 := hFb.mLk hS.1.1
    unfold mL at hm2
    simp only [gX3_tint_0, gX3_tint_1, gX3_tint_2, am_kill_int, am_kill_ref, am_kill_null, am_kill_F, am_kill_long, am_cat_n, am_cat_i, am_cat_r, am_cat_0, am_cat_l, am_nr_n, am_nr_i, am_nr_r, am_nr_0, am_nr_l, Option.toList_some, Option.toList_none, List.nil_append, List.cons_append, va_rf_s, va_rf_n, am_I_sR, am_I_sL, am_R_sI, am_R_sL, am_L_sI, am_L_sR, am_k_sI, am_k_sR, am_k_sL, am_n_sI, am_n_sR, am_n_sL, true_and, and_true, true_or, or_true, or_false, false_or, not_true_eq_false, not_false_eq_true, Nat.reduceLT, am_dS, am_dP, am_d1, Nat.reduceSub, Nat.reduceMul, ne_eq, Nat.reduceBEq, Nat.reduceAdd, Nat.reduceLeDiff, Nat.reduceEqDiff, and_self, and_false, false_and, if_true, if_false, am_nb, am_nb0, am_nb1, am_lc1, am_lc2, am_lc3, am_b0, am_b1, am_10, am_c8, am_c16, am_c24, am_c32, am_c40, am_c48, am_c56, am_c64, am_c72, Nat.add_zero, Bool.false_eq_true, Nat.zero_le, hm2]
    generalize am_sI ν2 54 7 0 = ν4 at hF0 h17 e1 ⊢
    have hS4 : MS N ru c ν4 := hS.fr hF0 (fun a b z => by unfold fZ fQ jO jM at z; omega) h17
    have hm4 := hS4.1.1
    unfold mL at hm4
    have r55 : am_I ν4 55 = am_I μ 55 := funext fun b => hF0.1 55 b (by unfold fZ fQ jO jM; omega)
    have ev : rTi N (am_I μ 55) x y = (tinO N (cS μ 1) x y).1 ∧ (tinO N (cS μ 1) x y).2 = cS μ 1 := by
      unfold tinO rTi at *
      by_cases hxy : isN x N = true ∧ isN y 10 = true
      · obtain ⟨j, hj, rfl⟩ := isN_of (by omega) hxy.1
        have hcl : (nI j).toNatClampNeg = j := nI_clamp (by omega)
        have e6 := hsim.r6 hj
        simp only [if_pos hxy, hcl, e6] at hv ⊢
        by_cases f : am_I μ 55 (48 + j) = 1
        · simp only [f, if_true] at hv
          have := (hsim.cg hj).2.2.2.2.1
          rw [col7] at this
          exact absurd hv (Int32.not_lt.mpr this.1)
        · simp only [f, if_false, and_self]
      · simp only [if_neg hxy, and_self]
    simp only [gX3_tint_5, gX3_tint_6, gX3_tint_7, gX3_tint_8, gX3_tint_11, gX3_tint_12, gX3_tint_13, gX3_tint_16, gX3_tint_17, am_kill_int, am_kill_ref, am_kill_null, am_kill_F, am_kill_long, am_cat_n, am_cat_i, am_cat_r, am_cat_0, am_cat_l, am_nr_n, am_nr_i, am_nr_r, am_nr_0, am_nr_l, Option.toList_some, Option.toList_none, List.nil_append, List.cons_append, va_rf_s, va_rf_n, am_I_sR, am_I_sL, am_R_sI, am_R_sL, am_L_sI, am_L_sR, am_k_sI, am_k_sR, am_k_sL, am_n_sI, am_n_sR, am_n_sL, true_and, and_true, true_or, or_true, or_false, false_or, not_true_eq_false, not_false_eq_true, Nat.reduceLT, am_dS, am_dP, am_d1, Nat.reduceSub, Nat.reduceMul, ne_eq, Nat.reduceBEq, Nat.reduceAdd, Nat.reduceLeDiff, Nat.reduceEqDiff, and_self, and_false, false_and, if_true, if_false, am_nb, am_nb0, am_nb1, am_lc1, am_lc2, am_lc3, am_b0, am_b1, am_10, am_c8, am_c16, am_c24, am_c32, am_c40, am_c48, am_c56, am_c64, am_c72, Nat.add_zero, Bool.false_eq_true, Nat.zero_le, hm4, wX3_refusesTint hS4.1, r55, ev.1, Int32.not_le.mpr hv]
    exact inv_0 hI' hP hF0 (e1 ev.2) h17
  · simp only [gX1_tint_25, am_kill_int, am_kill_ref, am_kill_null, am_kill_F, am_kill_long, am_cat_n, am_cat_i, am_cat_r, am_cat_0, am_cat_l, am_nr_n, am_nr_i, am_nr_r, am_nr_0, am_nr_l, Option.toList_some, Option.toList_none, List.nil_append, List.cons_append, va_rf_s, va_rf_n, am_II, am_I_sR, am_I_sL, am_R_sI, am_RR, am_R_sL, am_L_sI, am_L_sR, am_LL, am_k_sI, am_k_sR, am_k_sL, am_n_sI, am_n_sR, am_n_sL, true_and, and_true, true_or, or_true, or_false, false_or, not_true_eq_false, not_false_eq_true, Nat.reduceLT, am_dS, am_dP, am_d1, Nat.reduceSub, Nat.reduceMul, ne_eq, Nat.reduceBEq, Nat.reduceAdd, Nat.reduceLeDiff, Nat.reduceEqDiff, and_self, and_false, false_and, if_true, if_false, am_nb, am_nb0, am_nb1, am_lc1, am_lc2, am_lc3, am_b0, am_b1, am_10, am_c8, am_c16, am_c24, am_c32, am_c40, am_c48, am_c56, am_c64, am_c72, Nat.add_zero, Bool.false_eq_true, Nat.zero_le]
    refine ⟨_, rfl, ?_⟩
    have hm3 := hc3.2.2.2.2.2.2.2.2.2.2.2.2.1.1
    unfold mL at hm3
    obtain ⟨ν4, q4, hS4, r55, r62, r20, hF4, h17⟩ := hc3.m4 hP.h17
    rw [u2] at r20
    simp only [gX3_tint_0, gX3_tint_1, gX3_tint_2, am_kill_int, am_kill_ref, am_kill_null, am_kill_F, am_kill_long, am_cat_n, am_cat_i, am_cat_r, am_cat_0, am_cat_l, am_nr_n, am_nr_i, am_nr_r, am_nr_0, am_nr_l, Option.toList_some, Option.toList_none, List.nil_append, List.cons_append, va_rf_s, va_rf_n, am_I_sR, am_I_sL, am_R_sI, am_R_sL, am_L_sI, am_L_sR, am_k_sI, am_k_sR, am_k_sL, am_n_sI, am_n_sR, am_n_sL, true_and, and_true, true_or, or_true, or_false, false_or, not_true_eq_false, not_false_eq_true, Nat.reduceLT, am_dS, am_dP, am_d1, Nat.reduceSub, Nat.reduceMul, ne_eq, Nat.reduceBEq, Nat.reduceAdd, Nat.reduceLeDiff, Nat.reduceEqDiff, and_self, and_false, false_and, if_true, if_false, am_nb, am_nb0, am_nb1, am_lc1, am_lc2, am_lc3, am_b0, am_b1, am_10, am_c8, am_c16, am_c24, am_c32, am_c40, am_c48, am_c56, am_c64, am_c72, Nat.add_zero, Bool.false_eq_true, Nat.zero_le, hm3]
    rw [← q4]
    have hm4 := hS4.1.1
    unfold mL at hm4
    have hxy : isN x N = true ∧ isN y 10 = true := by
      by_cases hx : isN x N = true ∧ isN y 10 = true
      · exact hx
      · unfold tinO at hv
        simp only [if_neg hx] at hv
        exact absurd (by decide) hv
    obtain ⟨j, hj, rfl⟩ := isN_of (by omega) hxy.1
    have hj8 : j < 8 := by omega
    have hcl : (nI j).toNatClampNeg = j := nI_clamp (by omega)
    have e6 := hsim.r6 hj
    have ea : am_I μ 55 (48 + j) = 1 := by
      by_cases f : am_I μ 55 (48 + j) = 1
      · exact f
      · unfold tinO at hv
        simp only [if_pos hxy, hcl, e6, f, if_false] at hv
        exact absurd (by decide) hv
    have h6 : cS μ 1 (48 + j) ≠ 0 := by rw [e6, ea]; decide
    have ev : tinO N (cS μ 1) (nI j) y = (am_I μ 55 (56 + j), spU (cS μ 1) (56 + j) y) := by
      unfold tinO
      simp only [if_pos hxy, hcl, e6, ea, if_true, hsim.r7 hj h6]
    have er : rTi N (am_I μ 55) (nI j) y = 0 := by
      unfold rTi
      simp only [if_pos hxy, hcl, ea, if_true]
    have n00 : ¬ (0 : Int32) < 0 := by decide
    rw [ev] at hc3 ⊢
    simp only [gX3_tint_5, gX3_tint_6, gX3_tint_7, gX3_tint_8, gX3_tint_11, gX3_tint_12, gX3_tint_13, gX3_tint_16, gX3_tint_17, gX3_tint_18, gX3_tint_19, gX3_tint_20, gX3_tint_23, am_kill_int, am_kill_ref, am_kill_null, am_kill_F, am_kill_long, am_cat_n, am_cat_i, am_cat_r, am_cat_0, am_cat_l, am_nr_n, am_nr_i, am_nr_r, am_nr_0, am_nr_l, Option.toList_some, Option.toList_none, List.nil_append, List.cons_append, va_rf_s, va_rf_n, am_I_sR, am_I_sL, am_R_sI, am_R_sL, am_L_sI, am_L_sR, am_k_sI, am_k_sR, am_k_sL, am_n_sI, am_n_sR, am_n_sL, true_and, and_true, true_or, or_true, or_false, false_or, not_true_eq_false, not_false_eq_true, Nat.reduceLT, am_dS, am_dP, am_d1, Nat.reduceSub, Nat.reduceMul, ne_eq, Nat.reduceBEq, Nat.reduceAdd, Nat.reduceLeDiff, Nat.reduceEqDiff, and_self, and_false, false_and, if_true, if_false, am_nb, am_nb0, am_nb1, am_lc1, am_lc2, am_lc3, am_b0, am_b1, am_10, am_c8, am_c16, am_c24, am_c32, am_c40, am_c48, am_c56, am_c64, am_c72, Nat.add_zero, Bool.false_eq_true, Nat.zero_le, hm4, wX3_refusesTint hS4.1, r55, er, n00]
    refine wX3_rem (d := d + 198) (ν := ν3) (μ := μ) u12 hS4 hF4 h17 r55 r62 r20 fun ξ g1 g2 g3 g4 g5 g6 => ?_
    have hmξ := g1.1.1
    unfold mL at hmξ
    have hv56 : vp_in (nI (56 + j)) 83 := vp_in_nI (by omega) (by omega)
    have hc56 : (nI (56 + j)).toNatClampNeg = 56 + j := nI_clamp (by omega)
    simp only [gX3_tint_26, gX3_tint_27, gX3_tint_30, gX3_tint_32, gX3_tint_33, gX3_tint_34, gX3_tint_35, gX3_tint_37, gX3_tint_38, gX3_tint_41, gX3_tint_43, gX3_tint_44, gX3_tint_45, gX3_tint_46, gX3_tint_47, gX3_tint_49, am_kill_int, am_kill_ref, am_kill_null, am_kill_F, am_kill_long, am_cat_n, am_cat_i, am_cat_r, am_cat_0, am_cat_l, am_nr_n, am_nr_i, am_nr_r, am_nr_0, am_nr_l, Option.toList_some, Option.toList_none, List.nil_append, List.cons_append, va_rf_s, va_rf_n, am_I_sR, am_I_sL, am_R_sI, am_R_sL, am_L_sI, am_L_sR, am_k_sI, am_k_sR, am_k_sL, am_n_sI, am_n_sR, am_n_sL, true_and, and_true, true_or, or_true, or_false, false_or, not_true_eq_false, not_false_eq_true, Nat.reduceLT, am_dS, am_dP, am_d1, Nat.reduceSub, Nat.reduceMul, ne_eq, Nat.reduceBEq, Nat.reduceAdd, Nat.reduceLeDiff, Nat.reduceEqDiff, and_self, and_false, false_and, if_true, if_false, am_nb, am_nb0, am_nb1, am_lc1, am_lc2, am_lc3, am_b0, am_b1, am_10, am_c8, am_c16, am_c24, am_c32, am_c40, am_c48, am_c56, am_c64, am_c72, Nat.add_zero, Bool.false_eq_true, Nat.zero_le, am_kill_int, am_kill_ref, am_kill_null, am_kill_F, am_kill_long, am_cat_n, am_cat_i, am_cat_r, am_cat_0, am_cat_l, am_nr_n, am_nr_i, am_nr_r, am_nr_0, am_nr_l, Option.toList_some, Option.toList_none, List.nil_append, List.cons_append, va_rf_s, va_rf_n, am_II, am_I_sR, am_I_sL, am_R_sI, am_RR, am_R_sL, am_L_sI, am_L_sR, am_LL, am_k_sI, am_k_sR, am_k_sL, am_n_sI, am_n_sR, am_n_sL, true_and, and_true, true_or, or_true, or_false, false_or, not_true_eq_false, not_false_eq_true, Nat.reduceLT, am_dS, am_dP, am_d1, Nat.reduceSub, Nat.reduceMul, ne_eq, Nat.reduceBEq, Nat.reduceAdd, Nat.reduceLeDiff, Nat.reduceEqDiff, and_self, and_false, false_and, if_true, if_false, am_nb, am_nb0, am_nb1, am_lc1, am_lc2, am_lc3, am_b0, am_b1, am_10, am_c8, am_c16, am_c24, am_c32, am_c40, am_c48, am_c56, am_c64, am_c72, Nat.add_zero, Bool.false_eq_true, Nat.zero_le, hmξ, hv56, hc56, g5]
    have hF5 : Fr fY ξ (am_sI ξ 55 (56 + j) y) := Fr.I Fr.refl (by unfold fY; omega)
    have r5 : am_I (am_sI ξ 55 (56 + j) y) 55 = spU (am_I μ 55) (56 + j) y := by rw [am_row, g5]
    refine put_fr hI' hP u12 u3 hc3 (g2.trans hF5) ?_ (fun k i z1 z2 => ?_) ?_ (by rw [r5]; exact hsim.tint h8 hj h6 (isC_r hxy.2)) (spU_n (by omega))
    · rw [am_I_sI, if_neg (by omega)]; exact g3
    · rw [am_I_sI, if_neg (by omega)]; exact g4 k i z1 z2
    · rw [am_I_sI, if_neg (by omega)]; exact g6
theorem op_exchange (hq : q ≤ 100) (hI : Inv q μ) : OP q mX1_exchange mX3_exchange [.ref 0, .int x, .int y] [.ref 54, .int x, .int y] μ := by
  intro d
  have hI' := hI
  obtain ⟨⟨N, C, ru, c, hP⟩, hT, hR, b1, b2, b3⟩ := hI
  have hC := hP.1.1
  have hcu := hC.1
  simp only [cL, spL, Nat.reduceAdd] at hcu
  have hS := hP.1.2.1
  have h8 := hC.2.2.1
  have hsim : Sim N (cS μ 1) (am_I μ 55) := hP.2.1
  obtain ⟨u, u12, u1, u2, u3⟩ : pU N μ := hP.2.2.2.2.2.2.1
  have u4 : ∀ k, k < u → ∃ h, slR μ k = some h := fun k hk => by
    obtain ⟨h, g, _⟩ := u3 k hk
    exact ⟨h, g⟩
  simp only [gX1_exchange_0, gX1_exchange_1, gX1_exchange_4, gX1_exchange_5, gX1_exchange_8, am_kill_int, am_kill_ref, am_kill_null, am_kill_F, am_kill_long, am_cat_n, am_cat_i, am_cat_r, am_cat_0, am_cat_l, am_nr_n, am_nr_i, am_nr_r, am_nr_0, am_nr_l, Option.toList_some, Option.toList_none, List.nil_append, List.cons_append, va_rf_s, va_rf_n, am_II, am_I_sR, am_I_sL, am_R_sI, am_RR, am_R_sL, am_L_sI, am_L_sR, am_LL, am_k_sI, am_k_sR, am_k_sL, am_n_sI, am_n_sR, am_n_sL, true_and, and_true, true_or, or_true, or_false, false_or, not_true_eq_false, not_false_eq_true, Nat.reduceLT, am_dS, am_dP, am_d1, Nat.reduceSub, Nat.reduceMul, ne_eq, Nat.reduceBEq, Nat.reduceAdd, Nat.reduceLeDiff, Nat.reduceEqDiff, and_self, and_false, false_and, if_true, if_false, am_nb, am_nb0, am_nb1, am_lc1, am_lc2, am_lc3, am_b0, am_b1, am_10, am_c8, am_c16, am_c24, am_c32, am_c40, am_c48, am_c56, am_c64, am_c72, Nat.add_zero, Bool.false_eq_true, Nat.zero_le, hcu]
  refine wX2_becomes (d := d + 198) hC.1.s1 hC.1.s3 (by decide) (fun ν1 hF1 hT1 => ?_)
  have hFa : Fr fQ μ ν1 := hF1.le fun a b z => by unfold inSp at z; unfold fQ; omega
  have hC1 : CC N ru c ν1 := hC.fr hFa (fun a b z => by unfold fQ jO at z; omega)
  have hS1 : cS ν1 1 = cS μ 1 := cS_Fr hF1 fun a b z1 z2 z3 => by unfold inSp at z3; omega
  have hcu1 := hC1.1
  simp only [cL, spL, Nat.reduceAdd] at hcu1
  simp only [gX1_exchange_11, gX1_exchange_12, gX1_exchange_13, gX1_exchange_14, gX1_exchange_17, gX1_exchange_18, gX1_exchange_19, am_kill_int, am_kill_ref, am_kill_null, am_kill_F, am_kill_long, am_cat_n, am_cat_i, am_cat_r, am_cat_0, am_cat_l, am_nr_n, am_nr_i, am_nr_r, am_nr_0, am_nr_l, Option.toList_some, Option.toList_none, List.nil_append, List.cons_append, va_rf_s, va_rf_n, am_II, am_I_sR, am_I_sL, am_R_sI, am_RR, am_R_sL, am_L_sI, am_L_sR, am_LL, am_k_sI, am_k_sR, am_k_sL, am_n_sI, am_n_sR, am_n_sL, true_and, and_true, true_or, or_true, or_false, false_or, not_true_eq_false, not_false_eq_true, Nat.reduceLT, am_dS, am_dP, am_d1, Nat.reduceSub, Nat.reduceMul, ne_eq, Nat.reduceBEq, Nat.reduceAdd, Nat.reduceLeDiff, Nat.reduceEqDiff, and_self, and_false, false_and, if_true, if_false, am_nb, am_nb0, am_nb1, am_lc1, am_lc2, am_lc3, am_b0, am_b1, am_10, am_c8, am_c16, am_c24, am_c32, am_c40, am_c48, am_c56, am_c64, am_c72, Nat.add_zero, Bool.false_eq_true, Nat.zero_le, hcu1]
  refine wX1_exchanges (d := d + 196) hC1 hC1.1.s1 (fun ν2 hF2 hT2 => ?_)
  rw [hS1] at hT2 ⊢
  have hFb : Fr fQ μ ν2 := hFa.trans (hF2.le fun a b z => by unfold inSp at z; unfold fQ jO; omega)
  have hk2 : am_k ν2 0 = (0, 0) := by rw [hFb.2.2.2.1]; exact hC.1.c
  have e29 : cS ν2 29 = cS μ 1 := (cS_Fr hF2 (fun a b z1 z2 z3 => by unfold inSp at z3; omega)).trans hT1
  simp only [gX1_exchange_22, am_kill_int, am_kill_ref, am_kill_null, am_kill_F, am_kill_long, am_cat_n, am_cat_i, am_cat_r, am_cat_0, am_cat_l, am_nr_n, am_nr_i, am_nr_r, am_nr_0, am_nr_l, Option.toList_some, Option.toList_none, List.nil_append, List.cons_append, va_rf_s, va_rf_n, am_II, am_I_sR, am_I_sL, am_R_sI, am_RR, am_R_sL, am_L_sI, am_L_sR, am_LL, am_k_sI, am_k_sR, am_k_sL, am_n_sI, am_n_sR, am_n_sL, true_and, and_true, true_or, or_true, or_false, false_or, not_true_eq_false, not_false_eq_true, Nat.reduceLT, am_dS, am_dP, am_d1, Nat.reduceSub, Nat.reduceMul, ne_eq, Nat.reduceBEq, Nat.reduceAdd, Nat.reduceLeDiff, Nat.reduceEqDiff, and_self, and_false, false_and, if_true, if_false, am_nb, am_nb0, am_nb1, am_lc1, am_lc2, am_lc3, am_b0, am_b1, am_10, am_c8, am_c16, am_c24, am_c32, am_c40, am_c48, am_c56, am_c64, am_c72, Nat.add_zero, Bool.false_eq_true, Nat.zero_le, hk2]
  refine wX1_counts (d := d + 196) hI' hq hP u12 u1 u4 hFb hT2 e29 (fun hv => ?_) (fun hv ν3 hc3 => ?_)
  · simp only [gX1_exchange_25, am_kill_int, am_kill_ref, am_kill_null, am_kill_F, am_kill_long, am_cat_n, am_cat_i, am_cat_r, am_cat_0, am_cat_l, am_nr_n, am_nr_i, am_nr_r, am_nr_0, am_nr_l, Option.toList_some, Option.toList_none, List.nil_append, List.cons_append, va_rf_s, va_rf_n, am_II, am_I_sR, am_I_sL, am_R_sI, am_RR, am_R_sL, am_L_sI, am_L_sR, am_LL, am_k_sI, am_k_sR, am_k_sL, am_n_sI, am_n_sR, am_n_sL, true_and, and_true, true_or, or_true, or_false, false_or, not_true_eq_false, not_false_eq_true, Nat.reduceLT, am_dS, am_dP, am_d1, Nat.reduceSub, Nat.reduceMul, ne_eq, Nat.reduceBEq, Nat.reduceAdd, Nat.reduceLeDiff, Nat.reduceEqDiff, and_self, and_false, false_and, if_true, if_false, am_nb, am_nb0, am_nb1, am_lc1, am_lc2, am_lc3, am_b0, am_b1, am_10, am_c8, am_c16, am_c24, am_c32, am_c40, am_c48, am_c56, am_c64, am_c72, Nat.add_zero, Bool.false_eq_true, Nat.zero_le]
    refine ⟨_, rfl, ?_⟩
    have hF0 : Fr fZ μ (am_sI ν2 54 7 0) := Fr.I (hFb.le fun a b z => Or.inl z) (by unfold fZ; omega)
    have h17 : am_I (am_sI ν2 54 7 0) 54 17 = 0 := by
      rw [am_I_sI, if_neg (by omega)]
      exact (hFb.1 54 17 (by unfold fQ jO; omega)).trans hP.h17
    have e1 : (excO N (cS μ 1) x y).2 = cS μ 1 → cS (am_sI ν2 54 7 0) 1 = cS μ 1 := fun z => (cS_o (by omega)).trans (hT2.trans z)
    have hm2 := hFb.mLk hS.1.1
    unfold mL at hm2
    simp only [gX3_exchange_0, gX3_exchange_1, gX3_exchange_2, am_kill_int, am_kill_ref, am_kill_null, am_kill_F, am_kill_long, am_cat_n, am_cat_i, am_cat_r, am_cat_0, am_cat_l, am_nr_n, am_nr_i, am_nr_r, am_nr_0, am_nr_l, Option.toList_some, Option.toList_none, List.nil_append, List.cons_append, va_rf_s, va_rf_n, am_I_sR, am_I_sL, am_R_sI, am_R_sL, am_L_sI, am_L_sR, am_k_sI, am_k_sR, am_k_sL, am_n_sI, am_n_sR, am_n_sL, true_and, and_true, true_or, or_true, or_false, false_or, not_true_eq_false, not_false_eq_true, Nat.reduceLT, am_dS, am_dP, am_d1, Nat.reduceSub, Nat.reduceMul, ne_eq, Nat.reduceBEq, Nat.reduceAdd, Nat.reduceLeDiff, Nat.reduceEqDiff, and_self, and_false, false_and, if_true, if_false, am_nb, am_nb0, am_nb1, am_lc1, am_lc2, am_lc3, am_b0, am_b1, am_10, am_c8, am_c16, am_c24, am_c32, am_c40, am_c48, am_c56, am_c64, am_c72, Nat.add_zero, Bool.false_eq_true, Nat.zero_le, hm2]
    generalize am_sI ν2 54 7 0 = ν4 at hF0 h17 e1 ⊢
    have hS4 : MS N ru c ν4 := hS.fr hF0 (fun a b z => by unfold fZ fQ jO jM at z; omega) h17
    have hm4 := hS4.1.1
    unfold mL at hm4
    have r55 : am_I ν4 55 = am_I μ 55 := funext fun b => hF0.1 55 b (by unfold fZ fQ jO jM; omega)
    have ng : ∀ i j, i < N → j < N → i ≠ j → ¬ excT (cS μ 1) i j (24 + i) + excT (cS μ 1) i j (24 + j) < 0 := fun i j hi hj hij => by
      have hs := hsim.exc h8 hi hj hij
      have g1 := (hs.cg hi).2.2.1
      have g2 := (hs.cg hj).2.2.1
      rw [col3] at g1 g2
      obtain ⟨p, p1, p2⟩ := rngI (M := 5) (by decide) g1.1 g1.2
      obtain ⟨p', p3, p4⟩ := rngI (M := 5) (by decide) g2.1 g2.2
      rw [p2, p4, nI_add, ← nI_0]
      exact nI_nlt (by omega) (by omega)
    have ev : ¬ (isN x N = true ∧ isN y N = true ∧ ¬ x = y) ∧ excO N (cS μ 1) x y = (-1, cS μ 1) := by
      unfold excO at *
      by_cases hxy : isN x N = true ∧ isN y N = true ∧ ¬ x = y
      · obtain ⟨i, hi, rfl⟩ := isN_of (by omega) hxy.1
        obtain ⟨j, hj, rfl⟩ := isN_of (by omega) hxy.2.1
        have hcl : (nI i).toNatClampNeg = i := nI_clamp (by omega)
        have hcl2 : (nI j).toNatClampNeg = j := nI_clamp (by omega)
        simp only [if_pos hxy, hcl, hcl2] at hv
        exact absurd hv (ng i j hi hj fun e => hxy.2.2 (by rw [e]))
      · exact ⟨hxy, if_neg hxy⟩
    simp only [gX3_exchange_5, gX3_exchange_6, gX3_exchange_7, gX3_exchange_8, gX3_exchange_11, gX3_exchange_14, gX3_exchange_15, am_kill_int, am_kill_ref, am_kill_null, am_kill_F, am_kill_long, am_cat_n, am_cat_i, am_cat_r, am_cat_0, am_cat_l, am_nr_n, am_nr_i, am_nr_r, am_nr_0, am_nr_l, Option.toList_some, Option.toList_none, List.nil_append, List.cons_append, va_rf_s, va_rf_n, am_I_sR, am_I_sL, am_R_sI, am_R_sL, am_L_sI, am_L_sR, am_k_sI, am_k_sR, am_k_sL, am_n_sI, am_n_sR, am_n_sL, true_and, and_true, true_or, or_true, or_false, false_or, not_true_eq_false, not_false_eq_true, Nat.reduceLT, am_dS, am_dP, am_d1, Nat.reduceSub, Nat.reduceMul, ne_eq, Nat.reduceBEq, Nat.reduceAdd, Nat.reduceLeDiff, Nat.reduceEqDiff, and_self, and_false, false_and, if_true, if_false, am_nb, am_nb0, am_nb1, am_lc1, am_lc2, am_lc3, am_b0, am_b1, am_10, am_c8, am_c16, am_c24, am_c32, am_c40, am_c48, am_c56, am_c64, am_c72, Nat.add_zero, Bool.false_eq_true, Nat.zero_le, hm4, wX3_areTwo hS4.1, if_neg ev.1, am_b0, ev.2, ev.1]
    exact inv_0 hI' hP hF0 (e1 (by rw [ev.2])) h17
  · simp only [gX1_exchange_25, am_kill_int, am_kill_ref, am_kill_null, am_kill_F, am_kill_long, am_cat_n, am_cat_i, am_cat_r, am_cat_0, am_cat_l, am_nr_n, am_nr_i, am_nr_r, am_nr_0, am_nr_l, Option.toList_some, Option.toList_none, List.nil_append, List.cons_append, va_rf_s, va_rf_n, am_II, am_I_sR, am_I_sL, am_R_sI, am_RR, am_R_sL, am_L_sI, am_L_sR, am_LL, am_k_sI, am_k_sR, am_k_sL, am_n_sI, am_n_sR, am_n_sL, true_and, and_true, true_or, or_true, or_false, false_or, not_true_eq_false, not_false_eq_true, Nat.reduceLT, am_dS, am_dP, am_d1, Nat.reduceSub, Nat.reduceMul, ne_eq, Nat.reduceBEq, Nat.reduceAdd, Nat.reduceLeDiff, Nat.reduceEqDiff, and_self, and_false, false_and, if_true, if_false, am_nb, am_nb0, am_nb1, am_lc1, am_lc2, am_lc3, am_b0, am_b1, am_10, am_c8, am_c16, am_c24, am_c32, am_c40, am_c48, am_c56, am_c64, am_c72, Nat.add_zero, Bool.false_eq_true, Nat.zero_le]
    refine ⟨_, rfl, ?_⟩
    have hm3 := hc3.2.2.2.2.2.2.2.2.2.2.2.2.1.1
    unfold mL at hm3
    obtain ⟨ν4, q4, hS4, r55, r62, r20, hF4, h17⟩ := hc3.m4 hP.h17
    rw [u2] at r20
    simp only [gX3_exchange_0, gX3_exchange_1, gX3_exchange_2, am_kill_int, am_kill_ref, am_kill_null, am_kill_F, am_kill_long, am_cat_n, am_cat_i, am_cat_r, am_cat_0, am_cat_l, am_nr_n, am_nr_i, am_nr_r, am_nr_0, am_nr_l, Option.toList_some, Option.toList_none, List.nil_append, List.cons_append, va_rf_s, va_rf_n, am_I_sR, am_I_sL, am_R_sI, am_R_sL, am_L_sI, am_L_sR, am_k_sI, am_k_sR, am_k_sL, am_n_sI, am_n_sR, am_n_sL, true_and, and_true, true_or, or_true, or_false, false_or, not_true_eq_false, not_false_eq_true, Nat.reduceLT, am_dS, am_dP, am_d1, Nat.reduceSub, Nat.reduceMul, ne_eq, Nat.reduceBEq, Nat.reduceAdd, Nat.reduceLeDiff, Nat.reduceEqDiff, and_self, and_false, false_and, if_true, if_false, am_nb, am_nb0, am_nb1, am_lc1, am_lc2, am_lc3, am_b0, am_b1, am_10, am_c8, am_c16, am_c24, am_c32, am_c40, am_c48, am_c56, am_c64, am_c72, Nat.add_zero, Bool.false_eq_true, Nat.zero_le, hm3]
    rw [← q4]
    have hm4 := hS4.1.1
    unfold mL at hm4
    have hxy : isN x N = true ∧ isN y N = true ∧ ¬ x = y := by
      by_cases hx : isN x N = true ∧ isN y N = true ∧ ¬ x = y
      · exact hx
      · unfold excO at hv
        simp only [if_neg hx] at hv
        exact absurd (by decide) hv
    obtain ⟨i, hi, rfl⟩ := isN_of (by omega) hxy.1
    obtain ⟨j, hj, rfl⟩ := isN_of (by omega) hxy.2.1
    have hij : i ≠ j := fun e => hxy.2.2 (by rw [e])
    have hj8 : j < 8 := by omega
    have hi8 : i < 8 := by omega
    have hcl : (nI i).toNatClampNeg = i := nI_clamp (by omega)
    have hcl2 : (nI j).toNatClampNeg = j := nI_clamp (by omega)
    have ev : excO N (cS μ 1) (nI i) (nI j) = (excT (cS μ 1) i j (24 + i) + excT (cS μ 1) i j (24 + j), excT (cS μ 1) i j) := by
      unfold excO
      rw [if_pos hxy, hcl, hcl2]
    rw [ev] at hc3 ⊢
    simp only [gX3_exchange_5, gX3_exchange_6, gX3_exchange_7, gX3_exchange_8, gX3_exchange_11, gX3_exchange_14, gX3_exchange_15, gX3_exchange_16, gX3_exchange_17, gX3_exchange_18, gX3_exchange_21, am_kill_int, am_kill_ref, am_kill_null, am_kill_F, am_kill_long, am_cat_n, am_cat_i, am_cat_r, am_cat_0, am_cat_l, am_nr_n, am_nr_i, am_nr_r, am_nr_0, am_nr_l, Option.toList_some, Option.toList_none, List.nil_append, List.cons_append, va_rf_s, va_rf_n, am_I_sR, am_I_sL, am_R_sI, am_R_sL, am_L_sI, am_L_sR, am_k_sI, am_k_sR, am_k_sL, am_n_sI, am_n_sR, am_n_sL, true_and, and_true, true_or, or_true, or_false, false_or, not_true_eq_false, not_false_eq_true, Nat.reduceLT, am_dS, am_dP, am_d1, Nat.reduceSub, Nat.reduceMul, ne_eq, Nat.reduceBEq, Nat.reduceAdd, Nat.reduceLeDiff, Nat.reduceEqDiff, and_self, and_false, false_and, if_true, if_false, am_nb, am_nb0, am_nb1, am_lc1, am_lc2, am_lc3, am_b0, am_b1, am_10, am_c8, am_c16, am_c24, am_c32, am_c40, am_c48, am_c56, am_c64, am_c72, Nat.add_zero, Bool.false_eq_true, Nat.zero_le, hm4, wX3_areTwo hS4.1, if_pos hxy, am_10]
    refine wX3_rem (d := d + 198) (ν := ν3) (μ := μ) u12 hS4 hF4 h17 r55 r62 r20 fun ξ g1 g2 g3 g4 g5 g6 => ?_
    have hmξ := g1.1.1
    unfold mL at hmξ
    simp only [gX3_exchange_24, gX3_exchange_25, gX3_exchange_28, gX3_exchange_29, gX3_exchange_30, am_kill_int, am_kill_ref, am_kill_null, am_kill_F, am_kill_long, am_cat_n, am_cat_i, am_cat_r, am_cat_0, am_cat_l, am_nr_n, am_nr_i, am_nr_r, am_nr_0, am_nr_l, Option.toList_some, Option.toList_none, List.nil_append, List.cons_append, va_rf_s, va_rf_n, am_I_sR, am_I_sL, am_R_sI, am_R_sL, am_L_sI, am_L_sR, am_k_sI, am_k_sR, am_k_sL, am_n_sI, am_n_sR, am_n_sL, true_and, and_true, true_or, or_true, or_false, false_or, not_true_eq_false, not_false_eq_true, Nat.reduceLT, am_dS, am_dP, am_d1, Nat.reduceSub, Nat.reduceMul, ne_eq, Nat.reduceBEq, Nat.reduceAdd, Nat.reduceLeDiff, Nat.reduceEqDiff, and_self, and_false, false_and, if_true, if_false, am_nb, am_nb0, am_nb1, am_lc1, am_lc2, am_lc3, am_b0, am_b1, am_10, am_c8, am_c16, am_c24, am_c32, am_c40, am_c48, am_c56, am_c64, am_c72, Nat.add_zero, Bool.false_eq_true, Nat.zero_le, hmξ]
    refine wX3_goExchange (d := d + 199) hi8 hj8 hmξ.1.2.1 fun ξ2 hF5 r5 => ?_
    rw [g5] at r5
    have hF5' : Fr fY ξ ξ2 := hF5.le fun a b z => by unfold fY; omega
    have k17 : am_I ξ2 54 17 = 0 := (hF5.1 54 17 (by decide)).trans g6
    have hS5 : MS N ru c ξ2 := g1.fr hF5' (fun a b z => by unfold fY jM at z; omega) k17
    have hm5 := hS5.1.1
    unfold mL at hm5
    have hsim' := hsim.exc h8 hi hj hij
    have hvi : vp_in (nI (24 + i)) 83 := vp_in_nI (by omega) (by omega)
    have hci : (nI (24 + i)).toNatClampNeg = 24 + i := nI_clamp (by omega)
    have hvj : vp_in (nI (24 + j)) 83 := vp_in_nI (by omega) (by omega)
    have hcj : (nI (24 + j)).toNatClampNeg = 24 + j := nI_clamp (by omega)
    simp only [gX3_exchange_33, gX3_exchange_34, gX3_exchange_37, gX3_exchange_39, gX3_exchange_40, gX3_exchange_41, gX3_exchange_42, gX3_exchange_43, gX3_exchange_46, gX3_exchange_48, gX3_exchange_49, gX3_exchange_50, gX3_exchange_51, gX3_exchange_52, am_kill_int, am_kill_ref, am_kill_null, am_kill_F, am_kill_long, am_cat_n, am_cat_i, am_cat_r, am_cat_0, am_cat_l, am_nr_n, am_nr_i, am_nr_r, am_nr_0, am_nr_l, Option.toList_some, Option.toList_none, List.nil_append, List.cons_append, va_rf_s, va_rf_n, am_I_sR, am_I_sL, am_R_sI, am_R_sL, am_L_sI, am_L_sR, am_k_sI, am_k_sR, am_k_sL, am_n_sI, am_n_sR, am_n_sL, true_and, and_true, true_or, or_true, or_false, false_or, not_true_eq_false, not_false_eq_true, Nat.reduceLT, am_dS, am_dP, am_d1, Nat.reduceSub, Nat.reduceMul, ne_eq, Nat.reduceBEq, Nat.reduceAdd, Nat.reduceLeDiff, Nat.reduceEqDiff, and_self, and_false, false_and, if_true, if_false, am_nb, am_nb0, am_nb1, am_lc1, am_lc2, am_lc3, am_b0, am_b1, am_10, am_c8, am_c16, am_c24, am_c32, am_c40, am_c48, am_c56, am_c64, am_c72, Nat.add_zero, Bool.false_eq_true, Nat.zero_le, hm5, hvi, hci, hvj, hcj, r5]
    refine ⟨by rw [hsim'.r3 hi, hsim'.r3 hj], put_fr hI' hP u12 u3 hc3 (g2.trans hF5') ?_ (fun k i z1 z2 => ?_) k17 (by rw [r5]; exact hsim') (exc_k hi8 hj8 (by decide))⟩
    · rw [hF5.1 54 20 (by decide)]; exact g3
    · rw [hF5.1 62 _ (by show ¬ (62 = 55); decide)]; exact g4 k i z1 z2
end PEV
