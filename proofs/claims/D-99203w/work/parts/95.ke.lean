/-! calls that put: keep -/
set_option maxRecDepth 100000
section KEV
variable {d : Nat} {μ ν ξ μ1 ν1 : am_M} {K : Option Value → am_M → Prop} {x y z c w : Int32} {h h' N C i j k r n M m b q q' t u s f : Nat} {v : Int32} {ru : Option PF} {F G : Nat → Nat → Prop} {S S' T a a' : Nat → Int32} {p : Int64}
def fK (a b : Nat) : Prop := fP a b ∨ a = 52 ∨ a = 74 ∨ a = 75 ∨ a = 76
theorem inv_P2 (hI : Inv q μ) (hP : Per N C ru c μ) (hf : GF fK 100 μ ν) (h17 : am_I ν 54 17 = 0) (hs : Sim N (cS ν 1) (am_I ν 55)) (hd : pD ν) (hU : pU N ν) (hk : pK N C ν) (hT : Txt ν) (hR : Row ν) (hB : FB (q + 1) ν) : Inv (q + 1) ν := by
  obtain ⟨_, _, _, b1, b2, b3, _⟩ := hI
  obtain ⟨p1, p2, p3, p4, p5, p6, p7, p8, p9, p10⟩ := hP
  refine ⟨⟨N, C, ru, c, hf.pA p10 (fun a b z => by unfold fK fP sC sM at z; omega) h17 p1, hs, hf.pC (fun a b z => by unfold fK fP sC sM at z; omega) p3, hf.pTx (fun a b z => by unfold fK fP sC sM at z; omega) p4, hf.pB p10 (fun a b z => by unfold fK fP sC sM at z; omega) p5, hd, hU, hk, hf.pW (fun a b z => by unfold fK fP sC sM at z; omega) p9, Nat.le_trans p10 hf.2.2.2.2.2.1.1⟩, hT, hR, ?_, ?_, ?_, hB⟩
  · have := hf.2.2.2.2.2.1.2; omega
  · have := hf.2.2.2.2.2.2.1; omega
  · have := hf.2.2.2.2.2.2.2; omega
def fKp (a b : Nat) : Prop := a = 52 ∨ a = 74 ∨ a = 75 ∨ a = 76 ∨ (a = 54 ∧ b = 7)
theorem op_keep (hq : q ≤ 100) (hI : Inv q μ) : OP q mX1_keep mX3_keep [.ref 0, .int x] [.ref 54, .int x] μ := by
  intro d
  have hI' := hI
  obtain ⟨⟨N, C, ru, c, hP⟩, ⟨t, t1, t2, t3⟩, ⟨r, r1, r2, r3, r4⟩, b1, b2, b3, b4⟩ := hI
  have hC := hP.1.1
  have hcu := hC.1
  simp only [cL, spL, Nat.reduceAdd] at hcu
  have hS := hP.1.2.1
  have hmu := hS.1.1
  unfold mL at hmu
  have h8 := hC.2.2.1
  have hsim : Sim N (cS μ 1) (am_I μ 55) := hP.2.1
  obtain ⟨u, u12, u1, u2, u3⟩ : pU N μ := hP.2.2.2.2.2.2.1
  obtain ⟨c1, c2, c3⟩ := hP.2.2.1
  have hpd : pD μ := hP.2.2.2.2.2.1
  have hpk : pK N C μ := hP.2.2.2.2.2.2.2.1
  have hn0 : 78 ≤ am_n μ := hP.2.2.2.2.2.2.2.2.2
  have l1 : (1 : Int64) = (nI 2 - 1).toInt64 := by decide
  have i1 : (1 : Int32) = nI 2 - 1 := by decide
  have hBB : am_B = 1000000 := rfl
  by_cases hx : isN x 2 = true
  · have hx1 : 0 ≤ x ∧ x ≤ 1 := by unfold isN at hx; rw [decide_eq_true_eq] at hx; exact hx
    have hxL : (0 : Int32).toInt64 ≤ x.toInt64 ∧ x.toInt64 ≤ (1 : Int32).toInt64 := by rw [am_leL, am_leL]; exact hx1
    have l1' : (1 : Int64) = (1 : Int32).toInt64 := by decide
    obtain ⟨j, hj, rfl⟩ := isN_of (by omega) hx
    have hin : vp_in (nI j) 2 := vp_in_nI (by omega) (by omega)
    have hcl : (nI j).toNatClampNeg = j := nI_clamp (by omega)
    have fin : ∀ ν, sp1 (12 + j) (cS μ 1) μ ν → am_Wp (d + 200) mX1_keep 47 [.ref 0, .int (nI j)] [] ν (fun r1 μ1 => ∃ v, r1 = some (.int v) ∧ am_Wp (d + 200) mX3_keep 0 [.ref 54, .int (nI j)] [] μ1 (fun r2 μ2 => r2 = some (.int v) ∧ Inv (q + 1) μ2)) := fun ν hν => by
      obtain ⟨w1, w2, ⟨h, w3, w4⟩, w5, w6⟩ := hν
      have k0 : am_k ν 0 = (0, 0) := (w1.2.2.2.1 0 (Or.inl (by omega))).trans hcu.1.1
      have k52 : am_k ν 52 = (10, 2) := (w1.2.2.2.1 52 (Or.inl (by omega))).trans (by simp only [hcu])
      have e4 : am_I ν 0 4 = nI C := (w1.1 0 4 (Or.inl (by omega)) id).trans c2
      have r38 : am_R ν 0 38 = some 52 := (w1.2.1 0 38 (Or.inl (by omega)) (by omega) (by omega) (by omega)).trans (by simp only [hcu])
      simp only [gX1_keep_47, gX1_keep_48, gX1_keep_51, gX1_keep_52, gX1_keep_53, gX1_keep_56, gX1_keep_57, gX1_keep_58, am_kill_int, am_kill_ref, am_kill_null, am_kill_F, am_kill_long, am_cat_n, am_cat_i, am_cat_r, am_cat_0, am_cat_l, am_nr_n, am_nr_i, am_nr_r, am_nr_0, am_nr_l, Option.toList_some, Option.toList_none, List.nil_append, List.cons_append, va_rf_s, va_rf_n, am_II, am_I_sR, am_I_sL, am_R_sI, am_RR, am_R_sL, am_L_sI, am_L_sR, am_LL, am_k_sI, am_k_sR, am_k_sL, am_n_sI, am_n_sR, am_n_sL, true_and, and_true, true_or, or_true, or_false, false_or, not_true_eq_false, not_false_eq_true, Nat.reduceLT, am_dS, am_dP, am_d1, Nat.reduceSub, Nat.reduceMul, ne_eq, Nat.reduceBEq, Nat.reduceAdd, Nat.reduceLeDiff, Nat.reduceEqDiff, and_self, and_false, false_and, if_true, if_false, am_nb, am_nb0, am_nb1, am_lc1, am_lc2, am_lc3, am_b0, am_b1, am_10, am_c8, am_c16, am_c24, am_c32, am_c40, am_c48, am_c56, am_c64, am_c72, Nat.add_zero, Bool.false_eq_true, Nat.zero_le, k0, k52, e4, r38, hin, hcl]
      refine ⟨_, rfl, ?_⟩
      have hm1 : mL (am_k ν) (am_R ν) := w1.mL hn0 hS.1.1
      have hm1u := hm1
      unfold mL at hm1u
      have e35 : am_I ν 54 35 = nI C := (w1.1 54 35 (Or.inl (by omega)) id).trans c3
      have e83 : (83 : Int32) * nI j = nI (83 * j) := nI83
      simp only [gX3_keep_0, gX3_keep_1, gX3_keep_2, gX3_keep_5, gX3_keep_6, gX3_keep_7, gX3_keep_8, gX3_keep_11, gX3_keep_14, gX3_keep_15, gX3_keep_16, gX3_keep_17, gX3_keep_20, gX3_keep_21, am_kill_int, am_kill_ref, am_kill_null, am_kill_F, am_kill_long, am_cat_n, am_cat_i, am_cat_r, am_cat_0, am_cat_l, am_nr_n, am_nr_i, am_nr_r, am_nr_0, am_nr_l, Option.toList_some, Option.toList_none, List.nil_append, List.cons_append, va_rf_s, va_rf_n, am_II, am_I_sR, am_I_sL, am_R_sI, am_RR, am_R_sL, am_L_sI, am_L_sR, am_LL, am_k_sI, am_k_sR, am_k_sL, am_n_sI, am_n_sR, am_n_sL, true_and, and_true, true_or, or_true, or_false, false_or, not_true_eq_false, not_false_eq_true, Nat.reduceLT, am_dS, am_dP, am_d1, Nat.reduceSub, Nat.reduceMul, ne_eq, Nat.reduceBEq, Nat.reduceAdd, Nat.reduceLeDiff, Nat.reduceEqDiff, and_self, and_false, false_and, if_true, if_false, am_nb, am_nb0, am_nb1, am_lc1, am_lc2, am_lc3, am_b0, am_b1, am_10, am_c8, am_c16, am_c24, am_c32, am_c40, am_c48, am_c56, am_c64, am_c72, Nat.add_zero, Bool.false_eq_true, Nat.zero_le, hm1u, wX3_in, hx1]
      rw [gX3_keep_22z (by rw [am_k_sI, am_k_sI]; simp only [hm1u]) (by rw [am_k_sI, am_k_sI]; simp only [hm1u]; exact hin), hcl, am_nz1]
      simp only [gX3_keep_23, gX3_keep_24, gX3_keep_27, gX3_keep_28, gX3_keep_29, gX3_keep_32, gX3_keep_33, gX3_keep_34, gX3_keep_37, gX3_keep_38, gX3_keep_41, gX3_keep_43, gX3_keep_44, gX3_keep_45, am_kill_int, am_kill_ref, am_kill_null, am_kill_F, am_kill_long, am_cat_n, am_cat_i, am_cat_r, am_cat_0, am_cat_l, am_nr_n, am_nr_i, am_nr_r, am_nr_0, am_nr_l, Option.toList_some, Option.toList_none, List.nil_append, List.cons_append, va_rf_s, va_rf_n, am_II, am_I_sR, am_I_sL, am_R_sI, am_RR, am_R_sL, am_L_sI, am_L_sR, am_LL, am_k_sI, am_k_sR, am_k_sL, am_n_sI, am_n_sR, am_n_sL, true_and, and_true, true_or, or_true, or_false, false_or, not_true_eq_false, not_false_eq_true, Nat.reduceLT, am_dS, am_dP, am_d1, Nat.reduceSub, Nat.reduceMul, ne_eq, Nat.reduceBEq, Nat.reduceAdd, Nat.reduceLeDiff, Nat.reduceEqDiff, and_self, and_false, false_and, if_true, if_false, am_nb, am_nb0, am_nb1, am_lc1, am_lc2, am_lc3, am_b0, am_b1, am_10, am_c8, am_c16, am_c24, am_c32, am_c40, am_c48, am_c56, am_c64, am_c72, Nat.add_zero, Bool.false_eq_true, Nat.zero_le, hm1u, e35, hin, hcl, e83]
      have hFk : Fr fKp ν (am_sI (am_sI (am_sI (am_sI ν 52 j (nI C)) 54 7 0) 75 j 1) 76 j (nI C)) := Fr.I (Fr.I (Fr.I (Fr.I Fr.refl (by unfold fKp; omega)) (by unfold fKp; omega)) (by unfold fKp; omega)) (by unfold fKp; omega)
      have g52 : ∀ i, am_I (am_sI (am_sI (am_sI (am_sI ν 52 j (nI C)) 54 7 0) 75 j 1) 76 j (nI C)) 52 i = if i = j then nI C else am_I μ 52 i := fun i => by
        have := w1.1 52 i (Or.inl (by omega)) id
        simp only [am_II, Nat.reduceEqDiff, false_and, if_false, true_and, this]
      have g75 : ∀ i, am_I (am_sI (am_sI (am_sI (am_sI ν 52 j (nI C)) 54 7 0) 75 j 1) 76 j (nI C)) 75 i = if i = j then 1 else am_I μ 75 i := fun i => by
        have := w1.1 75 i (Or.inl (by omega)) id
        simp only [am_II, Nat.reduceEqDiff, false_and, if_false, true_and, this]
      have g76 : ∀ i, am_I (am_sI (am_sI (am_sI (am_sI ν 52 j (nI C)) 54 7 0) 75 j 1) 76 j (nI C)) 76 i = if i = j then nI C else am_I μ 76 i := fun i => by
        have := w1.1 76 i (Or.inl (by omega)) id
        simp only [am_II, Nat.reduceEqDiff, false_and, if_false, true_and, this]
      have g74 : am_I (am_sI (am_sI (am_sI (am_sI ν 52 j (nI C)) 54 7 0) 75 j 1) 76 j (nI C)) 74 = am_I ν 74 := by rw [am_row_o (by decide), am_row_o (by decide), am_row_o (by decide), am_row_o (by decide)]
      generalize am_sI (am_sI (am_sI (am_sI ν 52 j (nI C)) 54 7 0) 75 j 1) 76 j (nI C) = ν2 at hFk g52 g75 g76 g74 ⊢
      have hm2 := hFk.mLk hm1
      unfold mL at hm2
      refine wX3_lay0 (d := d + 199) (L := 166) (k := 83 * j) hm2.1.2.1 (by simp only [hm2]) (by omega) (by decide) (by decide) (fun ξ hF2 hT2 => ?_)
      simp only [gX3_keep_48, gX3_keep_49, am_kill_int, am_kill_ref, am_kill_null, am_kill_F, am_kill_long, am_cat_n, am_cat_i, am_cat_r, am_cat_0, am_cat_l, am_nr_n, am_nr_i, am_nr_r, am_nr_0, am_nr_l, Option.toList_some, Option.toList_none, List.nil_append, List.cons_append, va_rf_s, va_rf_n, am_II, am_I_sR, am_I_sL, am_R_sI, am_RR, am_R_sL, am_L_sI, am_L_sR, am_LL, am_k_sI, am_k_sR, am_k_sL, am_n_sI, am_n_sR, am_n_sL, true_and, and_true, true_or, or_true, or_false, false_or, not_true_eq_false, not_false_eq_true, Nat.reduceLT, am_dS, am_dP, am_d1, Nat.reduceSub, Nat.reduceMul, ne_eq, Nat.reduceBEq, Nat.reduceAdd, Nat.reduceLeDiff, Nat.reduceEqDiff, and_self, and_false, false_and, if_true, if_false, am_nb, am_nb0, am_nb1, am_lc1, am_lc2, am_lc3, am_b0, am_b1, am_10, am_c8, am_c16, am_c24, am_c32, am_c40, am_c48, am_c56, am_c64, am_c72, Nat.add_zero, Bool.false_eq_true, Nat.zero_le]
      have hFt : Fr fKp ν ξ := hFk.trans (hF2.le fun a b z => by unfold fKp; omega)
      have hgf : GF fK 100 μ ξ := ((w1.le (G := fK) fun a b z => absurd z id).trans (hFt.toW.gf (F := fK) (fun a b z => by unfold fKp at z; omega) (fun a b z => by unfold fKp at z; unfold fK fP sM; omega)) (by omega : 11 + 0 ≤ 100))
      have h55 : ∀ i, am_I ν 55 i = am_I μ 55 i := fun i => w1.1 55 i (Or.inl (by omega)) id
      have r55 : am_I ξ 55 = am_I μ 55 := funext fun i => (hFt.1 55 i (by unfold fKp; omega)).trans (h55 i)
      have k1 : cS ξ 1 = cS μ 1 := (cS_Fr hFt fun a b z1 z2 z3 => by unfold fKp at z3; omega).trans (cS_congr fun a b z1 z2 => w1.1 a b (Or.inl (by omega)) id)
      have hsl : ∀ s, slR ξ s = slR ν s := fun s => hFt.toW.slR s
      have hcS : ∀ g, 78 ≤ g → cS ξ g = cS ν g := fun g z => cS_Fr hFt fun a b z1 z2 z3 => by unfold fKp at z3; omega
      have h78 := (w2.1 _ h (by omega) w3).1
      have keep : ∀ a b, a < 78 → ¬ fKp a b → am_I ξ a b = am_I μ a b := fun a b z1 z2 => (hFt.1 a b z2).trans (w1.1 a b (Or.inl z1) id)
      refine inv_P2 hI' hP hgf ((keep 54 17 (by omega) (by unfold fKp; omega)).trans hP.h17) (by rw [k1, r55]; exact hsim) (w2.fw hFt.toW) ⟨u, u12, (keep 0 21 (by omega) (by unfold fKp; omega)).trans u1, (keep 54 20 (by omega) (by unfold fKp; omega)).trans u2, fun k hk => ?_⟩ (fun i hi => ?_) ⟨t, t1, (keep 0 6 (by omega) (by unfold fKp; omega)).trans t2, (keep 54 4 (by omega) (by unfold fKp; omega)).trans t3⟩ ⟨r, r1, (keep 0 40 (by omega) (by unfold fKp; omega)).trans r2, (keep 54 6 (by omega) (by unfold fKp; omega)).trans r3, fun i hi => by rw [hFt.L, hFt.L, (w6 i).1, (w6 i).2]; exact r4 i hi⟩ ⟨?_, fun s g z1 z2 => ?_⟩
      · obtain ⟨g, e1, e2⟩ := u3 k hk
        have g78 := (hpd.1 k g (by omega) e1).1
        obtain ⟨y1, y2⟩ := w5 k (by omega) (by omega)
        refine ⟨g, (hsl k).trans (y1.trans e1), ?_⟩
        rw [hcS g g78, y2 g e1, show am_I ξ 62 = am_I μ 62 from funext fun b => keep 62 b (by omega) (by unfold fKp; omega)]
        exact e2
      · by_cases e : i = j
        · subst e
          refine Or.inr ⟨h, C, (hsl _).trans w3, ?_, ?_, ?_, Nat.le_refl _, fun _ => ?_⟩
          · rw [hF2.1 75 _ (by omega), g75, if_pos rfl]
          · rw [hF2.1 52 _ (by omega), g52, if_pos rfl]
          · rw [hF2.1 76 _ (by omega), g76, if_pos rfl]
          · rw [hcS h h78, w4]
            exact hsim.row h8 fun k hk => (hT2 k hk).trans ((hFk.1 55 k (by unfold fKp; omega)).trans (h55 k))
        · obtain ⟨y1, y2⟩ := w5 (12 + i) (by omega) (by omega)
          rw [hsl, y1, hF2.1 75 _ (by omega), hF2.1 52 _ (by omega), hF2.1 76 _ (by omega), g75, g52, g76, if_neg e, if_neg e, if_neg e]
          rcases hpk i hi with e2 | ⟨g, q', e1, e2, e3, e4, e5, e6⟩
          · exact Or.inl e2
          · have g78 := (hpd.1 _ g (by omega) e1).1
            refine Or.inr ⟨g, q', e1, e2, e3, e4, e5, fun z => ?_⟩
            rw [hcS g g78, y2 g e1]
            refine (e6 z).row h8 fun k hk => ?_
            rw [hF2.1 74 _ (by omega), g74]
            exact w1.1 74 _ (Or.inl (by omega)) id
      · obtain ⟨f, z1, z2⟩ := b4.1
        exact ⟨f, by omega, (congrFun k1 81).trans z2⟩
      · rw [hsl] at z2
        have g78 := (w2.1 s g z1 z2).1
        have e : am_I ξ g 11 = cS ν g 81 := congrFun (hcS g g78) 81
        rw [e]
        by_cases es : s = 12 + j
        · subst es
          rw [w3] at z2
          cases z2
          obtain ⟨f, z1, z2⟩ := b4.1
          exact ⟨f, by omega, by rw [w4]; exact z2⟩
        · obtain ⟨y1, y2⟩ := w5 s z1 es
          rw [y1] at z2
          obtain ⟨f, z3, z4⟩ := b4.2 s g z1 z2
          exact ⟨f, by omega, by rw [y2 g z2]; exact z4⟩
    cases e1 : am_R μ 51 j with
    | some h =>
      have hsl : slR μ (12 + j) = some h := slR_k.trans e1
      obtain ⟨h78, hn, hsp⟩ := hpd.1 (12 + j) h (by omega) hsl
      have hk' : (am_k μ h).1 = 1 := by rw [hsp.1]
      simp only [gX1_keep_0, gX1_keep_1, gX1_keep_2, gX1_keep_3, gX1_keep_4, gX1_keep_7, gX1_keep_10, gX1_keep_11, gX1_keep_12, gX1_keep_13, gX1_keep_16, gX1_keep_17, gX1_keep_18, gX1_keep_18n, gX1_keep_34, gX1_keep_35, gX1_keep_38, gX1_keep_39, gX1_keep_40, gX1_keep_41, gX1_keep_44, am_kill_int, am_kill_ref, am_kill_null, am_kill_F, am_kill_long, am_cat_n, am_cat_i, am_cat_r, am_cat_0, am_cat_l, am_nr_n, am_nr_i, am_nr_r, am_nr_0, am_nr_l, Option.toList_some, Option.toList_none, List.nil_append, List.cons_append, va_rf_s, va_rf_n, am_II, am_I_sR, am_I_sL, am_R_sI, am_RR, am_R_sL, am_L_sI, am_L_sR, am_LL, am_k_sI, am_k_sR, am_k_sL, am_n_sI, am_n_sR, am_n_sL, true_and, and_true, true_or, or_true, or_false, false_or, not_true_eq_false, not_false_eq_true, Nat.reduceLT, am_dS, am_dP, am_d1, Nat.reduceSub, Nat.reduceMul, ne_eq, Nat.reduceBEq, Nat.reduceAdd, Nat.reduceLeDiff, Nat.reduceEqDiff, and_self, and_false, false_and, if_true, if_false, am_nb, am_nb0, am_nb1, am_lc1, am_lc2, am_lc3, am_b0, am_b1, am_10, am_c8, am_c16, am_c24, am_c32, am_c40, am_c48, am_c56, am_c64, am_c72, Nat.add_zero, Bool.false_eq_true, Nat.zero_le, hcu, wX1_in, am_l0, l1', hxL, hin, hcl, e1, hk']
      exact wX2_becomes (d := d + 198) hC.1.s1 hsp (by omega) fun ν hF hT => ⟨trivial, fin ν (sp1_old hpd (by omega) (by omega) hsl hF hT)⟩
    | none =>
      simp only [gX1_keep_0, gX1_keep_1, gX1_keep_2, gX1_keep_3, gX1_keep_4, gX1_keep_7, gX1_keep_10, gX1_keep_11, gX1_keep_12, gX1_keep_13, gX1_keep_16, gX1_keep_17, gX1_keep_18, gX1_keep_18n, gX1_keep_21, gX1_keep_22, gX1_keep_25, gX1_keep_26, am_kill_int, am_kill_ref, am_kill_null, am_kill_F, am_kill_long, am_cat_n, am_cat_i, am_cat_r, am_cat_0, am_cat_l, am_nr_n, am_nr_i, am_nr_r, am_nr_0, am_nr_l, Option.toList_some, Option.toList_none, List.nil_append, List.cons_append, va_rf_s, va_rf_n, am_II, am_I_sR, am_I_sL, am_R_sI, am_RR, am_R_sL, am_L_sI, am_L_sR, am_LL, am_k_sI, am_k_sR, am_k_sL, am_n_sI, am_n_sR, am_n_sL, true_and, and_true, true_or, or_true, or_false, false_or, not_true_eq_false, not_false_eq_true, Nat.reduceLT, am_dS, am_dP, am_d1, Nat.reduceSub, Nat.reduceMul, ne_eq, Nat.reduceBEq, Nat.reduceAdd, Nat.reduceLeDiff, Nat.reduceEqDiff, and_self, and_false, false_and, if_true, if_false, am_nb, am_nb0, am_nb1, am_lc1, am_lc2, am_lc3, am_b0, am_b1, am_10, am_c8, am_c16, am_c24, am_c32, am_c40, am_c48, am_c56, am_c64, am_c72, Nat.add_zero, Bool.false_eq_true, Nat.zero_le, hcu, wX1_in, am_l0, l1', hxL, hin, hcl, e1]
      refine ⟨by omega, ?_⟩
      rw [gX1_keep_29, gX1_keep_30]
      refine ⟨by show 3 ≤ 8; decide, Nat.succ_pos _, wX2_init (d := d + 198) (iniP_z (by omega)) (by omega) fun ν1 hi => ⟨trivial, ?_⟩⟩
      have k0 : am_k ν1 0 = (0, 0) := (hi.2.2.2.1 0 (Or.inl (by omega))).trans hcu.1.1
      have k51 : am_k ν1 51 = (14, 2) := (hi.2.2.2.1 51 (Or.inl (by omega))).trans (by simp only [hcu])
      have kn : am_k ν1 (am_n μ) = (1, 0) := hi.2.2.2.2.1
      have r37 : am_R ν1 0 37 = some 51 := (hi.2.1 0 37 (Or.inl (by omega))).trans (by simp only [hcu])
      have r0 : am_R ν1 0 0 = some 1 := (hi.2.1 0 0 (Or.inl (by omega))).trans (by simp only [hcu])
      have hs1 := hC.1.s1
      have hsh : spL 1 (am_k ν1) (am_R ν1) := by
        have e1 : ∀ b, am_R ν1 1 b = am_R μ 1 b := fun b => hi.2.1 1 b (Or.inl (by omega))
        have e2 : ∀ a, a < 54 → am_k ν1 a = am_k μ a := fun a z => hi.2.2.2.1 a (Or.inl (by omega))
        unfold spL at hs1 ⊢
        simpa (disch := omega) only [e1, e2] using hs1
      have hne : ¬ (am_n μ = 51) := by omega
      simp only [Option.toList_none, List.nil_append, gX1_keep_33, gX1_keep_34, gX1_keep_35, gX1_keep_38, gX1_keep_39, gX1_keep_40, gX1_keep_41, gX1_keep_44, am_kill_int, am_kill_ref, am_kill_null, am_kill_F, am_kill_long, am_cat_n, am_cat_i, am_cat_r, am_cat_0, am_cat_l, am_nr_n, am_nr_i, am_nr_r, am_nr_0, am_nr_l, Option.toList_some, Option.toList_none, List.nil_append, List.cons_append, va_rf_s, va_rf_n, am_II, am_I_sR, am_I_sL, am_R_sI, am_RR, am_R_sL, am_L_sI, am_L_sR, am_LL, am_k_sI, am_k_sR, am_k_sL, am_n_sI, am_n_sR, am_n_sL, true_and, and_true, true_or, or_true, or_false, false_or, not_true_eq_false, not_false_eq_true, Nat.reduceLT, am_dS, am_dP, am_d1, Nat.reduceSub, Nat.reduceMul, ne_eq, Nat.reduceBEq, Nat.reduceAdd, Nat.reduceLeDiff, Nat.reduceEqDiff, and_self, and_false, false_and, if_true, if_false, am_nb, am_nb0, am_nb1, am_lc1, am_lc2, am_lc3, am_b0, am_b1, am_10, am_c8, am_c16, am_c24, am_c32, am_c40, am_c48, am_c56, am_c64, am_c72, Nat.add_zero, Bool.false_eq_true, Nat.zero_le, k0, k51, kn, r37, r0, hin, hcl]
      refine wX2_becomes (d := d + 198) (h := 1) (h' := am_n μ) (spL_congr hsh fun b => by rw [am_RR, if_neg (by omega)]) (spL_congr hi.sp fun b => by rw [am_RR, if_neg (by omega)]) (by omega) fun ν hF hT => ⟨trivial, fin ν (sp1_new (s := 12 + j) hpd ⟨hn0, by omega⟩ (by omega) hi (by rw [if_neg (by omega), if_neg (by omega), Nat.add_sub_cancel_left]; exact hF) (hT.trans ?_))⟩
      exact (cS_sR).trans (cS_congr fun a b z3 z4 => hi.1 a b (Or.inl (by omega)))
  · simp only [gX1_keep_0, gX1_keep_1, gX1_keep_2, gX1_keep_3, gX1_keep_4, gX1_keep_7, gX1_keep_10, gX1_keep_11, am_kill_int, am_kill_ref, am_kill_null, am_kill_F, am_kill_long, am_cat_n, am_cat_i, am_cat_r, am_cat_0, am_cat_l, am_nr_n, am_nr_i, am_nr_r, am_nr_0, am_nr_l, Option.toList_some, Option.toList_none, List.nil_append, List.cons_append, va_rf_s, va_rf_n, am_II, am_I_sR, am_I_sL, am_R_sI, am_RR, am_R_sL, am_L_sI, am_L_sR, am_LL, am_k_sI, am_k_sR, am_k_sL, am_n_sI, am_n_sR, am_n_sL, true_and, and_true, true_or, or_true, or_false, false_or, not_true_eq_false, not_false_eq_true, Nat.reduceLT, am_dS, am_dP, am_d1, Nat.reduceSub, Nat.reduceMul, ne_eq, Nat.reduceBEq, Nat.reduceAdd, Nat.reduceLeDiff, Nat.reduceEqDiff, and_self, and_false, false_and, if_true, if_false, am_nb, am_nb0, am_nb1, am_lc1, am_lc2, am_lc3, am_b0, am_b1, am_10, am_c8, am_c16, am_c24, am_c32, am_c40, am_c48, am_c56, am_c64, am_c72, Nat.add_zero, Bool.false_eq_true, Nat.zero_le, hcu, wX1_in, am_l0, l1, am_leL, am_isb, hx]
    refine ⟨_, rfl, ?_⟩
    have hx1 : ¬ (0 ≤ x ∧ x ≤ 1) := fun e => hx (by unfold isN; rw [decide_eq_true_eq]; exact e)
    simp only [gX3_keep_0, gX3_keep_1, gX3_keep_2, gX3_keep_5, gX3_keep_6, gX3_keep_7, gX3_keep_8, gX3_keep_11, gX3_keep_14, gX3_keep_15, am_kill_int, am_kill_ref, am_kill_null, am_kill_F, am_kill_long, am_cat_n, am_cat_i, am_cat_r, am_cat_0, am_cat_l, am_nr_n, am_nr_i, am_nr_r, am_nr_0, am_nr_l, Option.toList_some, Option.toList_none, List.nil_append, List.cons_append, va_rf_s, va_rf_n, am_II, am_I_sR, am_I_sL, am_R_sI, am_RR, am_R_sL, am_L_sI, am_L_sR, am_LL, am_k_sI, am_k_sR, am_k_sL, am_n_sI, am_n_sR, am_n_sL, true_and, and_true, true_or, or_true, or_false, false_or, not_true_eq_false, not_false_eq_true, Nat.reduceLT, am_dS, am_dP, am_d1, Nat.reduceSub, Nat.reduceMul, ne_eq, Nat.reduceBEq, Nat.reduceAdd, Nat.reduceLeDiff, Nat.reduceEqDiff, and_self, and_false, false_and, if_true, if_false, am_nb, am_nb0, am_nb1, am_lc1, am_lc2, am_lc3, am_b0, am_b1, am_10, am_c8, am_c16, am_c24, am_c32, am_c40, am_c48, am_c56, am_c64, am_c72, Nat.add_zero, Bool.false_eq_true, Nat.zero_le, hmu, wX3_in, hx1]
    exact hI'.thr
end KEV
