/-! what holds between calls, group by group, under a frame -/
set_option maxRecDepth 100000
section PQV
variable {d : Nat} {μ ν ξ : am_M} {K : Option Value → am_M → Prop} {x y z c w : Int32} {h N C j i k r n M b q : Nat} {v : Int32} {ru : Option PF} {F G : Nat → Nat → Prop} {S a a' : Nat → Int32} {p : Int64}
theorem pA.fw (hp : pA N ru c μ) (hf : Fw F μ ν) (hF : ∀ a b, F a b → a < 78 ∧ ¬ (a = 59 ∨ a = 60 ∨ (a = 0 ∧ (b = 2 ∨ b = 3)) ∨ (a = 54 ∧ (b = 1 ∨ b = 2 ∨ b = 16)))) (h17 : am_I ν 54 17 = 0) : pA N ru c ν :=
  ⟨hp.1.fw hf fun a b z => ⟨(hF a b z).1, fun e => (hF a b z).2 (by omega)⟩, hp.2.1.fw hf (fun a b z e => (hF a b z).2 (by omega)) h17, hp.2.2.1.fw hf fun a b z => (hF a b z).1, hp.2.2.2⟩
theorem Sim.fwN (hs : Sim N (cS μ 1) (am_I μ 55)) (hf : Fw F μ ν) (hF : ∀ a b, F a b → ¬ ((1 ≤ a ∧ a ≤ 11) ∨ a = 55)) : Sim N (cS ν 1) (am_I ν 55) := by
  rw [cS_Fw (h := 1) hf fun a b z1 z2 z3 => hF a b z3 (by omega), show am_I ν 55 = am_I μ 55 from funext fun b => hf.1 55 b fun z => hF _ _ z (Or.inr rfl)]
  exact hs
theorem pC.fw (hp : pC N C μ) (hf : Fw F μ ν) (hF : ∀ a b, F a b → ¬ ((a = 0 ∧ b = 4) ∨ (a = 54 ∧ b = 35))) : pC N C ν :=
  ⟨hp.1, (hf.1 0 4 fun z => hF _ _ z (by omega)).trans hp.2.1, (hf.1 54 35 fun z => hF _ _ z (by omega)).trans hp.2.2⟩
theorem pTx.fw (hp : pTx μ) (hf : Fw F μ ν) (hF : ∀ a b, F a b → ¬ (a = 23 ∨ a = 56)) : pTx ν := fun i hi => by
  rw [hf.1 23 i fun z => hF _ _ z (by omega), hf.1 56 i fun z => hF _ _ z (by omega)]
  exact hp i hi
theorem pB.fw (hp : pB μ) (hf : Fw F μ ν) (hF : ∀ a b, F a b → ¬ (a = 59 ∨ a = 60)) : pB ν :=
  ⟨(hf.2.1 54 14 (by omega) (by omega)).trans hp.1, (hf.2.1 54 15 (by omega) (by omega)).trans hp.2.1, fun g i hg hi => by
    rw [hf.1 g i fun z => hF _ _ z hg]; exact hp.2.2 g i hg hi⟩
theorem Fw.slR (hf : Fw F μ ν) (s : Nat) : slR ν s = slR μ s := by
  show (if s < 12 then am_R ν 28 s else am_R ν 51 (s - 12)) = if s < 12 then am_R μ 28 s else am_R μ 51 (s - 12)
  rw [hf.2.1 28 s (by omega) (by omega), hf.2.1 51 _ (by omega) (by omega)]
theorem pD.fw (hp : pD μ) (hf : Fw F μ ν) : pD ν := by
  refine ⟨fun s h hs e => ?_, fun s s' h h' z1 z2 z3 z4 z5 => ?_⟩
  · rw [hf.slR] at e
    obtain ⟨g1, g2, g3⟩ := hp.1 s h hs e
    exact ⟨g1, by rw [hf.2.2.2.2.1]; exact g2, hf.spL (by omega) (by omega) g3⟩
  · rw [hf.slR] at z4 z5
    exact hp.2 s s' h h' z1 z2 z3 z4 z5
theorem pU.fw (hp : pU N μ) (pd : pD μ) (hf : Fw F μ ν) (hF : ∀ a b, F a b → a < 78 ∧ ¬ (a = 62 ∨ (a = 0 ∧ b = 21) ∨ (a = 54 ∧ b = 20))) : pU N ν := by
  obtain ⟨u, g1, g2, g3, g4⟩ := hp
  refine ⟨u, g1, (hf.1 0 21 fun z => (hF _ _ z).2 (by omega)).trans g2, (hf.1 54 20 fun z => (hF _ _ z).2 (by omega)).trans g3, fun k hk => ?_⟩
  obtain ⟨h, e1, e2⟩ := g4 k hk
  have h78 := (pd.1 k h (by omega) e1).1
  refine ⟨h, (hf.slR k).trans e1, ?_⟩
  rw [cS_Fw hf fun a b z1 z2 z3 => by have := (hF a b z3).1; omega, show am_I ν 62 = am_I μ 62 from funext fun b => hf.1 62 b fun z => (hF _ _ z).2 (Or.inl rfl)]
  exact e2
theorem pK.fw (hp : pK N C μ) (pd : pD μ) (hf : Fw F μ ν) (hF : ∀ a b, F a b → a < 78 ∧ ¬ (a = 52 ∨ a = 74 ∨ a = 75 ∨ a = 76)) : pK N C ν := by
  intro i hi
  have row : ∀ a, (a = 52 ∨ a = 74 ∨ a = 75 ∨ a = 76) → am_I ν a = am_I μ a := fun a e => funext fun b => hf.1 a b fun z => (hF _ _ z).2 e
  rw [row 75 (by omega), row 52 (by omega), row 76 (by omega), row 74 (by omega), hf.slR]
  rcases hp i hi with e | ⟨h, q, e1, e2, e3, e4, e5, e6⟩
  · exact Or.inl e
  · refine Or.inr ⟨h, q, e1, e2, e3, e4, e5, fun z => ?_⟩
    have h78 := (pd.1 (12 + i) h (by omega) e1).1
    rw [cS_Fw hf fun a b z1 z2 z3 => by have := (hF a b z3).1; omega]
    exact e6 z
theorem pW.fw (hp : pW μ) (hf : Fw F μ ν) (hF : ∀ a b, F a b → ¬ (a = 49 ∨ a = 50 ∨ a = 72 ∨ a = 73 ∨ (a = 0 ∧ b = 33) ∨ (a = 54 ∧ b = 33))) : pW ν := by
  obtain ⟨w, g1, g2, g3, g4⟩ := hp
  refine ⟨w, g1, (hf.1 0 33 fun z => hF _ _ z (by omega)).trans g2, (hf.1 54 33 fun z => hF _ _ z (by omega)).trans g3, fun k hk => ?_⟩
  rw [hf.1 49 k fun z => hF _ _ z (by omega), hf.1 50 k fun z => hF _ _ z (by omega), hf.1 72 k fun z => hF _ _ z (by omega), hf.1 73 k fun z => hF _ _ z (by omega)]
  exact g4 k hk
theorem Txt.fw (hp : Txt μ) (hf : Fw F μ ν) (hF : ∀ a b, F a b → ¬ ((a = 0 ∧ b = 6) ∨ (a = 54 ∧ b = 4))) : Txt ν := by
  obtain ⟨t, g1, g2, g3⟩ := hp
  exact ⟨t, g1, (hf.1 0 6 fun z => hF _ _ z (by omega)).trans g2, (hf.1 54 4 fun z => hF _ _ z (by omega)).trans g3⟩
theorem Row.fr (hp : Row μ) (hf : Fr F μ ν) (hF : ∀ a b, F a b → ¬ ((a = 0 ∧ b = 40) ∨ (a = 54 ∧ b = 6))) : Row ν := by
  obtain ⟨r, g1, g2, g3, g4⟩ := hp
  exact ⟨r, g1, (hf.1 0 40 fun z => hF _ _ z (by omega)).trans g2, (hf.1 54 6 fun z => hF _ _ z (by omega)).trans g3, fun i hi => by rw [hf.L, hf.L]; exact g4 i hi⟩
/-- a call that changes no row and nothing of any size -/
theorem Inv.mk' (hP : Per N C ru c ν) (hT : Txt ν) (hR : Row ν) (hf : Fr F μ ν) (hI : Inv q μ) (hB : FB (q + 1) ν) : Inv (q + 1) ν := by
  obtain ⟨_, _, _, b1, b2, b3, _⟩ := hI
  refine ⟨⟨N, C, ru, c, hP⟩, hT, hR, ?_, ?_, ?_, hB⟩
  · rw [hf.2.2.2.2.1]; omega
  · rw [hf.2.2.2.2.2.1]; omega
  · rw [hf.2.2.2.2.2.2]; omega
/-! clear -/
theorem op_clear (hI : Inv q μ) : OP q mX1_clear mX3_clear [.ref 0, .int x, am_F] [.ref 54, .int x, am_F] μ := by
  intro d
  have hI' := hI
  obtain ⟨⟨N, C, ru, c, hP⟩, hT, hR, b1, b2, b3⟩ := hI
  have hC := hP.1.1
  have hcu := hC.1
  simp only [cL, spL, Nat.reduceAdd] at hcu
  have hS := hP.1.2.1
  have hmu := hS.1.1
  unfold mL at hmu
  have hc3 := hC.2.2.2.1
  have hc2 := hS.1.2.2.2
  have e9L : (9 : Int64) = (nI 10 - 1).toInt64 := by decide
  have e9I : (9 : Int32) = nI 10 - 1 := by decide
  by_cases hx : isN x 10 = true
  · simp only [gX1_clear_0, gX1_clear_1, gX1_clear_2, gX1_clear_3, gX1_clear_6, gX1_clear_9, gX1_clear_12, gX1_clear_13, gX1_clear_14, gX1_clear_15, gX1_clear_18, gX1_clear_19, gX1_clear_20, gX1_clear_21, gX1_clear_24, gX1_clear_25, am_kill_int, am_kill_ref, am_kill_null, am_kill_F, am_kill_long, am_cat_n, am_cat_i, am_cat_r, am_cat_0, am_cat_l, am_nr_n, am_nr_i, am_nr_r, am_nr_0, am_nr_l, Option.toList_some, Option.toList_none, List.nil_append, List.cons_append, va_rf_s, va_rf_n, am_II, am_I_sR, am_I_sL, am_R_sI, am_RR, am_R_sL, am_L_sI, am_L_sR, am_LL, am_k_sI, am_k_sR, am_k_sL, am_n_sI, am_n_sR, am_n_sL, true_and, and_true, true_or, or_true, or_false, false_or, not_true_eq_false, not_false_eq_true, Nat.reduceLT, am_dS, am_dP, am_d1, Nat.reduceSub, Nat.reduceMul, ne_eq, Nat.reduceBEq, Nat.reduceAdd, Nat.reduceLeDiff, Nat.reduceEqDiff, and_self, and_false, false_and, if_true, if_false, am_nb, am_nb0, am_nb1, am_lc1, am_lc2, am_lc3, am_b0, am_b1, am_10, am_c8, am_c16, am_c24, am_c32, am_c40, am_c48, am_c56, am_c64, am_c72, Nat.add_zero, Bool.false_eq_true, Nat.zero_le, hcu, wX1_in, am_l0, e9L, am_leL, am_isb, hx, hc3]
    refine ⟨_, rfl, ?_⟩
    simp only [gX3_clear_0, gX3_clear_1, gX3_clear_2, gX3_clear_5, gX3_clear_6, gX3_clear_7, gX3_clear_9, gX3_clear_12, gX3_clear_15, gX3_clear_16, gX3_clear_17, gX3_clear_18, gX3_clear_21, gX3_clear_22, gX3_clear_23, gX3_clear_24, gX3_clear_27, gX3_clear_28, am_kill_int, am_kill_ref, am_kill_null, am_kill_F, am_kill_long, am_cat_n, am_cat_i, am_cat_r, am_cat_0, am_cat_l, am_nr_n, am_nr_i, am_nr_r, am_nr_0, am_nr_l, Option.toList_some, Option.toList_none, List.nil_append, List.cons_append, va_rf_s, va_rf_n, am_II, am_I_sR, am_I_sL, am_R_sI, am_RR, am_R_sL, am_L_sI, am_L_sR, am_LL, am_k_sI, am_k_sR, am_k_sL, am_n_sI, am_n_sR, am_n_sL, true_and, and_true, true_or, or_true, or_false, false_or, not_true_eq_false, not_false_eq_true, Nat.reduceLT, am_dS, am_dP, am_d1, Nat.reduceSub, Nat.reduceMul, ne_eq, Nat.reduceBEq, Nat.reduceAdd, Nat.reduceLeDiff, Nat.reduceEqDiff, and_self, and_false, false_and, if_true, if_false, am_nb, am_nb0, am_nb1, am_lc1, am_lc2, am_lc3, am_b0, am_b1, am_10, am_c8, am_c16, am_c24, am_c32, am_c40, am_c48, am_c56, am_c64, am_c72, Nat.add_zero, Bool.false_eq_true, Nat.zero_le, hmu, wX3_in, e9I, am_isb, hx, hc2]
    have hF : Fr (fun a b => (a = 0 ∧ b = 3) ∨ (a = 54 ∧ (b = 2 ∨ b = 7))) μ (am_sI (am_sI (am_sI μ 0 3 x) 54 7 0) 54 2 x) := Fr.I (Fr.I (Fr.I Fr.refl (by omega)) (by omega)) (by omega)
    obtain ⟨p1, p2, p3, p4, p5, p6, p7, p8, p9, p10⟩ := hP
    have h17 : am_I (am_sI (am_sI (am_sI μ 0 3 x) 54 7 0) 54 2 x) 54 17 = 0 := (hF.1 54 17 (by omega)).trans p1.2.1.2.1.1.1
    refine Inv.mk' (N := N) (C := C) (ru := ru) (c := x) ⟨⟨⟨hF.cL p1.1.1, (hF.1 0 2 (by omega)).trans p1.1.2.1, p1.1.2.2.1, ?_, hF.ruC (fun a b z => by omega) p1.1.2.2.2.2⟩, ⟨⟨hF.mLk p1.2.1.1.1, (hF.1 54 1 (by omega)).trans p1.2.1.1.2.1, p1.2.1.1.2.2.1, ?_⟩, hF.ruM (fun a b z => by omega) h17 p1.2.1.2.1, p1.2.1.2.2⟩, p1.2.2.1.fw hF.toW (fun a b z => by omega), isC_r hx⟩, p2.fwN hF.toW (fun a b z => by omega), p3.fw hF.toW (fun a b z => by omega), p4.fw hF.toW (fun a b z => by omega), p5.fw hF.toW (fun a b z => by omega), p6.fw hF.toW, p7.fw p6 hF.toW (fun a b z => by omega), p8.fw p6 hF.toW (fun a b z => by omega), p9.fw hF.toW (fun a b z => by omega), by rw [hF.2.2.2.2.1]; exact p10⟩ (hT.fw hF.toW (fun a b z => by omega)) (hR.fr hF (fun a b z => by omega)) hF hI' (hI'.2.2.2.2.2.2.fw p6 hF.toW fun a b z => by omega)
    · rw [am_I_sI, if_neg (by omega), am_I_sI, if_neg (by omega), am_I_sI, if_pos ⟨rfl, rfl⟩]
    · rw [am_I_sI, if_pos ⟨rfl, rfl⟩]
  · simp only [gX1_clear_0, gX1_clear_1, gX1_clear_2, gX1_clear_3, gX1_clear_6, gX1_clear_9, gX1_clear_12, gX1_clear_13, gX1_clear_14, gX1_clear_15, gX1_clear_18, gX1_clear_19, gX1_clear_20, gX1_clear_21, gX1_clear_24, gX1_clear_25, am_kill_int, am_kill_ref, am_kill_null, am_kill_F, am_kill_long, am_cat_n, am_cat_i, am_cat_r, am_cat_0, am_cat_l, am_nr_n, am_nr_i, am_nr_r, am_nr_0, am_nr_l, Option.toList_some, Option.toList_none, List.nil_append, List.cons_append, va_rf_s, va_rf_n, am_II, am_I_sR, am_I_sL, am_R_sI, am_RR, am_R_sL, am_L_sI, am_L_sR, am_LL, am_k_sI, am_k_sR, am_k_sL, am_n_sI, am_n_sR, am_n_sL, true_and, and_true, true_or, or_true, or_false, false_or, not_true_eq_false, not_false_eq_true, Nat.reduceLT, am_dS, am_dP, am_d1, Nat.reduceSub, Nat.reduceMul, ne_eq, Nat.reduceBEq, Nat.reduceAdd, Nat.reduceLeDiff, Nat.reduceEqDiff, and_self, and_false, false_and, if_true, if_false, am_nb, am_nb0, am_nb1, am_lc1, am_lc2, am_lc3, am_b0, am_b1, am_10, am_c8, am_c16, am_c24, am_c32, am_c40, am_c48, am_c56, am_c64, am_c72, Nat.add_zero, Bool.false_eq_true, Nat.zero_le, hcu, wX1_in, am_l0, e9L, am_leL, am_isb, hx]
    refine ⟨_, rfl, ?_⟩
    simp only [gX3_clear_0, gX3_clear_1, gX3_clear_2, gX3_clear_5, gX3_clear_6, gX3_clear_7, gX3_clear_9, gX3_clear_12, gX3_clear_15, gX3_clear_16, gX3_clear_17, gX3_clear_18, gX3_clear_21, gX3_clear_22, gX3_clear_23, gX3_clear_24, gX3_clear_27, gX3_clear_28, am_kill_int, am_kill_ref, am_kill_null, am_kill_F, am_kill_long, am_cat_n, am_cat_i, am_cat_r, am_cat_0, am_cat_l, am_nr_n, am_nr_i, am_nr_r, am_nr_0, am_nr_l, Option.toList_some, Option.toList_none, List.nil_append, List.cons_append, va_rf_s, va_rf_n, am_II, am_I_sR, am_I_sL, am_R_sI, am_RR, am_R_sL, am_L_sI, am_L_sR, am_LL, am_k_sI, am_k_sR, am_k_sL, am_n_sI, am_n_sR, am_n_sL, true_and, and_true, true_or, or_true, or_false, false_or, not_true_eq_false, not_false_eq_true, Nat.reduceLT, am_dS, am_dP, am_d1, Nat.reduceSub, Nat.reduceMul, ne_eq, Nat.reduceBEq, Nat.reduceAdd, Nat.reduceLeDiff, Nat.reduceEqDiff, and_self, and_false, false_and, if_true, if_false, am_nb, am_nb0, am_nb1, am_lc1, am_lc2, am_lc3, am_b0, am_b1, am_10, am_c8, am_c16, am_c24, am_c32, am_c40, am_c48, am_c56, am_c64, am_c72, Nat.add_zero, Bool.false_eq_true, Nat.zero_le, hmu, wX3_in, e9I, am_isb, hx]
    exact hI'.thr
end PQV
