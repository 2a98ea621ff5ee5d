/-! law: with the rule read, and without -/
set_option maxRecDepth 100000
section LWV
variable {d : Nat} {μ ν ξ μ1 ν1 : am_M} {K : Option Value → am_M → Prop} {x y z c w : Int32} {h h' N C i j k r n M m a b e q q' t u s : Nat} {v : Int32} {ru ru' g : Option PF} {F G : Nat → Nat → Prop} {S S' T : Nat → Int32} {p : Int64} {ch : Nat → Int32} {f : PF}
theorem wX3_flownIn60 (hS : MS N ru c μ) (hs : Sim N S (am_I μ 55)) (hK : ∀ ν, Fr (jH 64) μ ν → MS N ru c ν → K (some (.int (itS (dayC N ru) 60 S 81 - S 81))) ν) : am_Wp (d + 74) mX3_flownIn60 0 [.ref 54] [] μ K := by
  have hmu := hS.1.1
  unfold mL at hmu
  have h8 := hS.1.2.2.1
  have e60 : (60 : Int32) = nI 60 := rfl
  have z81 : (81 : Int32).toNatClampNeg = 81 := by decide
  have v81 : vp_in 81 83 := vp_in_nI (n := 81) (by decide) (by decide)
  simp only [gX3_flownIn60_0, gX3_flownIn60_1, gX3_flownIn60_4, gX3_flownIn60_5, gX3_flownIn60_8, gX3_flownIn60_9, am_kill_int, am_kill_ref, am_kill_null, am_kill_F, am_kill_long, am_cat_n, am_cat_i, am_cat_r, am_cat_0, am_cat_l, am_nr_n, am_nr_i, am_nr_r, am_nr_0, am_nr_l, Option.toList_some, Option.toList_none, List.nil_append, List.cons_append, va_rf_s, va_rf_n, am_I_sR, am_I_sL, am_R_sI, am_R_sL, am_L_sI, am_L_sR, am_k_sI, am_k_sR, am_k_sL, am_n_sI, am_n_sR, am_n_sL, true_and, and_true, true_or, or_true, or_false, false_or, not_true_eq_false, not_false_eq_true, Nat.reduceLT, am_dS, am_dP, am_d1, Nat.reduceSub, Nat.reduceMul, ne_eq, Nat.reduceBEq, Nat.reduceAdd, Nat.reduceLeDiff, Nat.reduceEqDiff, and_self, and_false, false_and, if_true, if_false, am_nb, am_nb0, am_nb1, am_lc1, am_lc2, am_lc3, am_b0, am_b1, am_10, am_c8, am_c16, am_c24, am_c32, am_c40, am_c48, am_c56, am_c64, am_c72, Nat.add_zero, Bool.false_eq_true, Nat.zero_le, hmu]
  refine wX3_lay00 (d := d + 73) hmu.1.2.1 hmu.1.2.2.2.2.2.2.2.2.2.2.1 (by decide) (fun ν hF hT => ?_)
  have hF1 : Fr (jH 64) μ ν := hF.le fun a b z => Or.inl z
  have hS1 := hS.jh (by decide) hF1 ((hF.1 54 17 (by decide)).trans hS.2.1.1.1)
  have hmν := hS1.1.1
  unfold mL at hmν
  have hs1 := (hs.row h8 hT).days hS.2.2 h8 60
  simp only [gX3_flownIn60_12, gX3_flownIn60_13, gX3_flownIn60_14, gX3_flownIn60_17, gX3_flownIn60_19, am_kill_int, am_kill_ref, am_kill_null, am_kill_F, am_kill_long, am_cat_n, am_cat_i, am_cat_r, am_cat_0, am_cat_l, am_nr_n, am_nr_i, am_nr_r, am_nr_0, am_nr_l, Option.toList_some, Option.toList_none, List.nil_append, List.cons_append, va_rf_s, va_rf_n, am_I_sR, am_I_sL, am_R_sI, am_R_sL, am_L_sI, am_L_sR, am_k_sI, am_k_sR, am_k_sL, am_n_sI, am_n_sR, am_n_sL, true_and, and_true, true_or, or_true, or_false, false_or, not_true_eq_false, not_false_eq_true, Nat.reduceLT, am_dS, am_dP, am_d1, Nat.reduceSub, Nat.reduceMul, ne_eq, Nat.reduceBEq, Nat.reduceAdd, Nat.reduceLeDiff, Nat.reduceEqDiff, and_self, and_false, false_and, if_true, if_false, am_nb, am_nb0, am_nb1, am_lc1, am_lc2, am_lc3, am_b0, am_b1, am_10, am_c8, am_c16, am_c24, am_c32, am_c40, am_c48, am_c56, am_c64, am_c72, Nat.add_zero, Bool.false_eq_true, Nat.zero_le, hmν, e60]
  refine wX3_goDaysG (d := d) hS1 hmν.1.2.2.2.2.2.2.2.2.2.2.1 (M := 60) (by decide) (fun ξ hF2 hS2 hT2 => ?_)
  have hmξ := hS2.1.1
  unfold mL at hmξ
  have hF3 := hF1.trans hF2
  have r55 : am_I ξ 55 = am_I μ 55 := funext fun b => hF3.1 55 b (by unfold jH jM; omega)
  have g3 : am_I ξ 64 81 = itS (dayC N ru) 60 S 81 := by rw [hT2]; exact hs1.2.2.1.symm
  have g4 : am_I ξ 55 81 = S 81 := by rw [r55]; exact hs.2.2.1.symm
  simp only [gX3_flownIn60_22, gX3_flownIn60_23, gX3_flownIn60_26, gX3_flownIn60_28, gX3_flownIn60_29, gX3_flownIn60_30, gX3_flownIn60_33, gX3_flownIn60_35, gX3_flownIn60_36, gX3_flownIn60_37, am_kill_int, am_kill_ref, am_kill_null, am_kill_F, am_kill_long, am_cat_n, am_cat_i, am_cat_r, am_cat_0, am_cat_l, am_nr_n, am_nr_i, am_nr_r, am_nr_0, am_nr_l, Option.toList_some, Option.toList_none, List.nil_append, List.cons_append, va_rf_s, va_rf_n, am_I_sR, am_I_sL, am_R_sI, am_R_sL, am_L_sI, am_L_sR, am_k_sI, am_k_sR, am_k_sL, am_n_sI, am_n_sR, am_n_sL, true_and, and_true, true_or, or_true, or_false, false_or, not_true_eq_false, not_false_eq_true, Nat.reduceLT, am_dS, am_dP, am_d1, Nat.reduceSub, Nat.reduceMul, ne_eq, Nat.reduceBEq, Nat.reduceAdd, Nat.reduceLeDiff, Nat.reduceEqDiff, and_self, and_false, false_and, if_true, if_false, am_nb, am_nb0, am_nb1, am_lc1, am_lc2, am_lc3, am_b0, am_b1, am_10, am_c8, am_c16, am_c24, am_c32, am_c40, am_c48, am_c56, am_c64, am_c72, Nat.add_zero, Bool.false_eq_true, Nat.zero_le, hmξ, z81, v81, g3, g4]
  exact hK ξ hF3 hS2
def fLc (a b : Nat) : Prop := jS 12 a b ∨ (a = 0 ∧ b = 40)
theorem rkR.mono (hr : rkR μ g) (hn : nodeEq μ ν) (e : am_R ν 0 18 = am_R μ 0 18) : rkR ν g := by
  cases g with
  | none => exact e.trans hr
  | some f => obtain ⟨a, h1, h2, h3⟩ := hr; exact ⟨a, e.trans h1, h2, h3.mono hn⟩
theorem CC.sw (hC : CC N ru c μ) (h0 : 78 ≤ am_n μ) (o : Option Nat) (hr : ruC (am_sR μ 0 17 o) g) : CC N g c (am_sR μ 0 17 o) :=
  ⟨((RG.refl (F := fR) (q := 0)).R17 (o := o) (Or.inl rfl)).cL h0 hC.1, hC.2.1, hC.2.2.1, hC.2.2.2.1, hr⟩
theorem lawC (hC : CC N ru c ν) (hrk : rkR ν g) (h0 : 78 ≤ am_n ν ∧ am_n ν ≤ 400000) (hK : ∀ ξ, Fw fLc ν ξ → am_I ξ 0 40 = 2 → am_L ξ 53 0 = (itS (dayC N g) 60 (cS ν 1) 81 - cS ν 1 81).toInt64 → am_L ξ 53 1 = (itS (dayC N ru) 60 (cS ν 1) 81 - cS ν 1 81).toInt64 → (∀ i, am_L ξ 57 i = am_L ν 57 i) → K (some (.int ((itS (dayC N g) 60 (cS ν 1) 81 - cS ν 1 81) - (itS (dayC N ru) 60 (cS ν 1) 81 - cS ν 1 81)))) ξ)   :
    am_Wp (d + 200) mX1_law 17 [.ref 0, .int 0, am_F, am_F, am_F] [] ν K := by
  have hk0 := hC.1.c
  have e60 : (60 : Int32) = nI 60 := rfl
  simp only [gX1_law_17, gX1_law_18, gX1_law_20, am_kill_int, am_kill_ref, am_kill_null, am_kill_F, am_kill_long, am_cat_n, am_cat_i, am_cat_r, am_cat_0, am_cat_l, am_nr_n, am_nr_i, am_nr_r, am_nr_0, am_nr_l, Option.toList_some, Option.toList_none, List.nil_append, List.cons_append, va_rf_s, va_rf_n, am_II, am_I_sR, am_I_sL, am_R_sI, am_RR, am_R_sL, am_L_sI, am_L_sR, am_LL, am_k_sI, am_k_sR, am_k_sL, am_n_sI, am_n_sR, am_n_sL, true_and, and_true, true_or, or_true, or_false, false_or, not_true_eq_false, not_false_eq_true, Nat.reduceLT, am_dS, am_dP, am_d1, Nat.reduceSub, Nat.reduceMul, ne_eq, Nat.reduceBEq, Nat.reduceAdd, Nat.reduceLeDiff, Nat.reduceEqDiff, and_self, and_false, false_and, if_true, if_false, am_nb, am_nb0, am_nb1, am_lc1, am_lc2, am_lc3, am_b0, am_b1, am_10, am_c8, am_c16, am_c24, am_c32, am_c40, am_c48, am_c56, am_c64, am_c72, Nat.add_zero, Bool.false_eq_true, Nat.zero_le, hk0, e60]
  refine wX1_flownIn (d := d + 129) hC (M := 60) (by decide) (fun ν1 hF1 hT1 => ?_)
  have hC1 := hC.js (by decide) (by decide) hF1
  have hk1 := hC1.1.c
  have h01 : 78 ≤ am_n ν1 := by rw [hF1.2.2.2.2.1]; exact h0.1
  have hnd1 : nodeEq ν ν1 := hF1.node fun a b z => by unfold jS inSp jO at z; omega
  have hrk1 : rkR ν1 g := hrk.mono hnd1 (hF1.2.1 0 18 (by omega) (by omega))
  have hS1 : cS ν1 1 = cS ν 1 := jS_1 hF1
  generalize hw : itS (dayC N ru) 60 (cS ν 1) 81 - cS ν 1 81 = wv
  rw [hw] at hK
  have hsw : ∀ o, o = am_R ν1 0 18 → CC N g c (am_sR ν1 0 17 o) := fun o ho => by
    refine hC1.sw h01 o ?_
    subst ho
    cases g with
    | none => show am_R (am_sR ν1 0 17 _) 0 17 = none; rw [am_RR, if_pos ⟨rfl, rfl⟩]; exact hrk1
    | some f =>
      obtain ⟨a, w1, w2, w3⟩ := hrk1
      exact ⟨a, by rw [am_RR, if_pos ⟨rfl, rfl⟩]; exact w1, w3.mono (nodeEq_R (by decide))⟩
  have tail : ∀ (zw : Value) (o : Option Nat), zw = va_rf (am_R ν1 0 17) → o = am_R ν1 0 18 → (∀ a, am_R ν1 0 17 = some a → a < am_B) → am_Wp (d + 200) mX1_law 37 [.ref 0, (.int 0), .int wv, zw, am_F] [] (am_sR ν1 0 17 o) K := fun zw o hzw ho hlt => by
    have hC2 := hsw o ho
    have hk2 := hC2.1.c
    simp only [gX1_law_37, gX1_law_38, gX1_law_40, am_kill_int, am_kill_ref, am_kill_null, am_kill_F, am_kill_long, am_cat_n, am_cat_i, am_cat_r, am_cat_0, am_cat_l, am_nr_n, am_nr_i, am_nr_r, am_nr_0, am_nr_l, Option.toList_some, Option.toList_none, List.nil_append, List.cons_append, va_rf_s, va_rf_n, am_II, am_I_sR, am_I_sL, am_R_sI, am_RR, am_R_sL, am_L_sI, am_L_sR, am_LL, am_k_sI, am_k_sR, am_k_sL, am_n_sI, am_n_sR, am_n_sL, true_and, and_true, true_or, or_true, or_false, false_or, not_true_eq_false, not_false_eq_true, Nat.reduceLT, am_dS, am_dP, am_d1, Nat.reduceSub, Nat.reduceMul, ne_eq, Nat.reduceBEq, Nat.reduceAdd, Nat.reduceLeDiff, Nat.reduceEqDiff, and_self, and_false, false_and, if_true, if_false, am_nb, am_nb0, am_nb1, am_lc1, am_lc2, am_lc3, am_b0, am_b1, am_10, am_c8, am_c16, am_c24, am_c32, am_c40, am_c48, am_c56, am_c64, am_c72, Nat.add_zero, Bool.false_eq_true, Nat.zero_le, hk2, e60]
    refine wX1_flownIn (d := d + 129) hC2 (M := 60) (by decide) (fun ν3 hF3 hT3 => ?_)
    rw [show cS (am_sR ν1 0 17 o) 1 = cS ν 1 from (cS_sR).trans hS1] at hT3 ⊢
    have hC3 := hC2.js (by decide) (by decide) hF3
    have hcu3 := hC3.1
    simp only [cL, spL, Nat.reduceAdd] at hcu3
    have fin : ∀ ν4, ν4 = am_sR ν3 0 17 (am_R ν1 0 17) → am_Wp (d + 200) mX1_law 50 [.ref 0, (.int 0), .int wv, zw, .int (itS (dayC N g) 60 (cS ν 1) 81 - cS ν 1 81)] [] ν4 K := fun ν4 h4 => by
      have k4 : am_k ν4 = am_k ν3 := by rw [h4]; rfl
      have R4 : ∀ a b, ¬ (a = 0 ∧ b = 17) → am_R ν4 a b = am_R ν3 a b := fun a b z => by rw [h4, am_RR, if_neg z]
      have R39 : am_R ν4 0 39 = some 53 := (R4 0 39 (by omega)).trans (by simp only [hcu3])
      have hFw : Fw fLc ν ν4 := by
        have hI4 : am_I ν4 = am_I ν3 := by rw [h4]; rfl
        refine ⟨fun a b z => ?_, fun a b z z2 => ?_, fun a b z z2 => ?_, ?_, ?_, ?_, ?_⟩
        · rw [hI4, hF3.1 a b (fun w => z (Or.inl w)), am_I_sR, hF1.1 a b (fun w => z (Or.inl w))]
        · by_cases e17 : a = 0 ∧ b = 17
          · obtain ⟨rfl, rfl⟩ := e17
            rw [h4, am_RR, if_pos ⟨rfl, rfl⟩]; exact hF1.2.1 0 17 (by omega) (by omega)
          · rw [R4 a b e17, hF3.2.1 a b z z2, am_RR, if_neg e17]; exact hF1.2.1 a b z z2
        · rw [h4, am_L_sR, hF3.L, am_L_sR, hF1.L]
        · rw [k4, hF3.2.2.2.1, am_k_sR, hF1.2.2.2.1]
        · rw [h4]; exact hF3.2.2.2.2.1.trans hF1.2.2.2.2.1
        · rw [h4]; exact hF3.2.2.2.2.2.1.trans hF1.2.2.2.2.2.1
        · rw [h4]; exact hF3.2.2.2.2.2.2.trans hF1.2.2.2.2.2.2
      simp only [gX1_law_50, gX1_law_51, gX1_law_52, gX1_law_55, gX1_law_56, gX1_law_58, gX1_law_59, gX1_law_62, gX1_law_63, gX1_law_64, gX1_law_65, gX1_law_68, gX1_law_70, gX1_law_71, gX1_law_72, am_kill_int, am_kill_ref, am_kill_null, am_kill_F, am_kill_long, am_cat_n, am_cat_i, am_cat_r, am_cat_0, am_cat_l, am_nr_n, am_nr_i, am_nr_r, am_nr_0, am_nr_l, Option.toList_some, Option.toList_none, List.nil_append, List.cons_append, va_rf_s, va_rf_n, am_II, am_I_sR, am_I_sL, am_R_sI, am_RR, am_R_sL, am_L_sI, am_L_sR, am_LL, am_k_sI, am_k_sR, am_k_sL, am_n_sI, am_n_sR, am_n_sL, true_and, and_true, true_or, or_true, or_false, false_or, not_true_eq_false, not_false_eq_true, Nat.reduceLT, am_dS, am_dP, am_d1, Nat.reduceSub, Nat.reduceMul, ne_eq, Nat.reduceBEq, Nat.reduceAdd, Nat.reduceLeDiff, Nat.reduceEqDiff, and_self, and_false, false_and, if_true, if_false, am_nb, am_nb0, am_nb1, am_lc1, am_lc2, am_lc3, am_b0, am_b1, am_10, am_c8, am_c16, am_c24, am_c32, am_c40, am_c48, am_c56, am_c64, am_c72, Nat.add_zero, Bool.false_eq_true, Nat.zero_le, k4, hcu3, R39, wX1_tells0, wX1_tells1]
      refine hK _ (((((hFw.I (Or.inr ⟨rfl, rfl⟩)).L (Or.inl rfl)).I (Or.inr ⟨rfl, rfl⟩)).L (Or.inl rfl)).I (Or.inr ⟨rfl, rfl⟩)) ?_ ?_ ?_ (fun i => ?_)
      · simp only [am_II, and_self, if_true]
      · simp only [am_L_sI, am_LL, and_self, if_true, Nat.reduceEqDiff, and_false, if_false]
      · simp only [am_L_sI, am_LL, and_self, if_true]
      · simp only [am_L_sI, am_LL, Nat.reduceEqDiff, false_and, if_false]; rw [h4, am_L_sR, hF3.L, am_L_sR, hF1.L]
    subst hzw
    cases e17 : am_R ν1 0 17 with
    | none =>
      rw [e17] at fin
      simp only [gX1_law_43, gX1_law_45, gX1_law_46, gX1_law_46n, gX1_law_47, gX1_law_47n, am_kill_int, am_kill_ref, am_kill_null, am_kill_F, am_kill_long, am_cat_n, am_cat_i, am_cat_r, am_cat_0, am_cat_l, am_nr_n, am_nr_i, am_nr_r, am_nr_0, am_nr_l, Option.toList_some, Option.toList_none, List.nil_append, List.cons_append, va_rf_s, va_rf_n, am_II, am_I_sR, am_I_sL, am_R_sI, am_RR, am_R_sL, am_L_sI, am_L_sR, am_LL, am_k_sI, am_k_sR, am_k_sL, am_n_sI, am_n_sR, am_n_sL, true_and, and_true, true_or, or_true, or_false, false_or, not_true_eq_false, not_false_eq_true, Nat.reduceLT, am_dS, am_dP, am_d1, Nat.reduceSub, Nat.reduceMul, ne_eq, Nat.reduceBEq, Nat.reduceAdd, Nat.reduceLeDiff, Nat.reduceEqDiff, and_self, and_false, false_and, if_true, if_false, am_nb, am_nb0, am_nb1, am_lc1, am_lc2, am_lc3, am_b0, am_b1, am_10, am_c8, am_c16, am_c24, am_c32, am_c40, am_c48, am_c56, am_c64, am_c72, Nat.add_zero, Bool.false_eq_true, Nat.zero_le, hcu3, e17]
      exact fin _ rfl
    | some a =>
      have hB := hlt a e17
      rw [e17] at fin
      simp only [gX1_law_43, gX1_law_45, gX1_law_46, gX1_law_46n, gX1_law_47, gX1_law_47n, am_kill_int, am_kill_ref, am_kill_null, am_kill_F, am_kill_long, am_cat_n, am_cat_i, am_cat_r, am_cat_0, am_cat_l, am_nr_n, am_nr_i, am_nr_r, am_nr_0, am_nr_l, Option.toList_some, Option.toList_none, List.nil_append, List.cons_append, va_rf_s, va_rf_n, am_II, am_I_sR, am_I_sL, am_R_sI, am_RR, am_R_sL, am_L_sI, am_L_sR, am_LL, am_k_sI, am_k_sR, am_k_sL, am_n_sI, am_n_sR, am_n_sL, true_and, and_true, true_or, or_true, or_false, false_or, not_true_eq_false, not_false_eq_true, Nat.reduceLT, am_dS, am_dP, am_d1, Nat.reduceSub, Nat.reduceMul, ne_eq, Nat.reduceBEq, Nat.reduceAdd, Nat.reduceLeDiff, Nat.reduceEqDiff, and_self, and_false, false_and, if_true, if_false, am_nb, am_nb0, am_nb1, am_lc1, am_lc2, am_lc3, am_b0, am_b1, am_10, am_c8, am_c16, am_c24, am_c32, am_c40, am_c48, am_c56, am_c64, am_c72, Nat.add_zero, Bool.false_eq_true, Nat.zero_le, hcu3, e17, hB]
      exact fin _ rfl
  have hlt : ∀ a, am_R ν1 0 17 = some a → a < am_B := fun a ha => by
    have hr := hC1.2.2.2.2
    cases ru with
    | none => rw [show am_R ν1 0 17 = none from hr] at ha; cases ha
    | some f =>
      obtain ⟨a', w1, w2⟩ := hr
      rw [w1] at ha
      cases ha
      have := w2.lt
      have hBB : am_B = 1000000 := rfl
      have e := hF1.2.2.2.2.1
      omega
  have hlt2 : ∀ a, am_R ν1 0 18 = some a → a < am_B := fun a ha => by
    cases g with
    | none => rw [show am_R ν1 0 18 = none from hrk1] at ha; cases ha
    | some f =>
      obtain ⟨a', w1, w2, w3⟩ := hrk1
      rw [w1] at ha
      cases ha
      exact w2
  cases e17 : am_R ν1 0 17 with
  | none =>
    cases e18 : am_R ν1 0 18 with
    | none =>
      simp only [gX1_law_23, gX1_law_24, gX1_law_25, gX1_law_28, gX1_law_28n, gX1_law_29, gX1_law_30, gX1_law_31, gX1_law_34, gX1_law_34n, am_kill_int, am_kill_ref, am_kill_null, am_kill_F, am_kill_long, am_cat_n, am_cat_i, am_cat_r, am_cat_0, am_cat_l, am_nr_n, am_nr_i, am_nr_r, am_nr_0, am_nr_l, Option.toList_some, Option.toList_none, List.nil_append, List.cons_append, va_rf_s, va_rf_n, am_II, am_I_sR, am_I_sL, am_R_sI, am_RR, am_R_sL, am_L_sI, am_L_sR, am_LL, am_k_sI, am_k_sR, am_k_sL, am_n_sI, am_n_sR, am_n_sL, true_and, and_true, true_or, or_true, or_false, false_or, not_true_eq_false, not_false_eq_true, Nat.reduceLT, am_dS, am_dP, am_d1, Nat.reduceSub, Nat.reduceMul, ne_eq, Nat.reduceBEq, Nat.reduceAdd, Nat.reduceLeDiff, Nat.reduceEqDiff, and_self, and_false, false_and, if_true, if_false, am_nb, am_nb0, am_nb1, am_lc1, am_lc2, am_lc3, am_b0, am_b1, am_10, am_c8, am_c16, am_c24, am_c32, am_c40, am_c48, am_c56, am_c64, am_c72, Nat.add_zero, Bool.false_eq_true, Nat.zero_le, hk1, e17, e18]
      exact tail _ _ (by rw [e17]; rfl) e18.symm hlt
    | some b =>
      have hB := hlt2 b e18
      simp only [gX1_law_23, gX1_law_24, gX1_law_25, gX1_law_28, gX1_law_28n, gX1_law_29, gX1_law_30, gX1_law_31, gX1_law_34, gX1_law_34n, am_kill_int, am_kill_ref, am_kill_null, am_kill_F, am_kill_long, am_cat_n, am_cat_i, am_cat_r, am_cat_0, am_cat_l, am_nr_n, am_nr_i, am_nr_r, am_nr_0, am_nr_l, Option.toList_some, Option.toList_none, List.nil_append, List.cons_append, va_rf_s, va_rf_n, am_II, am_I_sR, am_I_sL, am_R_sI, am_RR, am_R_sL, am_L_sI, am_L_sR, am_LL, am_k_sI, am_k_sR, am_k_sL, am_n_sI, am_n_sR, am_n_sL, true_and, and_true, true_or, or_true, or_false, false_or, not_true_eq_false, not_false_eq_true, Nat.reduceLT, am_dS, am_dP, am_d1, Nat.reduceSub, Nat.reduceMul, ne_eq, Nat.reduceBEq, Nat.reduceAdd, Nat.reduceLeDiff, Nat.reduceEqDiff, and_self, and_false, false_and, if_true, if_false, am_nb, am_nb0, am_nb1, am_lc1, am_lc2, am_lc3, am_b0, am_b1, am_10, am_c8, am_c16, am_c24, am_c32, am_c40, am_c48, am_c56, am_c64, am_c72, Nat.add_zero, Bool.false_eq_true, Nat.zero_le, hk1, e17, e18, hB]
      exact tail _ _ (by rw [e17]; rfl) e18.symm hlt
  | some a =>
    cases e18 : am_R ν1 0 18 with
    | none =>
      simp only [gX1_law_23, gX1_law_24, gX1_law_25, gX1_law_28, gX1_law_28n, gX1_law_29, gX1_law_30, gX1_law_31, gX1_law_34, gX1_law_34n, am_kill_int, am_kill_ref, am_kill_null, am_kill_F, am_kill_long, am_cat_n, am_cat_i, am_cat_r, am_cat_0, am_cat_l, am_nr_n, am_nr_i, am_nr_r, am_nr_0, am_nr_l, Option.toList_some, Option.toList_none, List.nil_append, List.cons_append, va_rf_s, va_rf_n, am_II, am_I_sR, am_I_sL, am_R_sI, am_RR, am_R_sL, am_L_sI, am_L_sR, am_LL, am_k_sI, am_k_sR, am_k_sL, am_n_sI, am_n_sR, am_n_sL, true_and, and_true, true_or, or_true, or_false, false_or, not_true_eq_false, not_false_eq_true, Nat.reduceLT, am_dS, am_dP, am_d1, Nat.reduceSub, Nat.reduceMul, ne_eq, Nat.reduceBEq, Nat.reduceAdd, Nat.reduceLeDiff, Nat.reduceEqDiff, and_self, and_false, false_and, if_true, if_false, am_nb, am_nb0, am_nb1, am_lc1, am_lc2, am_lc3, am_b0, am_b1, am_10, am_c8, am_c16, am_c24, am_c32, am_c40, am_c48, am_c56, am_c64, am_c72, Nat.add_zero, Bool.false_eq_true, Nat.zero_le, hk1, e17, e18]
      exact tail _ _ (by rw [e17]; rfl) e18.symm hlt
    | some b =>
      have hB := hlt2 b e18
      simp only [gX1_law_23, gX1_law_24, gX1_law_25, gX1_law_28, gX1_law_28n, gX1_law_29, gX1_law_30, gX1_law_31, gX1_law_34, gX1_law_34n, am_kill_int, am_kill_ref, am_kill_null, am_kill_F, am_kill_long, am_cat_n, am_cat_i, am_cat_r, am_cat_0, am_cat_l, am_nr_n, am_nr_i, am_nr_r, am_nr_0, am_nr_l, Option.toList_some, Option.toList_none, List.nil_append, List.cons_append, va_rf_s, va_rf_n, am_II, am_I_sR, am_I_sL, am_R_sI, am_RR, am_R_sL, am_L_sI, am_L_sR, am_LL, am_k_sI, am_k_sR, am_k_sL, am_n_sI, am_n_sR, am_n_sL, true_and, and_true, true_or, or_true, or_false, false_or, not_true_eq_false, not_false_eq_true, Nat.reduceLT, am_dS, am_dP, am_d1, Nat.reduceSub, Nat.reduceMul, ne_eq, Nat.reduceBEq, Nat.reduceAdd, Nat.reduceLeDiff, Nat.reduceEqDiff, and_self, and_false, false_and, if_true, if_false, am_nb, am_nb0, am_nb1, am_lc1, am_lc2, am_lc3, am_b0, am_b1, am_10, am_c8, am_c16, am_c24, am_c32, am_c40, am_c48, am_c56, am_c64, am_c72, Nat.add_zero, Bool.false_eq_true, Nat.zero_le, hk1, e17, e18, hB]
      exact tail _ _ (by rw [e17]; rfl) e18.symm hlt
/-- what the model's law writes behind reading -/
def fLm (a b : Nat) : Prop := jH 64 a b ∨ a = 60 ∨ (a = 54 ∧ b = 6)
theorem lawM (hS : MS N ru c ν) (hs : Sim N S (am_I ν 55)) (hB : pB ν) (ht : t ≤ 80) (h40 : g = none ∨ t ≤ 40) (hb : ∀ i, i < 80 → ∃ q : Nat, q < 256 ∧ am_I ν 56 i = nI q - 128) (hr : rdR (chM (am_I ν 56) t 40) t = .inr g)
    (hK : ∀ ξ, Fw fLm ν ξ → MS N ru c ξ → (∀ i, i < 40 → ∃ q : Nat, q < 256 ∧ am_I ξ 60 i = nI q - 128) → am_I ξ 54 6 = 2 → am_L ξ 57 0 = (itS (dayC N g) 60 S 81 - S 81).toInt64 → am_L ξ 57 1 = (itS (dayC N ru) 60 S 81 - S 81).toInt64 → (∀ i, am_L ξ 53 i = am_L ν 53 i) → K (some (.int ((itS (dayC N g) 60 S 81 - S 81) - (itS (dayC N ru) 60 S 81 - S 81)))) ξ) :
    am_Wp (d + 200) mX3_law 26 [.ref 54, .int (nI t), am_F, am_F, am_F, am_F] [] ν K := by
  have hmu := hS.1.1
  unfold mL at hmu
  have hk0 := hmu.1.1
  have htt : t ≤ 40 := by
    rcases h40 with z | z
    · subst z
      unfold rdR at hr
      split at hr
      · omega
      · split at hr
        · cases hr
        · split at hr
          · cases hr
          · cases hr
    · exact z
  simp only [gX3_law_26, gX3_law_27, am_kill_int, am_kill_ref, am_kill_null, am_kill_F, am_kill_long, am_cat_n, am_cat_i, am_cat_r, am_cat_0, am_cat_l, am_nr_n, am_nr_i, am_nr_r, am_nr_0, am_nr_l, Option.toList_some, Option.toList_none, List.nil_append, List.cons_append, va_rf_s, va_rf_n, am_I_sR, am_I_sL, am_R_sI, am_R_sL, am_L_sI, am_L_sR, am_k_sI, am_k_sR, am_k_sL, am_n_sI, am_n_sR, am_n_sL, true_and, and_true, true_or, or_true, or_false, false_or, not_true_eq_false, not_false_eq_true, Nat.reduceLT, am_dS, am_dP, am_d1, Nat.reduceSub, Nat.reduceMul, ne_eq, Nat.reduceBEq, Nat.reduceAdd, Nat.reduceLeDiff, Nat.reduceEqDiff, and_self, and_false, false_and, if_true, if_false, am_nb, am_nb0, am_nb1, am_lc1, am_lc2, am_lc3, am_b0, am_b1, am_10, am_c8, am_c16, am_c24, am_c32, am_c40, am_c48, am_c56, am_c64, am_c72, Nat.add_zero, Bool.false_eq_true, Nat.zero_le, hk0]
  refine wX3_flownIn60 (d := d + 125) hS hs (fun ν1 hF1 hS1 => ?_)
  generalize hw : itS (dayC N ru) 60 S 81 - S 81 = wv
  rw [hw] at hK
  have hm1 := hS1.1.1
  unfold mL at hm1
  have r14 : am_R ν1 54 14 = some 59 := (hF1.2.1 54 14 (by omega) (by omega)).trans hB.1
  have r15 : am_R ν1 54 15 = some 60 := (hF1.2.1 54 15 (by omega) (by omega)).trans hB.2.1
  have l60 : 60 < am_B := by decide
  have l59 : 59 < am_B := by decide
  have e16 : am_I ν1 54 16 = am_I ν 54 16 := hF1.1 54 16 (by unfold jH jM; omega)
  have kk1 : am_k ν1 = am_k ν := hF1.2.2.2.1
  simp only [gX3_law_30, gX3_law_31, gX3_law_32, gX3_law_35, gX3_law_35n, gX3_law_36, gX3_law_37, gX3_law_40, gX3_law_42, gX3_law_43, gX3_law_44, gX3_law_47, gX3_law_47n, gX3_law_50, gX3_law_51, gX3_law_52, gX3_law_55, gX3_law_56, am_kill_int, am_kill_ref, am_kill_null, am_kill_F, am_kill_long, am_cat_n, am_cat_i, am_cat_r, am_cat_0, am_cat_l, am_nr_n, am_nr_i, am_nr_r, am_nr_0, am_nr_l, Option.toList_some, Option.toList_none, List.nil_append, List.cons_append, va_rf_s, va_rf_n, am_I_sR, am_I_sL, am_R_sI, am_R_sL, am_L_sI, am_L_sR, am_k_sI, am_k_sR, am_k_sL, am_n_sI, am_n_sR, am_n_sL, true_and, and_true, true_or, or_true, or_false, false_or, not_true_eq_false, not_false_eq_true, Nat.reduceLT, am_dS, am_dP, am_d1, Nat.reduceSub, Nat.reduceMul, ne_eq, Nat.reduceBEq, Nat.reduceAdd, Nat.reduceLeDiff, Nat.reduceEqDiff, and_self, and_false, false_and, if_true, if_false, am_nb, am_nb0, am_nb1, am_lc1, am_lc2, am_lc3, am_b0, am_b1, am_10, am_c8, am_c16, am_c24, am_c32, am_c40, am_c48, am_c56, am_c64, am_c72, Nat.add_zero, Bool.false_eq_true, Nat.zero_le, hm1, r14, r15, l60, e16]
  have hA1 : ∀ a b, am_I (am_sI (am_sR ν1 54 14 (some 60)) 54 16 (nI t)) a b = if a = 54 ∧ b = 16 then nI t else am_I ν1 a b := fun a b => rfl
  have hA2 : ∀ a b, am_R (am_sI (am_sR ν1 54 14 (some 60)) 54 16 (nI t)) a b = if a = 54 ∧ b = 14 then some 60 else am_R ν1 a b := fun a b => rfl
  have hA3 : am_k (am_sI (am_sR ν1 54 14 (some 60)) 54 16 (nI t)) = am_k ν1 := rfl
  have hA4 : am_L (am_sI (am_sR ν1 54 14 (some 60)) 54 16 (nI t)) = am_L ν1 := rfl
  have hA5 : am_n (am_sI (am_sR ν1 54 14 (some 60)) 54 16 (nI t)) = am_n ν1 ∧ am_c (am_sI (am_sR ν1 54 14 (some 60)) 54 16 (nI t)) = am_c ν1 ∧ am_s (am_sI (am_sR ν1 54 14 (some 60)) 54 16 (nI t)) = am_s ν1 := ⟨rfl, rfl, rfl⟩
  generalize am_sI (am_sR ν1 54 14 (some 60)) 54 16 (nI t) = ν2 at hA1 hA2 hA3 hA4 hA5 ⊢
  have hm2 : mL (am_k ν2) (am_R ν2) := by
    have h := hS1.1.1
    unfold mL at h ⊢
    rw [hA3]
    simpa (disch := omega) only [hA2, if_neg] using h
  refine am_for (N := t) (fun k ls ρ => ls = [.ref 54, .int (nI t), .int wv, .ref 59, .int (am_I ν 54 16), .int (nI k)] ∧ Fr (fun a _ => a = 60) ν2 ρ ∧ (∀ i, i < k → am_I ρ 60 i = am_I ν 56 i) ∧ ∀ i, k ≤ i → am_I ρ 60 i = am_I ν 60 i) ?_ ?_ t 0 _ _ (by omega) ⟨rfl, Fr.refl, fun i hi => absurd hi (Nat.not_lt_zero i), fun i _ => ?_⟩
  · rintro k ls ρ hk ⟨rfl, hF, y1, y2⟩ ih
    have hmρ := hF.mLk hm2
    unfold mL at hmρ
    have hlt : ¬ nI t ≤ nI k := nI_ge hk (by omega)
    have hv : vp_in (nI k) 80 := vp_in_nI (by omega) (by omega)
    have hv2 : vp_in (nI k) 40 := vp_in_nI (by omega) (by omega)
    have hck : (nI k).toNatClampNeg = k := nI_clamp (by omega)
    have r14 : am_R ρ 54 14 = some 60 := (hF.2.1 54 14 (by omega) (by omega)).trans (by rw [hA2, if_pos ⟨rfl, rfl⟩])
    have i56 : am_I ρ 56 k = am_I ν 56 k := by rw [hF.1 56 k (by show ¬ (56 = 60); decide), hA1, if_neg (by omega)]; exact hF1.1 56 k (by unfold jH jM; omega)
    obtain ⟨q1, q2, q3⟩ := hb k (by omega)
    have hby : vp_nar .byte (am_I ν 56 k) = am_I ν 56 k := by rw [q3]; exact byN ⟨q1, q2⟩
    rw [gX3_law_58]
    simp only [gX3_law_60, gX3_law_61, gX3_law_64, gX3_law_65, gX3_law_68, gX3_law_70, gX3_law_71, gX3_law_74, gX3_law_76, am_kill_int, am_kill_ref, am_kill_null, am_kill_F, am_kill_long, am_cat_n, am_cat_i, am_cat_r, am_cat_0, am_cat_l, am_nr_n, am_nr_i, am_nr_r, am_nr_0, am_nr_l, Option.toList_some, Option.toList_none, List.nil_append, List.cons_append, va_rf_s, va_rf_n, am_I_sR, am_I_sL, am_R_sI, am_R_sL, am_L_sI, am_L_sR, am_k_sI, am_k_sR, am_k_sL, am_n_sI, am_n_sR, am_n_sL, true_and, and_true, true_or, or_true, or_false, false_or, not_true_eq_false, not_false_eq_true, Nat.reduceLT, am_dS, am_dP, am_d1, Nat.reduceSub, Nat.reduceMul, ne_eq, Nat.reduceBEq, Nat.reduceAdd, Nat.reduceLeDiff, Nat.reduceEqDiff, and_self, and_false, false_and, if_true, if_false, am_nb, am_nb0, am_nb1, am_lc1, am_lc2, am_lc3, am_b0, am_b1, am_10, am_c8, am_c16, am_c24, am_c32, am_c40, am_c48, am_c56, am_c64, am_c72, Nat.add_zero, Bool.false_eq_true, Nat.zero_le, hmρ, hlt, r14, hv, hck, i56]
    rw [gX3_law_77 (by rw [hmρ.1.2.2.2.2.2.2.1]) (by rw [hmρ.1.2.2.2.2.2.2.1]; exact hv2), hby, hck]
    simp only [gX3_law_78, gX3_law_81, am_kill_int, am_kill_ref, am_kill_null, am_kill_F, am_kill_long, am_cat_n, am_cat_i, am_cat_r, am_cat_0, am_cat_l, am_nr_n, am_nr_i, am_nr_r, am_nr_0, am_nr_l, Option.toList_some, Option.toList_none, List.nil_append, List.cons_append, va_rf_s, va_rf_n, am_I_sR, am_I_sL, am_R_sI, am_R_sL, am_L_sI, am_L_sR, am_k_sI, am_k_sR, am_k_sL, am_n_sI, am_n_sR, am_n_sL, true_and, and_true, true_or, or_true, or_false, false_or, not_true_eq_false, not_false_eq_true, Nat.reduceLT, am_dS, am_dP, am_d1, Nat.reduceSub, Nat.reduceMul, ne_eq, Nat.reduceBEq, Nat.reduceAdd, Nat.reduceLeDiff, Nat.reduceEqDiff, and_self, and_false, false_and, if_true, if_false, am_nb, am_nb0, am_nb1, am_lc1, am_lc2, am_lc3, am_b0, am_b1, am_10, am_c8, am_c16, am_c24, am_c32, am_c40, am_c48, am_c56, am_c64, am_c72, Nat.add_zero, Bool.false_eq_true, Nat.zero_le, nI_1]
    refine ih _ _ ⟨rfl, Fr.I hF rfl, fun i hi => ?_, fun i hi => ?_⟩
    · by_cases f : i = k
      · subst f; rw [am_I_sI, if_pos ⟨rfl, rfl⟩]
      · rw [am_I_sI, if_neg (by omega)]; exact y1 i (by omega)
    · rw [am_I_sI, if_neg (by omega)]; exact y2 i (by omega)
  · rintro ls ρ ⟨rfl, hF, y1, y2⟩
    have hmρ0 := hF.mLk hm2
    have hmρ := hmρ0
    unfold mL at hmρ
    have k17 : am_I ρ 54 17 = 0 := by rw [hF.1 54 17 (by decide), hA1, if_neg (by omega)]; exact hS1.2.1.1.1
    have r14 : am_R ρ 54 14 = some 60 := (hF.2.1 54 14 (by omega) (by omega)).trans (by rw [hA2, if_pos ⟨rfl, rfl⟩])
    have hb60 : ∀ i, i < 40 → ∃ q : Nat, q < 256 ∧ am_I ρ 60 i = nI q - 128 := fun i hi => by
      by_cases f : i < t
      · rw [y1 i f]; exact hb i (by omega)
      · rw [y2 i (by omega)]; exact hB.2.2 60 i (Or.inr rfl) hi
    have hSg : MS N g c ρ := ⟨⟨hmρ0, by rw [hF.1 54 1 (by decide), hA1, if_neg (by omega)]; exact hS1.1.2.1, hS1.1.2.2.1, by rw [hF.1 54 2 (by decide), hA1, if_neg (by omega)]; exact hS1.1.2.2.2⟩, ruM_of (T := am_I ν 56) (gh := 60) (by simp only [hmρ]) k17 (Or.inr rfl) r14 (by simp only [hmρ]) (by rw [hF.1 54 16 (by decide), hA1, if_pos ⟨rfl, rfl⟩]) hb60 y1 hr h40, rdR_8 hr⟩
    have r55 : am_I ρ 55 = am_I ν 55 := funext fun b => by rw [hF.1 55 b (by show ¬ (55 = 60); decide), hA1, if_neg (by omega)]; exact hF1.1 55 b (by unfold jH jM; omega)
    rw [gX3_law_58]
    simp only [gX3_law_60, gX3_law_61, gX3_law_84, gX3_law_85, am_kill_int, am_kill_ref, am_kill_null, am_kill_F, am_kill_long, am_cat_n, am_cat_i, am_cat_r, am_cat_0, am_cat_l, am_nr_n, am_nr_i, am_nr_r, am_nr_0, am_nr_l, Option.toList_some, Option.toList_none, List.nil_append, List.cons_append, va_rf_s, va_rf_n, am_I_sR, am_I_sL, am_R_sI, am_R_sL, am_L_sI, am_L_sR, am_k_sI, am_k_sR, am_k_sL, am_n_sI, am_n_sR, am_n_sL, true_and, and_true, true_or, or_true, or_false, false_or, not_true_eq_false, not_false_eq_true, Nat.reduceLT, am_dS, am_dP, am_d1, Nat.reduceSub, Nat.reduceMul, ne_eq, Nat.reduceBEq, Nat.reduceAdd, Nat.reduceLeDiff, Nat.reduceEqDiff, and_self, and_false, false_and, if_true, if_false, am_nb, am_nb0, am_nb1, am_lc1, am_lc2, am_lc3, am_b0, am_b1, am_10, am_c8, am_c16, am_c24, am_c32, am_c40, am_c48, am_c56, am_c64, am_c72, Nat.add_zero, Bool.false_eq_true, Nat.zero_le, hmρ, Int32.le_refl]
    refine wX3_flownIn60 (d := d + 125) hSg (S := S) (by rw [r55]; exact hs) (fun ν5 hF5 hS5 => ?_)
    have hm5 := hS5.1.1
    unfold mL at hm5
    simp only [gX3_law_88, gX3_law_90, gX3_law_91, gX3_law_91n, gX3_law_92, gX3_law_92n, gX3_law_95, gX3_law_96, gX3_law_98, gX3_law_101, gX3_law_102, gX3_law_103, gX3_law_106, gX3_law_107, gX3_law_109, gX3_law_110, am_kill_int, am_kill_ref, am_kill_null, am_kill_F, am_kill_long, am_cat_n, am_cat_i, am_cat_r, am_cat_0, am_cat_l, am_nr_n, am_nr_i, am_nr_r, am_nr_0, am_nr_l, Option.toList_some, Option.toList_none, List.nil_append, List.cons_append, va_rf_s, va_rf_n, am_II, am_I_sR, am_I_sL, am_R_sI, am_RR, am_R_sL, am_L_sI, am_L_sR, am_LL, am_k_sI, am_k_sR, am_k_sL, am_n_sI, am_n_sR, am_n_sL, true_and, and_true, true_or, or_true, or_false, false_or, not_true_eq_false, not_false_eq_true, Nat.reduceLT, am_dS, am_dP, am_d1, Nat.reduceSub, Nat.reduceMul, ne_eq, Nat.reduceBEq, Nat.reduceAdd, Nat.reduceLeDiff, Nat.reduceEqDiff, and_self, and_false, false_and, if_true, if_false, am_nb, am_nb0, am_nb1, am_lc1, am_lc2, am_lc3, am_b0, am_b1, am_10, am_c8, am_c16, am_c24, am_c32, am_c40, am_c48, am_c56, am_c64, am_c72, Nat.add_zero, Bool.false_eq_true, Nat.zero_le, hm5, l59, wX3_tell0]
    have hFb : Fw fLm ν (am_sI (am_sR ν5 54 14 (some 59)) 54 16 (am_I ν 54 16)) := by
      have hle : ∀ a b, ¬ fLm a b → ¬ jH 64 a b ∧ a ≠ 60 := fun a b z => ⟨fun w => z (Or.inl w), fun w => z (Or.inr (Or.inl w))⟩
      refine ⟨fun a b z => ?_, fun a b z z2 => ?_, fun a b z z2 => ?_, ?_, ?_, ?_, ?_⟩
      · by_cases e : a = 54 ∧ b = 16
        · obtain ⟨rfl, rfl⟩ := e
          rw [am_I_sI, if_pos ⟨rfl, rfl⟩]
        · rw [am_I_sI, if_neg e, am_I_sR, hF5.1 a b (hle a b z).1, hF.1 a b (hle a b z).2, hA1, if_neg e]
          exact hF1.1 a b (hle a b z).1
      · by_cases e : a = 54 ∧ b = 14
        · obtain ⟨rfl, rfl⟩ := e
          rw [am_R_sI, am_RR, if_pos ⟨rfl, rfl⟩]; exact hB.1.symm
        · rw [am_R_sI, am_RR, if_neg e, hF5.2.1 a b z z2, hF.2.1 a b z z2, hA2, if_neg e]
          exact hF1.2.1 a b z z2
      · rw [am_L_sI, am_L_sR, hF5.L, hF.L, hA4, hF1.L]
      · show am_k ν5 = _; rw [hF5.2.2.2.1, hF.2.2.2.1, hA3, kk1]
      · show am_n ν5 = _; rw [hF5.2.2.2.2.1, hF.2.2.2.2.1, hA5.1, hF1.2.2.2.2.1]
      · show am_c ν5 = _; rw [hF5.2.2.2.2.2.1, hF.2.2.2.2.2.1, hA5.2.1, hF1.2.2.2.2.2.1]
      · show am_s ν5 = _; rw [hF5.2.2.2.2.2.2, hF.2.2.2.2.2.2, hA5.2.2, hF1.2.2.2.2.2.2]
    simp only [gX3_law_113, gX3_law_114, gX3_law_115, gX3_law_116, gX3_law_119, gX3_law_121, gX3_law_122, gX3_law_123, am_kill_int, am_kill_ref, am_kill_null, am_kill_F, am_kill_long, am_cat_n, am_cat_i, am_cat_r, am_cat_0, am_cat_l, am_nr_n, am_nr_i, am_nr_r, am_nr_0, am_nr_l, Option.toList_some, Option.toList_none, List.nil_append, List.cons_append, va_rf_s, va_rf_n, am_II, am_I_sR, am_I_sL, am_R_sI, am_RR, am_R_sL, am_L_sI, am_L_sR, am_LL, am_k_sI, am_k_sR, am_k_sL, am_n_sI, am_n_sR, am_n_sL, true_and, and_true, true_or, or_true, or_false, false_or, not_true_eq_false, not_false_eq_true, Nat.reduceLT, am_dS, am_dP, am_d1, Nat.reduceSub, Nat.reduceMul, ne_eq, Nat.reduceBEq, Nat.reduceAdd, Nat.reduceLeDiff, Nat.reduceEqDiff, and_self, and_false, false_and, if_true, if_false, am_nb, am_nb0, am_nb1, am_lc1, am_lc2, am_lc3, am_b0, am_b1, am_10, am_c8, am_c16, am_c24, am_c32, am_c40, am_c48, am_c56, am_c64, am_c72, Nat.add_zero, Bool.false_eq_true, Nat.zero_le, hm5, wX3_tell1]
    have n17 : ∀ ξ, Fw fLm ν ξ → am_I ξ 54 17 = 0 → MS N ru c ξ := fun ξ hf h17 => by
      refine ⟨hS.1.fw hf (fun a b z => by unfold fLm jH jM at z; omega), ⟨⟨h17, by rw [hf.2.2.2.1]; exact hS.2.1.1.2⟩, ?_⟩, hS.2.2⟩
      have hru := hS.2.1.2
      cases ru with
      | none => exact (hf.1 54 16 (by unfold fLm jH jM; omega)).trans hru
      | some f =>
        obtain ⟨n, gg, w1, w2, w3, w4, w5, w6, w7, w8⟩ := hru
        have e59 : gg = 59 := by rw [hB.1] at w1; cases w1; rfl
        subst e59
        have eg : am_I ξ 59 = am_I ν 59 := funext fun b => hf.1 59 b (by unfold fLm jH jM; omega)
        exact ⟨n, 59, (hf.2.1 54 14 (by omega) (by omega)).trans w1, w2, by rw [hf.2.2.2.1]; exact w3, w4, w5, (hf.1 54 16 (by unfold fLm jH jM; omega)).trans w6, by rw [eg]; exact w7, by rw [eg]; exact w8⟩
    have hFf := (((((hFb.I (v := 0) (show fLm 54 6 from Or.inr (Or.inr ⟨rfl, rfl⟩))).L (a := 57) (b := 0) (p := (itS (dayC N g) 60 S 81 - S 81).toInt64) (Or.inr rfl)).I (v := 1) (show fLm 54 6 from Or.inr (Or.inr ⟨rfl, rfl⟩))).L (a := 57) (b := 1) (p := wv.toInt64) (Or.inr rfl)).I (v := 2) (show fLm 54 6 from Or.inr (Or.inr ⟨rfl, rfl⟩)))
    refine hK _ hFf (n17 _ hFf ?_) (fun i hi => ?_) ?_ ?_ ?_ (fun i => ?_)
    · simp only [am_II, am_I_sL, am_I_sR, Nat.reduceEqDiff, and_false, if_false]; exact hS5.2.1.1.1
    · obtain ⟨q1, q2, q3⟩ := hb60 i hi
      refine ⟨q1, q2, ?_⟩
      simp only [am_II, am_I_sL, am_I_sR, Nat.reduceEqDiff, false_and, if_false]
      rw [hF5.1 60 i (by unfold jH jM; omega)]; exact q3
    · simp only [am_II, and_self, if_true]
    · simp only [am_L_sI, am_LL, and_self, if_true, Nat.reduceEqDiff, and_false, if_false]
    · simp only [am_L_sI, am_LL, and_self, if_true]
    · simp only [am_L_sI, am_L_sR, am_LL, Nat.reduceEqDiff, false_and, if_false]; rw [hF5.L, hF.L, hA4, hF1.L]
  · rw [hA1, if_neg (by omega)]; exact hF1.1 60 i (by unfold jH jM; omega)
theorem lwE : ∀ b : Fin 41, (-1 - nI b.val < 0) ∧ -1 - nI b.val + 1 - 10000 = -10000 - nI b.val := by decide
theorem op_law (hq : q ≤ 100) (hI : Inv q μ) : OP q mX1_law mX3_law [.ref 0, am_F, am_F, am_F, am_F] [.ref 54, am_F, am_F, am_F, am_F, am_F] μ := by
  intro d
  have hI' := hI
  obtain ⟨⟨N, C, ru, c, hP⟩, ⟨t, t1, t2, t3⟩, hRow, b1, b2, b3, b4⟩ := hI
  have hC := hP.1.1
  have hk0 := hC.1.c
  have hS := hP.1.2.1
  have hst : stL μ := hP.1.2.2.1
  have hpt : pTx μ := hP.2.2.2.1
  have hpB : pB μ := hP.2.2.2.2.1
  have hn0 : 78 ≤ am_n μ := hP.2.2.2.2.2.2.2.2.2
  have hsim : Sim N (cS μ 1) (am_I μ 55) := hP.2.1
  have hBB : am_B = 1000000 := rfl
  have o10 : ¬ (1 : Int32) = 0 := by decide
  have n00 : ¬ (0 : Int32) < 0 := by decide
  have hmod : ∀ ν, RD μ ν → ∀ a b, 54 ≤ a → a < 78 → am_I ν a b = am_I μ a b := fun ν hf a b z1 z2 => hf.1 a b (Or.inl (by omega)) (by omega)
  have hLL : ∀ ν, RD μ ν → ∀ i, am_L ν 53 i = am_L μ 53 i ∧ am_L ν 57 i = am_L μ 57 i := fun ν hf i => ⟨hf.2.2.1 53 i (Or.inl (by omega)), hf.2.2.1 57 i (Or.inl (by omega))⟩
  have hCC : ∀ ν, RD μ ν → CC N ru c ν := fun ν hf => by
    have hf0 : RG fR 40 μ ν := hf.rg fun b z => by unfold fR; omega
    refine ⟨hf0.cL hn0 hC.1, (hf.1 0 2 (Or.inl (by omega)) (by omega)).trans hC.2.1, hC.2.2.1, (hf.1 0 3 (Or.inl (by omega)) (by omega)).trans hC.2.2.2.1, ?_⟩
    have e17 : am_R ν 0 17 = am_R μ 0 17 := hf.2.1 0 17 (Or.inl (by omega)) (by omega)
    have hru := hC.2.2.2.2
    cases ru with
    | none => exact e17.trans hru
    | some f => obtain ⟨a, y1, y2⟩ := hru; exact ⟨a, e17.trans y1, y2.mono (hf0.node fun a b z => by unfold fR at z; omega)⟩
  -- the model's first steps, behind the component
  have mdl : ∀ (ν : am_M) (K : Option Value → am_M → Prop), RG fR 40 μ ν → am_I ν 0 6 = 0 → (∀ a b, 54 ≤ a → a < 78 → am_I ν a b = am_I μ a b) → (∀ b', b' ≤ 40 → rdR (chM (am_I μ 56) t 40) t = .inl b' → ∀ ξ, Fr (fun a b => fRM a b ∨ (a = 54 ∧ b = 7)) ν ξ → am_I ξ 54 4 = 0 → am_I ξ 54 17 = 0 → K (some (.int (-10000 - nI b'))) ξ) →
      (∀ g, rdR (chM (am_I μ 56) t 40) t = .inr g → ∀ ξ, Fr (fun a b => fRM a b ∨ (a = 54 ∧ b = 7)) ν ξ → am_I ξ 54 4 = 0 → am_I ξ 54 17 = 0 → am_Wp (d + 200) mX3_law 26 [.ref 54, .int (nI t), am_F, am_F, am_F, am_F] [] ξ K) → am_Wp (d + 200) mX3_law 0 [.ref 54, am_F, am_F, am_F, am_F, am_F] [] ν K := fun ν K hf e6 hmo h1 h2 => by
    have hf2 : RG fR 40 μ (am_sI ν 54 7 0) := hf.trans ((Fw.I Fw.refl rfl : Fw (fun a b => (a, b) = (54, 7)) ν (am_sI ν 54 7 0)).rg fun a b z => by cases z; unfold fR; omega) (Nat.le_refl _)
    have r56 : am_I (am_sI ν 54 7 0) 56 = am_I μ 56 := (am_row_o (by decide)).trans (funext fun b => hmo 56 b (by omega) (by omega))
    have hm : mL (am_k (am_sI ν 54 7 0)) (am_R (am_sI ν 54 7 0)) := hf2.mL hn0 hS.1.1
    have hp4 : pTx (am_sI ν 54 7 0) := fun i hi => by
      rw [r56, hf2.1 23 i (Or.inl (by omega)) (by unfold fR; omega)]; exact hpt i hi
    have e4 : am_I (am_sI ν 54 7 0) 54 4 = nI t := by rw [am_I_sI, if_neg (by omega), hmo 54 4 (by omega) (by omega)]; exact t3
    have hk54 : am_k ν 54 = (2, 0) := (hf.2.2.2.1 54 (Or.inl (by omega))).trans (by have := hS.1.1; unfold mL at this; exact this.1.1)
    have hF7 : Fr (fun a b => fRM a b ∨ (a = 54 ∧ b = 7)) ν (am_sI ν 54 7 0) := Fr.I Fr.refl (Or.inr ⟨rfl, rfl⟩)
    simp only [gX3_law_0, gX3_law_1, gX3_law_2, am_kill_int, am_kill_ref, am_kill_null, am_kill_F, am_kill_long, am_cat_n, am_cat_i, am_cat_r, am_cat_0, am_cat_l, am_nr_n, am_nr_i, am_nr_r, am_nr_0, am_nr_l, Option.toList_some, Option.toList_none, List.nil_append, List.cons_append, va_rf_s, va_rf_n, am_I_sR, am_I_sL, am_R_sI, am_R_sL, am_L_sI, am_L_sR, am_k_sI, am_k_sR, am_k_sL, am_n_sI, am_n_sR, am_n_sL, true_and, and_true, true_or, or_true, or_false, false_or, not_true_eq_false, not_false_eq_true, Nat.reduceLT, am_dS, am_dP, am_d1, Nat.reduceSub, Nat.reduceMul, ne_eq, Nat.reduceBEq, Nat.reduceAdd, Nat.reduceLeDiff, Nat.reduceEqDiff, and_self, and_false, false_and, if_true, if_false, am_nb, am_nb0, am_nb1, am_lc1, am_lc2, am_lc3, am_b0, am_b1, am_10, am_c8, am_c16, am_c24, am_c32, am_c40, am_c48, am_c56, am_c64, am_c72, Nat.add_zero, Bool.false_eq_true, Nat.zero_le, hk54]
    generalize am_sI ν 54 7 0 = ν4 at hf2 r56 hm hp4 e4 hF7 ⊢
    have hm4 := hm
    unfold mL at hm4
    rw [gX3_law_5]
    simp only [gX3_law_6, gX3_law_9, gX3_law_10, gX3_law_11, am_kill_int, am_kill_ref, am_kill_null, am_kill_F, am_kill_long, am_cat_n, am_cat_i, am_cat_r, am_cat_0, am_cat_l, am_nr_n, am_nr_i, am_nr_r, am_nr_0, am_nr_l, Option.toList_some, Option.toList_none, List.nil_append, List.cons_append, va_rf_s, va_rf_n, am_I_sR, am_I_sL, am_R_sI, am_R_sL, am_L_sI, am_L_sR, am_k_sI, am_k_sR, am_k_sL, am_n_sI, am_n_sR, am_n_sL, true_and, and_true, true_or, or_true, or_false, false_or, not_true_eq_false, not_false_eq_true, Nat.reduceLT, am_dS, am_dP, am_d1, Nat.reduceSub, Nat.reduceMul, ne_eq, Nat.reduceBEq, Nat.reduceAdd, Nat.reduceLeDiff, Nat.reduceEqDiff, and_self, and_false, false_and, if_true, if_false, am_nb, am_nb0, am_nb1, am_lc1, am_lc2, am_lc3, am_b0, am_b1, am_10, am_c8, am_c16, am_c24, am_c32, am_c40, am_c48, am_c56, am_c64, am_c72, Nat.add_zero, Bool.false_eq_true, Nat.zero_le, hm4, e4]
    refine wX3_readRule (d := d + 119) hm hp4 t1 e4 (fun b' ξ z1 z2 z3 z4 z5 z6 => ?_) (fun g ξ z1 z2 z3 z4 => ?_)
    · rw [r56] at z2
      have hkξ : am_k ξ 54 = (2, 0) := by rw [z3.2.2.2.1]; exact hm4.1.1
      refine ⟨trivial, ?_⟩
      simp only [Option.toList_some, List.cons_append, List.nil_append, gX3_law_14, gX3_law_17, gX3_law_20, gX3_law_21, gX3_law_24, gX3_law_25, am_kill_int, am_kill_ref, am_kill_null, am_kill_F, am_kill_long, am_cat_n, am_cat_i, am_cat_r, am_cat_0, am_cat_l, am_nr_n, am_nr_i, am_nr_r, am_nr_0, am_nr_l, Option.toList_some, Option.toList_none, List.nil_append, List.cons_append, va_rf_s, va_rf_n, am_I_sR, am_I_sL, am_R_sI, am_R_sL, am_L_sI, am_L_sR, am_k_sI, am_k_sR, am_k_sL, am_n_sI, am_n_sR, am_n_sL, true_and, and_true, true_or, or_true, or_false, false_or, not_true_eq_false, not_false_eq_true, Nat.reduceLT, am_dS, am_dP, am_d1, Nat.reduceSub, Nat.reduceMul, ne_eq, Nat.reduceBEq, Nat.reduceAdd, Nat.reduceLeDiff, Nat.reduceEqDiff, and_self, and_false, false_and, if_true, if_false, am_nb, am_nb0, am_nb1, am_lc1, am_lc2, am_lc3, am_b0, am_b1, am_10, am_c8, am_c16, am_c24, am_c32, am_c40, am_c48, am_c56, am_c64, am_c72, Nat.add_zero, Bool.false_eq_true, Nat.zero_le, hkξ, z6]
      exact h1 b' z1 z2 ξ (hF7.trans (z3.le fun a b z => Or.inl z)) z4 z5
    · rw [r56] at z1
      refine ⟨trivial, ?_⟩
      simp only [Option.toList_some, List.cons_append, List.nil_append, gX3_law_14, am_kill_int, am_kill_ref, am_kill_null, am_kill_F, am_kill_long, am_cat_n, am_cat_i, am_cat_r, am_cat_0, am_cat_l, am_nr_n, am_nr_i, am_nr_r, am_nr_0, am_nr_l, Option.toList_some, Option.toList_none, List.nil_append, List.cons_append, va_rf_s, va_rf_n, am_I_sR, am_I_sL, am_R_sI, am_R_sL, am_L_sI, am_L_sR, am_k_sI, am_k_sR, am_k_sL, am_n_sI, am_n_sR, am_n_sL, true_and, and_true, true_or, or_true, or_false, false_or, not_true_eq_false, not_false_eq_true, Nat.reduceLT, am_dS, am_dP, am_d1, Nat.reduceSub, Nat.reduceMul, ne_eq, Nat.reduceBEq, Nat.reduceAdd, Nat.reduceLeDiff, Nat.reduceEqDiff, and_self, and_false, false_and, if_true, if_false, am_nb, am_nb0, am_nb1, am_lc1, am_lc2, am_lc3, am_b0, am_b1, am_10, am_c8, am_c16, am_c24, am_c32, am_c40, am_c48, am_c56, am_c64, am_c72, Nat.add_zero, Bool.false_eq_true, Nat.zero_le, o10]
      exact h2 g z1 ξ (hF7.trans (z2.le fun a b z => Or.inl z)) z3 z4
  have ruOld : ∀ ξ, RG fR 60 μ ξ → am_R ξ 0 17 = am_R μ 0 17 → am_I ξ 54 17 = 0 → am_R ξ 54 14 = some 59 → am_I ξ 54 16 = am_I μ 54 16 → am_I ξ 59 = am_I μ 59 → ruC ξ ru ∧ ruM ξ ru := fun ξ hf e17 z17 e14 e16 e59 => by
    refine ⟨?_, ⟨z17, by rw [hf.2.2.2.1 61 (Or.inl (by omega))]; exact hS.2.1.1.2⟩, ?_⟩
    · have hru := hC.2.2.2.2
      cases ru with
      | none => exact e17.trans hru
      | some f => obtain ⟨a, y1, y2⟩ := hru; exact ⟨a, e17.trans y1, y2.mono (hf.node fun a b z => by unfold fR at z; omega)⟩
    · have hru := hS.2.1.2
      cases ru with
      | none => exact e16.trans hru
      | some f =>
        obtain ⟨n, gg, w1, w2, w3, w4, w5, w6, w7, w8⟩ := hru
        have eg : gg = 59 := by rw [hpB.1] at w1; cases w1; rfl
        subst eg
        exact ⟨n, 59, e14, w2, by rw [hf.2.2.2.1 59 (Or.inl (by omega))]; exact w3, w4, w5, e16.trans w6, by rw [e59]; exact w7, by rw [e59]; exact w8⟩
  rw [gX1_law_0, gX1_law_1]
  refine ⟨⟨by decide, by rw [hk0]⟩, Nat.succ_pos _, ?_⟩
  refine wX1_readsRule (d := d + 65) hC hst hpt t1 t2 ⟨hn0, by omega⟩ (fun b ν hb40 hr hD h6 => ?_) (fun g ν hr hD h6 hrk h40 => ?_)
  · obtain ⟨q1, q2⟩ := lwE ⟨b, by omega⟩
    simp only at q1 q2
    refine ⟨trivial, ?_⟩
    simp only [Option.toList_some, List.cons_append, List.nil_append, gX1_law_4, gX1_law_5, gX1_law_6, gX1_law_9, gX1_law_10, gX1_law_11, gX1_law_12, gX1_law_15, gX1_law_16, am_kill_int, am_kill_ref, am_kill_null, am_kill_F, am_kill_long, am_cat_n, am_cat_i, am_cat_r, am_cat_0, am_cat_l, am_nr_n, am_nr_i, am_nr_r, am_nr_0, am_nr_l, Option.toList_some, Option.toList_none, List.nil_append, List.cons_append, va_rf_s, va_rf_n, am_II, am_I_sR, am_I_sL, am_R_sI, am_RR, am_R_sL, am_L_sI, am_L_sR, am_LL, am_k_sI, am_k_sR, am_k_sL, am_n_sI, am_n_sR, am_n_sL, true_and, and_true, true_or, or_true, or_false, false_or, not_true_eq_false, not_false_eq_true, Nat.reduceLT, am_dS, am_dP, am_d1, Nat.reduceSub, Nat.reduceMul, ne_eq, Nat.reduceBEq, Nat.reduceAdd, Nat.reduceLeDiff, Nat.reduceEqDiff, and_self, and_false, false_and, if_true, if_false, am_nb, am_nb0, am_nb1, am_lc1, am_lc2, am_lc3, am_b0, am_b1, am_10, am_c8, am_c16, am_c24, am_c32, am_c40, am_c48, am_c56, am_c64, am_c72, Nat.add_zero, Bool.false_eq_true, Nat.zero_le, Int32.not_le.mpr q1, q2]
    refine ⟨_, rfl, ?_⟩
    have hf0 : RG fR 40 μ ν := hD.rg fun b z => by unfold fR; omega
    refine mdl ν _ hf0 h6 (hmod ν hD) (fun b' z1 z2 ξ z3 z4 z5 => ?_) (fun g z1 ξ z2 z3 z4 => ?_)
    · rw [hr] at z2
      have ebb : b = b' := by injection z2
      subst ebb
      have hfx : RG fR 60 μ ξ := hf0.trans (z3.toW.rg (F := fR) fun a b z => by unfold fRM at z; unfold fR; omega) (by omega)
      have oth : ∀ a b, ¬ (fRM a b ∨ (a = 54 ∧ b = 7)) → am_I ξ a b = am_I ν a b := fun a b z => z3.1 a b z
      obtain ⟨w1, w2⟩ := ruOld ξ hfx ((z3.2.1 0 17 (by omega) (by omega)).trans (hD.2.1 0 17 (Or.inl (by omega)) (by omega))) z5 ((z3.2.1 54 14 (by omega) (by omega)).trans ((hD.2.1 54 14 (Or.inl (by omega)) (by omega)).trans hpB.1)) ((oth 54 16 (by unfold fRM; omega)).trans (hmod ν hD 54 16 (by omega) (by omega))) (funext fun i => (oth 59 i (by unfold fRM; omega)).trans (hmod ν hD 59 i (by omega) (by omega)))
      refine ⟨rfl, inv_R hI' hP hfx z5 w1 w2 hS.2.2 ⟨(z3.2.1 54 14 (by omega) (by omega)).trans ((hD.2.1 54 14 (Or.inl (by omega)) (by omega)).trans hpB.1), (z3.2.1 54 15 (by omega) (by omega)).trans ((hD.2.1 54 15 (Or.inl (by omega)) (by omega)).trans hpB.2.1), fun gg i y1 y2 => ?_⟩ ⟨0, by omega, (oth 0 6 (by unfold fRM; omega)).trans h6, z4⟩ (hfx.row0 hn0 (fun i => ⟨by rw [z3.L]; exact (hLL ν hD i).1, by rw [z3.L]; exact (hLL ν hD i).2⟩) ((oth 0 40 (by unfold fRM; omega)).trans (hD.1 0 40 (Or.inl (by omega)) (by omega))) ((oth 54 6 (by unfold fRM; omega)).trans (hmod ν hD 54 6 (by omega) (by omega))) hRow)⟩
      rw [oth gg i (by unfold fRM; omega), hmod ν hD gg i (by omega) (by omega)]
      exact hpB.2.2 gg i y1 y2
    · rw [hr] at z1; cases z1
  · have hkν : am_k ν 0 = (0, 0) := (hD.2.2.2.1 0 (Or.inl (by omega))).trans hk0
    have hf0 : RG fR 40 μ ν := hD.rg fun b z => by unfold fR; omega
    have hS1 : cS ν 1 = cS μ 1 := hf0.cS (by omega) fun a b z z3 => by unfold fR at z; unfold inSp at z3; omega
    refine ⟨trivial, ?_⟩
    simp only [Option.toList_some, List.cons_append, List.nil_append, gX1_law_4, gX1_law_5, gX1_law_6, am_kill_int, am_kill_ref, am_kill_null, am_kill_F, am_kill_long, am_cat_n, am_cat_i, am_cat_r, am_cat_0, am_cat_l, am_nr_n, am_nr_i, am_nr_r, am_nr_0, am_nr_l, Option.toList_some, Option.toList_none, List.nil_append, List.cons_append, va_rf_s, va_rf_n, am_II, am_I_sR, am_I_sL, am_R_sI, am_RR, am_R_sL, am_L_sI, am_L_sR, am_LL, am_k_sI, am_k_sR, am_k_sL, am_n_sI, am_n_sR, am_n_sL, true_and, and_true, true_or, or_true, or_false, false_or, not_true_eq_false, not_false_eq_true, Nat.reduceLT, am_dS, am_dP, am_d1, Nat.reduceSub, Nat.reduceMul, ne_eq, Nat.reduceBEq, Nat.reduceAdd, Nat.reduceLeDiff, Nat.reduceEqDiff, and_self, and_false, false_and, if_true, if_false, am_nb, am_nb0, am_nb1, am_lc1, am_lc2, am_lc3, am_b0, am_b1, am_10, am_c8, am_c16, am_c24, am_c32, am_c40, am_c48, am_c56, am_c64, am_c72, Nat.add_zero, Bool.false_eq_true, Nat.zero_le, Int32.le_refl]
    refine lawC (d := d) (hCC ν hD) hrk ⟨Nat.le_trans hn0 hD.2.2.2.2.1.1, by have := hD.2.2.2.2.1.2; omega⟩ (fun ξ1 g1 g2 g3 g4 g5 => ?_)
    rw [hS1] at g3 g4 ⊢
    refine ⟨_, rfl, ?_⟩
    have hf1 : RG fR 40 μ ξ1 := hf0.trans (g1.rg (F := fR) fun a b z => by unfold fLc jS inSp jO at z; unfold fR; omega) (Nat.le_refl _)
    have o1 : ∀ a b, ¬ fLc a b → am_I ξ1 a b = am_I ν a b := fun a b z => g1.1 a b z
    have hmod1 : ∀ a b, 54 ≤ a → a < 78 → am_I ξ1 a b = am_I μ a b := fun a b z1 z2 => (o1 a b (by unfold fLc jS inSp jO; omega)).trans (hmod ν hD a b z1 z2)
    refine mdl ξ1 _ hf1 ((o1 0 6 (by unfold fLc jS inSp jO; omega)).trans h6) hmod1 (fun b' z1 z2 ξ z3 z4 z5 => by rw [hr] at z2; cases z2) (fun g' z1 ξ z2 z3 z4 => ?_)
    rw [hr] at z1
    have egg : g = g' := by injection z1
    subst egg
    have oth : ∀ a b, ¬ (fRM a b ∨ (a = 54 ∧ b = 7)) → am_I ξ a b = am_I ξ1 a b := fun a b z => z2.1 a b z
    have hfx : RG fR 50 μ ξ := hf1.trans (z2.toW.rg (F := fR) fun a b z => by unfold fRM at z; unfold fR; omega) (by omega)
    have e14 : am_R ξ 54 14 = some 59 := (z2.2.1 54 14 (by omega) (by omega)).trans ((g1.2.1 54 14 (by omega) (by omega)).trans ((hD.2.1 54 14 (Or.inl (by omega)) (by omega)).trans hpB.1))
    have e15 : am_R ξ 54 15 = some 60 := (z2.2.1 54 15 (by omega) (by omega)).trans ((g1.2.1 54 15 (by omega) (by omega)).trans ((hD.2.1 54 15 (Or.inl (by omega)) (by omega)).trans hpB.2.1))
    have keepM : ∀ a b, 54 ≤ a → a < 78 → ¬ (fRM a b ∨ (a = 54 ∧ b = 7)) → am_I ξ a b = am_I μ a b := fun a b y1 y2 y3 => (oth a b y3).trans (hmod1 a b y1 y2)
    have r17 : am_R ξ 0 17 = am_R μ 0 17 := (z2.2.1 0 17 (by omega) (by omega)).trans ((g1.2.1 0 17 (by omega) (by omega)).trans (hD.2.1 0 17 (Or.inl (by omega)) (by omega)))
    obtain ⟨w1, w2⟩ := ruOld ξ (hfx.trans (RG.refl (q := 0)) (by omega)) r17 z4 e14 (keepM 54 16 (by omega) (by omega) (by unfold fRM; omega)) (funext fun i => keepM 59 i (by omega) (by omega) (by unfold fRM; omega))
    have hBx : pB ξ := ⟨e14, e15, fun gg i y1 y2 => by rw [keepM gg i (by omega) (by omega) (by unfold fRM; omega)]; exact hpB.2.2 gg i y1 y2⟩
    have hSx : MS N ru c ξ := ⟨⟨hfx.mL hn0 hS.1.1, (keepM 54 1 (by omega) (by omega) (by unfold fRM; omega)).trans hS.1.2.1, hS.1.2.2.1, (keepM 54 2 (by omega) (by omega) (by unfold fRM; omega)).trans hS.1.2.2.2⟩, w2, hS.2.2⟩
    have r55 : am_I ξ 55 = am_I μ 55 := funext fun b => keepM 55 b (by omega) (by omega) (by unfold fRM; omega)
    have r56 : am_I ξ 56 = am_I μ 56 := funext fun b => keepM 56 b (by omega) (by omega) (by unfold fRM; omega)
    refine lawM (d := d) (S := cS μ 1) hSx (by rw [r55]; exact hsim) hBx t1 h40 (fun i hi => by rw [r56]; exact (hpt i hi).2.1) (by rw [r56]; exact hr) (fun ρ y1 y2 y3 y4 y5 y6 y7 => ?_)
    have hfr : RG fR 60 μ ρ := hfx.trans (y1.rg (F := fR) fun a b z => by unfold fLm jH jM at z; unfold fR; omega) (by omega)
    have o3 : ∀ a b, ¬ fLm a b → am_I ρ a b = am_I ξ a b := fun a b z => y1.1 a b z
    have hru : ruC ρ ru := by
      have e17 : am_R ρ 0 17 = am_R ξ 0 17 := y1.2.1 0 17 (by omega) (by omega)
      cases ru with
      | none => exact e17.trans w1
      | some f => obtain ⟨a, v1, v2⟩ := w1; exact ⟨a, e17.trans v1, v2.mono (y1.node fun a b z => by unfold fLm jH jM at z; omega)⟩
    refine ⟨rfl, inv_R hI' hP hfr y2.2.1.1.1 hru y2.2.1 hS.2.2 ⟨(y1.2.1 54 14 (by omega) (by omega)).trans e14, (y1.2.1 54 15 (by omega) (by omega)).trans e15, fun gg i v1 v2 => ?_⟩ ⟨0, by omega, ?_, ?_⟩ ⟨2, by omega, ?_, y4, fun i hi => ?_⟩⟩
    · rcases v1 with v1 | v1
      · subst v1
        rw [o3 59 i (by unfold fLm jH jM; omega)]
        exact hBx.2.2 59 i (Or.inl rfl) v2
      · subst v1; exact y3 i v2
    · rw [o3 0 6 (by unfold fLm jH jM; omega), oth 0 6 (by unfold fRM; omega), o1 0 6 (by unfold fLc jS inSp jO; omega)]; exact h6
    · rw [o3 54 4 (by unfold fLm jH jM; omega)]; exact z3
    · rw [o3 0 40 (by unfold fLm jH jM; omega), oth 0 40 (by unfold fRM; omega)]; exact g2
    · rcases (by omega : i = 0 ∨ i = 1) with e | e <;> subst e
      · rw [y7, z2.L, g3, y5]
      · rw [y7, z2.L, g4, y6]
end LWV
