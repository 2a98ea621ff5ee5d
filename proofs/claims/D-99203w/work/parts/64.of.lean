/-! calls that ask: suspects, tinting -/
set_option maxRecDepth 100000
section OFV
variable {d : Nat} {μ ν ξ : am_M} {K : Option Value → am_M → Prop} {x y z c w : Int32} {h h' N C j i k r n M b q : Nat} {v : Int32} {ru : Option PF} {o o' : Nat → Int32} {S a : Nat → Int32} {p p' : Nat → Bool}
/-- the most shown, among some -/
def muF (p : Nat → Bool) (o : Nat → Int32) : Nat → Int32
  | 0 => 0
  | n + 1 => if p n = true then maI (muF p o n) (miI 999 (o n)) else muF p o n
def mvF (p : Nat → Bool) (o : Nat → Int32) : Nat → Int32
  | 0 => 0
  | n + 1 => if p n = true then maI (mvF p o n) (o n) else mvF p o n
theorem mi_ma (x y : Int32) : miI 999 (maI x y) = maI (miI 999 x) (miI 999 y) := by
  unfold miI maI
  repeat' split
  all_goals first
    | rfl
    | (simp only [Int32.lt_iff_toInt_lt] at *
       rw [← Int32.toInt_inj]
       omega)
theorem mvF_mi : ∀ {n : Nat}, (∀ j, j < n → p j = p' j ∧ (p j = true → o j = o' j)) → miI 999 (mvF p' o' n) = muF p o n
  | 0, _ => by unfold mvF muF miI; decide
  | n + 1, h => by
    have ih := mvF_mi (n := n) fun j hj => h j (by omega)
    obtain ⟨h1, h2⟩ := h n (by omega)
    unfold mvF muF
    rw [← h1]
    by_cases q : p n = true
    · rw [if_pos q, if_pos q, mi_ma, ih, h2 q]
    · rw [if_neg q, if_neg q, ih]
def vSus (N : Nat) (ru : Option PF) (S : Nat → Int32) : Int32 := orB (outB N ru S) N
def pSus (N : Nat) (ru : Option PF) (S : Nat → Int32) : Option (List Int64) := some [(bcI (orB (outB N ru S) N)).toInt64, (muF (outB N ru S) (oddS N ru S) N).toInt64]
theorem jA_qc (hf : Fr jA μ ν) : Fw sC μ ν ∧ TC μ ν none ∧ ∀ i, am_L ν 57 i = am_L μ 57 i := hf.qc fun a b h => by
  unfold jA at h
  unfold sC
  omega
theorem jA_1 (hf : Fr jA μ ν) : cS ν 1 = cS μ 1 := cS_Fr hf fun a b z1 z2 z3 => by unfold jA at z3; omega
theorem qc_suspects (hP : Per N C ru c μ) : QC mX1_suspects [.ref 0, am_F, am_F, am_F, am_F] μ (vSus N ru (cS μ 1)) (pSus N ru (cS μ 1)) := by
  intro d K hK
  have hC := hP.1.1
  have hcu := hC.1
  simp only [cL, spL, Nat.reduceAdd] at hcu
  have hN := hC.2.1
  have h8 := hC.2.2.1
  have hk := hC.1.c
  unfold vSus pSus at hK
  simp only [gX1_suspects_0, gX1_suspects_1, gX1_suspects_2, gX1_suspects_3, gX1_suspects_4, gX1_suspects_5, am_kill_int, am_kill_ref, am_kill_null, am_kill_F, am_kill_long, am_cat_n, am_cat_i, am_cat_r, am_cat_0, am_cat_l, am_nr_n, am_nr_i, am_nr_r, am_nr_0, am_nr_l, Option.toList_some, Option.toList_none, List.nil_append, List.cons_append, va_rf_s, va_rf_n, am_II, am_I_sR, am_I_sL, am_R_sI, am_RR, am_R_sL, am_L_sI, am_L_sR, am_LL, am_k_sI, am_k_sR, am_k_sL, am_n_sI, am_n_sR, am_n_sL, true_and, and_true, true_or, or_true, or_false, false_or, not_true_eq_false, not_false_eq_true, Nat.reduceLT, am_dS, am_dP, am_d1, Nat.reduceSub, Nat.reduceMul, ne_eq, Nat.reduceBEq, Nat.reduceAdd, Nat.reduceLeDiff, Nat.reduceEqDiff, and_self, and_false, false_and, if_true, if_false, am_nb, am_nb0, am_nb1, am_lc1, am_lc2, am_lc3, am_b0, am_b1, am_10, am_c8, am_c16, am_c24, am_c32, am_c40, am_c48, am_c56, am_c64, am_c72, Nat.add_zero, Bool.false_eq_true, Nat.zero_le]
  refine am_for (N := N) (fun n ls ν => (∃ z, ls = [.ref 0, .int (orB (outB N ru (cS μ 1)) n), .int (muF (outB N ru (cS μ 1)) (oddS N ru (cS μ 1)) n), .int (nI n), z]) ∧ Fr jA μ ν) ?_ ?_ N 0 _ _ (by omega) ⟨⟨_, rfl⟩, Fr.refl⟩
  · rintro n ls ν hn ⟨⟨z, rfl⟩, hF⟩ ih
    have hn8 : n < 8 := by omega
    have hlt : ¬ nI N ≤ nI n := nI_ge hn (by omega)
    have hin : vp_in (nI n) 8 := vp_in_nI (by omega) (by omega)
    have hcl : (nI n).toNatClampNeg = n := nI_clamp (by omega)
    have hC1 := hC.fr hF (fun a b q => by unfold jA at q; omega)
    have hcν := hC1.1
    simp only [cL, spL, Nat.reduceAdd] at hcν
    have hNν := hC1.2.1
    have e6 : am_I ν 8 n = cS μ 1 (48 + n) := by rw [← jA_1 hF]; exact (cS_6 hn8).symm
    have ih' := fun z ν h => ih [.ref 0, .int (orB (outB N ru (cS μ 1)) (n + 1)), .int (muF (outB N ru (cS μ 1)) (oddS N ru (cS μ 1)) (n + 1)), .int (nI (n + 1)), z] ν ⟨⟨z, rfl⟩, h⟩
    rw [gX1_suspects_6]
    by_cases h1 : cS μ 1 (48 + n) = 1
    · simp only [gX1_suspects_7, gX1_suspects_8, gX1_suspects_11, gX1_suspects_14, gX1_suspects_15, gX1_suspects_18, gX1_suspects_21, gX1_suspects_22, gX1_suspects_23, gX1_suspects_24, gX1_suspects_27, gX1_suspects_28, gX1_suspects_29, gX1_suspects_32, gX1_suspects_33, am_kill_int, am_kill_ref, am_kill_null, am_kill_F, am_kill_long, am_cat_n, am_cat_i, am_cat_r, am_cat_0, am_cat_l, am_nr_n, am_nr_i, am_nr_r, am_nr_0, am_nr_l, Option.toList_some, Option.toList_none, List.nil_append, List.cons_append, va_rf_s, va_rf_n, am_II, am_I_sR, am_I_sL, am_R_sI, am_RR, am_R_sL, am_L_sI, am_L_sR, am_LL, am_k_sI, am_k_sR, am_k_sL, am_n_sI, am_n_sR, am_n_sL, true_and, and_true, true_or, or_true, or_false, false_or, not_true_eq_false, not_false_eq_true, Nat.reduceLT, am_dS, am_dP, am_d1, Nat.reduceSub, Nat.reduceMul, ne_eq, Nat.reduceBEq, Nat.reduceAdd, Nat.reduceLeDiff, Nat.reduceEqDiff, and_self, and_false, false_and, if_true, if_false, am_nb, am_nb0, am_nb1, am_lc1, am_lc2, am_lc3, am_b0, am_b1, am_10, am_c8, am_c16, am_c24, am_c32, am_c40, am_c48, am_c56, am_c64, am_c72, Nat.add_zero, Bool.false_eq_true, Nat.zero_le, hlt, hcν, hNν, hin, hcl, e6, h1]
      refine wX1_oddOf (d := d + 132) hC1 hC1.1.s1 (by decide) (by decide) hn8 (fun ν1 hF1 => ?_)
      rw [jA_1 hF]
      by_cases h2 : 5 < oddS N ru (cS μ 1) n
      · have hp : outB N ru (cS μ 1) n = true := by unfold outB; rw [decide_eq_true h1, decide_eq_true h2]; rfl
        unfold muF at ih'
        rw [← orB_t hp, if_pos hp] at ih'
        unfold maI miI at ih'
        simp only [gX1_suspects_36, gX1_suspects_39, gX1_suspects_40, gX1_suspects_42, gX1_suspects_44, gX1_suspects_45, gX1_suspects_48, gX1_suspects_51, gX1_suspects_52, gX1_suspects_53, gX1_suspects_54, gX1_suspects_55, gX1_suspects_56, gX1_suspects_57, gX1_suspects_58, gX1_suspects_61, gX1_suspects_63, gX1_suspects_66, gX1_suspects_69, gX1_suspects_70, gX1_suspects_73, am_kill_int, am_kill_ref, am_kill_null, am_kill_F, am_kill_long, am_cat_n, am_cat_i, am_cat_r, am_cat_0, am_cat_l, am_nr_n, am_nr_i, am_nr_r, am_nr_0, am_nr_l, Option.toList_some, Option.toList_none, List.nil_append, List.cons_append, va_rf_s, va_rf_n, am_II, am_I_sR, am_I_sL, am_R_sI, am_RR, am_R_sL, am_L_sI, am_L_sR, am_LL, am_k_sI, am_k_sR, am_k_sL, am_n_sI, am_n_sR, am_n_sL, true_and, and_true, true_or, or_true, or_false, false_or, not_true_eq_false, not_false_eq_true, Nat.reduceLT, am_dS, am_dP, am_d1, Nat.reduceSub, Nat.reduceMul, ne_eq, Nat.reduceBEq, Nat.reduceAdd, Nat.reduceLeDiff, Nat.reduceEqDiff, and_self, and_false, false_and, if_true, if_false, am_nb, am_nb0, am_nb1, am_lc1, am_lc2, am_lc3, am_b0, am_b1, am_10, am_c8, am_c16, am_c24, am_c32, am_c40, am_c48, am_c56, am_c64, am_c72, Nat.add_zero, Bool.false_eq_true, Nat.zero_le, h2, nI_1]
        exact ih' _ ν1 (hF.trans hF1)
      · have hp : outB N ru (cS μ 1) n = false := by unfold outB; rw [decide_eq_false h2, Bool.and_false]
        have hp' : ¬ outB N ru (cS μ 1) n = true := by rw [hp]; decide
        unfold muF at ih'
        rw [if_neg hp'] at ih'
        have e0 : orB (outB N ru (cS μ 1)) (n + 1) = orB (outB N ru (cS μ 1)) n := by rw [← orB_f hp, Int32.or_zero]
        rw [e0] at ih'
        simp only [gX1_suspects_36, gX1_suspects_39, gX1_suspects_40, gX1_suspects_42, gX1_suspects_44, gX1_suspects_45, gX1_suspects_48, gX1_suspects_51, gX1_suspects_52, gX1_suspects_53, gX1_suspects_54, gX1_suspects_55, gX1_suspects_56, gX1_suspects_57, gX1_suspects_58, gX1_suspects_61, gX1_suspects_63, gX1_suspects_66, gX1_suspects_69, gX1_suspects_70, gX1_suspects_73, am_kill_int, am_kill_ref, am_kill_null, am_kill_F, am_kill_long, am_cat_n, am_cat_i, am_cat_r, am_cat_0, am_cat_l, am_nr_n, am_nr_i, am_nr_r, am_nr_0, am_nr_l, Option.toList_some, Option.toList_none, List.nil_append, List.cons_append, va_rf_s, va_rf_n, am_II, am_I_sR, am_I_sL, am_R_sI, am_RR, am_R_sL, am_L_sI, am_L_sR, am_LL, am_k_sI, am_k_sR, am_k_sL, am_n_sI, am_n_sR, am_n_sL, true_and, and_true, true_or, or_true, or_false, false_or, not_true_eq_false, not_false_eq_true, Nat.reduceLT, am_dS, am_dP, am_d1, Nat.reduceSub, Nat.reduceMul, ne_eq, Nat.reduceBEq, Nat.reduceAdd, Nat.reduceLeDiff, Nat.reduceEqDiff, and_self, and_false, false_and, if_true, if_false, am_nb, am_nb0, am_nb1, am_lc1, am_lc2, am_lc3, am_b0, am_b1, am_10, am_c8, am_c16, am_c24, am_c32, am_c40, am_c48, am_c56, am_c64, am_c72, Nat.add_zero, Bool.false_eq_true, Nat.zero_le, h2, nI_1]
        exact ih' _ ν1 (hF.trans hF1)
    · have hp : outB N ru (cS μ 1) n = false := by unfold outB; rw [decide_eq_false h1, Bool.false_and]
      have hp' : ¬ outB N ru (cS μ 1) n = true := by rw [hp]; decide
      unfold muF at ih'
      rw [if_neg hp'] at ih'
      have e0 : orB (outB N ru (cS μ 1)) (n + 1) = orB (outB N ru (cS μ 1)) n := by rw [← orB_f hp, Int32.or_zero]
      rw [e0] at ih'
      have z5 : ¬ (5 : Int32) < 0 := by decide
      simp only [gX1_suspects_7, gX1_suspects_8, gX1_suspects_11, gX1_suspects_14, gX1_suspects_15, gX1_suspects_18, gX1_suspects_21, gX1_suspects_22, gX1_suspects_23, gX1_suspects_24, gX1_suspects_39, gX1_suspects_40, gX1_suspects_42, gX1_suspects_44, gX1_suspects_45, gX1_suspects_48, gX1_suspects_70, gX1_suspects_73, am_kill_int, am_kill_ref, am_kill_null, am_kill_F, am_kill_long, am_cat_n, am_cat_i, am_cat_r, am_cat_0, am_cat_l, am_nr_n, am_nr_i, am_nr_r, am_nr_0, am_nr_l, Option.toList_some, Option.toList_none, List.nil_append, List.cons_append, va_rf_s, va_rf_n, am_II, am_I_sR, am_I_sL, am_R_sI, am_RR, am_R_sL, am_L_sI, am_L_sR, am_LL, am_k_sI, am_k_sR, am_k_sL, am_n_sI, am_n_sR, am_n_sL, true_and, and_true, true_or, or_true, or_false, false_or, not_true_eq_false, not_false_eq_true, Nat.reduceLT, am_dS, am_dP, am_d1, Nat.reduceSub, Nat.reduceMul, ne_eq, Nat.reduceBEq, Nat.reduceAdd, Nat.reduceLeDiff, Nat.reduceEqDiff, and_self, and_false, false_and, if_true, if_false, am_nb, am_nb0, am_nb1, am_lc1, am_lc2, am_lc3, am_b0, am_b1, am_10, am_c8, am_c16, am_c24, am_c32, am_c40, am_c48, am_c56, am_c64, am_c72, Nat.add_zero, Bool.false_eq_true, Nat.zero_le, hlt, hcν, hNν, hin, hcl, e6, h1, z5, nI_1]
      exact ih' _ ν hF
  · rintro ls ν ⟨⟨z, rfl⟩, hF⟩
    have hC1 := hC.fr hF (fun a b q => by unfold jA at q; omega)
    have hcν := hC1.1
    simp only [cL, spL, Nat.reduceAdd] at hcν
    have hNν := hC1.2.1
    obtain ⟨g1, g2, g3⟩ := jA_qc hF
    rw [gX1_suspects_6]
    simp only [gX1_suspects_7, gX1_suspects_8, gX1_suspects_11, gX1_suspects_76, gX1_suspects_77, gX1_suspects_78, gX1_suspects_81, gX1_suspects_82, gX1_suspects_83, gX1_suspects_86, gX1_suspects_87, gX1_suspects_90, gX1_suspects_91, gX1_suspects_92, gX1_suspects_93, gX1_suspects_96, gX1_suspects_97, am_kill_int, am_kill_ref, am_kill_null, am_kill_F, am_kill_long, am_cat_n, am_cat_i, am_cat_r, am_cat_0, am_cat_l, am_nr_n, am_nr_i, am_nr_r, am_nr_0, am_nr_l, Option.toList_some, Option.toList_none, List.nil_append, List.cons_append, va_rf_s, va_rf_n, am_II, am_I_sR, am_I_sL, am_R_sI, am_RR, am_R_sL, am_L_sI, am_L_sR, am_LL, am_k_sI, am_k_sR, am_k_sL, am_n_sI, am_n_sR, am_n_sL, true_and, and_true, true_or, or_true, or_false, false_or, not_true_eq_false, not_false_eq_true, Nat.reduceLT, am_dS, am_dP, am_d1, Nat.reduceSub, Nat.reduceMul, ne_eq, Nat.reduceBEq, Nat.reduceAdd, Nat.reduceLeDiff, Nat.reduceEqDiff, and_self, and_false, false_and, if_true, if_false, am_nb, am_nb0, am_nb1, am_lc1, am_lc2, am_lc3, am_b0, am_b1, am_10, am_c8, am_c16, am_c24, am_c32, am_c40, am_c48, am_c56, am_c64, am_c72, Nat.add_zero, Bool.false_eq_true, Nat.zero_le, hcν, hNν, Int32.le_refl, wJ10_bitCount, wX1_tells0, wX1_tells1]
    refine hK _ (((((g1.I (by unfold sC; omega)).L (Or.inl rfl)).I (by unfold sC; omega)).L (Or.inl rfl)).I (by unfold sC; omega)) (TC2 ?_ ?_ ?_) (fun i => ?_)
    · simp only [am_II, and_self, if_true]
    · simp only [am_L_sI, am_LL, and_self, if_true, Nat.reduceEqDiff, and_false, if_false]
    · simp only [am_L_sI, am_LL, and_self, if_true]
    · simp only [am_L_sI, am_LL, Nat.reduceEqDiff, false_and, if_false]; exact hF.L
theorem q5_suspects (hP : Per N C ru c μ) : Q5 mX3_suspects [.ref 54, am_F, am_F, am_F] μ (vSus N ru (cS μ 1)) (pSus N ru (cS μ 1)) := by
  intro d K hK
  have hS := hP.1.2.1
  have hC := hS.1
  have hmu := hC.1
  unfold mL at hmu
  have hN := hC.2.1
  have h8 := hC.2.2.1
  unfold vSus pSus at hK
  simp only [gX3_suspects_5, gX3_suspects_6, gX3_suspects_7, gX3_suspects_10, am_kill_int, am_kill_ref, am_kill_null, am_kill_F, am_kill_long, am_cat_n, am_cat_i, am_cat_r, am_cat_0, am_cat_l, am_nr_n, am_nr_i, am_nr_r, am_nr_0, am_nr_l, Option.toList_some, Option.toList_none, List.nil_append, List.cons_append, va_rf_s, va_rf_n, am_I_sR, am_I_sL, am_R_sI, am_R_sL, am_L_sI, am_L_sR, am_k_sI, am_k_sR, am_k_sL, am_n_sI, am_n_sR, am_n_sL, true_and, and_true, true_or, or_true, or_false, false_or, not_true_eq_false, not_false_eq_true, Nat.reduceLT, am_dS, am_dP, am_d1, Nat.reduceSub, Nat.reduceMul, ne_eq, Nat.reduceBEq, Nat.reduceAdd, Nat.reduceLeDiff, Nat.reduceEqDiff, and_self, and_false, false_and, if_true, if_false, am_nb, am_nb0, am_nb1, am_lc1, am_lc2, am_lc3, am_b0, am_b1, am_10, am_c8, am_c16, am_c24, am_c32, am_c40, am_c48, am_c56, am_c64, am_c72, Nat.add_zero, Bool.false_eq_true, Nat.zero_le, hmu]
  have eo : ∀ j, j < N → outB N ru (cS μ 1) j = ouM N ru (am_I μ 55) j := fun j hj => out_W hS.2.2 hP.2.1 hj
  rw [← mvF_mi (p' := ouM N ru (am_I μ 55)) (o' := oddW N ru (am_I μ 55)) (fun j hj => ⟨eo j hj, fun q => odd_W hS.2.2 hP.2.1 hj (by unfold outB at q; rw [Bool.and_eq_true, decide_eq_true_eq] at q; rw [q.1]; decide)⟩), orB_congr eo] at hK
  refine wX3_outs (d := d + 128) hS hmu.1.2.1 (fun ν0 hF0 h170 => ?_)
  simp only [gX3_suspects_13, gX3_suspects_14, gX3_suspects_15, gX3_suspects_16, gX3_suspects_17, am_kill_int, am_kill_ref, am_kill_null, am_kill_F, am_kill_long, am_cat_n, am_cat_i, am_cat_r, am_cat_0, am_cat_l, am_nr_n, am_nr_i, am_nr_r, am_nr_0, am_nr_l, Option.toList_some, Option.toList_none, List.nil_append, List.cons_append, va_rf_s, va_rf_n, am_I_sR, am_I_sL, am_R_sI, am_R_sL, am_L_sI, am_L_sR, am_k_sI, am_k_sR, am_k_sL, am_n_sI, am_n_sR, am_n_sL, true_and, and_true, true_or, or_true, or_false, false_or, not_true_eq_false, not_false_eq_true, Nat.reduceLT, am_dS, am_dP, am_d1, Nat.reduceSub, Nat.reduceMul, ne_eq, Nat.reduceBEq, Nat.reduceAdd, Nat.reduceLeDiff, Nat.reduceEqDiff, and_self, and_false, false_and, if_true, if_false, am_nb, am_nb0, am_nb1, am_lc1, am_lc2, am_lc3, am_b0, am_b1, am_10, am_c8, am_c16, am_c24, am_c32, am_c40, am_c48, am_c56, am_c64, am_c72, Nat.add_zero, Bool.false_eq_true, Nat.zero_le]
  refine am_for (N := N) (fun n ls ν => (ls = [.ref 54, .int (orB (ouM N ru (am_I μ 55)) N), .int (mvF (ouM N ru (am_I μ 55)) (oddW N ru (am_I μ 55)) n), .int (nI n)]) ∧ Fr jM μ ν ∧ am_I ν 54 17 = 0) ?_ ?_ N 0 _ _ (by omega) ⟨rfl, hF0, h170⟩
  · rintro n ls ν hn ⟨rfl, hF, h17⟩ ih
    have hn8 : n < 8 := by omega
    have hlt : ¬ nI N ≤ nI n := nI_ge hn (by omega)
    have hS1 := hS.jm hF h17
    have hmν := hS1.1.1
    unfold mL at hmν
    have hNν := hS1.1.2.1
    have ih' := fun ν h h' => ih [.ref 54, .int (orB (ouM N ru (am_I μ 55)) N), .int (mvF (ouM N ru (am_I μ 55)) (oddW N ru (am_I μ 55)) (n + 1)), .int (nI (n + 1))] ν ⟨rfl, h, h'⟩
    unfold mvF at ih'
    rw [gX3_suspects_18]
    by_cases hp : ouM N ru (am_I μ 55) n = true
    · rw [if_pos hp] at ih'
      unfold maI at ih'
      simp only [gX3_suspects_19, gX3_suspects_20, gX3_suspects_23, gX3_suspects_26, gX3_suspects_27, gX3_suspects_28, gX3_suspects_31, gX3_suspects_34, gX3_suspects_35, gX3_suspects_36, gX3_suspects_37, gX3_suspects_40, gX3_suspects_41, am_kill_int, am_kill_ref, am_kill_null, am_kill_F, am_kill_long, am_cat_n, am_cat_i, am_cat_r, am_cat_0, am_cat_l, am_nr_n, am_nr_i, am_nr_r, am_nr_0, am_nr_l, Option.toList_some, Option.toList_none, List.nil_append, List.cons_append, va_rf_s, va_rf_n, am_I_sR, am_I_sL, am_R_sI, am_R_sL, am_L_sI, am_L_sR, am_k_sI, am_k_sR, am_k_sL, am_n_sI, am_n_sR, am_n_sL, true_and, and_true, true_or, or_true, or_false, false_or, not_true_eq_false, not_false_eq_true, Nat.reduceLT, am_dS, am_dP, am_d1, Nat.reduceSub, Nat.reduceMul, ne_eq, Nat.reduceBEq, Nat.reduceAdd, Nat.reduceLeDiff, Nat.reduceEqDiff, and_self, and_false, false_and, if_true, if_false, am_nb, am_nb0, am_nb1, am_lc1, am_lc2, am_lc3, am_b0, am_b1, am_10, am_c8, am_c16, am_c24, am_c32, am_c40, am_c48, am_c56, am_c64, am_c72, Nat.add_zero, Bool.false_eq_true, Nat.zero_le, hlt, hmν, hNν, wX3_has, orB_has h8 hn, hp]
      refine wX3_oddNow (d := d + 129) hS1 hn8 hmν.1.2.1 (fun ν1 h1 h171 => ?_)
      rw [jM_row hF (by decide) (by decide)]
      simp only [gX3_suspects_44, gX3_suspects_47, gX3_suspects_48, gX3_suspects_51, am_kill_int, am_kill_ref, am_kill_null, am_kill_F, am_kill_long, am_cat_n, am_cat_i, am_cat_r, am_cat_0, am_cat_l, am_nr_n, am_nr_i, am_nr_r, am_nr_0, am_nr_l, Option.toList_some, Option.toList_none, List.nil_append, List.cons_append, va_rf_s, va_rf_n, am_I_sR, am_I_sL, am_R_sI, am_R_sL, am_L_sI, am_L_sR, am_k_sI, am_k_sR, am_k_sL, am_n_sI, am_n_sR, am_n_sL, true_and, and_true, true_or, or_true, or_false, false_or, not_true_eq_false, not_false_eq_true, Nat.reduceLT, am_dS, am_dP, am_d1, Nat.reduceSub, Nat.reduceMul, ne_eq, Nat.reduceBEq, Nat.reduceAdd, Nat.reduceLeDiff, Nat.reduceEqDiff, and_self, and_false, false_and, if_true, if_false, am_nb, am_nb0, am_nb1, am_lc1, am_lc2, am_lc3, am_b0, am_b1, am_10, am_c8, am_c16, am_c24, am_c32, am_c40, am_c48, am_c56, am_c64, am_c72, Nat.add_zero, Bool.false_eq_true, Nat.zero_le, nI_1]
      exact ih' ν1 (hF.trans h1) h171
    · rw [if_neg hp] at ih'
      simp only [gX3_suspects_19, gX3_suspects_20, gX3_suspects_23, gX3_suspects_26, gX3_suspects_27, gX3_suspects_28, gX3_suspects_31, gX3_suspects_48, gX3_suspects_51, am_kill_int, am_kill_ref, am_kill_null, am_kill_F, am_kill_long, am_cat_n, am_cat_i, am_cat_r, am_cat_0, am_cat_l, am_nr_n, am_nr_i, am_nr_r, am_nr_0, am_nr_l, Option.toList_some, Option.toList_none, List.nil_append, List.cons_append, va_rf_s, va_rf_n, am_I_sR, am_I_sL, am_R_sI, am_R_sL, am_L_sI, am_L_sR, am_k_sI, am_k_sR, am_k_sL, am_n_sI, am_n_sR, am_n_sL, true_and, and_true, true_or, or_true, or_false, false_or, not_true_eq_false, not_false_eq_true, Nat.reduceLT, am_dS, am_dP, am_d1, Nat.reduceSub, Nat.reduceMul, ne_eq, Nat.reduceBEq, Nat.reduceAdd, Nat.reduceLeDiff, Nat.reduceEqDiff, and_self, and_false, false_and, if_true, if_false, am_nb, am_nb0, am_nb1, am_lc1, am_lc2, am_lc3, am_b0, am_b1, am_10, am_c8, am_c16, am_c24, am_c32, am_c40, am_c48, am_c56, am_c64, am_c72, Nat.add_zero, Bool.false_eq_true, Nat.zero_le, hlt, hmν, hNν, wX3_has, orB_has h8 hn, hp, nI_1]
      exact ih' ν hF h17
  · rintro ls ν ⟨rfl, hF, h17⟩
    have hS1 := hS.jm hF h17
    have hmν := hS1.1.1
    unfold mL at hmν
    have hNν := hS1.1.2.1
    unfold miI at hK
    rw [gX3_suspects_18]
    simp only [gX3_suspects_19, gX3_suspects_20, gX3_suspects_23, gX3_suspects_54, gX3_suspects_55, gX3_suspects_56, gX3_suspects_59, gX3_suspects_60, gX3_suspects_61, gX3_suspects_64, gX3_suspects_65, gX3_suspects_68, gX3_suspects_69, gX3_suspects_72, gX3_suspects_73, gX3_suspects_76, gX3_suspects_77, gX3_suspects_80, gX3_suspects_81, am_kill_int, am_kill_ref, am_kill_null, am_kill_F, am_kill_long, am_cat_n, am_cat_i, am_cat_r, am_cat_0, am_cat_l, am_nr_n, am_nr_i, am_nr_r, am_nr_0, am_nr_l, Option.toList_some, Option.toList_none, List.nil_append, List.cons_append, va_rf_s, va_rf_n, am_II, am_I_sR, am_I_sL, am_R_sI, am_RR, am_R_sL, am_L_sI, am_L_sR, am_LL, am_k_sI, am_k_sR, am_k_sL, am_n_sI, am_n_sR, am_n_sL, true_and, and_true, true_or, or_true, or_false, false_or, not_true_eq_false, not_false_eq_true, Nat.reduceLT, am_dS, am_dP, am_d1, Nat.reduceSub, Nat.reduceMul, ne_eq, Nat.reduceBEq, Nat.reduceAdd, Nat.reduceLeDiff, Nat.reduceEqDiff, and_self, and_false, false_and, if_true, if_false, am_nb, am_nb0, am_nb1, am_lc1, am_lc2, am_lc3, am_b0, am_b1, am_10, am_c8, am_c16, am_c24, am_c32, am_c40, am_c48, am_c56, am_c64, am_c72, Nat.add_zero, Bool.false_eq_true, Nat.zero_le, hmν, hNν, Int32.le_refl, wJ10_bitCount, wX3_tell0, wX3_tell1]
    refine hK _ ((((((jM_sM hF).I (by unfold sM; omega)).L (Or.inr rfl)).I (by unfold sM; omega)).L (Or.inr rfl)).I (by unfold sM; omega)) ?_ (TN2 ?_ ?_ ?_) (fun i => ?_)
    · simp only [am_II, am_I_sL, Nat.reduceEqDiff, and_false, if_false]; exact h17
    · simp only [am_II, and_self, if_true]
    · simp only [am_L_sI, am_LL, and_self, if_true, Nat.reduceEqDiff, and_false, if_false]
    · simp only [am_L_sI, am_LL, and_self, if_true]
    · simp only [am_L_sI, am_LL, Nat.reduceEqDiff, false_and, if_false]; exact hF.L
theorem op_suspects (hI : Inv q μ) : OP q mX1_suspects mX3_suspects [.ref 0, am_F, am_F, am_F, am_F] [.ref 54, am_F, am_F, am_F] μ :=
  op_S (V := fun N ru c S => vSus N ru S) (P := fun N ru c S => pSus N ru S) (fun hP => qc_suspects hP) (fun d K μ h h' => by simp only [gX3_suspects_0, gX3_suspects_1, gX3_suspects_2, am_kill_int, am_kill_ref, am_kill_null, am_kill_F, am_kill_long, am_cat_n, am_cat_i, am_cat_r, am_cat_0, am_cat_l, am_nr_n, am_nr_i, am_nr_r, am_nr_0, am_nr_l, Option.toList_some, Option.toList_none, List.nil_append, List.cons_append, va_rf_s, va_rf_n, am_I_sR, am_I_sL, am_R_sI, am_R_sL, am_L_sI, am_L_sR, am_k_sI, am_k_sR, am_k_sL, am_n_sI, am_n_sR, am_n_sL, true_and, and_true, true_or, or_true, or_false, false_or, not_true_eq_false, not_false_eq_true, Nat.reduceLT, am_dS, am_dP, am_d1, Nat.reduceSub, Nat.reduceMul, ne_eq, Nat.reduceBEq, Nat.reduceAdd, Nat.reduceLeDiff, Nat.reduceEqDiff, and_self, and_false, false_and, if_true, if_false, am_nb, am_nb0, am_nb1, am_lc1, am_lc2, am_lc3, am_b0, am_b1, am_10, am_c8, am_c16, am_c24, am_c32, am_c40, am_c48, am_c56, am_c64, am_c72, Nat.add_zero, Bool.false_eq_true, Nat.zero_le, h]; exact h') (fun hP => q5_suspects hP) hI
end OFV
