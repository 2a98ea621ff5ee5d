/-! calls that ask: open, kinds -/
set_option maxRecDepth 100000
section OJV
variable {d : Nat} {μ ν ξ : am_M} {K : Option Value → am_M → Prop} {x y z c w : Int32} {h h' N C j i k r n M b q m : Nat} {v : Int32} {ru : Option PF} {A o o' : Nat → Int32} {S a : Nat → Int32} {g p p' : Nat → Bool}
theorem bitsI {x y : Int32} (h : ∀ i, i < 32 → x.toBitVec.getLsbD i = y.toBitVec.getLsbD i) : x = y := Int32.toBitVec_inj.mp (BitVec.eq_of_getLsbD_eq (fun i hi => h i hi))
theorem orB_bit (h8 : N ≤ 8) : (orB p N).toBitVec.getLsbD i = (decide (i < N) && p i) := by
  rw [orB_eq h8]
  show (BitVec.ofNat 32 (vB p N)).getLsbD i = _
  rw [BitVec.getLsbD_ofNat, vB_bit]
  by_cases q : i < N
  · rw [decide_eq_true (show i < 32 by omega), Bool.true_and]
  · rw [decide_eq_false q, Bool.false_and, Bool.and_false]
theorem orB_andn (h8 : N ≤ 8) : orB p N &&& (orB g N ^^^ -1) = orB (fun i => p i && !g i) N := by
  refine bitsI fun i hi => ?_
  rw [orB_bit h8, Int32.toBitVec_and, BitVec.getLsbD_and, orB_bit h8, Int32.toBitVec_xor, BitVec.getLsbD_xor, orB_bit h8]
  have e : (-1 : Int32).toBitVec.getLsbD i = true := by
    show (BitVec.allOnes 32).getLsbD i = true
    rw [BitVec.getLsbD_allOnes, decide_eq_true hi]
  rw [e]
  by_cases q : i < N
  · rw [decide_eq_true q]; simp
  · rw [decide_eq_false q]; simp
theorem qc_open (hP : Per N C ru c μ) : QC mX1_open [.ref 0, am_F] μ (orB (inT c (cS μ 1)) N) (some [(orB (nF (cS μ 1)) N).toInt64, (orB (frB c (cS μ 1)) N).toInt64]) := by
  intro d K hK
  have hC := hP.1.1
  have hcu := hC.1
  simp only [cL, spL, Nat.reduceAdd] at hcu
  have hN := hC.2.1
  have h8 := hC.2.2.1
  have hk := hC.1.c
  have hc3 := hC.2.2.2.1
  have e1 : orB (inT c (cS μ 1)) N &&& (orB (gF 1 (cS μ 1)) N ^^^ -1) = orB (frB c (cS μ 1)) N := by
    rw [orB_andn h8]
    refine orB_congr fun j hj => ?_
    unfold frB gF
    rcases hP.2.1.gu hj with w | w | w <;> rw [w]
    · rw [Bool.and_comm]; rfl
    · rw [Bool.and_comm]; rfl
    · rw [Bool.and_comm]; rfl
  have h1 := fun K => wX1_inTime (d := d + 197) (K := K) hN h8 hk hC.1.s1
  rw [hc3] at h1
  have h2 := fun K => wX1_noticed (d := d + 198) (μ := am_sI μ 0 40 0) (K := K) (N := N) (h := 1) (by rw [am_I_sI, if_neg (by omega)]; exact hN) h8 hk hC.1.s1
  rw [cS_o (by omega)] at h2
  have h3 := fun K => wX1_guests (d := d + 199) (μ := am_sI (am_sL (am_sI μ 0 40 0) 53 0 (orB (nF (cS μ 1)) N).toInt64) 0 40 1) (K := K) (N := N) (h := 1) (fr := 1) (by rw [am_I_sI, if_neg (by omega), am_I_sL, am_I_sI, if_neg (by omega)]; exact hN) h8 hk hC.1.s1
  rw [cS_o (by omega), cS_sL, cS_o (by omega)] at h3
  simp only [gX1_open_0, gX1_open_1, gX1_open_2, gX1_open_5, am_kill_int, am_kill_ref, am_kill_null, am_kill_F, am_kill_long, am_cat_n, am_cat_i, am_cat_r, am_cat_0, am_cat_l, am_nr_n, am_nr_i, am_nr_r, am_nr_0, am_nr_l, Option.toList_some, Option.toList_none, List.nil_append, List.cons_append, va_rf_s, va_rf_n, am_II, am_I_sR, am_I_sL, am_R_sI, am_RR, am_R_sL, am_L_sI, am_L_sR, am_LL, am_k_sI, am_k_sR, am_k_sL, am_n_sI, am_n_sR, am_n_sL, true_and, and_true, true_or, or_true, or_false, false_or, not_true_eq_false, not_false_eq_true, Nat.reduceLT, am_dS, am_dP, am_d1, Nat.reduceSub, Nat.reduceMul, ne_eq, Nat.reduceBEq, Nat.reduceAdd, Nat.reduceLeDiff, Nat.reduceEqDiff, and_self, and_false, false_and, if_true, if_false, am_nb, am_nb0, am_nb1, am_lc1, am_lc2, am_lc3, am_b0, am_b1, am_10, am_c8, am_c16, am_c24, am_c32, am_c40, am_c48, am_c56, am_c64, am_c72, Nat.add_zero, Bool.false_eq_true, Nat.zero_le, hcu]
  rw [h1]
  simp only [gX1_open_8, gX1_open_9, gX1_open_10, gX1_open_11, gX1_open_14, gX1_open_15, gX1_open_16, gX1_open_17, gX1_open_20, am_kill_int, am_kill_ref, am_kill_null, am_kill_F, am_kill_long, am_cat_n, am_cat_i, am_cat_r, am_cat_0, am_cat_l, am_nr_n, am_nr_i, am_nr_r, am_nr_0, am_nr_l, Option.toList_some, Option.toList_none, List.nil_append, List.cons_append, va_rf_s, va_rf_n, am_II, am_I_sR, am_I_sL, am_R_sI, am_RR, am_R_sL, am_L_sI, am_L_sR, am_LL, am_k_sI, am_k_sR, am_k_sL, am_n_sI, am_n_sR, am_n_sL, true_and, and_true, true_or, or_true, or_false, false_or, not_true_eq_false, not_false_eq_true, Nat.reduceLT, am_dS, am_dP, am_d1, Nat.reduceSub, Nat.reduceMul, ne_eq, Nat.reduceBEq, Nat.reduceAdd, Nat.reduceLeDiff, Nat.reduceEqDiff, and_self, and_false, false_and, if_true, if_false, am_nb, am_nb0, am_nb1, am_lc1, am_lc2, am_lc3, am_b0, am_b1, am_10, am_c8, am_c16, am_c24, am_c32, am_c40, am_c48, am_c56, am_c64, am_c72, Nat.add_zero, Bool.false_eq_true, Nat.zero_le, hcu]
  rw [h2]
  simp only [gX1_open_23, gX1_open_24, gX1_open_27, gX1_open_28, gX1_open_29, gX1_open_30, gX1_open_31, gX1_open_34, gX1_open_35, am_kill_int, am_kill_ref, am_kill_null, am_kill_F, am_kill_long, am_cat_n, am_cat_i, am_cat_r, am_cat_0, am_cat_l, am_nr_n, am_nr_i, am_nr_r, am_nr_0, am_nr_l, Option.toList_some, Option.toList_none, List.nil_append, List.cons_append, va_rf_s, va_rf_n, am_II, am_I_sR, am_I_sL, am_R_sI, am_RR, am_R_sL, am_L_sI, am_L_sR, am_LL, am_k_sI, am_k_sR, am_k_sL, am_n_sI, am_n_sR, am_n_sL, true_and, and_true, true_or, or_true, or_false, false_or, not_true_eq_false, not_false_eq_true, Nat.reduceLT, am_dS, am_dP, am_d1, Nat.reduceSub, Nat.reduceMul, ne_eq, Nat.reduceBEq, Nat.reduceAdd, Nat.reduceLeDiff, Nat.reduceEqDiff, and_self, and_false, false_and, if_true, if_false, am_nb, am_nb0, am_nb1, am_lc1, am_lc2, am_lc3, am_b0, am_b1, am_10, am_c8, am_c16, am_c24, am_c32, am_c40, am_c48, am_c56, am_c64, am_c72, Nat.add_zero, Bool.false_eq_true, Nat.zero_le, hcu, wX1_tells0]
  rw [h3]
  simp only [gX1_open_38, gX1_open_39, gX1_open_40, gX1_open_41, gX1_open_42, gX1_open_45, gX1_open_46, am_kill_int, am_kill_ref, am_kill_null, am_kill_F, am_kill_long, am_cat_n, am_cat_i, am_cat_r, am_cat_0, am_cat_l, am_nr_n, am_nr_i, am_nr_r, am_nr_0, am_nr_l, Option.toList_some, Option.toList_none, List.nil_append, List.cons_append, va_rf_s, va_rf_n, am_II, am_I_sR, am_I_sL, am_R_sI, am_RR, am_R_sL, am_L_sI, am_L_sR, am_LL, am_k_sI, am_k_sR, am_k_sL, am_n_sI, am_n_sR, am_n_sL, true_and, and_true, true_or, or_true, or_false, false_or, not_true_eq_false, not_false_eq_true, Nat.reduceLT, am_dS, am_dP, am_d1, Nat.reduceSub, Nat.reduceMul, ne_eq, Nat.reduceBEq, Nat.reduceAdd, Nat.reduceLeDiff, Nat.reduceEqDiff, and_self, and_false, false_and, if_true, if_false, am_nb, am_nb0, am_nb1, am_lc1, am_lc2, am_lc3, am_b0, am_b1, am_10, am_c8, am_c16, am_c24, am_c32, am_c40, am_c48, am_c56, am_c64, am_c72, Nat.add_zero, Bool.false_eq_true, Nat.zero_le, hcu, wX1_tells1, e1]
  refine hK _ (((((Fw.refl.I (by unfold sC; omega)).L (Or.inl rfl)).I (by unfold sC; omega)).L (Or.inl rfl)).I (by unfold sC; omega)) (TC2 ?_ ?_ ?_) (fun i => ?_)
  · simp only [am_II, and_self, if_true]
  · simp only [am_L_sI, am_LL, and_self, if_true, Nat.reduceEqDiff, and_false, if_false]
  · simp only [am_L_sI, am_LL, and_self, if_true]
  · simp only [am_L_sI, am_LL, Nat.reduceEqDiff, false_and, if_false]
theorem wX3_openFree (hS : MS N ru c μ) (hs : Sim N S (am_I μ 55)) : am_Wp (d + 3) mX3_openFree 0 [.ref 54, am_F, am_F] [] μ K ↔ K (some (.int (orB (frB c S) N))) μ := by
  have hC := hS.1
  have hmu := hC.1
  unfold mL at hmu
  have hN := hC.2.1
  have h8 := hC.2.2.1
  refine am_Wp.det ?_
  simp only [gX3_openFree_0, gX3_openFree_1, gX3_openFree_2, gX3_openFree_3, am_kill_int, am_kill_ref, am_kill_null, am_kill_F, am_kill_long, am_cat_n, am_cat_i, am_cat_r, am_cat_0, am_cat_l, am_nr_n, am_nr_i, am_nr_r, am_nr_0, am_nr_l, Option.toList_some, Option.toList_none, List.nil_append, List.cons_append, va_rf_s, va_rf_n, am_I_sR, am_I_sL, am_R_sI, am_R_sL, am_L_sI, am_L_sR, am_k_sI, am_k_sR, am_k_sL, am_n_sI, am_n_sR, am_n_sL, true_and, and_true, true_or, or_true, or_false, false_or, not_true_eq_false, not_false_eq_true, Nat.reduceLT, am_dS, am_dP, am_d1, Nat.reduceSub, Nat.reduceMul, ne_eq, Nat.reduceBEq, Nat.reduceAdd, Nat.reduceLeDiff, Nat.reduceEqDiff, and_self, and_false, false_and, if_true, if_false, am_nb, am_nb0, am_nb1, am_lc1, am_lc2, am_lc3, am_b0, am_b1, am_10, am_c8, am_c16, am_c24, am_c32, am_c40, am_c48, am_c56, am_c64, am_c72, Nat.add_zero, Bool.false_eq_true, Nat.zero_le]
  refine am_for (N := N) (fun j ls ν => ν = μ ∧ ls = [.ref 54, .int (orB (frB c S) j), .int (nI j)]) ?_ ?_ N 0 _ _ (by omega) ⟨rfl, rfl⟩
  · rintro j ls ν hj ⟨rfl, rfl⟩ ih
    have hlt : ¬ nI N ≤ nI j := nI_ge hj (by omega)
    have ih' := ih [.ref 54, .int (orB (frB c S) (j + 1)), .int (nI (j + 1))] ν ⟨rfl, rfl⟩
    have h0 : isN 0 10 = true := by decide
    rw [gX3_openFree_4]
    by_cases hf : frB c S j = true
    · rw [← orB_t hf] at ih'
      simp only [gX3_openFree_5, gX3_openFree_6, gX3_openFree_9, gX3_openFree_12, gX3_openFree_13, gX3_openFree_14, gX3_openFree_15, gX3_openFree_18, gX3_openFree_19, gX3_openFree_20, gX3_openFree_23, gX3_openFree_26, gX3_openFree_27, gX3_openFree_28, gX3_openFree_29, gX3_openFree_32, gX3_openFree_33, gX3_openFree_34, gX3_openFree_35, gX3_openFree_38, am_kill_int, am_kill_ref, am_kill_null, am_kill_F, am_kill_long, am_cat_n, am_cat_i, am_cat_r, am_cat_0, am_cat_l, am_nr_n, am_nr_i, am_nr_r, am_nr_0, am_nr_l, Option.toList_some, Option.toList_none, List.nil_append, List.cons_append, va_rf_s, va_rf_n, am_I_sR, am_I_sL, am_R_sI, am_R_sL, am_L_sI, am_L_sR, am_k_sI, am_k_sR, am_k_sL, am_n_sI, am_n_sR, am_n_sL, true_and, and_true, true_or, or_true, or_false, false_or, not_true_eq_false, not_false_eq_true, Nat.reduceLT, am_dS, am_dP, am_d1, Nat.reduceSub, Nat.reduceMul, ne_eq, Nat.reduceBEq, Nat.reduceAdd, Nat.reduceLeDiff, Nat.reduceEqDiff, and_self, and_false, false_and, if_true, if_false, am_nb, am_nb0, am_nb1, am_lc1, am_lc2, am_lc3, am_b0, am_b1, am_10, am_c8, am_c16, am_c24, am_c32, am_c40, am_c48, am_c56, am_c64, am_c72, Nat.add_zero, Bool.false_eq_true, Nat.zero_le, hlt, hN, hmu, wX3_refusesLay hC hmu.1.2.1, rLa_t hs hj h8 h0 hf, nI_1]
      exact ih'
    · have hf' := eq_false_of_ne_true hf
      rw [← orB_f hf'] at ih'
      have hl : ¬ rLa N c (am_I ν 55) (nI j) 0 = 0 := fun e => by
        have := rLa_n (c := c) hs hj h8 h0 hf
        rw [e] at this; exact absurd this (by decide)
      simp only [gX3_openFree_5, gX3_openFree_6, gX3_openFree_9, gX3_openFree_12, gX3_openFree_13, gX3_openFree_14, gX3_openFree_15, gX3_openFree_18, gX3_openFree_19, gX3_openFree_20, gX3_openFree_23, gX3_openFree_26, gX3_openFree_27, gX3_openFree_28, gX3_openFree_29, gX3_openFree_32, gX3_openFree_33, gX3_openFree_34, gX3_openFree_35, gX3_openFree_38, am_kill_int, am_kill_ref, am_kill_null, am_kill_F, am_kill_long, am_cat_n, am_cat_i, am_cat_r, am_cat_0, am_cat_l, am_nr_n, am_nr_i, am_nr_r, am_nr_0, am_nr_l, Option.toList_some, Option.toList_none, List.nil_append, List.cons_append, va_rf_s, va_rf_n, am_I_sR, am_I_sL, am_R_sI, am_R_sL, am_L_sI, am_L_sR, am_k_sI, am_k_sR, am_k_sL, am_n_sI, am_n_sR, am_n_sL, true_and, and_true, true_or, or_true, or_false, false_or, not_true_eq_false, not_false_eq_true, Nat.reduceLT, am_dS, am_dP, am_d1, Nat.reduceSub, Nat.reduceMul, ne_eq, Nat.reduceBEq, Nat.reduceAdd, Nat.reduceLeDiff, Nat.reduceEqDiff, and_self, and_false, false_and, if_true, if_false, am_nb, am_nb0, am_nb1, am_lc1, am_lc2, am_lc3, am_b0, am_b1, am_10, am_c8, am_c16, am_c24, am_c32, am_c40, am_c48, am_c56, am_c64, am_c72, Nat.add_zero, Bool.false_eq_true, Nat.zero_le, hlt, hN, hmu, wX3_refusesLay hC hmu.1.2.1, hl, nI_1]
      exact ih'
  · rintro ls ν ⟨rfl, rfl⟩
    rw [gX3_openFree_4]
    simp only [gX3_openFree_5, gX3_openFree_6, gX3_openFree_9, gX3_openFree_12, gX3_openFree_13, gX3_openFree_14, gX3_openFree_15, gX3_openFree_18, gX3_openFree_19, gX3_openFree_20, gX3_openFree_23, gX3_openFree_26, gX3_openFree_27, gX3_openFree_28, gX3_openFree_29, gX3_openFree_32, gX3_openFree_33, gX3_openFree_34, gX3_openFree_35, gX3_openFree_38, gX3_openFree_41, gX3_openFree_42, am_kill_int, am_kill_ref, am_kill_null, am_kill_F, am_kill_long, am_cat_n, am_cat_i, am_cat_r, am_cat_0, am_cat_l, am_nr_n, am_nr_i, am_nr_r, am_nr_0, am_nr_l, Option.toList_some, Option.toList_none, List.nil_append, List.cons_append, va_rf_s, va_rf_n, am_I_sR, am_I_sL, am_R_sI, am_R_sL, am_L_sI, am_L_sR, am_k_sI, am_k_sR, am_k_sL, am_n_sI, am_n_sR, am_n_sL, true_and, and_true, true_or, or_true, or_false, false_or, not_true_eq_false, not_false_eq_true, Nat.reduceLT, am_dS, am_dP, am_d1, Nat.reduceSub, Nat.reduceMul, ne_eq, Nat.reduceBEq, Nat.reduceAdd, Nat.reduceLeDiff, Nat.reduceEqDiff, and_self, and_false, false_and, if_true, if_false, am_nb, am_nb0, am_nb1, am_lc1, am_lc2, am_lc3, am_b0, am_b1, am_10, am_c8, am_c16, am_c24, am_c32, am_c40, am_c48, am_c56, am_c64, am_c72, Nat.add_zero, Bool.false_eq_true, Nat.zero_le, hN, hmu, Int32.le_refl, and_self]
theorem q5_open (hP : Per N C ru c μ) : Q5 mX3_open [.ref 54, am_F, am_F] μ (orB (inT c (cS μ 1)) N) (some [(orB (nF (cS μ 1)) N).toInt64, (orB (frB c (cS μ 1)) N).toInt64]) := by
  intro d K hK
  have hS := hP.1.2.1
  have hC := hS.1
  have hmu := hC.1
  unfold mL at hmu
  have hN := hC.2.1
  have h8 := hC.2.2.1
  rw [hP.2.1.nFM] at hK
  simp only [gX3_open_5, gX3_open_6, gX3_open_7, gX3_open_8, am_kill_int, am_kill_ref, am_kill_null, am_kill_F, am_kill_long, am_cat_n, am_cat_i, am_cat_r, am_cat_0, am_cat_l, am_nr_n, am_nr_i, am_nr_r, am_nr_0, am_nr_l, Option.toList_some, Option.toList_none, List.nil_append, List.cons_append, va_rf_s, va_rf_n, am_I_sR, am_I_sL, am_R_sI, am_R_sL, am_L_sI, am_L_sR, am_k_sI, am_k_sR, am_k_sL, am_n_sI, am_n_sR, am_n_sL, true_and, and_true, true_or, or_true, or_false, false_or, not_true_eq_false, not_false_eq_true, Nat.reduceLT, am_dS, am_dP, am_d1, Nat.reduceSub, Nat.reduceMul, ne_eq, Nat.reduceBEq, Nat.reduceAdd, Nat.reduceLeDiff, Nat.reduceEqDiff, and_self, and_false, false_and, if_true, if_false, am_nb, am_nb0, am_nb1, am_lc1, am_lc2, am_lc3, am_b0, am_b1, am_10, am_c8, am_c16, am_c24, am_c32, am_c40, am_c48, am_c56, am_c64, am_c72, Nat.add_zero, Bool.false_eq_true, Nat.zero_le]
  refine am_for (N := N) (fun n ls ν => ls = [.ref 54, .int (orB (inT c (cS μ 1)) n), .int (nI n)] ∧ ν = μ) ?_ ?_ N 0 _ _ (by omega) ⟨rfl, rfl⟩
  · rintro n ls ν hn ⟨rfl, rfl⟩ ih
    have hlt : ¬ nI N ≤ nI n := nI_ge hn (by omega)
    have ih' := ih [.ref 54, .int (orB (inT c (cS ν 1)) (n + 1)), .int (nI (n + 1))] ν ⟨rfl, rfl⟩
    have et := hP.2.1.inTm (cl := c) hn
    rw [gX3_open_9]
    by_cases q : ¬ am_I ν 55 (32 + n) = -1 ∧ c ≤ am_I ν 55 (32 + n)
    · rw [decide_eq_true q] at et
      rw [← orB_t et] at ih'
      simp only [gX3_open_10, gX3_open_11, gX3_open_14, gX3_open_17, gX3_open_18, gX3_open_19, gX3_open_20, gX3_open_23, gX3_open_24, gX3_open_27, gX3_open_30, gX3_open_31, gX3_open_32, gX3_open_33, gX3_open_36, gX3_open_37, gX3_open_38, gX3_open_39, gX3_open_42, am_kill_int, am_kill_ref, am_kill_null, am_kill_F, am_kill_long, am_cat_n, am_cat_i, am_cat_r, am_cat_0, am_cat_l, am_nr_n, am_nr_i, am_nr_r, am_nr_0, am_nr_l, Option.toList_some, Option.toList_none, List.nil_append, List.cons_append, va_rf_s, va_rf_n, am_I_sR, am_I_sL, am_R_sI, am_R_sL, am_L_sI, am_L_sR, am_k_sI, am_k_sR, am_k_sL, am_n_sI, am_n_sR, am_n_sL, true_and, and_true, true_or, or_true, or_false, false_or, not_true_eq_false, not_false_eq_true, Nat.reduceLT, am_dS, am_dP, am_d1, Nat.reduceSub, Nat.reduceMul, ne_eq, Nat.reduceBEq, Nat.reduceAdd, Nat.reduceLeDiff, Nat.reduceEqDiff, and_self, and_false, false_and, if_true, if_false, am_nb, am_nb0, am_nb1, am_lc1, am_lc2, am_lc3, am_b0, am_b1, am_10, am_c8, am_c16, am_c24, am_c32, am_c40, am_c48, am_c56, am_c64, am_c72, Nat.add_zero, Bool.false_eq_true, Nat.zero_le, hlt, hN, hmu, wX3_isInTime hC (show n < 8 by omega) hmu.1.2.1, q, nI_1]
      exact ih'
    · rw [decide_eq_false q] at et
      rw [← orB_f et] at ih'
      simp only [gX3_open_10, gX3_open_11, gX3_open_14, gX3_open_17, gX3_open_18, gX3_open_19, gX3_open_20, gX3_open_23, gX3_open_24, gX3_open_27, gX3_open_30, gX3_open_31, gX3_open_32, gX3_open_33, gX3_open_36, gX3_open_37, gX3_open_38, gX3_open_39, gX3_open_42, am_kill_int, am_kill_ref, am_kill_null, am_kill_F, am_kill_long, am_cat_n, am_cat_i, am_cat_r, am_cat_0, am_cat_l, am_nr_n, am_nr_i, am_nr_r, am_nr_0, am_nr_l, Option.toList_some, Option.toList_none, List.nil_append, List.cons_append, va_rf_s, va_rf_n, am_I_sR, am_I_sL, am_R_sI, am_R_sL, am_L_sI, am_L_sR, am_k_sI, am_k_sR, am_k_sL, am_n_sI, am_n_sR, am_n_sL, true_and, and_true, true_or, or_true, or_false, false_or, not_true_eq_false, not_false_eq_true, Nat.reduceLT, am_dS, am_dP, am_d1, Nat.reduceSub, Nat.reduceMul, ne_eq, Nat.reduceBEq, Nat.reduceAdd, Nat.reduceLeDiff, Nat.reduceEqDiff, and_self, and_false, false_and, if_true, if_false, am_nb, am_nb0, am_nb1, am_lc1, am_lc2, am_lc3, am_b0, am_b1, am_10, am_c8, am_c16, am_c24, am_c32, am_c40, am_c48, am_c56, am_c64, am_c72, Nat.add_zero, Bool.false_eq_true, Nat.zero_le, hlt, hN, hmu, wX3_isInTime hC (show n < 8 by omega) hmu.1.2.1, q, nI_1]
      exact ih'
  · rintro ls ν ⟨rfl, rfl⟩
    have hF1 : Fw sM ν (am_sI ν 54 6 0) := Fw.I Fw.refl (by unfold sM; omega)
    have hS1 := hS.sMm hF1 (by rw [am_I_sI, if_neg (by omega)]; exact hP.h17)
    have h2 := fun K => wX3_notices (d := d + 199) (K := K) hS1.1 (h := 55) hmu.1.2.1
    rw [am_row_o (by decide)] at h2
    have hF2 : Fw sM ν (am_sI (am_sL (am_sI ν 54 6 0) 57 0 (orB (nM (am_I ν 55)) N).toInt64) 54 6 1) := (hF1.L (Or.inr rfl)).I (by unfold sM; omega)
    have hS2 := hS.sMm hF2 (by rw [am_I_sI, if_neg (by omega), am_I_sL, am_I_sI, if_neg (by omega)]; exact hP.h17)
    have h3 := fun K => wX3_openFree (d := d + 196) (K := K) (S := cS ν 1) hS2 (by rw [am_row_o (by decide), am_I_sL, am_row_o (by decide)]; exact hP.2.1)
    rw [gX3_open_9]
    simp only [gX3_open_10, gX3_open_11, gX3_open_14, gX3_open_45, gX3_open_46, gX3_open_47, gX3_open_50, gX3_open_51, gX3_open_52, gX3_open_53, gX3_open_56, am_kill_int, am_kill_ref, am_kill_null, am_kill_F, am_kill_long, am_cat_n, am_cat_i, am_cat_r, am_cat_0, am_cat_l, am_nr_n, am_nr_i, am_nr_r, am_nr_0, am_nr_l, Option.toList_some, Option.toList_none, List.nil_append, List.cons_append, va_rf_s, va_rf_n, am_II, am_I_sR, am_I_sL, am_R_sI, am_RR, am_R_sL, am_L_sI, am_L_sR, am_LL, am_k_sI, am_k_sR, am_k_sL, am_n_sI, am_n_sR, am_n_sL, true_and, and_true, true_or, or_true, or_false, false_or, not_true_eq_false, not_false_eq_true, Nat.reduceLT, am_dS, am_dP, am_d1, Nat.reduceSub, Nat.reduceMul, ne_eq, Nat.reduceBEq, Nat.reduceAdd, Nat.reduceLeDiff, Nat.reduceEqDiff, and_self, and_false, false_and, if_true, if_false, am_nb, am_nb0, am_nb1, am_lc1, am_lc2, am_lc3, am_b0, am_b1, am_10, am_c8, am_c16, am_c24, am_c32, am_c40, am_c48, am_c56, am_c64, am_c72, Nat.add_zero, Bool.false_eq_true, Nat.zero_le, hmu, hN, Int32.le_refl]
    rw [h2]
    simp only [gX3_open_59, gX3_open_60, gX3_open_63, gX3_open_64, gX3_open_65, am_kill_int, am_kill_ref, am_kill_null, am_kill_F, am_kill_long, am_cat_n, am_cat_i, am_cat_r, am_cat_0, am_cat_l, am_nr_n, am_nr_i, am_nr_r, am_nr_0, am_nr_l, Option.toList_some, Option.toList_none, List.nil_append, List.cons_append, va_rf_s, va_rf_n, am_II, am_I_sR, am_I_sL, am_R_sI, am_RR, am_R_sL, am_L_sI, am_L_sR, am_LL, am_k_sI, am_k_sR, am_k_sL, am_n_sI, am_n_sR, am_n_sL, true_and, and_true, true_or, or_true, or_false, false_or, not_true_eq_false, not_false_eq_true, Nat.reduceLT, am_dS, am_dP, am_d1, Nat.reduceSub, Nat.reduceMul, ne_eq, Nat.reduceBEq, Nat.reduceAdd, Nat.reduceLeDiff, Nat.reduceEqDiff, and_self, and_false, false_and, if_true, if_false, am_nb, am_nb0, am_nb1, am_lc1, am_lc2, am_lc3, am_b0, am_b1, am_10, am_c8, am_c16, am_c24, am_c32, am_c40, am_c48, am_c56, am_c64, am_c72, Nat.add_zero, Bool.false_eq_true, Nat.zero_le, hmu, wX3_tell0]
    rw [h3]
    simp only [gX3_open_68, gX3_open_69, gX3_open_72, gX3_open_73, am_kill_int, am_kill_ref, am_kill_null, am_kill_F, am_kill_long, am_cat_n, am_cat_i, am_cat_r, am_cat_0, am_cat_l, am_nr_n, am_nr_i, am_nr_r, am_nr_0, am_nr_l, Option.toList_some, Option.toList_none, List.nil_append, List.cons_append, va_rf_s, va_rf_n, am_II, am_I_sR, am_I_sL, am_R_sI, am_RR, am_R_sL, am_L_sI, am_L_sR, am_LL, am_k_sI, am_k_sR, am_k_sL, am_n_sI, am_n_sR, am_n_sL, true_and, and_true, true_or, or_true, or_false, false_or, not_true_eq_false, not_false_eq_true, Nat.reduceLT, am_dS, am_dP, am_d1, Nat.reduceSub, Nat.reduceMul, ne_eq, Nat.reduceBEq, Nat.reduceAdd, Nat.reduceLeDiff, Nat.reduceEqDiff, and_self, and_false, false_and, if_true, if_false, am_nb, am_nb0, am_nb1, am_lc1, am_lc2, am_lc3, am_b0, am_b1, am_10, am_c8, am_c16, am_c24, am_c32, am_c40, am_c48, am_c56, am_c64, am_c72, Nat.add_zero, Bool.false_eq_true, Nat.zero_le, hmu, wX3_tell1]
    refine hK _ ((hF2.L (Or.inr rfl)).I (by unfold sM; omega)) ?_ (TN2 ?_ ?_ ?_) (fun i => ?_)
    · simp only [am_II, am_I_sL, Nat.reduceEqDiff, and_false, if_false]; exact hP.h17
    · simp only [am_II, and_self, if_true]
    · simp only [am_L_sI, am_LL, and_self, if_true, Nat.reduceEqDiff, and_false, if_false]
    · simp only [am_L_sI, am_LL, and_self, if_true]
    · simp only [am_L_sI, am_LL, Nat.reduceEqDiff, false_and, if_false]
theorem op_open (hI : Inv q μ) : OP q mX1_open mX3_open [.ref 0, am_F] [.ref 54, am_F, am_F] μ :=
  op_S (V := fun N ru c S => orB (inT c S) N) (P := fun N ru c S => some [(orB (nF S) N).toInt64, (orB (frB c S) N).toInt64]) (fun hP => qc_open hP) (fun d K μ h h' => by simp only [gX3_open_0, gX3_open_1, gX3_open_2, am_kill_int, am_kill_ref, am_kill_null, am_kill_F, am_kill_long, am_cat_n, am_cat_i, am_cat_r, am_cat_0, am_cat_l, am_nr_n, am_nr_i, am_nr_r, am_nr_0, am_nr_l, Option.toList_some, Option.toList_none, List.nil_append, List.cons_append, va_rf_s, va_rf_n, am_I_sR, am_I_sL, am_R_sI, am_R_sL, am_L_sI, am_L_sR, am_k_sI, am_k_sR, am_k_sL, am_n_sI, am_n_sR, am_n_sL, true_and, and_true, true_or, or_true, or_false, false_or, not_true_eq_false, not_false_eq_true, Nat.reduceLT, am_dS, am_dP, am_d1, Nat.reduceSub, Nat.reduceMul, ne_eq, Nat.reduceBEq, Nat.reduceAdd, Nat.reduceLeDiff, Nat.reduceEqDiff, and_self, and_false, false_and, if_true, if_false, am_nb, am_nb0, am_nb1, am_lc1, am_lc2, am_lc3, am_b0, am_b1, am_10, am_c8, am_c16, am_c24, am_c32, am_c40, am_c48, am_c56, am_c64, am_c72, Nat.add_zero, Bool.false_eq_true, Nat.zero_le, h]; exact h') (fun hP => q5_open hP) hI
def kdB (x : Int32) (S : Nat → Int32) (n : Nat) : Bool := decide (S n = x)
def kdS (x : Int32) (S : Nat → Int32) : Nat → Int32
  | 0 => 0
  | n + 1 => if kdB x S n = true then kdS x S n + S (24 + n) else kdS x S n
def vKi (N : Nat) (S : Nat → Int32) (x : Int32) : Int32 := if isN x 4 = true then orB (kdB x S) N else -1
def pKi (N : Nat) (S : Nat → Int32) (x : Int32) : Option (List Int64) := if isN x 4 = true then some [(bcI (orB (kdB x S) N)).toInt64, (kdS x S N).toInt64, (bcI (orB (kdB x S) N &&& orB (gF 1 S) N)).toInt64] else none
theorem e3L : (3 : Int64) = (nI 4 - 1).toInt64 := by decide
theorem e3I : (3 : Int32) = nI 4 - 1 := by decide
theorem qc_kinds (hP : Per N C ru c μ) : QC mX1_kinds [.ref 0, .int x, am_F, am_F, am_F] μ (vKi N (cS μ 1) x) (pKi N (cS μ 1) x) := by
  intro d K hK
  have hC := hP.1.1
  have hcu := hC.1
  simp only [cL, spL, Nat.reduceAdd] at hcu
  have hN := hC.2.1
  have h8 := hC.2.2.1
  have hk := hC.1.c
  unfold vKi pKi at hK
  by_cases hx : isN x 4 = true
  · simp only [if_pos hx] at hK
    simp only [gX1_kinds_0, gX1_kinds_1, gX1_kinds_2, gX1_kinds_3, gX1_kinds_6, gX1_kinds_9, gX1_kinds_12, gX1_kinds_13, gX1_kinds_14, gX1_kinds_15, gX1_kinds_16, gX1_kinds_17, gX1_kinds_18, gX1_kinds_19, am_kill_int, am_kill_ref, am_kill_null, am_kill_F, am_kill_long, am_cat_n, am_cat_i, am_cat_r, am_cat_0, am_cat_l, am_nr_n, am_nr_i, am_nr_r, am_nr_0, am_nr_l, Option.toList_some, Option.toList_none, List.nil_append, List.cons_append, va_rf_s, va_rf_n, am_II, am_I_sR, am_I_sL, am_R_sI, am_RR, am_R_sL, am_L_sI, am_L_sR, am_LL, am_k_sI, am_k_sR, am_k_sL, am_n_sI, am_n_sR, am_n_sL, true_and, and_true, true_or, or_true, or_false, false_or, not_true_eq_false, not_false_eq_true, Nat.reduceLT, am_dS, am_dP, am_d1, Nat.reduceSub, Nat.reduceMul, ne_eq, Nat.reduceBEq, Nat.reduceAdd, Nat.reduceLeDiff, Nat.reduceEqDiff, and_self, and_false, false_and, if_true, if_false, am_nb, am_nb0, am_nb1, am_lc1, am_lc2, am_lc3, am_b0, am_b1, am_10, am_c8, am_c16, am_c24, am_c32, am_c40, am_c48, am_c56, am_c64, am_c72, Nat.add_zero, Bool.false_eq_true, Nat.zero_le, wX1_in, am_l0, e3L, am_leL, am_isb, hx]
    refine am_for (N := N) (fun n ls ν => ls = [.ref 0, .int x, .int (orB (kdB x (cS μ 1)) n), .int (kdS x (cS μ 1) n), .int (nI n)] ∧ ν = μ) ?_ ?_ N 0 _ _ (by omega) ⟨rfl, rfl⟩
    · rintro n ls ν hn ⟨rfl, rfl⟩ ih
      have hn8 : n < 8 := by omega
      have hlt : ¬ nI N ≤ nI n := nI_ge hn (by omega)
      have hin : vp_in (nI n) 8 := vp_in_nI (by omega) (by omega)
      have hcl : (nI n).toNatClampNeg = n := nI_clamp (by omega)
      have e0 : am_I ν 2 n = cS ν 1 n := (cS_0 hn8).symm
      have e3 : am_I ν 5 n = cS ν 1 (24 + n) := (cS_3 hn8).symm
      have ih' := ih [.ref 0, .int x, .int (orB (kdB x (cS ν 1)) (n + 1)), .int (kdS x (cS ν 1) (n + 1)), .int (nI (n + 1))] ν ⟨rfl, rfl⟩
      unfold kdS at ih'
      rw [gX1_kinds_21]
      by_cases q : cS ν 1 n = x
      · have hp : kdB x (cS ν 1) n = true := decide_eq_true q
        rw [if_pos hp, ← orB_t hp] at ih'
        simp only [gX1_kinds_23, gX1_kinds_24, gX1_kinds_27, gX1_kinds_30, gX1_kinds_31, gX1_kinds_34, gX1_kinds_37, gX1_kinds_39, gX1_kinds_40, gX1_kinds_41, gX1_kinds_44, gX1_kinds_47, gX1_kinds_48, gX1_kinds_49, gX1_kinds_51, gX1_kinds_52, gX1_kinds_53, gX1_kinds_54, gX1_kinds_55, gX1_kinds_56, gX1_kinds_59, gX1_kinds_62, gX1_kinds_64, gX1_kinds_65, gX1_kinds_66, gX1_kinds_67, gX1_kinds_70, am_kill_int, am_kill_ref, am_kill_null, am_kill_F, am_kill_long, am_cat_n, am_cat_i, am_cat_r, am_cat_0, am_cat_l, am_nr_n, am_nr_i, am_nr_r, am_nr_0, am_nr_l, Option.toList_some, Option.toList_none, List.nil_append, List.cons_append, va_rf_s, va_rf_n, am_II, am_I_sR, am_I_sL, am_R_sI, am_RR, am_R_sL, am_L_sI, am_L_sR, am_LL, am_k_sI, am_k_sR, am_k_sL, am_n_sI, am_n_sR, am_n_sL, true_and, and_true, true_or, or_true, or_false, false_or, not_true_eq_false, not_false_eq_true, Nat.reduceLT, am_dS, am_dP, am_d1, Nat.reduceSub, Nat.reduceMul, ne_eq, Nat.reduceBEq, Nat.reduceAdd, Nat.reduceLeDiff, Nat.reduceEqDiff, and_self, and_false, false_and, if_true, if_false, am_nb, am_nb0, am_nb1, am_lc1, am_lc2, am_lc3, am_b0, am_b1, am_10, am_c8, am_c16, am_c24, am_c32, am_c40, am_c48, am_c56, am_c64, am_c72, Nat.add_zero, Bool.false_eq_true, Nat.zero_le, hlt, hcu, hN, hin, hcl, e0, e3, q, nI_1]
        exact ih'
      · have hp : kdB x (cS ν 1) n = false := decide_eq_false q
        have e0' : orB (kdB x (cS ν 1)) (n + 1) = orB (kdB x (cS ν 1)) n := by rw [← orB_f hp, Int32.or_zero]
        rw [if_neg (by rw [hp]; decide), e0'] at ih'
        simp only [gX1_kinds_23, gX1_kinds_24, gX1_kinds_27, gX1_kinds_30, gX1_kinds_31, gX1_kinds_34, gX1_kinds_37, gX1_kinds_39, gX1_kinds_40, gX1_kinds_41, gX1_kinds_44, gX1_kinds_47, gX1_kinds_48, gX1_kinds_49, gX1_kinds_51, gX1_kinds_52, gX1_kinds_53, gX1_kinds_54, gX1_kinds_55, gX1_kinds_56, gX1_kinds_59, gX1_kinds_62, gX1_kinds_64, gX1_kinds_65, gX1_kinds_66, gX1_kinds_67, gX1_kinds_70, am_kill_int, am_kill_ref, am_kill_null, am_kill_F, am_kill_long, am_cat_n, am_cat_i, am_cat_r, am_cat_0, am_cat_l, am_nr_n, am_nr_i, am_nr_r, am_nr_0, am_nr_l, Option.toList_some, Option.toList_none, List.nil_append, List.cons_append, va_rf_s, va_rf_n, am_II, am_I_sR, am_I_sL, am_R_sI, am_RR, am_R_sL, am_L_sI, am_L_sR, am_LL, am_k_sI, am_k_sR, am_k_sL, am_n_sI, am_n_sR, am_n_sL, true_and, and_true, true_or, or_true, or_false, false_or, not_true_eq_false, not_false_eq_true, Nat.reduceLT, am_dS, am_dP, am_d1, Nat.reduceSub, Nat.reduceMul, ne_eq, Nat.reduceBEq, Nat.reduceAdd, Nat.reduceLeDiff, Nat.reduceEqDiff, and_self, and_false, false_and, if_true, if_false, am_nb, am_nb0, am_nb1, am_lc1, am_lc2, am_lc3, am_b0, am_b1, am_10, am_c8, am_c16, am_c24, am_c32, am_c40, am_c48, am_c56, am_c64, am_c72, Nat.add_zero, Bool.false_eq_true, Nat.zero_le, hlt, hcu, hN, hin, hcl, e0, e3, q, nI_1]
        exact ih'
    · rintro ls ν ⟨rfl, rfl⟩
      have h3 := fun K => wX1_guests (d := d + 199) (μ := am_sI (am_sL (am_sI (am_sL (am_sI ν 0 40 0) 53 0 (bcI (orB (kdB x (cS ν 1)) N)).toInt64) 0 40 1) 53 1 (kdS x (cS ν 1) N).toInt64) 0 40 2) (K := K) (N := N) (h := 1) (fr := 1) (by rw [am_I_sI, if_neg (by omega), am_I_sL, am_I_sI, if_neg (by omega), am_I_sL, am_I_sI, if_neg (by omega)]; exact hN) h8 hk hC.1.s1
      rw [cS_o (by omega), cS_sL, cS_o (by omega), cS_sL, cS_o (by omega)] at h3
      rw [gX1_kinds_21]
      simp only [gX1_kinds_23, gX1_kinds_24, gX1_kinds_27, gX1_kinds_73, gX1_kinds_74, gX1_kinds_75, gX1_kinds_78, gX1_kinds_79, gX1_kinds_80, gX1_kinds_83, gX1_kinds_84, gX1_kinds_87, gX1_kinds_88, gX1_kinds_89, gX1_kinds_90, gX1_kinds_93, gX1_kinds_94, gX1_kinds_95, gX1_kinds_96, gX1_kinds_97, gX1_kinds_100, gX1_kinds_101, am_kill_int, am_kill_ref, am_kill_null, am_kill_F, am_kill_long, am_cat_n, am_cat_i, am_cat_r, am_cat_0, am_cat_l, am_nr_n, am_nr_i, am_nr_r, am_nr_0, am_nr_l, Option.toList_some, Option.toList_none, List.nil_append, List.cons_append, va_rf_s, va_rf_n, am_II, am_I_sR, am_I_sL, am_R_sI, am_RR, am_R_sL, am_L_sI, am_L_sR, am_LL, am_k_sI, am_k_sR, am_k_sL, am_n_sI, am_n_sR, am_n_sL, true_and, and_true, true_or, or_true, or_false, false_or, not_true_eq_false, not_false_eq_true, Nat.reduceLT, am_dS, am_dP, am_d1, Nat.reduceSub, Nat.reduceMul, ne_eq, Nat.reduceBEq, Nat.reduceAdd, Nat.reduceLeDiff, Nat.reduceEqDiff, and_self, and_false, false_and, if_true, if_false, am_nb, am_nb0, am_nb1, am_lc1, am_lc2, am_lc3, am_b0, am_b1, am_10, am_c8, am_c16, am_c24, am_c32, am_c40, am_c48, am_c56, am_c64, am_c72, Nat.add_zero, Bool.false_eq_true, Nat.zero_le, hcu, hN, Int32.le_refl, wJ10_bitCount, wX1_tells0, wX1_tells1]
      rw [h3]
      simp only [gX1_kinds_104, gX1_kinds_105, gX1_kinds_108, gX1_kinds_109, gX1_kinds_112, gX1_kinds_113, am_kill_int, am_kill_ref, am_kill_null, am_kill_F, am_kill_long, am_cat_n, am_cat_i, am_cat_r, am_cat_0, am_cat_l, am_nr_n, am_nr_i, am_nr_r, am_nr_0, am_nr_l, Option.toList_some, Option.toList_none, List.nil_append, List.cons_append, va_rf_s, va_rf_n, am_II, am_I_sR, am_I_sL, am_R_sI, am_RR, am_R_sL, am_L_sI, am_L_sR, am_LL, am_k_sI, am_k_sR, am_k_sL, am_n_sI, am_n_sR, am_n_sL, true_and, and_true, true_or, or_true, or_false, false_or, not_true_eq_false, not_false_eq_true, Nat.reduceLT, am_dS, am_dP, am_d1, Nat.reduceSub, Nat.reduceMul, ne_eq, Nat.reduceBEq, Nat.reduceAdd, Nat.reduceLeDiff, Nat.reduceEqDiff, and_self, and_false, false_and, if_true, if_false, am_nb, am_nb0, am_nb1, am_lc1, am_lc2, am_lc3, am_b0, am_b1, am_10, am_c8, am_c16, am_c24, am_c32, am_c40, am_c48, am_c56, am_c64, am_c72, Nat.add_zero, Bool.false_eq_true, Nat.zero_le, hcu, wJ10_bitCount, wX1_tells2]
      refine hK _ (((((((Fw.refl.I (by unfold sC; omega)).L (Or.inl rfl)).I (by unfold sC; omega)).L (Or.inl rfl)).I (by unfold sC; omega)).L (Or.inl rfl)).I (by unfold sC; omega)) (TC3 ?_ ?_ ?_ ?_) (fun i => ?_)
      · simp only [am_II, and_self, if_true]
      · simp only [am_L_sI, am_LL, and_self, if_true, Nat.reduceEqDiff, and_false, if_false]
      · simp only [am_L_sI, am_LL, and_self, if_true, Nat.reduceEqDiff, and_false, if_false]
      · simp only [am_L_sI, am_LL, and_self, if_true]
      · simp only [am_L_sI, am_LL, Nat.reduceEqDiff, false_and, if_false]
  · simp only [hx, Bool.false_eq_true, if_false] at hK
    simp only [gX1_kinds_0, gX1_kinds_1, gX1_kinds_2, gX1_kinds_3, gX1_kinds_6, gX1_kinds_9, gX1_kinds_12, gX1_kinds_13, am_kill_int, am_kill_ref, am_kill_null, am_kill_F, am_kill_long, am_cat_n, am_cat_i, am_cat_r, am_cat_0, am_cat_l, am_nr_n, am_nr_i, am_nr_r, am_nr_0, am_nr_l, Option.toList_some, Option.toList_none, List.nil_append, List.cons_append, va_rf_s, va_rf_n, am_II, am_I_sR, am_I_sL, am_R_sI, am_RR, am_R_sL, am_L_sI, am_L_sR, am_LL, am_k_sI, am_k_sR, am_k_sL, am_n_sI, am_n_sR, am_n_sL, true_and, and_true, true_or, or_true, or_false, false_or, not_true_eq_false, not_false_eq_true, Nat.reduceLT, am_dS, am_dP, am_d1, Nat.reduceSub, Nat.reduceMul, ne_eq, Nat.reduceBEq, Nat.reduceAdd, Nat.reduceLeDiff, Nat.reduceEqDiff, and_self, and_false, false_and, if_true, if_false, am_nb, am_nb0, am_nb1, am_lc1, am_lc2, am_lc3, am_b0, am_b1, am_10, am_c8, am_c16, am_c24, am_c32, am_c40, am_c48, am_c56, am_c64, am_c72, Nat.add_zero, Bool.false_eq_true, Nat.zero_le, wX1_in, am_l0, e3L, am_leL, am_isb, hx]
    exact hK μ Fw.refl TC0 (fun _ => rfl)
theorem q5_kinds (hP : Per N C ru c μ) : Q5 mX3_kinds [.ref 54, .int x, am_F, am_F, am_F] μ (vKi N (cS μ 1) x) (pKi N (cS μ 1) x) := by
  intro d K hK
  have hS := hP.1.2.1
  have hC := hS.1
  have hmu := hC.1
  unfold mL at hmu
  have hN := hC.2.1
  have h8 := hC.2.2.1
  unfold vKi pKi at hK
  rw [hP.2.1.gFM] at hK
  by_cases hx : isN x 4 = true
  · simp only [if_pos hx] at hK
    simp only [gX3_kinds_5, gX3_kinds_6, gX3_kinds_7, gX3_kinds_8, gX3_kinds_11, gX3_kinds_14, gX3_kinds_15, gX3_kinds_16, gX3_kinds_17, gX3_kinds_18, gX3_kinds_19, gX3_kinds_20, gX3_kinds_21, am_kill_int, am_kill_ref, am_kill_null, am_kill_F, am_kill_long, am_cat_n, am_cat_i, am_cat_r, am_cat_0, am_cat_l, am_nr_n, am_nr_i, am_nr_r, am_nr_0, am_nr_l, Option.toList_some, Option.toList_none, List.nil_append, List.cons_append, va_rf_s, va_rf_n, am_I_sR, am_I_sL, am_R_sI, am_R_sL, am_L_sI, am_L_sR, am_k_sI, am_k_sR, am_k_sL, am_n_sI, am_n_sR, am_n_sL, true_and, and_true, true_or, or_true, or_false, false_or, not_true_eq_false, not_false_eq_true, Nat.reduceLT, am_dS, am_dP, am_d1, Nat.reduceSub, Nat.reduceMul, ne_eq, Nat.reduceBEq, Nat.reduceAdd, Nat.reduceLeDiff, Nat.reduceEqDiff, and_self, and_false, false_and, if_true, if_false, am_nb, am_nb0, am_nb1, am_lc1, am_lc2, am_lc3, am_b0, am_b1, am_10, am_c8, am_c16, am_c24, am_c32, am_c40, am_c48, am_c56, am_c64, am_c72, Nat.add_zero, Bool.false_eq_true, Nat.zero_le, wX3_in, e3I, am_isb, hx]
    refine am_for (N := N) (fun n ls ν => ls = [.ref 54, .int x, .int (orB (kdB x (cS μ 1)) n), .int (kdS x (cS μ 1) n), .int (nI n)] ∧ ν = μ) ?_ ?_ N 0 _ _ (by omega) ⟨rfl, rfl⟩
    · rintro n ls ν hn ⟨rfl, rfl⟩ ih
      have hlt : ¬ nI N ≤ nI n := nI_ge hn (by omega)
      have hv0 : vp_in (nI n) 83 := vp_in_nI (by omega) (by omega)
      have hcj : (nI n).toNatClampNeg = n := nI_clamp (by omega)
      have hv : vp_in (nI (24 + n)) 83 := vp_in_nI (by omega) (by omega)
      have hcl : (nI (24 + n)).toNatClampNeg = 24 + n := nI_clamp (by omega)
      have e0 : am_I ν 55 n = cS ν 1 n := (hP.2.1.r0 hn).symm
      have e3 : am_I ν 55 (24 + n) = cS ν 1 (24 + n) := (hP.2.1.r3 hn).symm
      have ih' := ih [.ref 54, .int x, .int (orB (kdB x (cS ν 1)) (n + 1)), .int (kdS x (cS ν 1) (n + 1)), .int (nI (n + 1))] ν ⟨rfl, rfl⟩
      unfold kdS at ih'
      rw [gX3_kinds_23]
      by_cases q : cS ν 1 n = x
      · have hp : kdB x (cS ν 1) n = true := decide_eq_true q
        rw [if_pos hp, ← orB_t hp] at ih'
        simp only [gX3_kinds_25, gX3_kinds_26, gX3_kinds_29, gX3_kinds_32, gX3_kinds_33, gX3_kinds_36, gX3_kinds_38, gX3_kinds_39, gX3_kinds_40, gX3_kinds_43, gX3_kinds_46, gX3_kinds_47, gX3_kinds_48, gX3_kinds_50, gX3_kinds_51, gX3_kinds_52, gX3_kinds_53, gX3_kinds_54, gX3_kinds_55, gX3_kinds_58, gX3_kinds_60, gX3_kinds_62, gX3_kinds_63, gX3_kinds_64, gX3_kinds_65, gX3_kinds_66, gX3_kinds_69, am_kill_int, am_kill_ref, am_kill_null, am_kill_F, am_kill_long, am_cat_n, am_cat_i, am_cat_r, am_cat_0, am_cat_l, am_nr_n, am_nr_i, am_nr_r, am_nr_0, am_nr_l, Option.toList_some, Option.toList_none, List.nil_append, List.cons_append, va_rf_s, va_rf_n, am_II, am_I_sR, am_I_sL, am_R_sI, am_RR, am_R_sL, am_L_sI, am_L_sR, am_LL, am_k_sI, am_k_sR, am_k_sL, am_n_sI, am_n_sR, am_n_sL, true_and, and_true, true_or, or_true, or_false, false_or, not_true_eq_false, not_false_eq_true, Nat.reduceLT, am_dS, am_dP, am_d1, Nat.reduceSub, Nat.reduceMul, ne_eq, Nat.reduceBEq, Nat.reduceAdd, Nat.reduceLeDiff, Nat.reduceEqDiff, and_self, and_false, false_and, if_true, if_false, am_nb, am_nb0, am_nb1, am_lc1, am_lc2, am_lc3, am_b0, am_b1, am_10, am_c8, am_c16, am_c24, am_c32, am_c40, am_c48, am_c56, am_c64, am_c72, Nat.add_zero, Bool.false_eq_true, Nat.zero_le, hlt, hmu, hN, hv0, hcj, hv, hcl, e0, e3, q, nI_1]
        exact ih'
      · have hp : kdB x (cS ν 1) n = false := decide_eq_false q
        have e0' : orB (kdB x (cS ν 1)) (n + 1) = orB (kdB x (cS ν 1)) n := by rw [← orB_f hp, Int32.or_zero]
        rw [if_neg (by rw [hp]; decide), e0'] at ih'
        simp only [gX3_kinds_25, gX3_kinds_26, gX3_kinds_29, gX3_kinds_32, gX3_kinds_33, gX3_kinds_36, gX3_kinds_38, gX3_kinds_39, gX3_kinds_40, gX3_kinds_43, gX3_kinds_46, gX3_kinds_47, gX3_kinds_48, gX3_kinds_50, gX3_kinds_51, gX3_kinds_52, gX3_kinds_53, gX3_kinds_54, gX3_kinds_55, gX3_kinds_58, gX3_kinds_60, gX3_kinds_62, gX3_kinds_63, gX3_kinds_64, gX3_kinds_65, gX3_kinds_66, gX3_kinds_69, am_kill_int, am_kill_ref, am_kill_null, am_kill_F, am_kill_long, am_cat_n, am_cat_i, am_cat_r, am_cat_0, am_cat_l, am_nr_n, am_nr_i, am_nr_r, am_nr_0, am_nr_l, Option.toList_some, Option.toList_none, List.nil_append, List.cons_append, va_rf_s, va_rf_n, am_II, am_I_sR, am_I_sL, am_R_sI, am_RR, am_R_sL, am_L_sI, am_L_sR, am_LL, am_k_sI, am_k_sR, am_k_sL, am_n_sI, am_n_sR, am_n_sL, true_and, and_true, true_or, or_true, or_false, false_or, not_true_eq_false, not_false_eq_true, Nat.reduceLT, am_dS, am_dP, am_d1, Nat.reduceSub, Nat.reduceMul, ne_eq, Nat.reduceBEq, Nat.reduceAdd, Nat.reduceLeDiff, Nat.reduceEqDiff, and_self, and_false, false_and, if_true, if_false, am_nb, am_nb0, am_nb1, am_lc1, am_lc2, am_lc3, am_b0, am_b1, am_10, am_c8, am_c16, am_c24, am_c32, am_c40, am_c48, am_c56, am_c64, am_c72, Nat.add_zero, Bool.false_eq_true, Nat.zero_le, hlt, hmu, hN, hv0, hcj, hv, hcl, e0, e3, q, nI_1]
        exact ih'
    · rintro ls ν ⟨rfl, rfl⟩
      have hF2 : Fw sM ν (am_sI (am_sL (am_sI (am_sL (am_sI ν 54 6 0) 57 0 (bcI (orB (kdB x (cS ν 1)) N)).toInt64) 54 6 1) 57 1 (kdS x (cS ν 1) N).toInt64) 54 6 2) := ((((Fw.refl.I (by unfold sM; omega)).L (Or.inr rfl)).I (by unfold sM; omega)).L (Or.inr rfl)).I (by unfold sM; omega)
      have hS2 := hS.sMm hF2 (by simp only [am_II, am_I_sL, Nat.reduceEqDiff, and_false, if_false]; exact hP.h17)
      have h3 := fun K => wX3_guests (d := d + 199) (K := K) hS2.1 (h := 55) hmu.1.2.1
      rw [am_row_o (by decide), am_I_sL, am_row_o (by decide), am_I_sL, am_row_o (by decide)] at h3
      rw [gX3_kinds_23]
      simp only [gX3_kinds_25, gX3_kinds_26, gX3_kinds_29, gX3_kinds_72, gX3_kinds_73, gX3_kinds_74, gX3_kinds_77, gX3_kinds_78, gX3_kinds_79, gX3_kinds_82, gX3_kinds_83, gX3_kinds_86, gX3_kinds_87, gX3_kinds_88, gX3_kinds_89, gX3_kinds_92, gX3_kinds_93, gX3_kinds_94, gX3_kinds_95, gX3_kinds_96, gX3_kinds_99, am_kill_int, am_kill_ref, am_kill_null, am_kill_F, am_kill_long, am_cat_n, am_cat_i, am_cat_r, am_cat_0, am_cat_l, am_nr_n, am_nr_i, am_nr_r, am_nr_0, am_nr_l, Option.toList_some, Option.toList_none, List.nil_append, List.cons_append, va_rf_s, va_rf_n, am_II, am_I_sR, am_I_sL, am_R_sI, am_RR, am_R_sL, am_L_sI, am_L_sR, am_LL, am_k_sI, am_k_sR, am_k_sL, am_n_sI, am_n_sR, am_n_sL, true_and, and_true, true_or, or_true, or_false, false_or, not_true_eq_false, not_false_eq_true, Nat.reduceLT, am_dS, am_dP, am_d1, Nat.reduceSub, Nat.reduceMul, ne_eq, Nat.reduceBEq, Nat.reduceAdd, Nat.reduceLeDiff, Nat.reduceEqDiff, and_self, and_false, false_and, if_true, if_false, am_nb, am_nb0, am_nb1, am_lc1, am_lc2, am_lc3, am_b0, am_b1, am_10, am_c8, am_c16, am_c24, am_c32, am_c40, am_c48, am_c56, am_c64, am_c72, Nat.add_zero, Bool.false_eq_true, Nat.zero_le, hmu, hN, Int32.le_refl, wJ10_bitCount, wX3_tell0, wX3_tell1]
      rw [h3]
      simp only [gX3_kinds_102, gX3_kinds_103, gX3_kinds_106, gX3_kinds_107, gX3_kinds_110, gX3_kinds_111, am_kill_int, am_kill_ref, am_kill_null, am_kill_F, am_kill_long, am_cat_n, am_cat_i, am_cat_r, am_cat_0, am_cat_l, am_nr_n, am_nr_i, am_nr_r, am_nr_0, am_nr_l, Option.toList_some, Option.toList_none, List.nil_append, List.cons_append, va_rf_s, va_rf_n, am_II, am_I_sR, am_I_sL, am_R_sI, am_RR, am_R_sL, am_L_sI, am_L_sR, am_LL, am_k_sI, am_k_sR, am_k_sL, am_n_sI, am_n_sR, am_n_sL, true_and, and_true, true_or, or_true, or_false, false_or, not_true_eq_false, not_false_eq_true, Nat.reduceLT, am_dS, am_dP, am_d1, Nat.reduceSub, Nat.reduceMul, ne_eq, Nat.reduceBEq, Nat.reduceAdd, Nat.reduceLeDiff, Nat.reduceEqDiff, and_self, and_false, false_and, if_true, if_false, am_nb, am_nb0, am_nb1, am_lc1, am_lc2, am_lc3, am_b0, am_b1, am_10, am_c8, am_c16, am_c24, am_c32, am_c40, am_c48, am_c56, am_c64, am_c72, Nat.add_zero, Bool.false_eq_true, Nat.zero_le, hmu, wJ10_bitCount, wX3_tell2]
      refine hK _ ((hF2.L (Or.inr rfl)).I (by unfold sM; omega)) ?_ (TN3 ?_ ?_ ?_ ?_) (fun i => ?_)
      · simp only [am_II, am_I_sL, Nat.reduceEqDiff, and_false, if_false]; exact hP.h17
      · simp only [am_II, and_self, if_true]
      · simp only [am_L_sI, am_LL, and_self, if_true, Nat.reduceEqDiff, and_false, if_false]
      · simp only [am_L_sI, am_LL, and_self, if_true, Nat.reduceEqDiff, and_false, if_false]
      · simp only [am_L_sI, am_LL, and_self, if_true]
      · simp only [am_L_sI, am_LL, Nat.reduceEqDiff, false_and, if_false]
  · simp only [hx, Bool.false_eq_true, if_false] at hK
    simp only [gX3_kinds_5, gX3_kinds_6, gX3_kinds_7, gX3_kinds_8, gX3_kinds_11, gX3_kinds_14, gX3_kinds_15, am_kill_int, am_kill_ref, am_kill_null, am_kill_F, am_kill_long, am_cat_n, am_cat_i, am_cat_r, am_cat_0, am_cat_l, am_nr_n, am_nr_i, am_nr_r, am_nr_0, am_nr_l, Option.toList_some, Option.toList_none, List.nil_append, List.cons_append, va_rf_s, va_rf_n, am_I_sR, am_I_sL, am_R_sI, am_R_sL, am_L_sI, am_L_sR, am_k_sI, am_k_sR, am_k_sL, am_n_sI, am_n_sR, am_n_sL, true_and, and_true, true_or, or_true, or_false, false_or, not_true_eq_false, not_false_eq_true, Nat.reduceLT, am_dS, am_dP, am_d1, Nat.reduceSub, Nat.reduceMul, ne_eq, Nat.reduceBEq, Nat.reduceAdd, Nat.reduceLeDiff, Nat.reduceEqDiff, and_self, and_false, false_and, if_true, if_false, am_nb, am_nb0, am_nb1, am_lc1, am_lc2, am_lc3, am_b0, am_b1, am_10, am_c8, am_c16, am_c24, am_c32, am_c40, am_c48, am_c56, am_c64, am_c72, Nat.add_zero, Bool.false_eq_true, Nat.zero_le, wX3_in, e3I, am_isb, hx]
    exact hK μ Fw.refl hP.h17 TN0 (fun _ => rfl)
theorem op_kinds (hI : Inv q μ) : OP q mX1_kinds mX3_kinds [.ref 0, .int x, am_F, am_F, am_F] [.ref 54, .int x, am_F, am_F, am_F] μ :=
  op_S (V := fun N ru c S => vKi N S x) (P := fun N ru c S => pKi N S x) (fun hP => qc_kinds hP) (fun d K μ h h' => by simp only [gX3_kinds_0, gX3_kinds_1, gX3_kinds_2, am_kill_int, am_kill_ref, am_kill_null, am_kill_F, am_kill_long, am_cat_n, am_cat_i, am_cat_r, am_cat_0, am_cat_l, am_nr_n, am_nr_i, am_nr_r, am_nr_0, am_nr_l, Option.toList_some, Option.toList_none, List.nil_append, List.cons_append, va_rf_s, va_rf_n, am_I_sR, am_I_sL, am_R_sI, am_R_sL, am_L_sI, am_L_sR, am_k_sI, am_k_sR, am_k_sL, am_n_sI, am_n_sR, am_n_sL, true_and, and_true, true_or, or_true, or_false, false_or, not_true_eq_false, not_false_eq_true, Nat.reduceLT, am_dS, am_dP, am_d1, Nat.reduceSub, Nat.reduceMul, ne_eq, Nat.reduceBEq, Nat.reduceAdd, Nat.reduceLeDiff, Nat.reduceEqDiff, and_self, and_false, false_and, if_true, if_false, am_nb, am_nb0, am_nb1, am_lc1, am_lc2, am_lc3, am_b0, am_b1, am_10, am_c8, am_c16, am_c24, am_c32, am_c40, am_c48, am_c56, am_c64, am_c72, Nat.add_zero, Bool.false_eq_true, Nat.zero_le, h]; exact h') (fun hP => q5_kinds hP) hI
end OJV
