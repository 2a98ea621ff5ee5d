/-! calls that ask: lodgings, movers -/
set_option maxRecDepth 100000
section LOV
variable {d : Nat} {μ ν ξ μ1 ν1 : am_M} {K : Option Value → am_M → Prop} {x y z c w : Int32} {h h' N C i j k r n L R M m a b e q q' t u s f : Nat} {v : Int32} {ru : Option PF} {S S' T : Nat → Int32} {cf : Nat → Int32} {dl : Nat → Nat → Int32} {p : Nat → Bool} {lo : Nat → Nat}
def cfS (S : Nat → Int32) (o : Nat) : Int32 := S (16 + o)
def vLod (N : Nat) (S : Nat → Int32) : Int32 := if N = 0 then -1 else nI (lyL N (cfS S) 0)
def pLod (N : Nat) (S : Nat → Int32) : Option (List Int64) := some ((List.range N).map fun n => (nI (lyL N (cfS S) n)).toInt64)
def mvB (N : Nat) (S : Nat → Int32) (n : Nat) : Bool := !decide (lyL N (cfS S) n = n)
theorem lodP_l : ((List.range N).map fun n => (nI (lyL N (cfS S) n)).toInt64).length = N := by rw [List.length_map, List.length_range]
theorem lodP_g (hi : i < N) : ((List.range N).map fun n => (nI (lyL N (cfS S) n)).toInt64).getD i 0 = (nI (lyL N (cfS S) i)).toInt64 := by
  rw [List.getD_eq_getElem?_getD, List.getElem?_map, List.getElem?_range hi]; rfl
theorem nz_I (hN : N ≤ 8) : (nI N = 0) = (N = 0) := by rw [← nI_0, nI_inj (by omega) (by omega)]
theorem qc_lodgings (hP : Per N C ru c μ) : QC mX1_lodgings [.ref 0, am_F] μ (vLod N (cS μ 1)) (pLod N (cS μ 1)) := by
  intro d K hK
  have hC := hP.1.1
  have hcu := hC.1
  simp only [cL, spL, Nat.reduceAdd] at hcu
  have hN := hC.2.1
  have h8 := hC.2.2.1
  have hk := hC.1.c
  simp only [gX1_lodgings_0, gX1_lodgings_1, am_kill_int, am_kill_ref, am_kill_null, am_kill_F, am_kill_long, am_cat_n, am_cat_i, am_cat_r, am_cat_0, am_cat_l, am_nr_n, am_nr_i, am_nr_r, am_nr_0, am_nr_l, Option.toList_some, Option.toList_none, List.nil_append, List.cons_append, va_rf_s, va_rf_n, am_I_sR, am_I_sL, am_R_sI, am_R_sL, am_L_sI, am_L_sR, am_k_sI, am_k_sR, am_k_sL, am_n_sI, am_n_sR, am_n_sL, true_and, and_true, true_or, or_true, or_false, false_or, not_true_eq_false, not_false_eq_true, Nat.reduceLT, am_dS, am_dP, am_d1, Nat.reduceSub, Nat.reduceMul, ne_eq, Nat.reduceBEq, Nat.reduceAdd, Nat.reduceLeDiff, Nat.reduceEqDiff, and_self, and_false, false_and, if_true, if_false, am_nb, am_nb0, am_nb1, am_lc1, am_lc2, am_lc3, am_b0, am_b1, am_10, am_c8, am_c16, am_c24, am_c32, am_c40, am_c48, am_c56, am_c64, am_c72, Nat.add_zero, Bool.false_eq_true, Nat.zero_le, hk]
  refine wX1_laysLodgings (d := d + 196) hC (cf := cfS (cS μ 1)) (fun o _ => rfl) (fun ν hF hr => ?_)
  have hC1 : CC N ru c ν := hC.fr hF (fun a b z => by omega)
  have hcu := hC1.1
  simp only [cL, spL, Nat.reduceAdd] at hcu
  have hN1 := hC1.2.1
  have hlt8 : ∀ n, n < N → lyL N (cfS (cS μ 1)) n < N := fun n hn => lyL_lt h8 hn
  simp only [gX1_lodgings_4, gX1_lodgings_5, gX1_lodgings_6, gX1_lodgings_9, gX1_lodgings_10, am_kill_int, am_kill_ref, am_kill_null, am_kill_F, am_kill_long, am_cat_n, am_cat_i, am_cat_r, am_cat_0, am_cat_l, am_nr_n, am_nr_i, am_nr_r, am_nr_0, am_nr_l, Option.toList_some, Option.toList_none, List.nil_append, List.cons_append, va_rf_s, va_rf_n, am_I_sR, am_I_sL, am_R_sI, am_R_sL, am_L_sI, am_L_sR, am_k_sI, am_k_sR, am_k_sL, am_n_sI, am_n_sR, am_n_sL, true_and, and_true, true_or, or_true, or_false, false_or, not_true_eq_false, not_false_eq_true, Nat.reduceLT, am_dS, am_dP, am_d1, Nat.reduceSub, Nat.reduceMul, ne_eq, Nat.reduceBEq, Nat.reduceAdd, Nat.reduceLeDiff, Nat.reduceEqDiff, and_self, and_false, false_and, if_true, if_false, am_nb, am_nb0, am_nb1, am_lc1, am_lc2, am_lc3, am_b0, am_b1, am_10, am_c8, am_c16, am_c24, am_c32, am_c40, am_c48, am_c56, am_c64, am_c72, Nat.add_zero, Bool.false_eq_true, Nat.zero_le, hcu]
  refine am_for (N := N) (fun i ls ρ => ls = [.ref 0, .int (nI i)] ∧ Fw (fun a b => a = 0 ∧ b = 40) ν ρ ∧ am_I ρ 0 40 = nI i ∧ (∀ j, j < i → am_L ρ 53 j = (nI (lyL N (cfS (cS μ 1)) j)).toInt64) ∧ ∀ j, am_L ρ 57 j = am_L ν 57 j) ?_ ?_ N 0 _ _ (by omega) ⟨rfl, Fw.I Fw.refl ⟨rfl, rfl⟩, by rw [am_I_sI, if_pos ⟨rfl, rfl⟩]; rfl, fun j hj => absurd hj (Nat.not_lt_zero j), fun j => rfl⟩
  · rintro i ls ρ hi ⟨rfl, g1, g2, g3, g4⟩ ih
    have hCρ : CC N ru c ρ := hC1.fw g1 (fun a b z => by omega)
    have hcu := hCρ.1
    simp only [cL, spL, Nat.reduceAdd] at hcu
    have hNρ := hCρ.2.1
    have hlt : ¬ nI N ≤ nI i := nI_ge hi (by omega)
    have hin : vp_in (nI i) 8 := vp_in_nI (by omega) (by omega)
    have hcl : (nI i).toNatClampNeg = i := nI_clamp (by omega)
    have e : am_I ρ 47 i = nI (lyL N (cfS (cS μ 1)) i) := (g1.1 47 i (by omega)).trans (hr i hi)
    rw [gX1_lodgings_11]
    simp only [gX1_lodgings_12, gX1_lodgings_13, gX1_lodgings_16, gX1_lodgings_19, gX1_lodgings_20, gX1_lodgings_21, gX1_lodgings_24, gX1_lodgings_25, gX1_lodgings_26, gX1_lodgings_27, gX1_lodgings_30, gX1_lodgings_33, am_kill_int, am_kill_ref, am_kill_null, am_kill_F, am_kill_long, am_cat_n, am_cat_i, am_cat_r, am_cat_0, am_cat_l, am_nr_n, am_nr_i, am_nr_r, am_nr_0, am_nr_l, Option.toList_some, Option.toList_none, List.nil_append, List.cons_append, va_rf_s, va_rf_n, am_II, am_I_sR, am_I_sL, am_R_sI, am_RR, am_R_sL, am_L_sI, am_L_sR, am_LL, am_k_sI, am_k_sR, am_k_sL, am_n_sI, am_n_sR, am_n_sL, true_and, and_true, true_or, or_true, or_false, false_or, not_true_eq_false, not_false_eq_true, Nat.reduceLT, am_dS, am_dP, am_d1, Nat.reduceSub, Nat.reduceMul, ne_eq, Nat.reduceBEq, Nat.reduceAdd, Nat.reduceLeDiff, Nat.reduceEqDiff, and_self, and_false, false_and, if_true, if_false, am_nb, am_nb0, am_nb1, am_lc1, am_lc2, am_lc3, am_b0, am_b1, am_10, am_c8, am_c16, am_c24, am_c32, am_c40, am_c48, am_c56, am_c64, am_c72, Nat.add_zero, Bool.false_eq_true, Nat.zero_le, hcu, hNρ, hlt, hin, hcl, e, wX1_tells (r := i) g2 (by omega : i < 16), nI_1]
    refine ih _ _ ⟨rfl, (g1.L (Or.inl rfl)).I ⟨rfl, rfl⟩, by rw [am_I_sI, if_pos ⟨rfl, rfl⟩], fun j hj => ?_, fun j => ?_⟩
    · rw [am_L_sI, am_LL]
      by_cases f : j = i
      · subst f; rw [if_pos ⟨rfl, rfl⟩]
      · rw [if_neg (by omega)]; exact g3 j (by omega)
    · rw [am_L_sI, am_LL, if_neg (by omega)]; exact g4 j
  · rintro ls ρ ⟨rfl, g1, g2, g3, g4⟩
    have hCρ : CC N ru c ρ := hC1.fw g1 (fun a b z => by omega)
    have hcu := hCρ.1
    simp only [cL, spL, Nat.reduceAdd] at hcu
    have hNρ := hCρ.2.1
    have hFs : Fw sC μ ρ := (hF.toW.le fun a b z => by unfold sC; omega).trans (g1.le fun a b z => by unfold sC; omega)
    have fin := hK ρ hFs (⟨by rw [lodP_l]; omega, by rw [lodP_l]; exact g2, fun i hi => by rw [lodP_l] at hi; rw [lodP_g hi]; exact g3 i hi⟩) (fun i => (g4 i).trans hF.L)
    unfold vLod at fin
    have hz := nz_I (N := N) h8
    rw [gX1_lodgings_11]
    by_cases h0 : N = 0
    · rw [if_pos h0] at fin
      simp only [gX1_lodgings_12, gX1_lodgings_13, gX1_lodgings_16, gX1_lodgings_36, gX1_lodgings_37, gX1_lodgings_40, gX1_lodgings_43, gX1_lodgings_44, gX1_lodgings_47, gX1_lodgings_48, gX1_lodgings_51, gX1_lodgings_52, gX1_lodgings_53, am_kill_int, am_kill_ref, am_kill_null, am_kill_F, am_kill_long, am_cat_n, am_cat_i, am_cat_r, am_cat_0, am_cat_l, am_nr_n, am_nr_i, am_nr_r, am_nr_0, am_nr_l, Option.toList_some, Option.toList_none, List.nil_append, List.cons_append, va_rf_s, va_rf_n, am_II, am_I_sR, am_I_sL, am_R_sI, am_RR, am_R_sL, am_L_sI, am_L_sR, am_LL, am_k_sI, am_k_sR, am_k_sL, am_n_sI, am_n_sR, am_n_sL, true_and, and_true, true_or, or_true, or_false, false_or, not_true_eq_false, not_false_eq_true, Nat.reduceLT, am_dS, am_dP, am_d1, Nat.reduceSub, Nat.reduceMul, ne_eq, Nat.reduceBEq, Nat.reduceAdd, Nat.reduceLeDiff, Nat.reduceEqDiff, and_self, and_false, false_and, if_true, if_false, am_nb, am_nb0, am_nb1, am_lc1, am_lc2, am_lc3, am_b0, am_b1, am_10, am_c8, am_c16, am_c24, am_c32, am_c40, am_c48, am_c56, am_c64, am_c72, Nat.add_zero, Bool.false_eq_true, Nat.zero_le, hcu, hNρ, Int32.le_refl, hz, h0]
      exact fin
    · rw [if_neg h0] at fin
      have e0 : am_I ρ 47 0 = nI (lyL N (cfS (cS μ 1)) 0) := (g1.1 47 0 (by omega)).trans (hr 0 (by omega))
      have z0 : (0 : Int32).toNatClampNeg = 0 := by decide
      have i0 : vp_in 0 8 := vp_in_nI (n := 0) (by decide) (by decide)
      simp only [gX1_lodgings_12, gX1_lodgings_13, gX1_lodgings_16, gX1_lodgings_36, gX1_lodgings_37, gX1_lodgings_40, gX1_lodgings_43, gX1_lodgings_44, gX1_lodgings_47, gX1_lodgings_48, gX1_lodgings_51, gX1_lodgings_52, gX1_lodgings_53, am_kill_int, am_kill_ref, am_kill_null, am_kill_F, am_kill_long, am_cat_n, am_cat_i, am_cat_r, am_cat_0, am_cat_l, am_nr_n, am_nr_i, am_nr_r, am_nr_0, am_nr_l, Option.toList_some, Option.toList_none, List.nil_append, List.cons_append, va_rf_s, va_rf_n, am_II, am_I_sR, am_I_sL, am_R_sI, am_RR, am_R_sL, am_L_sI, am_L_sR, am_LL, am_k_sI, am_k_sR, am_k_sL, am_n_sI, am_n_sR, am_n_sL, true_and, and_true, true_or, or_true, or_false, false_or, not_true_eq_false, not_false_eq_true, Nat.reduceLT, am_dS, am_dP, am_d1, Nat.reduceSub, Nat.reduceMul, ne_eq, Nat.reduceBEq, Nat.reduceAdd, Nat.reduceLeDiff, Nat.reduceEqDiff, and_self, and_false, false_and, if_true, if_false, am_nb, am_nb0, am_nb1, am_lc1, am_lc2, am_lc3, am_b0, am_b1, am_10, am_c8, am_c16, am_c24, am_c32, am_c40, am_c48, am_c56, am_c64, am_c72, Nat.add_zero, Bool.false_eq_true, Nat.zero_le, hcu, hNρ, Int32.le_refl, hz, h0, z0, i0, e0]
      exact fin
theorem qc_movers (hP : Per N C ru c μ) : QC mX1_movers [.ref 0, am_F, am_F] μ (bcI (orB (mvB N (cS μ 1)) N)) (some [(orB (mvB N (cS μ 1)) N).toInt64]) := by
  intro d K hK
  have hC := hP.1.1
  have hcu := hC.1
  simp only [cL, spL, Nat.reduceAdd] at hcu
  have hN := hC.2.1
  have h8 := hC.2.2.1
  have hk := hC.1.c
  simp only [gX1_movers_0, gX1_movers_1, am_kill_int, am_kill_ref, am_kill_null, am_kill_F, am_kill_long, am_cat_n, am_cat_i, am_cat_r, am_cat_0, am_cat_l, am_nr_n, am_nr_i, am_nr_r, am_nr_0, am_nr_l, Option.toList_some, Option.toList_none, List.nil_append, List.cons_append, va_rf_s, va_rf_n, am_I_sR, am_I_sL, am_R_sI, am_R_sL, am_L_sI, am_L_sR, am_k_sI, am_k_sR, am_k_sL, am_n_sI, am_n_sR, am_n_sL, true_and, and_true, true_or, or_true, or_false, false_or, not_true_eq_false, not_false_eq_true, Nat.reduceLT, am_dS, am_dP, am_d1, Nat.reduceSub, Nat.reduceMul, ne_eq, Nat.reduceBEq, Nat.reduceAdd, Nat.reduceLeDiff, Nat.reduceEqDiff, and_self, and_false, false_and, if_true, if_false, am_nb, am_nb0, am_nb1, am_lc1, am_lc2, am_lc3, am_b0, am_b1, am_10, am_c8, am_c16, am_c24, am_c32, am_c40, am_c48, am_c56, am_c64, am_c72, Nat.add_zero, Bool.false_eq_true, Nat.zero_le, hk]
  refine wX1_laysLodgings (d := d + 196) hC (cf := cfS (cS μ 1)) (fun o _ => rfl) (fun ν hF hr => ?_)
  have hC1 : CC N ru c ν := hC.fr hF (fun a b z => by omega)
  have hcu := hC1.1
  simp only [cL, spL, Nat.reduceAdd] at hcu
  have hN1 := hC1.2.1
  simp only [gX1_movers_4, gX1_movers_5, gX1_movers_6, gX1_movers_7, am_kill_int, am_kill_ref, am_kill_null, am_kill_F, am_kill_long, am_cat_n, am_cat_i, am_cat_r, am_cat_0, am_cat_l, am_nr_n, am_nr_i, am_nr_r, am_nr_0, am_nr_l, Option.toList_some, Option.toList_none, List.nil_append, List.cons_append, va_rf_s, va_rf_n, am_I_sR, am_I_sL, am_R_sI, am_R_sL, am_L_sI, am_L_sR, am_k_sI, am_k_sR, am_k_sL, am_n_sI, am_n_sR, am_n_sL, true_and, and_true, true_or, or_true, or_false, false_or, not_true_eq_false, not_false_eq_true, Nat.reduceLT, am_dS, am_dP, am_d1, Nat.reduceSub, Nat.reduceMul, ne_eq, Nat.reduceBEq, Nat.reduceAdd, Nat.reduceLeDiff, Nat.reduceEqDiff, and_self, and_false, false_and, if_true, if_false, am_nb, am_nb0, am_nb1, am_lc1, am_lc2, am_lc3, am_b0, am_b1, am_10, am_c8, am_c16, am_c24, am_c32, am_c40, am_c48, am_c56, am_c64, am_c72, Nat.add_zero, Bool.false_eq_true, Nat.zero_le]
  refine am_for (N := N) (fun i ls ρ => ρ = ν ∧ ls = [.ref 0, .int (orB (mvB N (cS μ 1)) i), .int (nI i)]) ?_ ?_ N 0 _ _ (by omega) ⟨rfl, rfl⟩
  · rintro i ls ρ hi ⟨rfl, rfl⟩ ih
    have hlt : ¬ nI N ≤ nI i := nI_ge hi (by omega)
    have hin : vp_in (nI i) 8 := vp_in_nI (by omega) (by omega)
    have hcl : (nI i).toNatClampNeg = i := nI_clamp (by omega)
    have e := hr i hi
    have hl := lyL_lt (cf := cfS (cS μ 1)) h8 hi
    have e2 : (nI (lyL N (cfS (cS μ 1)) i) = nI i) = (lyL N (cfS (cS μ 1)) i = i) := nI_inj (by omega) (by omega)
    rw [gX1_movers_8]
    by_cases f : lyL N (cfS (cS μ 1)) i = i
    · have b : mvB N (cS μ 1) i = false := by unfold mvB; rw [decide_eq_true f]; rfl
      simp only [gX1_movers_9, gX1_movers_10, gX1_movers_13, gX1_movers_16, gX1_movers_17, gX1_movers_18, gX1_movers_21, gX1_movers_22, gX1_movers_23, gX1_movers_24, gX1_movers_27, gX1_movers_28, gX1_movers_31, gX1_movers_32, gX1_movers_33, gX1_movers_34, gX1_movers_35, gX1_movers_36, gX1_movers_39, am_kill_int, am_kill_ref, am_kill_null, am_kill_F, am_kill_long, am_cat_n, am_cat_i, am_cat_r, am_cat_0, am_cat_l, am_nr_n, am_nr_i, am_nr_r, am_nr_0, am_nr_l, Option.toList_some, Option.toList_none, List.nil_append, List.cons_append, va_rf_s, va_rf_n, am_II, am_I_sR, am_I_sL, am_R_sI, am_RR, am_R_sL, am_L_sI, am_L_sR, am_LL, am_k_sI, am_k_sR, am_k_sL, am_n_sI, am_n_sR, am_n_sL, true_and, and_true, true_or, or_true, or_false, false_or, not_true_eq_false, not_false_eq_true, Nat.reduceLT, am_dS, am_dP, am_d1, Nat.reduceSub, Nat.reduceMul, ne_eq, Nat.reduceBEq, Nat.reduceAdd, Nat.reduceLeDiff, Nat.reduceEqDiff, and_self, and_false, false_and, if_true, if_false, am_nb, am_nb0, am_nb1, am_lc1, am_lc2, am_lc3, am_b0, am_b1, am_10, am_c8, am_c16, am_c24, am_c32, am_c40, am_c48, am_c56, am_c64, am_c72, Nat.add_zero, Bool.false_eq_true, Nat.zero_le, hcu, hN1, hlt, hin, hcl, e, e2, f, orB_f b, nI_1]
      exact ih _ _ ⟨rfl, rfl⟩
    · have b : mvB N (cS μ 1) i = true := by unfold mvB; rw [decide_eq_false f]; rfl
      simp only [gX1_movers_9, gX1_movers_10, gX1_movers_13, gX1_movers_16, gX1_movers_17, gX1_movers_18, gX1_movers_21, gX1_movers_22, gX1_movers_23, gX1_movers_24, gX1_movers_27, gX1_movers_28, gX1_movers_31, gX1_movers_32, gX1_movers_33, gX1_movers_34, gX1_movers_35, gX1_movers_36, gX1_movers_39, am_kill_int, am_kill_ref, am_kill_null, am_kill_F, am_kill_long, am_cat_n, am_cat_i, am_cat_r, am_cat_0, am_cat_l, am_nr_n, am_nr_i, am_nr_r, am_nr_0, am_nr_l, Option.toList_some, Option.toList_none, List.nil_append, List.cons_append, va_rf_s, va_rf_n, am_II, am_I_sR, am_I_sL, am_R_sI, am_RR, am_R_sL, am_L_sI, am_L_sR, am_LL, am_k_sI, am_k_sR, am_k_sL, am_n_sI, am_n_sR, am_n_sL, true_and, and_true, true_or, or_true, or_false, false_or, not_true_eq_false, not_false_eq_true, Nat.reduceLT, am_dS, am_dP, am_d1, Nat.reduceSub, Nat.reduceMul, ne_eq, Nat.reduceBEq, Nat.reduceAdd, Nat.reduceLeDiff, Nat.reduceEqDiff, and_self, and_false, false_and, if_true, if_false, am_nb, am_nb0, am_nb1, am_lc1, am_lc2, am_lc3, am_b0, am_b1, am_10, am_c8, am_c16, am_c24, am_c32, am_c40, am_c48, am_c56, am_c64, am_c72, Nat.add_zero, Bool.false_eq_true, Nat.zero_le, hcu, hN1, hlt, hin, hcl, e, e2, f, orB_t b, nI_1]
      exact ih _ _ ⟨rfl, rfl⟩
  · rintro ls ρ ⟨rfl, rfl⟩
    rw [gX1_movers_8]
    simp only [gX1_movers_9, gX1_movers_10, gX1_movers_13, gX1_movers_42, gX1_movers_43, gX1_movers_44, gX1_movers_47, gX1_movers_48, gX1_movers_49, gX1_movers_50, gX1_movers_53, gX1_movers_54, gX1_movers_57, am_kill_int, am_kill_ref, am_kill_null, am_kill_F, am_kill_long, am_cat_n, am_cat_i, am_cat_r, am_cat_0, am_cat_l, am_nr_n, am_nr_i, am_nr_r, am_nr_0, am_nr_l, Option.toList_some, Option.toList_none, List.nil_append, List.cons_append, va_rf_s, va_rf_n, am_II, am_I_sR, am_I_sL, am_R_sI, am_RR, am_R_sL, am_L_sI, am_L_sR, am_LL, am_k_sI, am_k_sR, am_k_sL, am_n_sI, am_n_sR, am_n_sL, true_and, and_true, true_or, or_true, or_false, false_or, not_true_eq_false, not_false_eq_true, Nat.reduceLT, am_dS, am_dP, am_d1, Nat.reduceSub, Nat.reduceMul, ne_eq, Nat.reduceBEq, Nat.reduceAdd, Nat.reduceLeDiff, Nat.reduceEqDiff, and_self, and_false, false_and, if_true, if_false, am_nb, am_nb0, am_nb1, am_lc1, am_lc2, am_lc3, am_b0, am_b1, am_10, am_c8, am_c16, am_c24, am_c32, am_c40, am_c48, am_c56, am_c64, am_c72, Nat.add_zero, Bool.false_eq_true, Nat.zero_le, hcu, hN1, Int32.le_refl, wX1_tells0, wJ10_bitCount]
    have hFs : Fw sC μ ρ := hF.toW.le fun a b z => by unfold sC; omega
    refine hK _ (((hFs.I (by unfold sC; omega)).L (Or.inl rfl)).I (by unfold sC; omega)) (TC1 ?_ ?_) (fun i => ?_)
    · simp only [am_II, and_self, if_true]
    · simp only [am_L_sI, am_LL, and_self, if_true]
    · simp only [am_L_sI, am_LL, Nat.reduceEqDiff, false_and, if_false]; exact hF.L
theorem q5_lodgings (hP : Per N C ru c μ) : Q5 mX3_lodgings [.ref 54, am_F] μ (vLod N (cS μ 1)) (pLod N (cS μ 1)) := by
  intro d K hK
  have hS := hP.1.2.1
  have hC := hS.1
  have hmu := hC.1
  unfold mL at hmu
  have hN := hC.2.1
  have h8 := hC.2.2.1
  simp only [gX3_lodgings_5, gX3_lodgings_6, am_kill_int, am_kill_ref, am_kill_null, am_kill_F, am_kill_long, am_cat_n, am_cat_i, am_cat_r, am_cat_0, am_cat_l, am_nr_n, am_nr_i, am_nr_r, am_nr_0, am_nr_l, Option.toList_some, Option.toList_none, List.nil_append, List.cons_append, va_rf_s, va_rf_n, am_I_sR, am_I_sL, am_R_sI, am_R_sL, am_L_sI, am_L_sR, am_k_sI, am_k_sR, am_k_sL, am_n_sI, am_n_sR, am_n_sL, true_and, and_true, true_or, or_true, or_false, false_or, not_true_eq_false, not_false_eq_true, Nat.reduceLT, am_dS, am_dP, am_d1, Nat.reduceSub, Nat.reduceMul, ne_eq, Nat.reduceBEq, Nat.reduceAdd, Nat.reduceLeDiff, Nat.reduceEqDiff, and_self, and_false, false_and, if_true, if_false, am_nb, am_nb0, am_nb1, am_lc1, am_lc2, am_lc3, am_b0, am_b1, am_10, am_c8, am_c16, am_c24, am_c32, am_c40, am_c48, am_c56, am_c64, am_c72, Nat.add_zero, Bool.false_eq_true, Nat.zero_le, hmu]
  refine wX3_layLodgings (d := d + 196) hC (cf := cfS (cS μ 1)) (fun o ho => (hP.2.1.r2 ho).symm) (fun ν hF hr => ?_)
  have hC1 : MC N c ν := hC.fr hF (fun a b z => by omega)
  have hcu := hC1.1
  unfold mL at hcu
  have hN1 := hC1.2.1
  have hlt8 : ∀ n, n < N → lyL N (cfS (cS μ 1)) n < N := fun n hn => lyL_lt h8 hn
  simp only [gX3_lodgings_9, gX3_lodgings_10, gX3_lodgings_11, gX3_lodgings_14, gX3_lodgings_15, am_kill_int, am_kill_ref, am_kill_null, am_kill_F, am_kill_long, am_cat_n, am_cat_i, am_cat_r, am_cat_0, am_cat_l, am_nr_n, am_nr_i, am_nr_r, am_nr_0, am_nr_l, Option.toList_some, Option.toList_none, List.nil_append, List.cons_append, va_rf_s, va_rf_n, am_I_sR, am_I_sL, am_R_sI, am_R_sL, am_L_sI, am_L_sR, am_k_sI, am_k_sR, am_k_sL, am_n_sI, am_n_sR, am_n_sL, true_and, and_true, true_or, or_true, or_false, false_or, not_true_eq_false, not_false_eq_true, Nat.reduceLT, am_dS, am_dP, am_d1, Nat.reduceSub, Nat.reduceMul, ne_eq, Nat.reduceBEq, Nat.reduceAdd, Nat.reduceLeDiff, Nat.reduceEqDiff, and_self, and_false, false_and, if_true, if_false, am_nb, am_nb0, am_nb1, am_lc1, am_lc2, am_lc3, am_b0, am_b1, am_10, am_c8, am_c16, am_c24, am_c32, am_c40, am_c48, am_c56, am_c64, am_c72, Nat.add_zero, Bool.false_eq_true, Nat.zero_le, hcu]
  refine am_for (N := N) (fun i ls ρ => ls = [.ref 54, .int (nI i)] ∧ Fw (fun a b => a = 54 ∧ b = 6) ν ρ ∧ am_I ρ 54 6 = nI i ∧ (∀ j, j < i → am_L ρ 57 j = (nI (lyL N (cfS (cS μ 1)) j)).toInt64) ∧ ∀ j, am_L ρ 53 j = am_L ν 53 j) ?_ ?_ N 0 _ _ (by omega) ⟨rfl, Fw.I Fw.refl ⟨rfl, rfl⟩, by rw [am_I_sI, if_pos ⟨rfl, rfl⟩]; rfl, fun j hj => absurd hj (Nat.not_lt_zero j), fun j => rfl⟩
  · rintro i ls ρ hi ⟨rfl, g1, g2, g3, g4⟩ ih
    have hCρ : MC N c ρ := hC1.fw g1 (fun a b z => by omega)
    have hcu := hCρ.1
    unfold mL at hcu
    have hNρ := hCρ.2.1
    have hlt : ¬ nI N ≤ nI i := nI_ge hi (by omega)
    have hin : vp_in (nI i) 8 := vp_in_nI (by omega) (by omega)
    have hcl : (nI i).toNatClampNeg = i := nI_clamp (by omega)
    have e : am_I ρ 71 i = nI (lyL N (cfS (cS μ 1)) i) := (g1.1 71 i (by omega)).trans (hr i hi)
    rw [gX3_lodgings_16]
    simp only [gX3_lodgings_17, gX3_lodgings_18, gX3_lodgings_21, gX3_lodgings_24, gX3_lodgings_25, gX3_lodgings_26, gX3_lodgings_29, gX3_lodgings_30, gX3_lodgings_31, gX3_lodgings_32, gX3_lodgings_35, gX3_lodgings_38, am_kill_int, am_kill_ref, am_kill_null, am_kill_F, am_kill_long, am_cat_n, am_cat_i, am_cat_r, am_cat_0, am_cat_l, am_nr_n, am_nr_i, am_nr_r, am_nr_0, am_nr_l, Option.toList_some, Option.toList_none, List.nil_append, List.cons_append, va_rf_s, va_rf_n, am_II, am_I_sR, am_I_sL, am_R_sI, am_RR, am_R_sL, am_L_sI, am_L_sR, am_LL, am_k_sI, am_k_sR, am_k_sL, am_n_sI, am_n_sR, am_n_sL, true_and, and_true, true_or, or_true, or_false, false_or, not_true_eq_false, not_false_eq_true, Nat.reduceLT, am_dS, am_dP, am_d1, Nat.reduceSub, Nat.reduceMul, ne_eq, Nat.reduceBEq, Nat.reduceAdd, Nat.reduceLeDiff, Nat.reduceEqDiff, and_self, and_false, false_and, if_true, if_false, am_nb, am_nb0, am_nb1, am_lc1, am_lc2, am_lc3, am_b0, am_b1, am_10, am_c8, am_c16, am_c24, am_c32, am_c40, am_c48, am_c56, am_c64, am_c72, Nat.add_zero, Bool.false_eq_true, Nat.zero_le, hcu, hNρ, hlt, hin, hcl, e, wX3_tellR (r := i) g2 (by omega : i < 16), nI_1]
    refine ih _ _ ⟨rfl, (g1.L (Or.inr rfl)).I ⟨rfl, rfl⟩, by rw [am_I_sI, if_pos ⟨rfl, rfl⟩], fun j hj => ?_, fun j => ?_⟩
    · rw [am_L_sI, am_LL]
      by_cases f : j = i
      · subst f; rw [if_pos ⟨rfl, rfl⟩]
      · rw [if_neg (by omega)]; exact g3 j (by omega)
    · rw [am_L_sI, am_LL, if_neg (by omega)]; exact g4 j
  · rintro ls ρ ⟨rfl, g1, g2, g3, g4⟩
    have hCρ : MC N c ρ := hC1.fw g1 (fun a b z => by omega)
    have hcu := hCρ.1
    unfold mL at hcu
    have hNρ := hCρ.2.1
    have hFs : Fw sM μ ρ := (hF.toW.le fun a b z => by unfold sM; omega).trans (g1.le fun a b z => by unfold sM; omega)
    have fin := hK ρ hFs (((g1.1 54 17 (by omega)).trans (hF.1 54 17 (by omega))).trans hP.h17) (⟨by rw [lodP_l]; exact g2, fun i hi => by rw [lodP_l] at hi; rw [lodP_g hi]; exact g3 i hi⟩) (fun i => (g4 i).trans hF.L)
    unfold vLod at fin
    have hz := nz_I (N := N) h8
    rw [gX3_lodgings_16]
    by_cases h0 : N = 0
    · rw [if_pos h0] at fin
      simp only [gX3_lodgings_17, gX3_lodgings_18, gX3_lodgings_21, gX3_lodgings_41, gX3_lodgings_42, gX3_lodgings_45, gX3_lodgings_48, gX3_lodgings_49, gX3_lodgings_52, gX3_lodgings_53, gX3_lodgings_56, gX3_lodgings_57, gX3_lodgings_58, am_kill_int, am_kill_ref, am_kill_null, am_kill_F, am_kill_long, am_cat_n, am_cat_i, am_cat_r, am_cat_0, am_cat_l, am_nr_n, am_nr_i, am_nr_r, am_nr_0, am_nr_l, Option.toList_some, Option.toList_none, List.nil_append, List.cons_append, va_rf_s, va_rf_n, am_II, am_I_sR, am_I_sL, am_R_sI, am_RR, am_R_sL, am_L_sI, am_L_sR, am_LL, am_k_sI, am_k_sR, am_k_sL, am_n_sI, am_n_sR, am_n_sL, true_and, and_true, true_or, or_true, or_false, false_or, not_true_eq_false, not_false_eq_true, Nat.reduceLT, am_dS, am_dP, am_d1, Nat.reduceSub, Nat.reduceMul, ne_eq, Nat.reduceBEq, Nat.reduceAdd, Nat.reduceLeDiff, Nat.reduceEqDiff, and_self, and_false, false_and, if_true, if_false, am_nb, am_nb0, am_nb1, am_lc1, am_lc2, am_lc3, am_b0, am_b1, am_10, am_c8, am_c16, am_c24, am_c32, am_c40, am_c48, am_c56, am_c64, am_c72, Nat.add_zero, Bool.false_eq_true, Nat.zero_le, hcu, hNρ, Int32.le_refl, hz, h0]
      exact fin
    · rw [if_neg h0] at fin
      have e0 : am_I ρ 71 0 = nI (lyL N (cfS (cS μ 1)) 0) := (g1.1 71 0 (by omega)).trans (hr 0 (by omega))
      have z0 : (0 : Int32).toNatClampNeg = 0 := by decide
      have i0 : vp_in 0 8 := vp_in_nI (n := 0) (by decide) (by decide)
      simp only [gX3_lodgings_17, gX3_lodgings_18, gX3_lodgings_21, gX3_lodgings_41, gX3_lodgings_42, gX3_lodgings_45, gX3_lodgings_48, gX3_lodgings_49, gX3_lodgings_52, gX3_lodgings_53, gX3_lodgings_56, gX3_lodgings_57, gX3_lodgings_58, am_kill_int, am_kill_ref, am_kill_null, am_kill_F, am_kill_long, am_cat_n, am_cat_i, am_cat_r, am_cat_0, am_cat_l, am_nr_n, am_nr_i, am_nr_r, am_nr_0, am_nr_l, Option.toList_some, Option.toList_none, List.nil_append, List.cons_append, va_rf_s, va_rf_n, am_II, am_I_sR, am_I_sL, am_R_sI, am_RR, am_R_sL, am_L_sI, am_L_sR, am_LL, am_k_sI, am_k_sR, am_k_sL, am_n_sI, am_n_sR, am_n_sL, true_and, and_true, true_or, or_true, or_false, false_or, not_true_eq_false, not_false_eq_true, Nat.reduceLT, am_dS, am_dP, am_d1, Nat.reduceSub, Nat.reduceMul, ne_eq, Nat.reduceBEq, Nat.reduceAdd, Nat.reduceLeDiff, Nat.reduceEqDiff, and_self, and_false, false_and, if_true, if_false, am_nb, am_nb0, am_nb1, am_lc1, am_lc2, am_lc3, am_b0, am_b1, am_10, am_c8, am_c16, am_c24, am_c32, am_c40, am_c48, am_c56, am_c64, am_c72, Nat.add_zero, Bool.false_eq_true, Nat.zero_le, hcu, hNρ, Int32.le_refl, hz, h0, z0, i0, e0]
      exact fin
theorem q5_movers (hP : Per N C ru c μ) : Q5 mX3_movers [.ref 54, am_F, am_F] μ (bcI (orB (mvB N (cS μ 1)) N)) (some [(orB (mvB N (cS μ 1)) N).toInt64]) := by
  intro d K hK
  have hS := hP.1.2.1
  have hC := hS.1
  have hmu := hC.1
  unfold mL at hmu
  have hN := hC.2.1
  have h8 := hC.2.2.1
  simp only [gX3_movers_5, gX3_movers_6, am_kill_int, am_kill_ref, am_kill_null, am_kill_F, am_kill_long, am_cat_n, am_cat_i, am_cat_r, am_cat_0, am_cat_l, am_nr_n, am_nr_i, am_nr_r, am_nr_0, am_nr_l, Option.toList_some, Option.toList_none, List.nil_append, List.cons_append, va_rf_s, va_rf_n, am_I_sR, am_I_sL, am_R_sI, am_R_sL, am_L_sI, am_L_sR, am_k_sI, am_k_sR, am_k_sL, am_n_sI, am_n_sR, am_n_sL, true_and, and_true, true_or, or_true, or_false, false_or, not_true_eq_false, not_false_eq_true, Nat.reduceLT, am_dS, am_dP, am_d1, Nat.reduceSub, Nat.reduceMul, ne_eq, Nat.reduceBEq, Nat.reduceAdd, Nat.reduceLeDiff, Nat.reduceEqDiff, and_self, and_false, false_and, if_true, if_false, am_nb, am_nb0, am_nb1, am_lc1, am_lc2, am_lc3, am_b0, am_b1, am_10, am_c8, am_c16, am_c24, am_c32, am_c40, am_c48, am_c56, am_c64, am_c72, Nat.add_zero, Bool.false_eq_true, Nat.zero_le, hmu]
  refine wX3_layLodgings (d := d + 196) hC (cf := cfS (cS μ 1)) (fun o ho => (hP.2.1.r2 ho).symm) (fun ν hF hr => ?_)
  have hC1 : MC N c ν := hC.fr hF (fun a b z => by omega)
  have hcu := hC1.1
  unfold mL at hcu
  have hN1 := hC1.2.1
  simp only [gX3_movers_9, gX3_movers_10, gX3_movers_11, gX3_movers_12, am_kill_int, am_kill_ref, am_kill_null, am_kill_F, am_kill_long, am_cat_n, am_cat_i, am_cat_r, am_cat_0, am_cat_l, am_nr_n, am_nr_i, am_nr_r, am_nr_0, am_nr_l, Option.toList_some, Option.toList_none, List.nil_append, List.cons_append, va_rf_s, va_rf_n, am_I_sR, am_I_sL, am_R_sI, am_R_sL, am_L_sI, am_L_sR, am_k_sI, am_k_sR, am_k_sL, am_n_sI, am_n_sR, am_n_sL, true_and, and_true, true_or, or_true, or_false, false_or, not_true_eq_false, not_false_eq_true, Nat.reduceLT, am_dS, am_dP, am_d1, Nat.reduceSub, Nat.reduceMul, ne_eq, Nat.reduceBEq, Nat.reduceAdd, Nat.reduceLeDiff, Nat.reduceEqDiff, and_self, and_false, false_and, if_true, if_false, am_nb, am_nb0, am_nb1, am_lc1, am_lc2, am_lc3, am_b0, am_b1, am_10, am_c8, am_c16, am_c24, am_c32, am_c40, am_c48, am_c56, am_c64, am_c72, Nat.add_zero, Bool.false_eq_true, Nat.zero_le]
  refine am_for (N := N) (fun i ls ρ => ρ = ν ∧ ls = [.ref 54, .int (orB (mvB N (cS μ 1)) i), .int (nI i)]) ?_ ?_ N 0 _ _ (by omega) ⟨rfl, rfl⟩
  · rintro i ls ρ hi ⟨rfl, rfl⟩ ih
    have hlt : ¬ nI N ≤ nI i := nI_ge hi (by omega)
    have hin : vp_in (nI i) 8 := vp_in_nI (by omega) (by omega)
    have hcl : (nI i).toNatClampNeg = i := nI_clamp (by omega)
    have e := hr i hi
    have hl := lyL_lt (cf := cfS (cS μ 1)) h8 hi
    have e2 : (nI (lyL N (cfS (cS μ 1)) i) = nI i) = (lyL N (cfS (cS μ 1)) i = i) := nI_inj (by omega) (by omega)
    rw [gX3_movers_13]
    by_cases f : lyL N (cfS (cS μ 1)) i = i
    · have b : mvB N (cS μ 1) i = false := by unfold mvB; rw [decide_eq_true f]; rfl
      simp only [gX3_movers_14, gX3_movers_15, gX3_movers_18, gX3_movers_21, gX3_movers_22, gX3_movers_23, gX3_movers_26, gX3_movers_27, gX3_movers_28, gX3_movers_29, gX3_movers_32, gX3_movers_33, gX3_movers_36, gX3_movers_37, gX3_movers_38, gX3_movers_39, gX3_movers_40, gX3_movers_41, gX3_movers_44, am_kill_int, am_kill_ref, am_kill_null, am_kill_F, am_kill_long, am_cat_n, am_cat_i, am_cat_r, am_cat_0, am_cat_l, am_nr_n, am_nr_i, am_nr_r, am_nr_0, am_nr_l, Option.toList_some, Option.toList_none, List.nil_append, List.cons_append, va_rf_s, va_rf_n, am_II, am_I_sR, am_I_sL, am_R_sI, am_RR, am_R_sL, am_L_sI, am_L_sR, am_LL, am_k_sI, am_k_sR, am_k_sL, am_n_sI, am_n_sR, am_n_sL, true_and, and_true, true_or, or_true, or_false, false_or, not_true_eq_false, not_false_eq_true, Nat.reduceLT, am_dS, am_dP, am_d1, Nat.reduceSub, Nat.reduceMul, ne_eq, Nat.reduceBEq, Nat.reduceAdd, Nat.reduceLeDiff, Nat.reduceEqDiff, and_self, and_false, false_and, if_true, if_false, am_nb, am_nb0, am_nb1, am_lc1, am_lc2, am_lc3, am_b0, am_b1, am_10, am_c8, am_c16, am_c24, am_c32, am_c40, am_c48, am_c56, am_c64, am_c72, Nat.add_zero, Bool.false_eq_true, Nat.zero_le, hcu, hN1, hlt, hin, hcl, e, e2, f, orB_f b, nI_1]
      exact ih _ _ ⟨rfl, rfl⟩
    · have b : mvB N (cS μ 1) i = true := by unfold mvB; rw [decide_eq_false f]; rfl
      simp only [gX3_movers_14, gX3_movers_15, gX3_movers_18, gX3_movers_21, gX3_movers_22, gX3_movers_23, gX3_movers_26, gX3_movers_27, gX3_movers_28, gX3_movers_29, gX3_movers_32, gX3_movers_33, gX3_movers_36, gX3_movers_37, gX3_movers_38, gX3_movers_39, gX3_movers_40, gX3_movers_41, gX3_movers_44, am_kill_int, am_kill_ref, am_kill_null, am_kill_F, am_kill_long, am_cat_n, am_cat_i, am_cat_r, am_cat_0, am_cat_l, am_nr_n, am_nr_i, am_nr_r, am_nr_0, am_nr_l, Option.toList_some, Option.toList_none, List.nil_append, List.cons_append, va_rf_s, va_rf_n, am_II, am_I_sR, am_I_sL, am_R_sI, am_RR, am_R_sL, am_L_sI, am_L_sR, am_LL, am_k_sI, am_k_sR, am_k_sL, am_n_sI, am_n_sR, am_n_sL, true_and, and_true, true_or, or_true, or_false, false_or, not_true_eq_false, not_false_eq_true, Nat.reduceLT, am_dS, am_dP, am_d1, Nat.reduceSub, Nat.reduceMul, ne_eq, Nat.reduceBEq, Nat.reduceAdd, Nat.reduceLeDiff, Nat.reduceEqDiff, and_self, and_false, false_and, if_true, if_false, am_nb, am_nb0, am_nb1, am_lc1, am_lc2, am_lc3, am_b0, am_b1, am_10, am_c8, am_c16, am_c24, am_c32, am_c40, am_c48, am_c56, am_c64, am_c72, Nat.add_zero, Bool.false_eq_true, Nat.zero_le, hcu, hN1, hlt, hin, hcl, e, e2, f, orB_t b, nI_1]
      exact ih _ _ ⟨rfl, rfl⟩
  · rintro ls ρ ⟨rfl, rfl⟩
    rw [gX3_movers_13]
    simp only [gX3_movers_14, gX3_movers_15, gX3_movers_18, gX3_movers_47, gX3_movers_48, gX3_movers_49, gX3_movers_52, gX3_movers_53, gX3_movers_54, gX3_movers_55, gX3_movers_58, gX3_movers_59, gX3_movers_62, am_kill_int, am_kill_ref, am_kill_null, am_kill_F, am_kill_long, am_cat_n, am_cat_i, am_cat_r, am_cat_0, am_cat_l, am_nr_n, am_nr_i, am_nr_r, am_nr_0, am_nr_l, Option.toList_some, Option.toList_none, List.nil_append, List.cons_append, va_rf_s, va_rf_n, am_II, am_I_sR, am_I_sL, am_R_sI, am_RR, am_R_sL, am_L_sI, am_L_sR, am_LL, am_k_sI, am_k_sR, am_k_sL, am_n_sI, am_n_sR, am_n_sL, true_and, and_true, true_or, or_true, or_false, false_or, not_true_eq_false, not_false_eq_true, Nat.reduceLT, am_dS, am_dP, am_d1, Nat.reduceSub, Nat.reduceMul, ne_eq, Nat.reduceBEq, Nat.reduceAdd, Nat.reduceLeDiff, Nat.reduceEqDiff, and_self, and_false, false_and, if_true, if_false, am_nb, am_nb0, am_nb1, am_lc1, am_lc2, am_lc3, am_b0, am_b1, am_10, am_c8, am_c16, am_c24, am_c32, am_c40, am_c48, am_c56, am_c64, am_c72, Nat.add_zero, Bool.false_eq_true, Nat.zero_le, hcu, hN1, Int32.le_refl, wX3_tell0, wJ10_bitCount]
    have hFs : Fw sM μ ρ := hF.toW.le fun a b z => by unfold sM; omega
    refine hK _ (((hFs.I (by unfold sM; omega)).L (Or.inr rfl)).I (by unfold sM; omega)) (by simp only [am_II, am_I_sL, Nat.reduceEqDiff, and_false, if_false]; exact (hF.1 54 17 (by omega)).trans hP.h17) (TN1 ?_ ?_) (fun i => ?_)
    · simp only [am_II, and_self, if_true]
    · simp only [am_L_sI, am_LL, and_self, if_true]
    · simp only [am_L_sI, am_LL, Nat.reduceEqDiff, false_and, if_false]; exact hF.L
theorem op_lodgings (hI : Inv q μ) : OP q mX1_lodgings mX3_lodgings [.ref 0, am_F] [.ref 54, am_F] μ :=
  op_S (V := fun N _ _ S => vLod N S) (P := fun N _ _ S => pLod N S) (fun hP => qc_lodgings hP) (fun d K μ h h' => by simp only [gX3_lodgings_0, gX3_lodgings_1, gX3_lodgings_2, am_kill_int, am_kill_ref, am_kill_null, am_kill_F, am_kill_long, am_cat_n, am_cat_i, am_cat_r, am_cat_0, am_cat_l, am_nr_n, am_nr_i, am_nr_r, am_nr_0, am_nr_l, Option.toList_some, Option.toList_none, List.nil_append, List.cons_append, va_rf_s, va_rf_n, am_I_sR, am_I_sL, am_R_sI, am_R_sL, am_L_sI, am_L_sR, am_k_sI, am_k_sR, am_k_sL, am_n_sI, am_n_sR, am_n_sL, true_and, and_true, true_or, or_true, or_false, false_or, not_true_eq_false, not_false_eq_true, Nat.reduceLT, am_dS, am_dP, am_d1, Nat.reduceSub, Nat.reduceMul, ne_eq, Nat.reduceBEq, Nat.reduceAdd, Nat.reduceLeDiff, Nat.reduceEqDiff, and_self, and_false, false_and, if_true, if_false, am_nb, am_nb0, am_nb1, am_lc1, am_lc2, am_lc3, am_b0, am_b1, am_10, am_c8, am_c16, am_c24, am_c32, am_c40, am_c48, am_c56, am_c64, am_c72, Nat.add_zero, Bool.false_eq_true, Nat.zero_le, h]; exact h') (fun hP => q5_lodgings hP) hI
theorem op_movers (hI : Inv q μ) : OP q mX1_movers mX3_movers [.ref 0, am_F, am_F] [.ref 54, am_F, am_F] μ :=
  op_S (V := fun N _ _ S => bcI (orB (mvB N S) N)) (P := fun N _ _ S => some [(orB (mvB N S) N).toInt64]) (fun hP => qc_movers hP) (fun d K μ h h' => by simp only [gX3_movers_0, gX3_movers_1, gX3_movers_2, am_kill_int, am_kill_ref, am_kill_null, am_kill_F, am_kill_long, am_cat_n, am_cat_i, am_cat_r, am_cat_0, am_cat_l, am_nr_n, am_nr_i, am_nr_r, am_nr_0, am_nr_l, Option.toList_some, Option.toList_none, List.nil_append, List.cons_append, va_rf_s, va_rf_n, am_I_sR, am_I_sL, am_R_sI, am_R_sL, am_L_sI, am_L_sR, am_k_sI, am_k_sR, am_k_sL, am_n_sI, am_n_sR, am_n_sL, true_and, and_true, true_or, or_true, or_false, false_or, not_true_eq_false, not_false_eq_true, Nat.reduceLT, am_dS, am_dP, am_d1, Nat.reduceSub, Nat.reduceMul, ne_eq, Nat.reduceBEq, Nat.reduceAdd, Nat.reduceLeDiff, Nat.reduceEqDiff, and_self, and_false, false_and, if_true, if_false, am_nb, am_nb0, am_nb1, am_lc1, am_lc2, am_lc3, am_b0, am_b1, am_10, am_c8, am_c16, am_c24, am_c32, am_c40, am_c48, am_c56, am_c64, am_c72, Nat.add_zero, Bool.false_eq_true, Nat.zero_le, h]; exact h') (fun hP => q5_movers hP) hI
end LOV
