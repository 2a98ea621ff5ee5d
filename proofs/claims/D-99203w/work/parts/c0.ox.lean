/-! calls that may throw: nest, guest, row -/
set_option maxRecDepth 100000
section OXV
variable {d : Nat} {μ ν ξ μ1 ν1 : am_M} {K : Option Value → am_M → Prop} {x y z c w : Int32} {h h' N C i j k r n M m a b e q q' t u s f B : Nat} {v : Int32} {ru : Option PF} {F G : Nat → Nat → Prop} {S S' T : Nat → Int32} {p : Int64} {mc mm : am_MI} {lc lm : List Value}
theorem Per.L {I : Nat → Nat → Int32} {L L' : Nat → Nat → Int64} {R : Nat → Nat → Option Nat} {k : Nat → Nat × Nat} {n c0 s0 c1 s1 : Nat} (hP : Per N C ru c (I, L, R, k, n, c0, s0)) : Per N C ru c (I, L', R, k, n, c1, s1) := by
  have he : nodeEq (I, L, R, k, n, c0, s0) (I, L', R, k, n, c1, s1) := ⟨Nat.le_refl _, fun h _ _ _ _ => ⟨rfl, fun _ => rfl, fun _ => rfl⟩⟩
  obtain ⟨⟨⟨a1, a2, a3, a4, a5⟩, b, c', d⟩, e⟩ := hP
  have a6 : ruC (I, L', R, k, n, c1, s1) ru := by
    cases ru with
    | none => exact a5
    | some f =>
      obtain ⟨a, h1, h2⟩ := a5
      have h3 : Tr 64 (I, L', R, k, n, c1, s1) a f := Tr.mono he h2
      exact ⟨a, h1, h3⟩
  exact ⟨⟨⟨a1, a2, a3, a4, a6⟩, b, c', d⟩, e⟩
/-- as μ but for longs and sizes -/
def eqL (μ ν : am_M) : Prop := am_I ν = am_I μ ∧ am_R ν = am_R μ ∧ am_k ν = am_k μ ∧ am_n ν = am_n μ ∧ am_c ν ≤ am_c μ + 100 ∧ am_s ν ≤ am_s μ + 1000 ∧ ∀ i, am_L ν 53 i = am_L μ 53 i ∧ am_L ν 57 i = am_L μ 57 i
theorem eqL.per (he : eqL μ ν) (hP : Per N C ru c μ) : Per N C ru c ν := by
  obtain ⟨I, L, R, k, n, c0, s0⟩ := μ
  obtain ⟨I', L', R', k', n', c1, s1⟩ := ν
  obtain ⟨e1, e2, e3, e4, _⟩ := he
  cases e1; cases e2; cases e3; cases e4
  exact hP.L
theorem Inv.thx (hI : Inv q μ) (he : eqL μ ν) : Inv (q + 1) (am_sI ν 54 7 x) := by
  obtain ⟨⟨N, C, ru, c, hP⟩, ⟨t, t1, t2, t3⟩, ⟨r, r1, r2, r3, r4⟩, b1, b2, b3, b4⟩ := hI
  have hPν := he.per hP
  obtain ⟨e1, e2, e3, e4, e5, e6, e7⟩ := he
  have hf0 : Fw sM ν (am_sI ν 54 7 x) := Fw.I Fw.refl (by unfold sM; omega)
  have hB : FB q ν := by
    refine ⟨by rw [e1]; exact b4.1, fun s h hs e => ?_⟩
    rw [e1]
    refine b4.2 s h hs ?_
    unfold slR at e ⊢
    rw [e2] at e; exact e
  refine ⟨⟨N, C, ru, c, hPν.sMm hf0 (by rw [am_I_sI, if_neg (by omega)]; exact hPν.h17)⟩, ⟨t, t1, ?_, ?_⟩, ⟨r, r1, ?_, ?_, fun i hi => ?_⟩, ?_, ?_, ?_, hB.fw hPν.2.2.2.2.2.1 hf0 fun a b z => by unfold sM at z; omega⟩
  · rw [am_I_sI, if_neg (by omega), e1]; exact t2
  · rw [am_I_sI, if_neg (by omega), e1]; exact t3
  · rw [am_I_sI, if_neg (by omega), e1]; exact r2
  · rw [am_I_sI, if_neg (by omega), e1]; exact r3
  · rw [am_L_sI, (e7 i).1, (e7 i).2]; exact r4 i hi
  · show am_n ν ≤ _; omega
  · show am_c ν ≤ _; omega
  · show am_s ν ≤ _; omega
theorem eqL.refl : eqL μ μ := ⟨rfl, rfl, rfl, rfl, Nat.le_add_right _ _, Nat.le_add_right _ _, fun _ => ⟨rfl, rfl⟩⟩
theorem eqL.out : eqL μ (am_sL μ 77 0 p) := ⟨rfl, rfl, rfl, rfl, Nat.le_add_right _ _, Nat.le_add_right _ _, fun i => ⟨by rw [am_LL, if_neg (by omega)], by rw [am_LL, if_neg (by omega)]⟩⟩
theorem eqL.bump : eqL μ (am_bump μ) := ⟨rfl, rfl, rfl, rfl, by show am_c μ + 1 ≤ _; omega, by show am_s μ + 6 ≤ _; omega, fun i => ⟨rfl, rfl⟩⟩
def OPi (q : Nat) (mc mm : am_MI) (lc lm : List Value) (μ : am_M) : Prop := ∀ d, am_Wp (d + 200) mc 0 lc [] μ (fun r1 μ1 => (r1 = some (.retAddr 1) ∧ am_Wp (d + 200) mm 0 lm [] μ1 (fun r2 μ2 => (∃ x, r2 = some (.int x)) ∧ am_I μ2 54 7 = 1 ∧ Inv (q + 1) μ2)) ∨ ∃ v, r1 = some (.int v) ∧ am_Wp (d + 200) mm 0 lm [] (am_sL μ1 77 0 v.toInt64) (fun r2 μ2 => r2 = some (.int v) ∧ am_I μ2 54 7 = 0 ∧ am_L μ2 77 0 = v.toInt64 ∧ Inv (q + 1) μ2))
def OPl (q : Nat) (mc mm : am_MI) (lc lm : List Value) (μ : am_M) : Prop := ∀ d, am_Wp (d + 200) mc 0 lc [] μ (fun r1 μ1 => (r1 = some (.retAddr 1) ∧ am_Wp (d + 200) mm 0 lm [] μ1 (fun r2 μ2 => (∃ p, r2 = some (.long p)) ∧ am_I μ2 54 7 = 1 ∧ Inv (q + 1) μ2)) ∨ ∃ p, r1 = some (.long p) ∧ am_Wp (d + 200) mm 0 lm [] (am_sL μ1 77 0 p) (fun r2 μ2 => r2 = some (.long p) ∧ am_I μ2 54 7 = 0 ∧ am_L μ2 77 0 = p ∧ Inv (q + 1) μ2))
theorem is7 (hx : isN x 7 = true) : x = 0 ∨ x = 1 ∨ x = 2 ∨ x = 3 ∨ x = 4 ∨ x = 5 ∨ x = 6 := by
  obtain ⟨j, hj, rfl⟩ := isN_of (by omega) hx
  rcases (by omega : j = 0 ∨ j = 1 ∨ j = 2 ∨ j = 3 ∨ j = 4 ∨ j = 5 ∨ j = 6) with f | f | f | f | f | f | f <;> subst f <;> decide
theorem is5 (hx : isN x 5 = true) : x = 0 ∨ x = 1 ∨ x = 2 ∨ x = 3 ∨ x = 4 := by
  obtain ⟨j, hj, rfl⟩ := isN_of (by omega) hx
  rcases (by omega : j = 0 ∨ j = 1 ∨ j = 2 ∨ j = 3 ∨ j = 4) with f | f | f | f | f <;> subst f <;> decide
theorem mC_L {L' : Nat → Nat → Int64} (hC : MC N c μ) (e1 : am_I ν = am_I μ) (e2 : am_R ν = am_R μ) (e3 : am_k ν = am_k μ) : MC N c ν :=
  ⟨by rw [e2, e3]; exact hC.1, by rw [e1]; exact hC.2.1, hC.2.2.1, by rw [e1]; exact hC.2.2.2⟩
theorem op_nest (hI : Inv q μ) : OPi q mX1_nest mX3_nest [.ref 0, .int x, .int y] [.ref 54, .int x, .int y] μ := by
  intro d
  have hI' := hI
  obtain ⟨⟨N, C, ru, c, hP⟩, hT, hR, b1, b2, b3⟩ := hI
  have hC := hP.1.1
  have hcu := hC.1
  simp only [cL, spL, Nat.reduceAdd] at hcu
  have hN := hC.2.1
  have h8 := hC.2.2.1
  have hk := hC.1.c
  have hS := hP.1.2.1
  have hMC := hS.1
  have hmu := hMC.1
  unfold mL at hmu
  have hsim : Sim N (cS μ 1) (am_I μ 55) := hP.2.1
  have o10 : ¬ (1 : Int32) = 0 := by decide
  have i7 : (6 : Int32) = nI 7 - 1 := by decide
  have hM4 : ∀ ν v, eqL μ ν → MC N c (am_sI ν 54 7 v) := fun ν v he => by
    have h1 : MC N c ν := mC_L (L' := am_L μ) hMC he.1 he.2.1 he.2.2.1
    exact h1.fr (F := fun a b => a = 54 ∧ b = 7) (Fr.I Fr.refl ⟨rfl, rfl⟩) (fun a b z => by omega)
  -- both refuse
  have no : ¬ (isN x N = true ∧ isN y 7 = true) → am_Wp (d + 200) mX3_nest 0 [.ref 54, .int x, .int y] [] (am_bump μ) (fun r2 μ2 => (∃ x, r2 = some (.int x)) ∧ am_I μ2 54 7 = 1 ∧ Inv (q + 1) μ2) := fun hn => by
    have hmb : am_k (am_bump μ) 54 = (2, 0) := hmu.1.1
    have hMb := hM4 (am_bump μ) 0 eqL.bump
    have fin : (∃ v, some (Value.int (0 : Int32)) = some (Value.int v)) ∧ am_I (am_sI (am_sI (am_bump μ) 54 7 0) 54 7 1) 54 7 = 1 ∧ Inv (q + 1) (am_sI (am_sI (am_bump μ) 54 7 0) 54 7 1) := ⟨⟨_, rfl⟩, by rw [am_I_sI, if_pos ⟨rfl, rfl⟩], by rw [am_sI_sI]; exact hI'.thx eqL.bump⟩
    by_cases hx : isN x N = true
    · have hy : ¬ isN y 7 = true := fun z => hn ⟨hx, z⟩
      simp only [gX3_nest_0, gX3_nest_1, gX3_nest_2, gX3_nest_5, gX3_nest_6, gX3_nest_7, gX3_nest_10, gX3_nest_13, gX3_nest_14, gX3_nest_15, gX3_nest_17, gX3_nest_20, gX3_nest_23, gX3_nest_24, gX3_nest_27, am_kill_int, am_kill_ref, am_kill_null, am_kill_F, am_kill_long, am_cat_n, am_cat_i, am_cat_r, am_cat_0, am_cat_l, am_nr_n, am_nr_i, am_nr_r, am_nr_0, am_nr_l, Option.toList_some, Option.toList_none, List.nil_append, List.cons_append, va_rf_s, va_rf_n, am_I_sR, am_I_sL, am_R_sI, am_R_sL, am_L_sI, am_L_sR, am_k_sI, am_k_sR, am_k_sL, am_n_sI, am_n_sR, am_n_sL, true_and, and_true, true_or, or_true, or_false, false_or, not_true_eq_false, not_false_eq_true, Nat.reduceLT, am_dS, am_dP, am_d1, Nat.reduceSub, Nat.reduceMul, ne_eq, Nat.reduceBEq, Nat.reduceAdd, Nat.reduceLeDiff, Nat.reduceEqDiff, and_self, and_false, false_and, if_true, if_false, am_nb, am_nb0, am_nb1, am_lc1, am_lc2, am_lc3, am_b0, am_b1, am_10, am_c8, am_c16, am_c24, am_c32, am_c40, am_c48, am_c56, am_c64, am_c72, Nat.add_zero, Bool.false_eq_true, Nat.zero_le, hmb, wX3_isNest hMb, wX3_in, wX3_lost hMb, i7, am_isb, hx, hy, o10]
      exact fin
    · simp only [gX3_nest_0, gX3_nest_1, gX3_nest_2, gX3_nest_5, gX3_nest_6, gX3_nest_7, gX3_nest_10, gX3_nest_13, gX3_nest_14, gX3_nest_15, gX3_nest_17, gX3_nest_20, gX3_nest_23, gX3_nest_24, gX3_nest_27, am_kill_int, am_kill_ref, am_kill_null, am_kill_F, am_kill_long, am_cat_n, am_cat_i, am_cat_r, am_cat_0, am_cat_l, am_nr_n, am_nr_i, am_nr_r, am_nr_0, am_nr_l, Option.toList_some, Option.toList_none, List.nil_append, List.cons_append, va_rf_s, va_rf_n, am_I_sR, am_I_sL, am_R_sI, am_R_sL, am_L_sI, am_L_sR, am_k_sI, am_k_sR, am_k_sL, am_n_sI, am_n_sR, am_n_sL, true_and, and_true, true_or, or_true, or_false, false_or, not_true_eq_false, not_false_eq_true, Nat.reduceLT, am_dS, am_dP, am_d1, Nat.reduceSub, Nat.reduceMul, ne_eq, Nat.reduceBEq, Nat.reduceAdd, Nat.reduceLeDiff, Nat.reduceEqDiff, and_self, and_false, false_and, if_true, if_false, am_nb, am_nb0, am_nb1, am_lc1, am_lc2, am_lc3, am_b0, am_b1, am_10, am_c8, am_c16, am_c24, am_c32, am_c40, am_c48, am_c56, am_c64, am_c72, Nat.add_zero, Bool.false_eq_true, Nat.zero_le, hmb, wX3_isNest hMb, wX3_lost hMb, hx, o10]
      exact fin
  by_cases hx : isN x N = true
  · by_cases hy : isN y 7 = true
    · obtain ⟨n, hn, rfl⟩ := isN_of (by omega) hx
      have hn8 : n < 8 := by omega
      have hin : vp_in (nI n) 8 := vp_in_nI (by omega) (by omega)
      have hcl : (nI n).toNatClampNeg = n := nI_clamp (by omega)
      -- the model's answer
      have mo : ∀ v, (v = if y = 6 then (if ¬ am_I μ 55 (32 + n) = -1 ∧ c ≤ am_I μ 55 (32 + n) then 1 else 0) else am_I μ 55 (8 * y.toNatClampNeg + n)) → am_Wp (d + 200) mX3_nest 0 [.ref 54, .int (nI n), .int y] [] (am_sL μ 77 0 v.toInt64) (fun r2 μ2 => r2 = some (.int v) ∧ am_I μ2 54 7 = 0 ∧ am_L μ2 77 0 = v.toInt64 ∧ Inv (q + 1) μ2) := fun v hv => by
        have hmb : am_k (am_sL μ 77 0 v.toInt64) 54 = (2, 0) := hmu.1.1
        have hMb := hM4 (am_sL μ 77 0 v.toInt64) 0 eqL.out
        have fin : ∀ v', v' = v → some (Value.int v') = some (Value.int v) ∧ am_I (am_sI (am_sL μ 77 0 v.toInt64) 54 7 0) 54 7 = 0 ∧ am_L (am_sI (am_sL μ 77 0 v.toInt64) 54 7 0) 77 0 = v.toInt64 ∧ Inv (q + 1) (am_sI (am_sL μ 77 0 v.toInt64) 54 7 0) := fun v' e => ⟨by rw [e], by rw [am_I_sI, if_pos ⟨rfl, rfl⟩], by rw [am_L_sI, am_LL, if_pos ⟨rfl, rfl⟩], hI'.thx eqL.out⟩
        have hmc := hMb.1
        unfold mL at hmc
        have r55 : am_I (am_sI (am_sL μ 77 0 v.toInt64) 54 7 0) 55 = am_I μ 55 := (am_row_o (by decide)).trans rfl
        have it := wX3_isInTime (d := d + 199) (μ := am_sI (am_sL μ 77 0 v.toInt64) 54 7 0) (j := n) (K := fun r1 μ1 => am_nr r1 ∧ am_Wp (d + 200) mX3_nest 57 [.ref 54, .int (nI n), .int y] (r1.toList ++ []) μ1 (fun r2 μ2 => r2 = some (.int v) ∧ am_I μ2 54 7 = 0 ∧ am_L μ2 77 0 = v.toInt64 ∧ Inv (q + 1) μ2)) hMb hn8 hmc.1.2.1
        rw [r55] at it
        simp only [gX3_nest_0, gX3_nest_1, gX3_nest_2, am_kill_int, am_kill_ref, am_kill_null, am_kill_F, am_kill_long, am_cat_n, am_cat_i, am_cat_r, am_cat_0, am_cat_l, am_nr_n, am_nr_i, am_nr_r, am_nr_0, am_nr_l, Option.toList_some, Option.toList_none, List.nil_append, List.cons_append, va_rf_s, va_rf_n, am_I_sR, am_I_sL, am_R_sI, am_R_sL, am_L_sI, am_L_sR, am_k_sI, am_k_sR, am_k_sL, am_n_sI, am_n_sR, am_n_sL, true_and, and_true, true_or, or_true, or_false, false_or, not_true_eq_false, not_false_eq_true, Nat.reduceLT, am_dS, am_dP, am_d1, Nat.reduceSub, Nat.reduceMul, ne_eq, Nat.reduceBEq, Nat.reduceAdd, Nat.reduceLeDiff, Nat.reduceEqDiff, and_self, and_false, false_and, if_true, if_false, am_nb, am_nb0, am_nb1, am_lc1, am_lc2, am_lc3, am_b0, am_b1, am_10, am_c8, am_c16, am_c24, am_c32, am_c40, am_c48, am_c56, am_c64, am_c72, Nat.add_zero, Bool.false_eq_true, Nat.zero_le, hmb]
        generalize am_sI (am_sL μ 77 0 v.toInt64) 54 7 0 = μ4 at hMb fin hmc r55 it ⊢
        simp only [gX3_nest_5, gX3_nest_6, gX3_nest_7, gX3_nest_10, gX3_nest_13, gX3_nest_14, gX3_nest_15, gX3_nest_17, gX3_nest_20, am_kill_int, am_kill_ref, am_kill_null, am_kill_F, am_kill_long, am_cat_n, am_cat_i, am_cat_r, am_cat_0, am_cat_l, am_nr_n, am_nr_i, am_nr_r, am_nr_0, am_nr_l, Option.toList_some, Option.toList_none, List.nil_append, List.cons_append, va_rf_s, va_rf_n, am_I_sR, am_I_sL, am_R_sI, am_R_sL, am_L_sI, am_L_sR, am_k_sI, am_k_sR, am_k_sL, am_n_sI, am_n_sR, am_n_sL, true_and, and_true, true_or, or_true, or_false, false_or, not_true_eq_false, not_false_eq_true, Nat.reduceLT, am_dS, am_dP, am_d1, Nat.reduceSub, Nat.reduceMul, ne_eq, Nat.reduceBEq, Nat.reduceAdd, Nat.reduceLeDiff, Nat.reduceEqDiff, and_self, and_false, false_and, if_true, if_false, am_nb, am_nb0, am_nb1, am_lc1, am_lc2, am_lc3, am_b0, am_b1, am_10, am_c8, am_c16, am_c24, am_c32, am_c40, am_c48, am_c56, am_c64, am_c72, Nat.add_zero, Bool.false_eq_true, Nat.zero_le, hmc, wX3_isNest hMb, wX3_in, i7, am_isb, hx, hy, o10]
        by_cases y0 : y = 0
        · subst y0
          have hv2 : vp_in (nI (0 + n)) 83 := vp_in_nI (by omega) (by omega)
          have hc2 : (nI (0 + n)).toNatClampNeg = 0 + n := nI_clamp (by omega)
          have e8 : (8 : Int32) * 0 + nI n = nI (0 + n) := by rw [show (8 : Int32) * 0 = nI 0 by decide, nI_add]
          have le6 : ¬ (6 : Int32) ≤ 0 := by decide
          simp only [gX3_nest_28, gX3_nest_29, gX3_nest_31, gX3_nest_34, gX3_nest_35, gX3_nest_38, gX3_nest_40, gX3_nest_41, gX3_nest_42, gX3_nest_43, gX3_nest_44, gX3_nest_45, gX3_nest_65, am_kill_int, am_kill_ref, am_kill_null, am_kill_F, am_kill_long, am_cat_n, am_cat_i, am_cat_r, am_cat_0, am_cat_l, am_nr_n, am_nr_i, am_nr_r, am_nr_0, am_nr_l, Option.toList_some, Option.toList_none, List.nil_append, List.cons_append, va_rf_s, va_rf_n, am_I_sR, am_I_sL, am_R_sI, am_R_sL, am_L_sI, am_L_sR, am_k_sI, am_k_sR, am_k_sL, am_n_sI, am_n_sR, am_n_sL, true_and, and_true, true_or, or_true, or_false, false_or, not_true_eq_false, not_false_eq_true, Nat.reduceLT, am_dS, am_dP, am_d1, Nat.reduceSub, Nat.reduceMul, ne_eq, Nat.reduceBEq, Nat.reduceAdd, Nat.reduceLeDiff, Nat.reduceEqDiff, and_self, and_false, false_and, if_true, if_false, am_nb, am_nb0, am_nb1, am_lc1, am_lc2, am_lc3, am_b0, am_b1, am_10, am_c8, am_c16, am_c24, am_c32, am_c40, am_c48, am_c56, am_c64, am_c72, Nat.add_zero, Bool.false_eq_true, Nat.zero_le, hmc, le6, e8, hv2, hc2, r55]
          exact fin _ (by rw [hv, if_neg (by decide), show (0 : Int32).toNatClampNeg = 0 by decide])
        by_cases y1 : y = 1
        · subst y1
          have hv2 : vp_in (nI (8 + n)) 83 := vp_in_nI (by omega) (by omega)
          have hc2 : (nI (8 + n)).toNatClampNeg = 8 + n := nI_clamp (by omega)
          have e8 : (8 : Int32) * 1 + nI n = nI (8 + n) := by rw [show (8 : Int32) * 1 = nI 8 by decide, nI_add]
          have le6 : ¬ (6 : Int32) ≤ 1 := by decide
          simp only [gX3_nest_28, gX3_nest_29, gX3_nest_31, gX3_nest_34, gX3_nest_35, gX3_nest_38, gX3_nest_40, gX3_nest_41, gX3_nest_42, gX3_nest_43, gX3_nest_44, gX3_nest_45, gX3_nest_65, am_kill_int, am_kill_ref, am_kill_null, am_kill_F, am_kill_long, am_cat_n, am_cat_i, am_cat_r, am_cat_0, am_cat_l, am_nr_n, am_nr_i, am_nr_r, am_nr_0, am_nr_l, Option.toList_some, Option.toList_none, List.nil_append, List.cons_append, va_rf_s, va_rf_n, am_I_sR, am_I_sL, am_R_sI, am_R_sL, am_L_sI, am_L_sR, am_k_sI, am_k_sR, am_k_sL, am_n_sI, am_n_sR, am_n_sL, true_and, and_true, true_or, or_true, or_false, false_or, not_true_eq_false, not_false_eq_true, Nat.reduceLT, am_dS, am_dP, am_d1, Nat.reduceSub, Nat.reduceMul, ne_eq, Nat.reduceBEq, Nat.reduceAdd, Nat.reduceLeDiff, Nat.reduceEqDiff, and_self, and_false, false_and, if_true, if_false, am_nb, am_nb0, am_nb1, am_lc1, am_lc2, am_lc3, am_b0, am_b1, am_10, am_c8, am_c16, am_c24, am_c32, am_c40, am_c48, am_c56, am_c64, am_c72, Nat.add_zero, Bool.false_eq_true, Nat.zero_le, hmc, le6, e8, hv2, hc2, r55]
          exact fin _ (by rw [hv, if_neg (by decide), show (1 : Int32).toNatClampNeg = 1 by decide])
        by_cases y2 : y = 2
        · subst y2
          have hv2 : vp_in (nI (16 + n)) 83 := vp_in_nI (by omega) (by omega)
          have hc2 : (nI (16 + n)).toNatClampNeg = 16 + n := nI_clamp (by omega)
          have e8 : (8 : Int32) * 2 + nI n = nI (16 + n) := by rw [show (8 : Int32) * 2 = nI 16 by decide, nI_add]
          have le6 : ¬ (6 : Int32) ≤ 2 := by decide
          simp only [gX3_nest_28, gX3_nest_29, gX3_nest_31, gX3_nest_34, gX3_nest_35, gX3_nest_38, gX3_nest_40, gX3_nest_41, gX3_nest_42, gX3_nest_43, gX3_nest_44, gX3_nest_45, gX3_nest_65, am_kill_int, am_kill_ref, am_kill_null, am_kill_F, am_kill_long, am_cat_n, am_cat_i, am_cat_r, am_cat_0, am_cat_l, am_nr_n, am_nr_i, am_nr_r, am_nr_0, am_nr_l, Option.toList_some, Option.toList_none, List.nil_append, List.cons_append, va_rf_s, va_rf_n, am_I_sR, am_I_sL, am_R_sI, am_R_sL, am_L_sI, am_L_sR, am_k_sI, am_k_sR, am_k_sL, am_n_sI, am_n_sR, am_n_sL, true_and, and_true, true_or, or_true, or_false, false_or, not_true_eq_false, not_false_eq_true, Nat.reduceLT, am_dS, am_dP, am_d1, Nat.reduceSub, Nat.reduceMul, ne_eq, Nat.reduceBEq, Nat.reduceAdd, Nat.reduceLeDiff, Nat.reduceEqDiff, and_self, and_false, false_and, if_true, if_false, am_nb, am_nb0, am_nb1, am_lc1, am_lc2, am_lc3, am_b0, am_b1, am_10, am_c8, am_c16, am_c24, am_c32, am_c40, am_c48, am_c56, am_c64, am_c72, Nat.add_zero, Bool.false_eq_true, Nat.zero_le, hmc, le6, e8, hv2, hc2, r55]
          exact fin _ (by rw [hv, if_neg (by decide), show (2 : Int32).toNatClampNeg = 2 by decide])
        by_cases y3 : y = 3
        · subst y3
          have hv2 : vp_in (nI (24 + n)) 83 := vp_in_nI (by omega) (by omega)
          have hc2 : (nI (24 + n)).toNatClampNeg = 24 + n := nI_clamp (by omega)
          have e8 : (8 : Int32) * 3 + nI n = nI (24 + n) := by rw [show (8 : Int32) * 3 = nI 24 by decide, nI_add]
          have le6 : ¬ (6 : Int32) ≤ 3 := by decide
          simp only [gX3_nest_28, gX3_nest_29, gX3_nest_31, gX3_nest_34, gX3_nest_35, gX3_nest_38, gX3_nest_40, gX3_nest_41, gX3_nest_42, gX3_nest_43, gX3_nest_44, gX3_nest_45, gX3_nest_65, am_kill_int, am_kill_ref, am_kill_null, am_kill_F, am_kill_long, am_cat_n, am_cat_i, am_cat_r, am_cat_0, am_cat_l, am_nr_n, am_nr_i, am_nr_r, am_nr_0, am_nr_l, Option.toList_some, Option.toList_none, List.nil_append, List.cons_append, va_rf_s, va_rf_n, am_I_sR, am_I_sL, am_R_sI, am_R_sL, am_L_sI, am_L_sR, am_k_sI, am_k_sR, am_k_sL, am_n_sI, am_n_sR, am_n_sL, true_and, and_true, true_or, or_true, or_false, false_or, not_true_eq_false, not_false_eq_true, Nat.reduceLT, am_dS, am_dP, am_d1, Nat.reduceSub, Nat.reduceMul, ne_eq, Nat.reduceBEq, Nat.reduceAdd, Nat.reduceLeDiff, Nat.reduceEqDiff, and_self, and_false, false_and, if_true, if_false, am_nb, am_nb0, am_nb1, am_lc1, am_lc2, am_lc3, am_b0, am_b1, am_10, am_c8, am_c16, am_c24, am_c32, am_c40, am_c48, am_c56, am_c64, am_c72, Nat.add_zero, Bool.false_eq_true, Nat.zero_le, hmc, le6, e8, hv2, hc2, r55]
          exact fin _ (by rw [hv, if_neg (by decide), show (3 : Int32).toNatClampNeg = 3 by decide])
        by_cases y4 : y = 4
        · subst y4
          have hv2 : vp_in (nI (32 + n)) 83 := vp_in_nI (by omega) (by omega)
          have hc2 : (nI (32 + n)).toNatClampNeg = 32 + n := nI_clamp (by omega)
          have e8 : (8 : Int32) * 4 + nI n = nI (32 + n) := by rw [show (8 : Int32) * 4 = nI 32 by decide, nI_add]
          have le6 : ¬ (6 : Int32) ≤ 4 := by decide
          simp only [gX3_nest_28, gX3_nest_29, gX3_nest_31, gX3_nest_34, gX3_nest_35, gX3_nest_38, gX3_nest_40, gX3_nest_41, gX3_nest_42, gX3_nest_43, gX3_nest_44, gX3_nest_45, gX3_nest_65, am_kill_int, am_kill_ref, am_kill_null, am_kill_F, am_kill_long, am_cat_n, am_cat_i, am_cat_r, am_cat_0, am_cat_l, am_nr_n, am_nr_i, am_nr_r, am_nr_0, am_nr_l, Option.toList_some, Option.toList_none, List.nil_append, List.cons_append, va_rf_s, va_rf_n, am_I_sR, am_I_sL, am_R_sI, am_R_sL, am_L_sI, am_L_sR, am_k_sI, am_k_sR, am_k_sL, am_n_sI, am_n_sR, am_n_sL, true_and, and_true, true_or, or_true, or_false, false_or, not_true_eq_false, not_false_eq_true, Nat.reduceLT, am_dS, am_dP, am_d1, Nat.reduceSub, Nat.reduceMul, ne_eq, Nat.reduceBEq, Nat.reduceAdd, Nat.reduceLeDiff, Nat.reduceEqDiff, and_self, and_false, false_and, if_true, if_false, am_nb, am_nb0, am_nb1, am_lc1, am_lc2, am_lc3, am_b0, am_b1, am_10, am_c8, am_c16, am_c24, am_c32, am_c40, am_c48, am_c56, am_c64, am_c72, Nat.add_zero, Bool.false_eq_true, Nat.zero_le, hmc, le6, e8, hv2, hc2, r55]
          exact fin _ (by rw [hv, if_neg (by decide), show (4 : Int32).toNatClampNeg = 4 by decide])
        by_cases y5 : y = 5
        · subst y5
          have hv2 : vp_in (nI (40 + n)) 83 := vp_in_nI (by omega) (by omega)
          have hc2 : (nI (40 + n)).toNatClampNeg = 40 + n := nI_clamp (by omega)
          have e8 : (8 : Int32) * 5 + nI n = nI (40 + n) := by rw [show (8 : Int32) * 5 = nI 40 by decide, nI_add]
          have le6 : ¬ (6 : Int32) ≤ 5 := by decide
          simp only [gX3_nest_28, gX3_nest_29, gX3_nest_31, gX3_nest_34, gX3_nest_35, gX3_nest_38, gX3_nest_40, gX3_nest_41, gX3_nest_42, gX3_nest_43, gX3_nest_44, gX3_nest_45, gX3_nest_65, am_kill_int, am_kill_ref, am_kill_null, am_kill_F, am_kill_long, am_cat_n, am_cat_i, am_cat_r, am_cat_0, am_cat_l, am_nr_n, am_nr_i, am_nr_r, am_nr_0, am_nr_l, Option.toList_some, Option.toList_none, List.nil_append, List.cons_append, va_rf_s, va_rf_n, am_I_sR, am_I_sL, am_R_sI, am_R_sL, am_L_sI, am_L_sR, am_k_sI, am_k_sR, am_k_sL, am_n_sI, am_n_sR, am_n_sL, true_and, and_true, true_or, or_true, or_false, false_or, not_true_eq_false, not_false_eq_true, Nat.reduceLT, am_dS, am_dP, am_d1, Nat.reduceSub, Nat.reduceMul, ne_eq, Nat.reduceBEq, Nat.reduceAdd, Nat.reduceLeDiff, Nat.reduceEqDiff, and_self, and_false, false_and, if_true, if_false, am_nb, am_nb0, am_nb1, am_lc1, am_lc2, am_lc3, am_b0, am_b1, am_10, am_c8, am_c16, am_c24, am_c32, am_c40, am_c48, am_c56, am_c64, am_c72, Nat.add_zero, Bool.false_eq_true, Nat.zero_le, hmc, le6, e8, hv2, hc2, r55]
          exact fin _ (by rw [hv, if_neg (by decide), show (5 : Int32).toNatClampNeg = 5 by decide])
        have y6 : y = 6 := by rcases is7 hy with f | f | f | f | f | f | f <;> first | exact absurd f (by assumption) | exact f
        subst y6
        rw [if_pos rfl] at hv
        simp only [gX3_nest_28, gX3_nest_29, gX3_nest_31, gX3_nest_48, gX3_nest_49, gX3_nest_50, gX3_nest_53, gX3_nest_54, am_kill_int, am_kill_ref, am_kill_null, am_kill_F, am_kill_long, am_cat_n, am_cat_i, am_cat_r, am_cat_0, am_cat_l, am_nr_n, am_nr_i, am_nr_r, am_nr_0, am_nr_l, Option.toList_some, Option.toList_none, List.nil_append, List.cons_append, va_rf_s, va_rf_n, am_I_sR, am_I_sL, am_R_sI, am_R_sL, am_L_sI, am_L_sR, am_k_sI, am_k_sR, am_k_sL, am_n_sI, am_n_sR, am_n_sL, true_and, and_true, true_or, or_true, or_false, false_or, not_true_eq_false, not_false_eq_true, Nat.reduceLT, am_dS, am_dP, am_d1, Nat.reduceSub, Nat.reduceMul, ne_eq, Nat.reduceBEq, Nat.reduceAdd, Nat.reduceLeDiff, Nat.reduceEqDiff, and_self, and_false, false_and, if_true, if_false, am_nb, am_nb0, am_nb1, am_lc1, am_lc2, am_lc3, am_b0, am_b1, am_10, am_c8, am_c16, am_c24, am_c32, am_c40, am_c48, am_c56, am_c64, am_c72, Nat.add_zero, Bool.false_eq_true, Nat.zero_le, hmc, Int32.le_refl, it]
        by_cases g : ¬ am_I μ 55 (32 + n) = -1 ∧ c ≤ am_I μ 55 (32 + n)
        · rw [if_pos g] at hv ⊢
          simp only [gX3_nest_57, gX3_nest_60, gX3_nest_61, gX3_nest_64, gX3_nest_65, am_kill_int, am_kill_ref, am_kill_null, am_kill_F, am_kill_long, am_cat_n, am_cat_i, am_cat_r, am_cat_0, am_cat_l, am_nr_n, am_nr_i, am_nr_r, am_nr_0, am_nr_l, Option.toList_some, Option.toList_none, List.nil_append, List.cons_append, va_rf_s, va_rf_n, am_I_sR, am_I_sL, am_R_sI, am_R_sL, am_L_sI, am_L_sR, am_k_sI, am_k_sR, am_k_sL, am_n_sI, am_n_sR, am_n_sL, true_and, and_true, true_or, or_true, or_false, false_or, not_true_eq_false, not_false_eq_true, Nat.reduceLT, am_dS, am_dP, am_d1, Nat.reduceSub, Nat.reduceMul, ne_eq, Nat.reduceBEq, Nat.reduceAdd, Nat.reduceLeDiff, Nat.reduceEqDiff, and_self, and_false, false_and, if_true, if_false, am_nb, am_nb0, am_nb1, am_lc1, am_lc2, am_lc3, am_b0, am_b1, am_10, am_c8, am_c16, am_c24, am_c32, am_c40, am_c48, am_c56, am_c64, am_c72, Nat.add_zero, Bool.false_eq_true, Nat.zero_le, o10]
          exact fin _ hv.symm
        · rw [if_neg g] at hv ⊢
          simp only [gX3_nest_57, gX3_nest_60, gX3_nest_61, gX3_nest_64, gX3_nest_65, am_kill_int, am_kill_ref, am_kill_null, am_kill_F, am_kill_long, am_cat_n, am_cat_i, am_cat_r, am_cat_0, am_cat_l, am_nr_n, am_nr_i, am_nr_r, am_nr_0, am_nr_l, Option.toList_some, Option.toList_none, List.nil_append, List.cons_append, va_rf_s, va_rf_n, am_I_sR, am_I_sL, am_R_sI, am_R_sL, am_L_sI, am_L_sR, am_k_sI, am_k_sR, am_k_sL, am_n_sI, am_n_sR, am_n_sL, true_and, and_true, true_or, or_true, or_false, false_or, not_true_eq_false, not_false_eq_true, Nat.reduceLT, am_dS, am_dP, am_d1, Nat.reduceSub, Nat.reduceMul, ne_eq, Nat.reduceBEq, Nat.reduceAdd, Nat.reduceLeDiff, Nat.reduceEqDiff, and_self, and_false, false_and, if_true, if_false, am_nb, am_nb0, am_nb1, am_lc1, am_lc2, am_lc3, am_b0, am_b1, am_10, am_c8, am_c16, am_c24, am_c32, am_c40, am_c48, am_c56, am_c64, am_c72, Nat.add_zero, Bool.false_eq_true, Nat.zero_le]
          exact fin _ hv.symm
      by_cases y0 : y = 0
      · subst y0
        simp only [gX1_nest_0, gX1_nest_1, gX1_nest_2, gX1_nest_5, gX1_nest_16, gX1_nest_17, gX1_nest_60, gX1_nest_61, gX1_nest_64, gX1_nest_67, gX1_nest_68, gX1_nest_69, am_kill_int, am_kill_ref, am_kill_null, am_kill_F, am_kill_long, am_cat_n, am_cat_i, am_cat_r, am_cat_0, am_cat_l, am_nr_n, am_nr_i, am_nr_r, am_nr_0, am_nr_l, Option.toList_some, Option.toList_none, List.nil_append, List.cons_append, va_rf_s, va_rf_n, am_II, am_I_sR, am_I_sL, am_R_sI, am_RR, am_R_sL, am_L_sI, am_L_sR, am_LL, am_k_sI, am_k_sR, am_k_sL, am_n_sI, am_n_sR, am_n_sL, true_and, and_true, true_or, or_true, or_false, false_or, not_true_eq_false, not_false_eq_true, Nat.reduceLT, am_dS, am_dP, am_d1, Nat.reduceSub, Nat.reduceMul, ne_eq, Nat.reduceBEq, Nat.reduceAdd, Nat.reduceLeDiff, Nat.reduceEqDiff, and_self, and_false, false_and, if_true, if_false, am_nb, am_nb0, am_nb1, am_lc1, am_lc2, am_lc3, am_b0, am_b1, am_10, am_c8, am_c16, am_c24, am_c32, am_c40, am_c48, am_c56, am_c64, am_c72, Nat.add_zero, Bool.false_eq_true, Nat.zero_le, hcu, wX1_isNest hN h8 hk, hx, hin, hcl, o10]
        refine Or.inr ⟨_, rfl, mo _ ?_⟩
        rw [if_neg (by decide), show (0 : Int32).toNatClampNeg = 0 by decide, ← hsim.rr (r := 0) hn (by decide)]
        first | exact (cS_0 hn8).symm | (rw [show 8 * 0 + n = n by omega]; exact (cS_0 hn8).symm)
      by_cases y1 : y = 1
      · subst y1
        simp only [gX1_nest_0, gX1_nest_1, gX1_nest_2, gX1_nest_5, gX1_nest_16, gX1_nest_17, gX1_nest_70, gX1_nest_71, gX1_nest_74, gX1_nest_77, gX1_nest_78, gX1_nest_79, am_kill_int, am_kill_ref, am_kill_null, am_kill_F, am_kill_long, am_cat_n, am_cat_i, am_cat_r, am_cat_0, am_cat_l, am_nr_n, am_nr_i, am_nr_r, am_nr_0, am_nr_l, Option.toList_some, Option.toList_none, List.nil_append, List.cons_append, va_rf_s, va_rf_n, am_II, am_I_sR, am_I_sL, am_R_sI, am_RR, am_R_sL, am_L_sI, am_L_sR, am_LL, am_k_sI, am_k_sR, am_k_sL, am_n_sI, am_n_sR, am_n_sL, true_and, and_true, true_or, or_true, or_false, false_or, not_true_eq_false, not_false_eq_true, Nat.reduceLT, am_dS, am_dP, am_d1, Nat.reduceSub, Nat.reduceMul, ne_eq, Nat.reduceBEq, Nat.reduceAdd, Nat.reduceLeDiff, Nat.reduceEqDiff, and_self, and_false, false_and, if_true, if_false, am_nb, am_nb0, am_nb1, am_lc1, am_lc2, am_lc3, am_b0, am_b1, am_10, am_c8, am_c16, am_c24, am_c32, am_c40, am_c48, am_c56, am_c64, am_c72, Nat.add_zero, Bool.false_eq_true, Nat.zero_le, hcu, wX1_isNest hN h8 hk, hx, hin, hcl, o10, y0]
        refine Or.inr ⟨_, rfl, mo _ ?_⟩
        rw [if_neg (by decide), show (1 : Int32).toNatClampNeg = 1 by decide, ← hsim.rr (r := 1) hn (by decide)]
        first | exact (cS_1 hn8).symm | (rw [show 8 * 1 + n = n by omega]; exact (cS_1 hn8).symm)
      by_cases y2 : y = 2
      · subst y2
        simp only [gX1_nest_0, gX1_nest_1, gX1_nest_2, gX1_nest_5, gX1_nest_16, gX1_nest_17, gX1_nest_80, gX1_nest_81, gX1_nest_84, gX1_nest_87, gX1_nest_88, gX1_nest_89, am_kill_int, am_kill_ref, am_kill_null, am_kill_F, am_kill_long, am_cat_n, am_cat_i, am_cat_r, am_cat_0, am_cat_l, am_nr_n, am_nr_i, am_nr_r, am_nr_0, am_nr_l, Option.toList_some, Option.toList_none, List.nil_append, List.cons_append, va_rf_s, va_rf_n, am_II, am_I_sR, am_I_sL, am_R_sI, am_RR, am_R_sL, am_L_sI, am_L_sR, am_LL, am_k_sI, am_k_sR, am_k_sL, am_n_sI, am_n_sR, am_n_sL, true_and, and_true, true_or, or_true, or_false, false_or, not_true_eq_false, not_false_eq_true, Nat.reduceLT, am_dS, am_dP, am_d1, Nat.reduceSub, Nat.reduceMul, ne_eq, Nat.reduceBEq, Nat.reduceAdd, Nat.reduceLeDiff, Nat.reduceEqDiff, and_self, and_false, false_and, if_true, if_false, am_nb, am_nb0, am_nb1, am_lc1, am_lc2, am_lc3, am_b0, am_b1, am_10, am_c8, am_c16, am_c24, am_c32, am_c40, am_c48, am_c56, am_c64, am_c72, Nat.add_zero, Bool.false_eq_true, Nat.zero_le, hcu, wX1_isNest hN h8 hk, hx, hin, hcl, o10, y0, y1]
        refine Or.inr ⟨_, rfl, mo _ ?_⟩
        rw [if_neg (by decide), show (2 : Int32).toNatClampNeg = 2 by decide, ← hsim.rr (r := 2) hn (by decide)]
        first | exact (cS_2 hn8).symm | (rw [show 8 * 2 + n = n by omega]; exact (cS_2 hn8).symm)
      by_cases y3 : y = 3
      · subst y3
        simp only [gX1_nest_0, gX1_nest_1, gX1_nest_2, gX1_nest_5, gX1_nest_16, gX1_nest_17, gX1_nest_90, gX1_nest_91, gX1_nest_94, gX1_nest_97, gX1_nest_98, gX1_nest_99, am_kill_int, am_kill_ref, am_kill_null, am_kill_F, am_kill_long, am_cat_n, am_cat_i, am_cat_r, am_cat_0, am_cat_l, am_nr_n, am_nr_i, am_nr_r, am_nr_0, am_nr_l, Option.toList_some, Option.toList_none, List.nil_append, List.cons_append, va_rf_s, va_rf_n, am_II, am_I_sR, am_I_sL, am_R_sI, am_RR, am_R_sL, am_L_sI, am_L_sR, am_LL, am_k_sI, am_k_sR, am_k_sL, am_n_sI, am_n_sR, am_n_sL, true_and, and_true, true_or, or_true, or_false, false_or, not_true_eq_false, not_false_eq_true, Nat.reduceLT, am_dS, am_dP, am_d1, Nat.reduceSub, Nat.reduceMul, ne_eq, Nat.reduceBEq, Nat.reduceAdd, Nat.reduceLeDiff, Nat.reduceEqDiff, and_self, and_false, false_and, if_true, if_false, am_nb, am_nb0, am_nb1, am_lc1, am_lc2, am_lc3, am_b0, am_b1, am_10, am_c8, am_c16, am_c24, am_c32, am_c40, am_c48, am_c56, am_c64, am_c72, Nat.add_zero, Bool.false_eq_true, Nat.zero_le, hcu, wX1_isNest hN h8 hk, hx, hin, hcl, o10, y0, y1, y2]
        refine Or.inr ⟨_, rfl, mo _ ?_⟩
        rw [if_neg (by decide), show (3 : Int32).toNatClampNeg = 3 by decide, ← hsim.rr (r := 3) hn (by decide)]
        first | exact (cS_3 hn8).symm | (rw [show 8 * 3 + n = n by omega]; exact (cS_3 hn8).symm)
      by_cases y4 : y = 4
      · subst y4
        simp only [gX1_nest_0, gX1_nest_1, gX1_nest_2, gX1_nest_5, gX1_nest_16, gX1_nest_17, gX1_nest_100, gX1_nest_101, gX1_nest_104, gX1_nest_107, gX1_nest_108, gX1_nest_109, am_kill_int, am_kill_ref, am_kill_null, am_kill_F, am_kill_long, am_cat_n, am_cat_i, am_cat_r, am_cat_0, am_cat_l, am_nr_n, am_nr_i, am_nr_r, am_nr_0, am_nr_l, Option.toList_some, Option.toList_none, List.nil_append, List.cons_append, va_rf_s, va_rf_n, am_II, am_I_sR, am_I_sL, am_R_sI, am_RR, am_R_sL, am_L_sI, am_L_sR, am_LL, am_k_sI, am_k_sR, am_k_sL, am_n_sI, am_n_sR, am_n_sL, true_and, and_true, true_or, or_true, or_false, false_or, not_true_eq_false, not_false_eq_true, Nat.reduceLT, am_dS, am_dP, am_d1, Nat.reduceSub, Nat.reduceMul, ne_eq, Nat.reduceBEq, Nat.reduceAdd, Nat.reduceLeDiff, Nat.reduceEqDiff, and_self, and_false, false_and, if_true, if_false, am_nb, am_nb0, am_nb1, am_lc1, am_lc2, am_lc3, am_b0, am_b1, am_10, am_c8, am_c16, am_c24, am_c32, am_c40, am_c48, am_c56, am_c64, am_c72, Nat.add_zero, Bool.false_eq_true, Nat.zero_le, hcu, wX1_isNest hN h8 hk, hx, hin, hcl, o10, y0, y1, y2, y3]
        refine Or.inr ⟨_, rfl, mo _ ?_⟩
        rw [if_neg (by decide), show (4 : Int32).toNatClampNeg = 4 by decide, ← hsim.rr (r := 4) hn (by decide)]
        first | exact (cS_4 hn8).symm | (rw [show 8 * 4 + n = n by omega]; exact (cS_4 hn8).symm)
      by_cases y5 : y = 5
      · subst y5
        simp only [gX1_nest_0, gX1_nest_1, gX1_nest_2, gX1_nest_5, gX1_nest_16, gX1_nest_17, gX1_nest_110, gX1_nest_111, gX1_nest_114, gX1_nest_117, gX1_nest_118, gX1_nest_119, am_kill_int, am_kill_ref, am_kill_null, am_kill_F, am_kill_long, am_cat_n, am_cat_i, am_cat_r, am_cat_0, am_cat_l, am_nr_n, am_nr_i, am_nr_r, am_nr_0, am_nr_l, Option.toList_some, Option.toList_none, List.nil_append, List.cons_append, va_rf_s, va_rf_n, am_II, am_I_sR, am_I_sL, am_R_sI, am_RR, am_R_sL, am_L_sI, am_L_sR, am_LL, am_k_sI, am_k_sR, am_k_sL, am_n_sI, am_n_sR, am_n_sL, true_and, and_true, true_or, or_true, or_false, false_or, not_true_eq_false, not_false_eq_true, Nat.reduceLT, am_dS, am_dP, am_d1, Nat.reduceSub, Nat.reduceMul, ne_eq, Nat.reduceBEq, Nat.reduceAdd, Nat.reduceLeDiff, Nat.reduceEqDiff, and_self, and_false, false_and, if_true, if_false, am_nb, am_nb0, am_nb1, am_lc1, am_lc2, am_lc3, am_b0, am_b1, am_10, am_c8, am_c16, am_c24, am_c32, am_c40, am_c48, am_c56, am_c64, am_c72, Nat.add_zero, Bool.false_eq_true, Nat.zero_le, hcu, wX1_isNest hN h8 hk, hx, hin, hcl, o10, y0, y1, y2, y3, y4]
        refine Or.inr ⟨_, rfl, mo _ ?_⟩
        rw [if_neg (by decide), show (5 : Int32).toNatClampNeg = 5 by decide, ← hsim.rr (r := 5) hn (by decide)]
        first | exact (cS_5 hn8).symm | (rw [show 8 * 5 + n = n by omega]; exact (cS_5 hn8).symm)
      have y6 : y = 6 := by rcases is7 hy with f | f | f | f | f | f | f <;> first | exact absurd f (by assumption) | exact f
      subst y6
      have hc3 := hC.2.2.2.1
      have it := wX1_isInTime (d := d + 198) (h := 1) (j := n) (K := fun r1 μ1 => am_nr r1 ∧ am_Wp (d + 200) mX1_nest 129 [.ref 0, .int (nI n), .int 6] (r1.toList ++ []) μ1 (fun r1 μ1 => (r1 = some (.retAddr 1) ∧ am_Wp (d + 200) mX3_nest 0 [.ref 54, .int (nI n), .int 6] [] μ1 (fun r2 μ2 => (∃ x, r2 = some (.int x)) ∧ am_I μ2 54 7 = 1 ∧ Inv (q + 1) μ2)) ∨ ∃ v, r1 = some (.int v) ∧ am_Wp (d + 200) mX3_nest 0 [.ref 54, .int (nI n), .int 6] [] (am_sL μ1 77 0 v.toInt64) (fun r2 μ2 => r2 = some (.int v) ∧ am_I μ2 54 7 = 0 ∧ am_L μ2 77 0 = v.toInt64 ∧ Inv (q + 1) μ2))) hn8 hk hC.1.s1
      rw [hc3] at it
      have e := hsim.inTm (cl := c) hn
      have n60 : ¬ (6 : Int32) = 0 := by decide
      have n61 : ¬ (6 : Int32) = 1 := by decide
      have n62 : ¬ (6 : Int32) = 2 := by decide
      have n63 : ¬ (6 : Int32) = 3 := by decide
      have n64 : ¬ (6 : Int32) = 4 := by decide
      have n65 : ¬ (6 : Int32) = 5 := by decide
      simp only [gX1_nest_0, gX1_nest_1, gX1_nest_2, gX1_nest_5, gX1_nest_16, gX1_nest_17, gX1_nest_120, gX1_nest_121, gX1_nest_122, gX1_nest_125, gX1_nest_126, am_kill_int, am_kill_ref, am_kill_null, am_kill_F, am_kill_long, am_cat_n, am_cat_i, am_cat_r, am_cat_0, am_cat_l, am_nr_n, am_nr_i, am_nr_r, am_nr_0, am_nr_l, Option.toList_some, Option.toList_none, List.nil_append, List.cons_append, va_rf_s, va_rf_n, am_II, am_I_sR, am_I_sL, am_R_sI, am_RR, am_R_sL, am_L_sI, am_L_sR, am_LL, am_k_sI, am_k_sR, am_k_sL, am_n_sI, am_n_sR, am_n_sL, true_and, and_true, true_or, or_true, or_false, false_or, not_true_eq_false, not_false_eq_true, Nat.reduceLT, am_dS, am_dP, am_d1, Nat.reduceSub, Nat.reduceMul, ne_eq, Nat.reduceBEq, Nat.reduceAdd, Nat.reduceLeDiff, Nat.reduceEqDiff, and_self, and_false, false_and, if_true, if_false, am_nb, am_nb0, am_nb1, am_lc1, am_lc2, am_lc3, am_b0, am_b1, am_10, am_c8, am_c16, am_c24, am_c32, am_c40, am_c48, am_c56, am_c64, am_c72, Nat.add_zero, Bool.false_eq_true, Nat.zero_le, hcu, wX1_isNest hN h8 hk, hx, o10, n60, n61, n62, n63, n64, n65]
      rw [it]
      refine ⟨trivial, ?_⟩
      by_cases g : inT c (cS μ 1) n = true
      · have g2 : ¬ am_I μ 55 (32 + n) = -1 ∧ c ≤ am_I μ 55 (32 + n) := by rw [e] at g; exact of_decide_eq_true g
        rw [if_pos g]
        simp only [Option.toList_some, List.cons_append, List.nil_append, gX1_nest_129, gX1_nest_132, gX1_nest_133, gX1_nest_136, gX1_nest_137, am_kill_int, am_kill_ref, am_kill_null, am_kill_F, am_kill_long, am_cat_n, am_cat_i, am_cat_r, am_cat_0, am_cat_l, am_nr_n, am_nr_i, am_nr_r, am_nr_0, am_nr_l, Option.toList_some, Option.toList_none, List.nil_append, List.cons_append, va_rf_s, va_rf_n, am_II, am_I_sR, am_I_sL, am_R_sI, am_RR, am_R_sL, am_L_sI, am_L_sR, am_LL, am_k_sI, am_k_sR, am_k_sL, am_n_sI, am_n_sR, am_n_sL, true_and, and_true, true_or, or_true, or_false, false_or, not_true_eq_false, not_false_eq_true, Nat.reduceLT, am_dS, am_dP, am_d1, Nat.reduceSub, Nat.reduceMul, ne_eq, Nat.reduceBEq, Nat.reduceAdd, Nat.reduceLeDiff, Nat.reduceEqDiff, and_self, and_false, false_and, if_true, if_false, am_nb, am_nb0, am_nb1, am_lc1, am_lc2, am_lc3, am_b0, am_b1, am_10, am_c8, am_c16, am_c24, am_c32, am_c40, am_c48, am_c56, am_c64, am_c72, Nat.add_zero, Bool.false_eq_true, Nat.zero_le, o10]
        exact Or.inr ⟨_, rfl, mo _ (by rw [if_pos rfl, if_pos g2])⟩
      · have g2 : ¬ (¬ am_I μ 55 (32 + n) = -1 ∧ c ≤ am_I μ 55 (32 + n)) := fun z => g (by rw [e]; exact decide_eq_true z)
        rw [if_neg g]
        simp only [Option.toList_some, List.cons_append, List.nil_append, gX1_nest_129, gX1_nest_132, gX1_nest_133, gX1_nest_136, gX1_nest_137, am_kill_int, am_kill_ref, am_kill_null, am_kill_F, am_kill_long, am_cat_n, am_cat_i, am_cat_r, am_cat_0, am_cat_l, am_nr_n, am_nr_i, am_nr_r, am_nr_0, am_nr_l, Option.toList_some, Option.toList_none, List.nil_append, List.cons_append, va_rf_s, va_rf_n, am_II, am_I_sR, am_I_sL, am_R_sI, am_RR, am_R_sL, am_L_sI, am_L_sR, am_LL, am_k_sI, am_k_sR, am_k_sL, am_n_sI, am_n_sR, am_n_sL, true_and, and_true, true_or, or_true, or_false, false_or, not_true_eq_false, not_false_eq_true, Nat.reduceLT, am_dS, am_dP, am_d1, Nat.reduceSub, Nat.reduceMul, ne_eq, Nat.reduceBEq, Nat.reduceAdd, Nat.reduceLeDiff, Nat.reduceEqDiff, and_self, and_false, false_and, if_true, if_false, am_nb, am_nb0, am_nb1, am_lc1, am_lc2, am_lc3, am_b0, am_b1, am_10, am_c8, am_c16, am_c24, am_c32, am_c40, am_c48, am_c56, am_c64, am_c72, Nat.add_zero, Bool.false_eq_true, Nat.zero_le]
        exact Or.inr ⟨_, rfl, mo _ (by rw [if_pos rfl, if_neg g2])⟩
    · have ny : ∀ k : Nat, k < 7 → ¬ y = nI k := fun k hk2 e => hy (by rw [e]; exact isN_nI (by omega) hk2)
      have n0 : ¬ y = 0 := ny 0 (by omega)
      have n1 : ¬ y = 1 := ny 1 (by omega)
      have n2 : ¬ y = 2 := ny 2 (by omega)
      have n3 : ¬ y = 3 := ny 3 (by omega)
      have n4 : ¬ y = 4 := ny 4 (by omega)
      have n5 : ¬ y = 5 := ny 5 (by omega)
      have n6 : ¬ y = 6 := ny 6 (by omega)
      simp only [gX1_nest_0, gX1_nest_1, gX1_nest_2, gX1_nest_5, gX1_nest_16, gX1_nest_17, gX1_nest_138, am_kill_int, am_kill_ref, am_kill_null, am_kill_F, am_kill_long, am_cat_n, am_cat_i, am_cat_r, am_cat_0, am_cat_l, am_nr_n, am_nr_i, am_nr_r, am_nr_0, am_nr_l, Option.toList_some, Option.toList_none, List.nil_append, List.cons_append, va_rf_s, va_rf_n, am_II, am_I_sR, am_I_sL, am_R_sI, am_RR, am_R_sL, am_L_sI, am_L_sR, am_LL, am_k_sI, am_k_sR, am_k_sL, am_n_sI, am_n_sR, am_n_sL, true_and, and_true, true_or, or_true, or_false, false_or, not_true_eq_false, not_false_eq_true, Nat.reduceLT, am_dS, am_dP, am_d1, Nat.reduceSub, Nat.reduceMul, ne_eq, Nat.reduceBEq, Nat.reduceAdd, Nat.reduceLeDiff, Nat.reduceEqDiff, and_self, and_false, false_and, if_true, if_false, am_nb, am_nb0, am_nb1, am_lc1, am_lc2, am_lc3, am_b0, am_b1, am_10, am_c8, am_c16, am_c24, am_c32, am_c40, am_c48, am_c56, am_c64, am_c72, Nat.add_zero, Bool.false_eq_true, Nat.zero_le, hcu, wX1_isNest hN h8 hk, hx, o10, n0, n1, n2, n3, n4, n5, n6]
      exact Or.inl (no (fun z => hy z.2))
  · simp only [gX1_nest_0, gX1_nest_1, gX1_nest_2, gX1_nest_5, gX1_nest_8, am_kill_int, am_kill_ref, am_kill_null, am_kill_F, am_kill_long, am_cat_n, am_cat_i, am_cat_r, am_cat_0, am_cat_l, am_nr_n, am_nr_i, am_nr_r, am_nr_0, am_nr_l, Option.toList_some, Option.toList_none, List.nil_append, List.cons_append, va_rf_s, va_rf_n, am_II, am_I_sR, am_I_sL, am_R_sI, am_RR, am_R_sL, am_L_sI, am_L_sR, am_LL, am_k_sI, am_k_sR, am_k_sL, am_n_sI, am_n_sR, am_n_sL, true_and, and_true, true_or, or_true, or_false, false_or, not_true_eq_false, not_false_eq_true, Nat.reduceLT, am_dS, am_dP, am_d1, Nat.reduceSub, Nat.reduceMul, ne_eq, Nat.reduceBEq, Nat.reduceAdd, Nat.reduceLeDiff, Nat.reduceEqDiff, and_self, and_false, false_and, if_true, if_false, am_nb, am_nb0, am_nb1, am_lc1, am_lc2, am_lc3, am_b0, am_b1, am_10, am_c8, am_c16, am_c24, am_c32, am_c40, am_c48, am_c56, am_c64, am_c72, Nat.add_zero, Bool.false_eq_true, Nat.zero_le, hcu, wX1_isNest hN h8 hk, hx]
    exact Or.inl (no (fun z => hx z.1))
theorem op_row (hI : Inv q μ) : OPl q mX1_row mX3_row [.ref 0, .int x] [.ref 54, .int x] μ := by
  intro d
  have hI' := hI
  obtain ⟨⟨N, C, ru, c, hP⟩, hT, hR, b1, b2, b3⟩ := hI
  have hC := hP.1.1
  have hcu := hC.1
  simp only [cL, spL, Nat.reduceAdd] at hcu
  have hN := hC.2.1
  have h8 := hC.2.2.1
  have hk := hC.1.c
  have hS := hP.1.2.1
  have hMC := hS.1
  have hmu := hMC.1
  unfold mL at hmu
  have hsim : Sim N (cS μ 1) (am_I μ 55) := hP.2.1
  have o10 : ¬ (1 : Int32) = 0 := by decide
  obtain ⟨r, r1, r2, r3, r4⟩ := hR
  have e1 : ((0 : Int32).toInt64 ≤ x.toInt64 ∧ x.toInt64 ≤ (nI r - 1).toInt64) = (isN x r = true) := by rw [am_leL, am_leL, am_isb]
  by_cases hx : isN x r = true
  · obtain ⟨n, hn, e⟩ := isN_of (by omega) hx
    have hin : vp_in x 16 := by rw [e]; exact vp_in_nI (by omega) (by omega)
    have hcl : x.toNatClampNeg = n := by rw [e]; exact nI_clamp (by omega)
    have v53 : vp_in x (am_k μ 53).2 := by simp only [hcu]; exact hin
    simp only [gX1_row_0, gX1_row_1, gX1_row_2, gX1_row_3, gX1_row_4, gX1_row_7, gX1_row_8, gX1_row_9, gX1_row_10, gX1_row_13, gX1_row_16, gX1_row_24, gX1_row_25, gX1_row_28, gX1_row_29, gX1_row_30, am_kill_int, am_kill_ref, am_kill_null, am_kill_F, am_kill_long, am_cat_n, am_cat_i, am_cat_r, am_cat_0, am_cat_l, am_nr_n, am_nr_i, am_nr_r, am_nr_0, am_nr_l, Option.toList_some, Option.toList_none, List.nil_append, List.cons_append, va_rf_s, va_rf_n, am_II, am_I_sR, am_I_sL, am_R_sI, am_RR, am_R_sL, am_L_sI, am_L_sR, am_LL, am_k_sI, am_k_sR, am_k_sL, am_n_sI, am_n_sR, am_n_sL, true_and, and_true, true_or, or_true, or_false, false_or, not_true_eq_false, not_false_eq_true, Nat.reduceLT, am_dS, am_dP, am_d1, Nat.reduceSub, Nat.reduceMul, ne_eq, Nat.reduceBEq, Nat.reduceAdd, Nat.reduceLeDiff, Nat.reduceEqDiff, and_self, and_false, false_and, if_true, if_false, am_nb, am_nb0, am_nb1, am_lc1, am_lc2, am_lc3, am_b0, am_b1, am_10, am_c8, am_c16, am_c24, am_c32, am_c40, am_c48, am_c56, am_c64, am_c72, Nat.add_zero, Bool.false_eq_true, Nat.zero_le, hcu, r2, wX1_in, am_l0, e1, hx, o10, hin, hcl]
    refine Or.inr ⟨_, rfl, ?_⟩
    have hmb : am_k (am_sL μ 77 0 (am_L μ 53 n)) 54 = (2, 0) := hmu.1.1
    have r3' : am_I (am_sI (am_sL μ 77 0 (am_L μ 53 n)) 54 7 0) 54 6 = nI r := by rw [am_I_sI, if_neg (by omega)]; exact r3
    have l57 : am_L (am_sI (am_sL μ 77 0 (am_L μ 53 n)) 54 7 0) 57 n = am_L μ 53 n := by rw [am_L_sI, am_LL, if_neg (by omega)]; exact (r4 n hn).symm
    have k57 : am_k (am_sI (am_sL μ 77 0 (am_L μ 53 n)) 54 7 0) 57 = (12, 16) := hmu.1.2.2.2.1
    have k54 : am_k (am_sI (am_sL μ 77 0 (am_L μ 53 n)) 54 7 0) 54 = (2, 0) := hmu.1.1
    have R5 : am_R (am_sI (am_sL μ 77 0 (am_L μ 53 n)) 54 7 0) 54 5 = some 57 := by show am_R μ 54 5 = _; simp only [hmu]
    have fin : some (Value.long (am_L μ 53 n)) = some (Value.long (am_L μ 53 n)) ∧ am_I (am_sI (am_sL μ 77 0 (am_L μ 53 n)) 54 7 0) 54 7 = 0 ∧ am_L (am_sI (am_sL μ 77 0 (am_L μ 53 n)) 54 7 0) 77 0 = am_L μ 53 n ∧ Inv (q + 1) (am_sI (am_sL μ 77 0 (am_L μ 53 n)) 54 7 0) := ⟨rfl, by rw [am_I_sI, if_pos ⟨rfl, rfl⟩], by rw [am_L_sI, am_LL, if_pos ⟨rfl, rfl⟩], hI'.thx eqL.out⟩
    simp only [gX3_row_0, gX3_row_1, gX3_row_2, am_kill_int, am_kill_ref, am_kill_null, am_kill_F, am_kill_long, am_cat_n, am_cat_i, am_cat_r, am_cat_0, am_cat_l, am_nr_n, am_nr_i, am_nr_r, am_nr_0, am_nr_l, Option.toList_some, Option.toList_none, List.nil_append, List.cons_append, va_rf_s, va_rf_n, am_I_sR, am_I_sL, am_R_sI, am_R_sL, am_L_sI, am_L_sR, am_k_sI, am_k_sR, am_k_sL, am_n_sI, am_n_sR, am_n_sL, true_and, and_true, true_or, or_true, or_false, false_or, not_true_eq_false, not_false_eq_true, Nat.reduceLT, am_dS, am_dP, am_d1, Nat.reduceSub, Nat.reduceMul, ne_eq, Nat.reduceBEq, Nat.reduceAdd, Nat.reduceLeDiff, Nat.reduceEqDiff, and_self, and_false, false_and, if_true, if_false, am_nb, am_nb0, am_nb1, am_lc1, am_lc2, am_lc3, am_b0, am_b1, am_10, am_c8, am_c16, am_c24, am_c32, am_c40, am_c48, am_c56, am_c64, am_c72, Nat.add_zero, Bool.false_eq_true, Nat.zero_le, hmb]
    generalize am_sI (am_sL μ 77 0 (am_L μ 53 n)) 54 7 0 = μ4 at fin r3' l57 k57 k54 R5 ⊢
    simp only [gX3_row_5, gX3_row_6, gX3_row_7, gX3_row_8, gX3_row_11, gX3_row_12, gX3_row_13, gX3_row_16, gX3_row_19, gX3_row_20, gX3_row_23, gX3_row_24, gX3_row_25, gX3_row_33, am_kill_int, am_kill_ref, am_kill_null, am_kill_F, am_kill_long, am_cat_n, am_cat_i, am_cat_r, am_cat_0, am_cat_l, am_nr_n, am_nr_i, am_nr_r, am_nr_0, am_nr_l, Option.toList_some, Option.toList_none, List.nil_append, List.cons_append, va_rf_s, va_rf_n, am_I_sR, am_I_sL, am_R_sI, am_R_sL, am_L_sI, am_L_sR, am_k_sI, am_k_sR, am_k_sL, am_n_sI, am_n_sR, am_n_sL, true_and, and_true, true_or, or_true, or_false, false_or, not_true_eq_false, not_false_eq_true, Nat.reduceLT, am_dS, am_dP, am_d1, Nat.reduceSub, Nat.reduceMul, ne_eq, Nat.reduceBEq, Nat.reduceAdd, Nat.reduceLeDiff, Nat.reduceEqDiff, and_self, and_false, false_and, if_true, if_false, am_nb, am_nb0, am_nb1, am_lc1, am_lc2, am_lc3, am_b0, am_b1, am_10, am_c8, am_c16, am_c24, am_c32, am_c40, am_c48, am_c56, am_c64, am_c72, Nat.add_zero, Bool.false_eq_true, Nat.zero_le, k54, k57, R5, r3', wX3_in, am_isb, hx, o10, hin, hcl, l57]
    exact fin.2
  · simp only [gX1_row_0, gX1_row_1, gX1_row_2, gX1_row_3, gX1_row_4, gX1_row_7, gX1_row_8, gX1_row_9, gX1_row_10, gX1_row_13, gX1_row_16, am_kill_int, am_kill_ref, am_kill_null, am_kill_F, am_kill_long, am_cat_n, am_cat_i, am_cat_r, am_cat_0, am_cat_l, am_nr_n, am_nr_i, am_nr_r, am_nr_0, am_nr_l, Option.toList_some, Option.toList_none, List.nil_append, List.cons_append, va_rf_s, va_rf_n, am_II, am_I_sR, am_I_sL, am_R_sI, am_RR, am_R_sL, am_L_sI, am_L_sR, am_LL, am_k_sI, am_k_sR, am_k_sL, am_n_sI, am_n_sR, am_n_sL, true_and, and_true, true_or, or_true, or_false, false_or, not_true_eq_false, not_false_eq_true, Nat.reduceLT, am_dS, am_dP, am_d1, Nat.reduceSub, Nat.reduceMul, ne_eq, Nat.reduceBEq, Nat.reduceAdd, Nat.reduceLeDiff, Nat.reduceEqDiff, and_self, and_false, false_and, if_true, if_false, am_nb, am_nb0, am_nb1, am_lc1, am_lc2, am_lc3, am_b0, am_b1, am_10, am_c8, am_c16, am_c24, am_c32, am_c40, am_c48, am_c56, am_c64, am_c72, Nat.add_zero, Bool.false_eq_true, Nat.zero_le, hcu, r2, wX1_in, am_l0, e1, hx]
    refine Or.inl ?_
    have hmb : am_k (am_bump μ) 54 = (2, 0) := hmu.1.1
    have r3' : am_I (am_sI (am_bump μ) 54 7 0) 54 6 = nI r := by rw [am_I_sI, if_neg (by omega)]; exact r3
    have k54 : am_k (am_sI (am_bump μ) 54 7 0) 54 = (2, 0) := hmu.1.1
    have hMb : MC N c (am_sI (am_bump μ) 54 7 0) := (mC_L (L' := am_L μ) hMC (ν := am_bump μ) rfl rfl rfl).fr (F := fun a b => a = 54 ∧ b = 7) (Fr.I Fr.refl ⟨rfl, rfl⟩) (fun a b z => by omega)
    simp only [gX3_row_0, gX3_row_1, gX3_row_2, am_kill_int, am_kill_ref, am_kill_null, am_kill_F, am_kill_long, am_cat_n, am_cat_i, am_cat_r, am_cat_0, am_cat_l, am_nr_n, am_nr_i, am_nr_r, am_nr_0, am_nr_l, Option.toList_some, Option.toList_none, List.nil_append, List.cons_append, va_rf_s, va_rf_n, am_I_sR, am_I_sL, am_R_sI, am_R_sL, am_L_sI, am_L_sR, am_k_sI, am_k_sR, am_k_sL, am_n_sI, am_n_sR, am_n_sL, true_and, and_true, true_or, or_true, or_false, false_or, not_true_eq_false, not_false_eq_true, Nat.reduceLT, am_dS, am_dP, am_d1, Nat.reduceSub, Nat.reduceMul, ne_eq, Nat.reduceBEq, Nat.reduceAdd, Nat.reduceLeDiff, Nat.reduceEqDiff, and_self, and_false, false_and, if_true, if_false, am_nb, am_nb0, am_nb1, am_lc1, am_lc2, am_lc3, am_b0, am_b1, am_10, am_c8, am_c16, am_c24, am_c32, am_c40, am_c48, am_c56, am_c64, am_c72, Nat.add_zero, Bool.false_eq_true, Nat.zero_le, hmb]
    simp only [gX3_row_5, gX3_row_6, gX3_row_7, gX3_row_8, gX3_row_11, gX3_row_12, gX3_row_13, gX3_row_16, gX3_row_28, gX3_row_29, gX3_row_32, gX3_row_33, am_kill_int, am_kill_ref, am_kill_null, am_kill_F, am_kill_long, am_cat_n, am_cat_i, am_cat_r, am_cat_0, am_cat_l, am_nr_n, am_nr_i, am_nr_r, am_nr_0, am_nr_l, Option.toList_some, Option.toList_none, List.nil_append, List.cons_append, va_rf_s, va_rf_n, am_I_sR, am_I_sL, am_R_sI, am_R_sL, am_L_sI, am_L_sR, am_k_sI, am_k_sR, am_k_sL, am_n_sI, am_n_sR, am_n_sL, true_and, and_true, true_or, or_true, or_false, false_or, not_true_eq_false, not_false_eq_true, Nat.reduceLT, am_dS, am_dP, am_d1, Nat.reduceSub, Nat.reduceMul, ne_eq, Nat.reduceBEq, Nat.reduceAdd, Nat.reduceLeDiff, Nat.reduceEqDiff, and_self, and_false, false_and, if_true, if_false, am_nb, am_nb0, am_nb1, am_lc1, am_lc2, am_lc3, am_b0, am_b1, am_10, am_c8, am_c16, am_c24, am_c32, am_c40, am_c48, am_c56, am_c64, am_c72, Nat.add_zero, Bool.false_eq_true, Nat.zero_le, k54, r3', wX3_in, am_isb, hx, wX3_lost hMb]
    exact ⟨⟨_, rfl⟩, by rw [am_I_sI, if_pos ⟨rfl, rfl⟩], by rw [am_sI_sI]; exact hI'.thx eqL.bump⟩
end OXV
