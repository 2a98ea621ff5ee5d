/-! calls that ask: fits, ask -/
set_option maxRecDepth 100000
section OOV
variable {d : Nat} {μ ν ξ : am_M} {K : Option Value → am_M → Prop} {x y z c : Int32} {h h' N C j i k r n M b q m t w : Nat} {v : Int32} {ru : Option PF} {A o o' W O W' O' : Nat → Int32} {S a T : Nat → Int32} {g p p' : Nat → Bool} {mc mm : am_MI} {lc lm : List Value}
/-- what was written, as the component has it -/
def pWx (w : Nat) (μ : am_M) : Prop := w ≤ 12 ∧ am_I μ 0 33 = nI w ∧ am_I μ 54 33 = nI w ∧ ∀ k, k < w → am_I μ 49 k = am_I μ 72 k ∧ am_I μ 50 k = am_I μ 73 k
abbrev WF : Type := (Nat → Int32) × (Nat → Int32) × Nat
/-- as op_S, with what was written -/
theorem op_W {V : Nat → Option PF → Int32 → (Nat → Int32) → WF → Int32} {P : Nat → Option PF → Int32 → (Nat → Int32) → WF → Option (List Int64)} (hC : ∀ {N C w : Nat} {ru : Option PF} {c : Int32} {μ : am_M}, Per N C ru c μ → pWx w μ → QC mc lc μ (V N ru c (cS μ 1) (am_I μ 49, am_I μ 50, w)) (P N ru c (cS μ 1) (am_I μ 49, am_I μ 50, w)))
    (hR : R5 mm lm) (h5 : ∀ {N C w : Nat} {ru : Option PF} {c : Int32} {μ : am_M}, Per N C ru c μ → pWx w μ → Q5 mm lm μ (V N ru c (cS μ 1) (am_I μ 49, am_I μ 50, w)) (P N ru c (cS μ 1) (am_I μ 49, am_I μ 50, w))) (hI : Inv q μ) : OP q mc mm lc lm μ := by
  refine op_q (fun N C ru c μ hP => ?_) hI
  obtain ⟨w, hw⟩ : ∃ w, pWx w μ := hP.2.2.2.2.2.2.2.2.1
  refine ⟨_, _, hC hP hw, fun ν hF hPν => ?_⟩
  intro d K hK
  have hf0 : Fw sM ν (am_sI ν 54 7 0) := Fw.I Fw.refl (by unfold sM; omega)
  have h170 : am_I (am_sI ν 54 7 0) 54 17 = 0 := by rw [am_I_sI, if_neg (by omega)]; exact hPν.h17
  have hP0 := hPν.sMm hf0 h170
  have e0 : cS (am_sI ν 54 7 0) 1 = cS μ 1 := (cS_Fw hf0 fun a b z1 z2 z3 => by unfold sM at z3; omega).trans (cS_Fw hF fun a b z1 z2 z3 => by unfold sC at z3; omega)
  have ea : ∀ a, (a = 49 ∨ a = 50 ∨ a = 72 ∨ a = 73) → am_I (am_sI ν 54 7 0) a = am_I μ a := fun a ha => funext fun b => (hf0.1 a b (fun z => by unfold sM at z; omega)).trans (hF.1 a b (fun z => by unfold sC at z; omega))
  have e33 : am_I (am_sI ν 54 7 0) 0 33 = am_I μ 0 33 := (hf0.1 0 33 (fun z => by unfold sM at z; omega)).trans (hF.1 0 33 (fun z => by unfold sC at z; omega))
  have e33' : am_I (am_sI ν 54 7 0) 54 33 = am_I μ 54 33 := (hf0.1 54 33 (fun z => by unfold sM at z; omega)).trans (hF.1 54 33 (fun z => by unfold sC at z; omega))
  have hw0 : pWx w (am_sI ν 54 7 0) := ⟨hw.1, e33.trans hw.2.1, e33'.trans hw.2.2.1, fun k hk => by rw [ea 49 (by omega), ea 50 (by omega), ea 72 (by omega), ea 73 (by omega)]; exact hw.2.2.2 k hk⟩
  refine hR d K ν hPν.1.2.1.1.1.1.1 ?_
  have := h5 hP0 hw0 d K
  rw [e0, ea 49 (by omega), ea 50 (by omega)] at this
  refine this fun ξ g1 g2 g3 g4 => hK ξ (hf0.trans g1) g2 ?_ (fun i => (g4 i).trans rfl)
  cases hps : P N ru c (cS μ 1) (am_I μ 49, am_I μ 50, w) with
  | none =>
    rw [hps] at g3
    exact ⟨g3.1.trans (by rw [am_I_sI, if_neg (by omega)]), fun i => (g3.2 i).trans rfl⟩
  | some l =>
    rw [hps] at g3
    exact g3
def vFt (N : Nat) (S : Nat → Int32) (e : WF) : Int32 := orB (ftB e.1 e.2.1 e.2.2 S) N
theorem ftB_M (hw : pWx w μ) : orB (ftB (am_I μ 72) (am_I μ 73) w S) N = orB (ftB (am_I μ 49) (am_I μ 50) w S) N := orB_congr fun j _ => alB_c fun k hk => by rw [(hw.2.2.2 k hk).1, (hw.2.2.2 k hk).2]
theorem qc_fits (hP : Per N C ru c μ) (hw : pWx w μ) : QC mX1_fits [.ref 0, am_F] μ (vFt N (cS μ 1) (am_I μ 49, am_I μ 50, w)) (some [(bcI (vFt N (cS μ 1) (am_I μ 49, am_I μ 50, w))).toInt64]) := by
  intro d K hK
  have hC := hP.1.1
  have hcu := hC.1
  simp only [cL, spL, Nat.reduceAdd] at hcu
  have hN := hC.2.1
  have h8 := hC.2.2.1
  have hk := hC.1.c
  have h1 := fun K => wX1_fitting (d := d + 197) (K := K) hC hw.1 hw.2.1
  unfold vFt at hK
  simp only [gX1_fits_0, gX1_fits_1, am_kill_int, am_kill_ref, am_kill_null, am_kill_F, am_kill_long, am_cat_n, am_cat_i, am_cat_r, am_cat_0, am_cat_l, am_nr_n, am_nr_i, am_nr_r, am_nr_0, am_nr_l, Option.toList_some, Option.toList_none, List.nil_append, List.cons_append, va_rf_s, va_rf_n, am_II, am_I_sR, am_I_sL, am_R_sI, am_RR, am_R_sL, am_L_sI, am_L_sR, am_LL, am_k_sI, am_k_sR, am_k_sL, am_n_sI, am_n_sR, am_n_sL, true_and, and_true, true_or, or_true, or_false, false_or, not_true_eq_false, not_false_eq_true, Nat.reduceLT, am_dS, am_dP, am_d1, Nat.reduceSub, Nat.reduceMul, ne_eq, Nat.reduceBEq, Nat.reduceAdd, Nat.reduceLeDiff, Nat.reduceEqDiff, and_self, and_false, false_and, if_true, if_false, am_nb, am_nb0, am_nb1, am_lc1, am_lc2, am_lc3, am_b0, am_b1, am_10, am_c8, am_c16, am_c24, am_c32, am_c40, am_c48, am_c56, am_c64, am_c72, Nat.add_zero, Bool.false_eq_true, Nat.zero_le, hcu]
  rw [h1]
  simp only [gX1_fits_4, gX1_fits_5, gX1_fits_6, gX1_fits_7, gX1_fits_10, gX1_fits_11, gX1_fits_12, gX1_fits_15, gX1_fits_16, gX1_fits_19, gX1_fits_20, am_kill_int, am_kill_ref, am_kill_null, am_kill_F, am_kill_long, am_cat_n, am_cat_i, am_cat_r, am_cat_0, am_cat_l, am_nr_n, am_nr_i, am_nr_r, am_nr_0, am_nr_l, Option.toList_some, Option.toList_none, List.nil_append, List.cons_append, va_rf_s, va_rf_n, am_II, am_I_sR, am_I_sL, am_R_sI, am_RR, am_R_sL, am_L_sI, am_L_sR, am_LL, am_k_sI, am_k_sR, am_k_sL, am_n_sI, am_n_sR, am_n_sL, true_and, and_true, true_or, or_true, or_false, false_or, not_true_eq_false, not_false_eq_true, Nat.reduceLT, am_dS, am_dP, am_d1, Nat.reduceSub, Nat.reduceMul, ne_eq, Nat.reduceBEq, Nat.reduceAdd, Nat.reduceLeDiff, Nat.reduceEqDiff, and_self, and_false, false_and, if_true, if_false, am_nb, am_nb0, am_nb1, am_lc1, am_lc2, am_lc3, am_b0, am_b1, am_10, am_c8, am_c16, am_c24, am_c32, am_c40, am_c48, am_c56, am_c64, am_c72, Nat.add_zero, Bool.false_eq_true, Nat.zero_le, hcu, wJ10_bitCount, wX1_tells0]
  refine hK _ (((Fw.refl.I (by unfold sC; omega)).L (Or.inl rfl)).I (by unfold sC; omega)) (TC1 ?_ ?_) (fun i => ?_)
  · simp only [am_II, and_self, if_true]
  · simp only [am_L_sI, am_LL, and_self, if_true]
  · simp only [am_L_sI, am_LL, Nat.reduceEqDiff, false_and, if_false]
theorem q5_fits (hP : Per N C ru c μ) (hw : pWx w μ) : Q5 mX3_fits [.ref 54] μ (vFt N (cS μ 1) (am_I μ 49, am_I μ 50, w)) (some [(bcI (vFt N (cS μ 1) (am_I μ 49, am_I μ 50, w))).toInt64]) := by
  intro d K hK
  have hS := hP.1.2.1
  have hC := hS.1
  have hmu := hC.1
  unfold mL at hmu
  have hN := hC.2.1
  have h8 := hC.2.2.1
  unfold vFt at hK
  rw [← ftB_M hw] at hK
  have hF1 : Fw sM μ (am_sI μ 54 6 0) := Fw.I Fw.refl (by unfold sM; omega)
  have hS1 := hS.sMm hF1 (by rw [am_I_sI, if_neg (by omega)]; exact hP.h17)
  have h1 := fun K => wX3_fitting (d := d + 198) (K := K) (S := cS μ 1) hS1.1 (by rw [am_row_o (by decide)]; exact hP.2.1) hw.1 (by rw [am_I_sI, if_neg (by omega)]; exact hw.2.2.1)
  rw [am_row_o (by decide), am_row_o (by decide)] at h1
  have hF2 : Fw sM μ (am_sI (am_sL (am_sI μ 54 6 0) 57 0 (bcI (orB (ftB (am_I μ 72) (am_I μ 73) w (cS μ 1)) N)).toInt64) 54 6 1) := (hF1.L (Or.inr rfl)).I (by unfold sM; omega)
  have hS2 := hS.sMm hF2 (by simp only [am_II, am_I_sL, Nat.reduceEqDiff, and_false, if_false]; exact hP.h17)
  have h2 := fun K => wX3_fitting (d := d + 198) (K := K) (S := cS μ 1) hS2.1 (by rw [am_row_o (by decide), am_I_sL, am_row_o (by decide)]; exact hP.2.1) hw.1 (by rw [am_I_sI, if_neg (by omega), am_I_sL, am_I_sI, if_neg (by omega)]; exact hw.2.2.1)
  rw [am_row_o (by decide), am_I_sL, am_row_o (by decide), am_row_o (by decide), am_I_sL, am_row_o (by decide)] at h2
  simp only [gX3_fits_5, gX3_fits_6, gX3_fits_7, gX3_fits_10, gX3_fits_11, gX3_fits_12, am_kill_int, am_kill_ref, am_kill_null, am_kill_F, am_kill_long, am_cat_n, am_cat_i, am_cat_r, am_cat_0, am_cat_l, am_nr_n, am_nr_i, am_nr_r, am_nr_0, am_nr_l, Option.toList_some, Option.toList_none, List.nil_append, List.cons_append, va_rf_s, va_rf_n, am_II, am_I_sR, am_I_sL, am_R_sI, am_RR, am_R_sL, am_L_sI, am_L_sR, am_LL, am_k_sI, am_k_sR, am_k_sL, am_n_sI, am_n_sR, am_n_sL, true_and, and_true, true_or, or_true, or_false, false_or, not_true_eq_false, not_false_eq_true, Nat.reduceLT, am_dS, am_dP, am_d1, Nat.reduceSub, Nat.reduceMul, ne_eq, Nat.reduceBEq, Nat.reduceAdd, Nat.reduceLeDiff, Nat.reduceEqDiff, and_self, and_false, false_and, if_true, if_false, am_nb, am_nb0, am_nb1, am_lc1, am_lc2, am_lc3, am_b0, am_b1, am_10, am_c8, am_c16, am_c24, am_c32, am_c40, am_c48, am_c56, am_c64, am_c72, Nat.add_zero, Bool.false_eq_true, Nat.zero_le, hmu]
  rw [h1]
  simp only [gX3_fits_15, gX3_fits_18, gX3_fits_19, gX3_fits_22, gX3_fits_23, am_kill_int, am_kill_ref, am_kill_null, am_kill_F, am_kill_long, am_cat_n, am_cat_i, am_cat_r, am_cat_0, am_cat_l, am_nr_n, am_nr_i, am_nr_r, am_nr_0, am_nr_l, Option.toList_some, Option.toList_none, List.nil_append, List.cons_append, va_rf_s, va_rf_n, am_II, am_I_sR, am_I_sL, am_R_sI, am_RR, am_R_sL, am_L_sI, am_L_sR, am_LL, am_k_sI, am_k_sR, am_k_sL, am_n_sI, am_n_sR, am_n_sL, true_and, and_true, true_or, or_true, or_false, false_or, not_true_eq_false, not_false_eq_true, Nat.reduceLT, am_dS, am_dP, am_d1, Nat.reduceSub, Nat.reduceMul, ne_eq, Nat.reduceBEq, Nat.reduceAdd, Nat.reduceLeDiff, Nat.reduceEqDiff, and_self, and_false, false_and, if_true, if_false, am_nb, am_nb0, am_nb1, am_lc1, am_lc2, am_lc3, am_b0, am_b1, am_10, am_c8, am_c16, am_c24, am_c32, am_c40, am_c48, am_c56, am_c64, am_c72, Nat.add_zero, Bool.false_eq_true, Nat.zero_le, hmu, wJ10_bitCount, wX3_tell0]
  rw [h2]
  simp only [gX3_fits_26, am_kill_int, am_kill_ref, am_kill_null, am_kill_F, am_kill_long, am_cat_n, am_cat_i, am_cat_r, am_cat_0, am_cat_l, am_nr_n, am_nr_i, am_nr_r, am_nr_0, am_nr_l, Option.toList_some, Option.toList_none, List.nil_append, List.cons_append, va_rf_s, va_rf_n, am_II, am_I_sR, am_I_sL, am_R_sI, am_RR, am_R_sL, am_L_sI, am_L_sR, am_LL, am_k_sI, am_k_sR, am_k_sL, am_n_sI, am_n_sR, am_n_sL, true_and, and_true, true_or, or_true, or_false, false_or, not_true_eq_false, not_false_eq_true, Nat.reduceLT, am_dS, am_dP, am_d1, Nat.reduceSub, Nat.reduceMul, ne_eq, Nat.reduceBEq, Nat.reduceAdd, Nat.reduceLeDiff, Nat.reduceEqDiff, and_self, and_false, false_and, if_true, if_false, am_nb, am_nb0, am_nb1, am_lc1, am_lc2, am_lc3, am_b0, am_b1, am_10, am_c8, am_c16, am_c24, am_c32, am_c40, am_c48, am_c56, am_c64, am_c72, Nat.add_zero, Bool.false_eq_true, Nat.zero_le]
  refine hK _ hF2 ?_ (TN1 ?_ ?_) (fun i => ?_)
  · simp only [am_II, am_I_sL, Nat.reduceEqDiff, and_false, if_false]; exact hP.h17
  · simp only [am_II, and_self, if_true]
  · simp only [am_L_sI, am_LL, and_self, if_true]
  · simp only [am_L_sI, am_LL, Nat.reduceEqDiff, false_and, if_false]
theorem op_fits (hI : Inv q μ) : OP q mX1_fits mX3_fits [.ref 0, am_F] [.ref 54] μ :=
  op_W (V := fun N _ _ S e => vFt N S e) (P := fun N _ _ S e => some [(bcI (vFt N S e)).toInt64]) (fun hP hw => qc_fits hP hw) (fun d K μ h h' => by simp only [gX3_fits_0, gX3_fits_1, gX3_fits_2, am_kill_int, am_kill_ref, am_kill_null, am_kill_F, am_kill_long, am_cat_n, am_cat_i, am_cat_r, am_cat_0, am_cat_l, am_nr_n, am_nr_i, am_nr_r, am_nr_0, am_nr_l, Option.toList_some, Option.toList_none, List.nil_append, List.cons_append, va_rf_s, va_rf_n, am_I_sR, am_I_sL, am_R_sI, am_R_sL, am_L_sI, am_L_sR, am_k_sI, am_k_sR, am_k_sL, am_n_sI, am_n_sR, am_n_sL, true_and, and_true, true_or, or_true, or_false, false_or, not_true_eq_false, not_false_eq_true, Nat.reduceLT, am_dS, am_dP, am_d1, Nat.reduceSub, Nat.reduceMul, ne_eq, Nat.reduceBEq, Nat.reduceAdd, Nat.reduceLeDiff, Nat.reduceEqDiff, and_self, and_false, false_and, if_true, if_false, am_nb, am_nb0, am_nb1, am_lc1, am_lc2, am_lc3, am_b0, am_b1, am_10, am_c8, am_c16, am_c24, am_c32, am_c40, am_c48, am_c56, am_c64, am_c72, Nat.add_zero, Bool.false_eq_true, Nat.zero_le, h]; exact h') (fun hP hw => q5_fits hP hw) hI
/-- how many would say yes, of so many nests -/
def ysF (p : Nat → Bool) (S : Nat → Int32) (v : Int32) : Nat → Nat
  | 0 => 0
  | n + 1 => ysF p S v n + (if p n = true ∧ S (16 + n) ≤ v then 1 else 0)
theorem ysF_le : ∀ n, ysF p S v n ≤ n
  | 0 => Nat.le_refl 0
  | n + 1 => by unfold ysF; have := ysF_le n; split <;> omega
def itA (p : Nat → Bool) (N : Nat) (S : Nat → Int32) (k : Nat) : Int32 := maI (nI (ysF p S (nI k) N)) (bcI (orB p N) - nI (ysF p S (nI k) N))
theorem bc_8 : ∀ k : Fin 256, ∃ n : Fin 9, bcI (nI k.val) = nI n.val := by decide +kernel
theorem it_8 : ∀ n m : Fin 9, maI (nI n.val) (nI m.val - nI n.val) < 1000000 ∧ maI (nI n.val) (nI m.val - nI n.val) < 2000000000 := by decide +kernel
theorem itA_lt (h8 : N ≤ 8) : itA p N S k < 1000000 ∧ itA p N S k < 2000000000 := by
  unfold itA
  rw [orB_eq h8]
  obtain ⟨m, hm⟩ := bc_8 ⟨vB p N, vB_256 h8⟩
  have h1 := ysF_le (p := p) (S := S) (v := nI k) N
  have := it_8 ⟨ysF p S (nI k) N, by omega⟩ m
  rw [← hm] at this
  exact this
def pAk (N : Nat) (S : Nat → Int32) (e : WF) : Option (List Int64) := if vFt N S e = 0 then none else some [(itA (ftB e.1 e.2.1 e.2.2 S) N S (bsF (itA (ftB e.1 e.2.1 e.2.2 S) N S) 10)).toInt64]
def vAk (N : Nat) (S : Nat → Int32) (e : WF) : Int32 := if vFt N S e = 0 then -2 else nI (bsF (itA (ftB e.1 e.2.1 e.2.2 S) N S) 10)
def bA (i0 : Int32) (o : Nat → Int32) (k : Nat) : Int32 := if k = 0 then i0 else nI (bsF o k)
def lA (i0 : Int32) (o : Nat → Int32) (k : Nat) : Int32 := if k = 0 then i0 else o (bsF o k)
theorem qc_ask (hP : Per N C ru c μ) (hw : pWx w μ) : QC mX1_ask [.ref 0, am_F, am_F, am_F, am_F, am_F, am_F] μ (vAk N (cS μ 1) (am_I μ 49, am_I μ 50, w)) (pAk N (cS μ 1) (am_I μ 49, am_I μ 50, w)) := by
  intro d K hK
  have hC := hP.1.1
  have hcu := hC.1
  simp only [cL, spL, Nat.reduceAdd] at hcu
  have hN := hC.2.1
  have h8 := hC.2.2.1
  have hk := hC.1.c
  have h1 := fun K => wX1_fitting (d := d + 197) (K := K) hC hw.1 hw.2.1
  unfold vAk pAk vFt at hK
  simp only at hK
  generalize hp : ftB (am_I μ 49) (am_I μ 50) w (cS μ 1) = p at hK h1
  simp only [gX1_ask_0, gX1_ask_1, am_kill_int, am_kill_ref, am_kill_null, am_kill_F, am_kill_long, am_cat_n, am_cat_i, am_cat_r, am_cat_0, am_cat_l, am_nr_n, am_nr_i, am_nr_r, am_nr_0, am_nr_l, Option.toList_some, Option.toList_none, List.nil_append, List.cons_append, va_rf_s, va_rf_n, am_II, am_I_sR, am_I_sL, am_R_sI, am_RR, am_R_sL, am_L_sI, am_L_sR, am_LL, am_k_sI, am_k_sR, am_k_sL, am_n_sI, am_n_sR, am_n_sL, true_and, and_true, true_or, or_true, or_false, false_or, not_true_eq_false, not_false_eq_true, Nat.reduceLT, am_dS, am_dP, am_d1, Nat.reduceSub, Nat.reduceMul, ne_eq, Nat.reduceBEq, Nat.reduceAdd, Nat.reduceLeDiff, Nat.reduceEqDiff, and_self, and_false, false_and, if_true, if_false, am_nb, am_nb0, am_nb1, am_lc1, am_lc2, am_lc3, am_b0, am_b1, am_10, am_c8, am_c16, am_c24, am_c32, am_c40, am_c48, am_c56, am_c64, am_c72, Nat.add_zero, Bool.false_eq_true, Nat.zero_le, hcu]
  rw [h1]
  by_cases h0 : orB p N = 0
  · simp only [if_pos h0] at hK
    simp only [gX1_ask_4, gX1_ask_5, gX1_ask_6, gX1_ask_9, gX1_ask_11, am_kill_int, am_kill_ref, am_kill_null, am_kill_F, am_kill_long, am_cat_n, am_cat_i, am_cat_r, am_cat_0, am_cat_l, am_nr_n, am_nr_i, am_nr_r, am_nr_0, am_nr_l, Option.toList_some, Option.toList_none, List.nil_append, List.cons_append, va_rf_s, va_rf_n, am_II, am_I_sR, am_I_sL, am_R_sI, am_RR, am_R_sL, am_L_sI, am_L_sR, am_LL, am_k_sI, am_k_sR, am_k_sL, am_n_sI, am_n_sR, am_n_sL, true_and, and_true, true_or, or_true, or_false, false_or, not_true_eq_false, not_false_eq_true, Nat.reduceLT, am_dS, am_dP, am_d1, Nat.reduceSub, Nat.reduceMul, ne_eq, Nat.reduceBEq, Nat.reduceAdd, Nat.reduceLeDiff, Nat.reduceEqDiff, and_self, and_false, false_and, if_true, if_false, am_nb, am_nb0, am_nb1, am_lc1, am_lc2, am_lc3, am_b0, am_b1, am_10, am_c8, am_c16, am_c24, am_c32, am_c40, am_c48, am_c56, am_c64, am_c72, Nat.add_zero, Bool.false_eq_true, Nat.zero_le, h0]
    exact hK μ Fw.refl TC0 (fun _ => rfl)
  · simp only [if_neg h0] at hK
    simp only [gX1_ask_4, gX1_ask_5, gX1_ask_6, gX1_ask_9, gX1_ask_11, gX1_ask_12, gX1_ask_13, gX1_ask_14, gX1_ask_17, gX1_ask_18, gX1_ask_19, am_kill_int, am_kill_ref, am_kill_null, am_kill_F, am_kill_long, am_cat_n, am_cat_i, am_cat_r, am_cat_0, am_cat_l, am_nr_n, am_nr_i, am_nr_r, am_nr_0, am_nr_l, Option.toList_some, Option.toList_none, List.nil_append, List.cons_append, va_rf_s, va_rf_n, am_II, am_I_sR, am_I_sL, am_R_sI, am_RR, am_R_sL, am_L_sI, am_L_sR, am_LL, am_k_sI, am_k_sR, am_k_sL, am_n_sI, am_n_sR, am_n_sL, true_and, and_true, true_or, or_true, or_false, false_or, not_true_eq_false, not_false_eq_true, Nat.reduceLT, am_dS, am_dP, am_d1, Nat.reduceSub, Nat.reduceMul, ne_eq, Nat.reduceBEq, Nat.reduceAdd, Nat.reduceLeDiff, Nat.reduceEqDiff, and_self, and_false, false_and, if_true, if_false, am_nb, am_nb0, am_nb1, am_lc1, am_lc2, am_lc3, am_b0, am_b1, am_10, am_c8, am_c16, am_c24, am_c32, am_c40, am_c48, am_c56, am_c64, am_c72, Nat.add_zero, Bool.false_eq_true, Nat.zero_le, h0]
    generalize ho : itA p N (cS μ 1) = o at hK
    refine am_for (N := 10) (fun k ls ν => ν = μ ∧ ∃ z1 z2, ls = [.ref 0, .int (orB p N), .int (bA 0 o k), .int (lA 1000000 o k), .int (nI k), z1, z2]) ?_ ?_ 10 0 _ _ (by omega) ⟨rfl, _, _, rfl⟩
    · rintro k ls ν hk10 ⟨rfl, z1, z2, rfl⟩ ih
      have hlt : ¬ nI 10 ≤ nI k := nI_ge hk10 (by omega)
      rw [gX1_ask_21]
      simp only [gX1_ask_23, gX1_ask_25, gX1_ask_28, gX1_ask_29, gX1_ask_31, gX1_ask_32, am_kill_int, am_kill_ref, am_kill_null, am_kill_F, am_kill_long, am_cat_n, am_cat_i, am_cat_r, am_cat_0, am_cat_l, am_nr_n, am_nr_i, am_nr_r, am_nr_0, am_nr_l, Option.toList_some, Option.toList_none, List.nil_append, List.cons_append, va_rf_s, va_rf_n, am_II, am_I_sR, am_I_sL, am_R_sI, am_RR, am_R_sL, am_L_sI, am_L_sR, am_LL, am_k_sI, am_k_sR, am_k_sL, am_n_sI, am_n_sR, am_n_sL, true_and, and_true, true_or, or_true, or_false, false_or, not_true_eq_false, not_false_eq_true, Nat.reduceLT, am_dS, am_dP, am_d1, Nat.reduceSub, Nat.reduceMul, ne_eq, Nat.reduceBEq, Nat.reduceAdd, Nat.reduceLeDiff, Nat.reduceEqDiff, and_self, and_false, false_and, if_true, if_false, am_nb, am_nb0, am_nb1, am_lc1, am_lc2, am_lc3, am_b0, am_b1, am_10, am_c8, am_c16, am_c24, am_c32, am_c40, am_c48, am_c56, am_c64, am_c72, Nat.add_zero, Bool.false_eq_true, Nat.zero_le, e10, hlt]
      refine am_for (N := N) (fun n ls ξ => ξ = ν ∧ ls = [.ref 0, .int (orB p N), .int (bA 0 o k), .int (lA 1000000 o k), .int (nI k), .int (nI (ysF p (cS ν 1) (nI k) n)), .int (nI n)]) ?_ ?_ N 0 _ _ (by omega) ⟨rfl, rfl⟩
      · rintro n ls ξ hn ⟨rfl, rfl⟩ ih2
        have hn8 : n < 8 := by omega
        have hltn : ¬ nI N ≤ nI n := nI_ge hn (by omega)
        have hin : vp_in (nI n) 8 := vp_in_nI (by omega) (by omega)
        have hcl : (nI n).toNatClampNeg = n := nI_clamp (by omega)
        have e2 : am_I ξ 4 n = cS ξ 1 (16 + n) := (cS_2 hn8).symm
        have ih' := ih2 [.ref 0, .int (orB p N), .int (bA 0 o k), .int (lA 1000000 o k), .int (nI k), .int (nI (ysF p (cS ξ 1) (nI k) (n + 1))), .int (nI (n + 1))] ξ ⟨rfl, rfl⟩
        rw [show ysF p (cS ξ 1) (nI k) (n + 1) = ysF p (cS ξ 1) (nI k) n + (if p n = true ∧ cS ξ 1 (16 + n) ≤ nI k then 1 else 0) from rfl] at ih'
        rw [gX1_ask_34]
        by_cases f : p n = true
        · by_cases f2 : cS ξ 1 (16 + n) ≤ nI k
          · rw [if_pos ⟨f, f2⟩] at ih'
            simp only [gX1_ask_36, gX1_ask_37, gX1_ask_40, gX1_ask_43, gX1_ask_45, gX1_ask_46, gX1_ask_48, gX1_ask_51, gX1_ask_54, gX1_ask_55, gX1_ask_58, gX1_ask_61, gX1_ask_63, gX1_ask_64, gX1_ask_66, gX1_ask_69, gX1_ask_70, gX1_ask_73, gX1_ask_74, gX1_ask_75, gX1_ask_77, gX1_ask_80, am_kill_int, am_kill_ref, am_kill_null, am_kill_F, am_kill_long, am_cat_n, am_cat_i, am_cat_r, am_cat_0, am_cat_l, am_nr_n, am_nr_i, am_nr_r, am_nr_0, am_nr_l, Option.toList_some, Option.toList_none, List.nil_append, List.cons_append, va_rf_s, va_rf_n, am_II, am_I_sR, am_I_sL, am_R_sI, am_RR, am_R_sL, am_L_sI, am_L_sR, am_LL, am_k_sI, am_k_sR, am_k_sL, am_n_sI, am_n_sR, am_n_sL, true_and, and_true, true_or, or_true, or_false, false_or, not_true_eq_false, not_false_eq_true, Nat.reduceLT, am_dS, am_dP, am_d1, Nat.reduceSub, Nat.reduceMul, ne_eq, Nat.reduceBEq, Nat.reduceAdd, Nat.reduceLeDiff, Nat.reduceEqDiff, and_self, and_false, false_and, if_true, if_false, am_nb, am_nb0, am_nb1, am_lc1, am_lc2, am_lc3, am_b0, am_b1, am_10, am_c8, am_c16, am_c24, am_c32, am_c40, am_c48, am_c56, am_c64, am_c72, Nat.add_zero, Bool.false_eq_true, Nat.zero_le, hcu, hN, hltn, wX1_has, orB_has h8 hn, f, hin, hcl, e2, Int32.not_lt.mpr f2, f2, nI_1]
            exact ih'
          · rw [if_neg (fun e => f2 e.2), Nat.add_zero] at ih'
            simp only [gX1_ask_36, gX1_ask_37, gX1_ask_40, gX1_ask_43, gX1_ask_45, gX1_ask_46, gX1_ask_48, gX1_ask_51, gX1_ask_54, gX1_ask_55, gX1_ask_58, gX1_ask_61, gX1_ask_63, gX1_ask_64, gX1_ask_66, gX1_ask_69, gX1_ask_70, gX1_ask_73, gX1_ask_74, gX1_ask_75, gX1_ask_77, gX1_ask_80, am_kill_int, am_kill_ref, am_kill_null, am_kill_F, am_kill_long, am_cat_n, am_cat_i, am_cat_r, am_cat_0, am_cat_l, am_nr_n, am_nr_i, am_nr_r, am_nr_0, am_nr_l, Option.toList_some, Option.toList_none, List.nil_append, List.cons_append, va_rf_s, va_rf_n, am_II, am_I_sR, am_I_sL, am_R_sI, am_RR, am_R_sL, am_L_sI, am_L_sR, am_LL, am_k_sI, am_k_sR, am_k_sL, am_n_sI, am_n_sR, am_n_sL, true_and, and_true, true_or, or_true, or_false, false_or, not_true_eq_false, not_false_eq_true, Nat.reduceLT, am_dS, am_dP, am_d1, Nat.reduceSub, Nat.reduceMul, ne_eq, Nat.reduceBEq, Nat.reduceAdd, Nat.reduceLeDiff, Nat.reduceEqDiff, and_self, and_false, false_and, if_true, if_false, am_nb, am_nb0, am_nb1, am_lc1, am_lc2, am_lc3, am_b0, am_b1, am_10, am_c8, am_c16, am_c24, am_c32, am_c40, am_c48, am_c56, am_c64, am_c72, Nat.add_zero, Bool.false_eq_true, Nat.zero_le, hcu, hN, hltn, wX1_has, orB_has h8 hn, f, hin, hcl, e2, Int32.not_le.mp f2, f2, nI_1, Int32.add_zero]
            exact ih'
        · rw [if_neg (fun e => f e.1), Nat.add_zero] at ih'
          simp only [gX1_ask_36, gX1_ask_37, gX1_ask_40, gX1_ask_43, gX1_ask_45, gX1_ask_46, gX1_ask_48, gX1_ask_51, gX1_ask_54, gX1_ask_55, gX1_ask_58, gX1_ask_61, gX1_ask_63, gX1_ask_64, gX1_ask_66, gX1_ask_69, gX1_ask_70, gX1_ask_73, gX1_ask_74, gX1_ask_75, gX1_ask_77, gX1_ask_80, am_kill_int, am_kill_ref, am_kill_null, am_kill_F, am_kill_long, am_cat_n, am_cat_i, am_cat_r, am_cat_0, am_cat_l, am_nr_n, am_nr_i, am_nr_r, am_nr_0, am_nr_l, Option.toList_some, Option.toList_none, List.nil_append, List.cons_append, va_rf_s, va_rf_n, am_II, am_I_sR, am_I_sL, am_R_sI, am_RR, am_R_sL, am_L_sI, am_L_sR, am_LL, am_k_sI, am_k_sR, am_k_sL, am_n_sI, am_n_sR, am_n_sL, true_and, and_true, true_or, or_true, or_false, false_or, not_true_eq_false, not_false_eq_true, Nat.reduceLT, am_dS, am_dP, am_d1, Nat.reduceSub, Nat.reduceMul, ne_eq, Nat.reduceBEq, Nat.reduceAdd, Nat.reduceLeDiff, Nat.reduceEqDiff, and_self, and_false, false_and, if_true, if_false, am_nb, am_nb0, am_nb1, am_lc1, am_lc2, am_lc3, am_b0, am_b1, am_10, am_c8, am_c16, am_c24, am_c32, am_c40, am_c48, am_c56, am_c64, am_c72, Nat.add_zero, Bool.false_eq_true, Nat.zero_le, hcu, hN, hltn, wX1_has, orB_has h8 hn, f, nI_1, Int32.add_zero]
          exact ih'
      · rintro ls ξ ⟨rfl, rfl⟩
        have eo : maI (nI (ysF p (cS ξ 1) (nI k) N)) (bcI (orB p N) - nI (ysF p (cS ξ 1) (nI k) N)) = o k := by rw [← ho]; rfl
        unfold maI at eo
        have ih' := fun z1 z2 => ih [.ref 0, .int (orB p N), .int (bA 0 o (k + 1)), .int (lA 1000000 o (k + 1)), .int (nI (k + 1)), z1, z2] ξ ⟨rfl, _, _, rfl⟩
        rw [show bA 0 o (k + 1) = nI (bsF o (k + 1)) from rfl, show lA 1000000 o (k + 1) = o (bsF o (k + 1)) from rfl] at ih'
        rw [gX1_ask_34]
        cases k with
        | zero =>
          have c2 : bsF o (0 + 1) = 0 := by unfold bsF; exact ite_self _
          rw [c2] at ih'
          have hl := (itA_lt (p := p) (S := cS ξ 1) (k := 0) h8).1
          rw [ho] at hl
          simp only [gX1_ask_36, gX1_ask_37, gX1_ask_40, gX1_ask_83, gX1_ask_85, gX1_ask_86, gX1_ask_89, gX1_ask_91, gX1_ask_92, gX1_ask_95, gX1_ask_97, gX1_ask_99, gX1_ask_100, gX1_ask_103, gX1_ask_105, gX1_ask_108, gX1_ask_109, gX1_ask_110, gX1_ask_111, gX1_ask_113, gX1_ask_116, gX1_ask_117, gX1_ask_120, am_kill_int, am_kill_ref, am_kill_null, am_kill_F, am_kill_long, am_cat_n, am_cat_i, am_cat_r, am_cat_0, am_cat_l, am_nr_n, am_nr_i, am_nr_r, am_nr_0, am_nr_l, Option.toList_some, Option.toList_none, List.nil_append, List.cons_append, va_rf_s, va_rf_n, am_II, am_I_sR, am_I_sL, am_R_sI, am_RR, am_R_sL, am_L_sI, am_L_sR, am_LL, am_k_sI, am_k_sR, am_k_sL, am_n_sI, am_n_sR, am_n_sL, true_and, and_true, true_or, or_true, or_false, false_or, not_true_eq_false, not_false_eq_true, Nat.reduceLT, am_dS, am_dP, am_d1, Nat.reduceSub, Nat.reduceMul, ne_eq, Nat.reduceBEq, Nat.reduceAdd, Nat.reduceLeDiff, Nat.reduceEqDiff, and_self, and_false, false_and, if_true, if_false, am_nb, am_nb0, am_nb1, am_lc1, am_lc2, am_lc3, am_b0, am_b1, am_10, am_c8, am_c16, am_c24, am_c32, am_c40, am_c48, am_c56, am_c64, am_c72, Nat.add_zero, Bool.false_eq_true, Nat.zero_le, hcu, hN, Int32.le_refl, wJ10_bitCount, eo, show lA 1000000 o 0 = 1000000 from rfl, show bA 0 o 0 = 0 from rfl, Int32.not_le.mpr hl, hl, nI_1]
          exact ih' _ _
        | succ k =>
          rw [show bsF o (k + 1 + 1) = if o (k + 1) < o (bsF o (k + 1)) then k + 1 else bsF o (k + 1) from rfl] at ih'
          by_cases f : o (k + 1) < o (bsF o (k + 1))
          · rw [if_pos f] at ih'
            simp only [gX1_ask_36, gX1_ask_37, gX1_ask_40, gX1_ask_83, gX1_ask_85, gX1_ask_86, gX1_ask_89, gX1_ask_91, gX1_ask_92, gX1_ask_95, gX1_ask_97, gX1_ask_99, gX1_ask_100, gX1_ask_103, gX1_ask_105, gX1_ask_108, gX1_ask_109, gX1_ask_110, gX1_ask_111, gX1_ask_113, gX1_ask_116, gX1_ask_117, gX1_ask_120, am_kill_int, am_kill_ref, am_kill_null, am_kill_F, am_kill_long, am_cat_n, am_cat_i, am_cat_r, am_cat_0, am_cat_l, am_nr_n, am_nr_i, am_nr_r, am_nr_0, am_nr_l, Option.toList_some, Option.toList_none, List.nil_append, List.cons_append, va_rf_s, va_rf_n, am_II, am_I_sR, am_I_sL, am_R_sI, am_RR, am_R_sL, am_L_sI, am_L_sR, am_LL, am_k_sI, am_k_sR, am_k_sL, am_n_sI, am_n_sR, am_n_sL, true_and, and_true, true_or, or_true, or_false, false_or, not_true_eq_false, not_false_eq_true, Nat.reduceLT, am_dS, am_dP, am_d1, Nat.reduceSub, Nat.reduceMul, ne_eq, Nat.reduceBEq, Nat.reduceAdd, Nat.reduceLeDiff, Nat.reduceEqDiff, and_self, and_false, false_and, if_true, if_false, am_nb, am_nb0, am_nb1, am_lc1, am_lc2, am_lc3, am_b0, am_b1, am_10, am_c8, am_c16, am_c24, am_c32, am_c40, am_c48, am_c56, am_c64, am_c72, Nat.add_zero, Bool.false_eq_true, Nat.zero_le, hcu, hN, Int32.le_refl, wJ10_bitCount, eo, show lA 1000000 o (k + 1) = o (bsF o (k + 1)) from rfl, show bA 0 o (k + 1) = nI (bsF o (k + 1)) from rfl, Int32.not_le.mpr f, f, nI_1]
            exact ih' _ _
          · rw [if_neg f] at ih'
            simp only [gX1_ask_36, gX1_ask_37, gX1_ask_40, gX1_ask_83, gX1_ask_85, gX1_ask_86, gX1_ask_89, gX1_ask_91, gX1_ask_92, gX1_ask_95, gX1_ask_97, gX1_ask_99, gX1_ask_100, gX1_ask_103, gX1_ask_105, gX1_ask_108, gX1_ask_109, gX1_ask_110, gX1_ask_111, gX1_ask_113, gX1_ask_116, gX1_ask_117, gX1_ask_120, am_kill_int, am_kill_ref, am_kill_null, am_kill_F, am_kill_long, am_cat_n, am_cat_i, am_cat_r, am_cat_0, am_cat_l, am_nr_n, am_nr_i, am_nr_r, am_nr_0, am_nr_l, Option.toList_some, Option.toList_none, List.nil_append, List.cons_append, va_rf_s, va_rf_n, am_II, am_I_sR, am_I_sL, am_R_sI, am_RR, am_R_sL, am_L_sI, am_L_sR, am_LL, am_k_sI, am_k_sR, am_k_sL, am_n_sI, am_n_sR, am_n_sL, true_and, and_true, true_or, or_true, or_false, false_or, not_true_eq_false, not_false_eq_true, Nat.reduceLT, am_dS, am_dP, am_d1, Nat.reduceSub, Nat.reduceMul, ne_eq, Nat.reduceBEq, Nat.reduceAdd, Nat.reduceLeDiff, Nat.reduceEqDiff, and_self, and_false, false_and, if_true, if_false, am_nb, am_nb0, am_nb1, am_lc1, am_lc2, am_lc3, am_b0, am_b1, am_10, am_c8, am_c16, am_c24, am_c32, am_c40, am_c48, am_c56, am_c64, am_c72, Nat.add_zero, Bool.false_eq_true, Nat.zero_le, hcu, hN, Int32.le_refl, wJ10_bitCount, eo, show lA 1000000 o (k + 1) = o (bsF o (k + 1)) from rfl, show bA 0 o (k + 1) = nI (bsF o (k + 1)) from rfl, Int32.not_lt.mp f, f, nI_1]
            exact ih' _ _
    · rintro ls ν ⟨rfl, z1, z2, rfl⟩
      rw [gX1_ask_21]
      simp only [gX1_ask_23, gX1_ask_25, gX1_ask_123, gX1_ask_124, gX1_ask_125, gX1_ask_128, gX1_ask_129, gX1_ask_130, gX1_ask_131, gX1_ask_134, gX1_ask_135, am_kill_int, am_kill_ref, am_kill_null, am_kill_F, am_kill_long, am_cat_n, am_cat_i, am_cat_r, am_cat_0, am_cat_l, am_nr_n, am_nr_i, am_nr_r, am_nr_0, am_nr_l, Option.toList_some, Option.toList_none, List.nil_append, List.cons_append, va_rf_s, va_rf_n, am_II, am_I_sR, am_I_sL, am_R_sI, am_RR, am_R_sL, am_L_sI, am_L_sR, am_LL, am_k_sI, am_k_sR, am_k_sL, am_n_sI, am_n_sR, am_n_sL, true_and, and_true, true_or, or_true, or_false, false_or, not_true_eq_false, not_false_eq_true, Nat.reduceLT, am_dS, am_dP, am_d1, Nat.reduceSub, Nat.reduceMul, ne_eq, Nat.reduceBEq, Nat.reduceAdd, Nat.reduceLeDiff, Nat.reduceEqDiff, and_self, and_false, false_and, if_true, if_false, am_nb, am_nb0, am_nb1, am_lc1, am_lc2, am_lc3, am_b0, am_b1, am_10, am_c8, am_c16, am_c24, am_c32, am_c40, am_c48, am_c56, am_c64, am_c72, Nat.add_zero, Bool.false_eq_true, Nat.zero_le, e10, Int32.le_refl, hcu, wX1_tells0, show lA 1000000 o 10 = o (bsF o 10) from rfl, show bA 0 o 10 = nI (bsF o 10) from rfl]
      refine hK _ (((Fw.refl.I (by unfold sC; omega)).L (Or.inl rfl)).I (by unfold sC; omega)) (TC1 ?_ ?_) (fun i => ?_)
      · simp only [am_II, and_self, if_true]
      · simp only [am_L_sI, am_LL, and_self, if_true]
      · simp only [am_L_sI, am_LL, Nat.reduceEqDiff, false_and, if_false]
theorem q5_ask (hP : Per N C ru c μ) (hw : pWx w μ) : Q5 mX3_ask [.ref 54, am_F, am_F, am_F, am_F, am_F, am_F] μ (vAk N (cS μ 1) (am_I μ 49, am_I μ 50, w)) (pAk N (cS μ 1) (am_I μ 49, am_I μ 50, w)) := by
  intro d K hK
  have hS := hP.1.2.1
  have hC := hS.1
  have hmu := hC.1
  unfold mL at hmu
  have hN := hC.2.1
  have h8 := hC.2.2.1
  have h1 := fun K => wX3_fitting (d := d + 198) (K := K) (S := cS μ 1) hC hP.2.1 hw.1 hw.2.2.1
  simp only [ftB_M hw] at h1
  unfold vAk pAk vFt at hK
  simp only at hK
  generalize hp : ftB (am_I μ 49) (am_I μ 50) w (cS μ 1) = p at hK h1
  simp only [gX3_ask_5, gX3_ask_6, am_kill_int, am_kill_ref, am_kill_null, am_kill_F, am_kill_long, am_cat_n, am_cat_i, am_cat_r, am_cat_0, am_cat_l, am_nr_n, am_nr_i, am_nr_r, am_nr_0, am_nr_l, Option.toList_some, Option.toList_none, List.nil_append, List.cons_append, va_rf_s, va_rf_n, am_II, am_I_sR, am_I_sL, am_R_sI, am_RR, am_R_sL, am_L_sI, am_L_sR, am_LL, am_k_sI, am_k_sR, am_k_sL, am_n_sI, am_n_sR, am_n_sL, true_and, and_true, true_or, or_true, or_false, false_or, not_true_eq_false, not_false_eq_true, Nat.reduceLT, am_dS, am_dP, am_d1, Nat.reduceSub, Nat.reduceMul, ne_eq, Nat.reduceBEq, Nat.reduceAdd, Nat.reduceLeDiff, Nat.reduceEqDiff, and_self, and_false, false_and, if_true, if_false, am_nb, am_nb0, am_nb1, am_lc1, am_lc2, am_lc3, am_b0, am_b1, am_10, am_c8, am_c16, am_c24, am_c32, am_c40, am_c48, am_c56, am_c64, am_c72, Nat.add_zero, Bool.false_eq_true, Nat.zero_le, hmu]
  rw [h1]
  by_cases h0 : orB p N = 0
  · simp only [if_pos h0] at hK
    simp only [gX3_ask_9, gX3_ask_10, gX3_ask_11, gX3_ask_14, gX3_ask_16, am_kill_int, am_kill_ref, am_kill_null, am_kill_F, am_kill_long, am_cat_n, am_cat_i, am_cat_r, am_cat_0, am_cat_l, am_nr_n, am_nr_i, am_nr_r, am_nr_0, am_nr_l, Option.toList_some, Option.toList_none, List.nil_append, List.cons_append, va_rf_s, va_rf_n, am_II, am_I_sR, am_I_sL, am_R_sI, am_RR, am_R_sL, am_L_sI, am_L_sR, am_LL, am_k_sI, am_k_sR, am_k_sL, am_n_sI, am_n_sR, am_n_sL, true_and, and_true, true_or, or_true, or_false, false_or, not_true_eq_false, not_false_eq_true, Nat.reduceLT, am_dS, am_dP, am_d1, Nat.reduceSub, Nat.reduceMul, ne_eq, Nat.reduceBEq, Nat.reduceAdd, Nat.reduceLeDiff, Nat.reduceEqDiff, and_self, and_false, false_and, if_true, if_false, am_nb, am_nb0, am_nb1, am_lc1, am_lc2, am_lc3, am_b0, am_b1, am_10, am_c8, am_c16, am_c24, am_c32, am_c40, am_c48, am_c56, am_c64, am_c72, Nat.add_zero, Bool.false_eq_true, Nat.zero_le, h0]
    exact hK μ Fw.refl hP.h17 TN0 (fun _ => rfl)
  · simp only [if_neg h0] at hK
    simp only [gX3_ask_9, gX3_ask_10, gX3_ask_11, gX3_ask_14, gX3_ask_16, gX3_ask_17, gX3_ask_18, gX3_ask_19, gX3_ask_22, gX3_ask_23, gX3_ask_24, am_kill_int, am_kill_ref, am_kill_null, am_kill_F, am_kill_long, am_cat_n, am_cat_i, am_cat_r, am_cat_0, am_cat_l, am_nr_n, am_nr_i, am_nr_r, am_nr_0, am_nr_l, Option.toList_some, Option.toList_none, List.nil_append, List.cons_append, va_rf_s, va_rf_n, am_II, am_I_sR, am_I_sL, am_R_sI, am_RR, am_R_sL, am_L_sI, am_L_sR, am_LL, am_k_sI, am_k_sR, am_k_sL, am_n_sI, am_n_sR, am_n_sL, true_and, and_true, true_or, or_true, or_false, false_or, not_true_eq_false, not_false_eq_true, Nat.reduceLT, am_dS, am_dP, am_d1, Nat.reduceSub, Nat.reduceMul, ne_eq, Nat.reduceBEq, Nat.reduceAdd, Nat.reduceLeDiff, Nat.reduceEqDiff, and_self, and_false, false_and, if_true, if_false, am_nb, am_nb0, am_nb1, am_lc1, am_lc2, am_lc3, am_b0, am_b1, am_10, am_c8, am_c16, am_c24, am_c32, am_c40, am_c48, am_c56, am_c64, am_c72, Nat.add_zero, Bool.false_eq_true, Nat.zero_le, h0]
    generalize ho : itA p N (cS μ 1) = o at hK
    refine am_for (N := 10) (fun k ls ν => ν = μ ∧ ∃ z1 z2, ls = [.ref 54, .int (orB p N), .int (bA (-1) o k), .int (lA 2000000000 o k), .int (nI k), z1, z2]) ?_ ?_ 10 0 _ _ (by omega) ⟨rfl, _, _, rfl⟩
    · rintro k ls ν hk10 ⟨rfl, z1, z2, rfl⟩ ih
      have hlt : ¬ nI 10 ≤ nI k := nI_ge hk10 (by omega)
      rw [gX3_ask_26]
      simp only [gX3_ask_28, gX3_ask_30, gX3_ask_33, gX3_ask_34, gX3_ask_36, gX3_ask_37, am_kill_int, am_kill_ref, am_kill_null, am_kill_F, am_kill_long, am_cat_n, am_cat_i, am_cat_r, am_cat_0, am_cat_l, am_nr_n, am_nr_i, am_nr_r, am_nr_0, am_nr_l, Option.toList_some, Option.toList_none, List.nil_append, List.cons_append, va_rf_s, va_rf_n, am_II, am_I_sR, am_I_sL, am_R_sI, am_RR, am_R_sL, am_L_sI, am_L_sR, am_LL, am_k_sI, am_k_sR, am_k_sL, am_n_sI, am_n_sR, am_n_sL, true_and, and_true, true_or, or_true, or_false, false_or, not_true_eq_false, not_false_eq_true, Nat.reduceLT, am_dS, am_dP, am_d1, Nat.reduceSub, Nat.reduceMul, ne_eq, Nat.reduceBEq, Nat.reduceAdd, Nat.reduceLeDiff, Nat.reduceEqDiff, and_self, and_false, false_and, if_true, if_false, am_nb, am_nb0, am_nb1, am_lc1, am_lc2, am_lc3, am_b0, am_b1, am_10, am_c8, am_c16, am_c24, am_c32, am_c40, am_c48, am_c56, am_c64, am_c72, Nat.add_zero, Bool.false_eq_true, Nat.zero_le, e10, hlt]
      refine am_for (N := N) (fun n ls ξ => ξ = ν ∧ ls = [.ref 54, .int (orB p N), .int (bA (-1) o k), .int (lA 2000000000 o k), .int (nI k), .int (nI (ysF p (cS ν 1) (nI k) n)), .int (nI n)]) ?_ ?_ N 0 _ _ (by omega) ⟨rfl, rfl⟩
      · rintro n ls ξ hn ⟨rfl, rfl⟩ ih2
        have hltn : ¬ nI N ≤ nI n := nI_ge hn (by omega)
        have hin : vp_in (nI (16 + n)) 83 := vp_in_nI (by omega) (by omega)
        have hcl : (nI (16 + n)).toNatClampNeg = 16 + n := nI_clamp (by omega)
        have e2 : am_I ξ 55 (16 + n) = cS ξ 1 (16 + n) := (hP.2.1.r2 hn).symm
        have ih' := ih2 [.ref 54, .int (orB p N), .int (bA (-1) o k), .int (lA 2000000000 o k), .int (nI k), .int (nI (ysF p (cS ξ 1) (nI k) (n + 1))), .int (nI (n + 1))] ξ ⟨rfl, rfl⟩
        rw [show ysF p (cS ξ 1) (nI k) (n + 1) = ysF p (cS ξ 1) (nI k) n + (if p n = true ∧ cS ξ 1 (16 + n) ≤ nI k then 1 else 0) from rfl] at ih'
        rw [gX3_ask_39]
        by_cases f : p n = true
        · by_cases f2 : cS ξ 1 (16 + n) ≤ nI k
          · rw [if_pos ⟨f, f2⟩] at ih'
            simp only [gX3_ask_41, gX3_ask_42, gX3_ask_45, gX3_ask_48, gX3_ask_50, gX3_ask_51, gX3_ask_53, gX3_ask_56, gX3_ask_59, gX3_ask_60, gX3_ask_63, gX3_ask_65, gX3_ask_67, gX3_ask_68, gX3_ask_69, gX3_ask_71, gX3_ask_74, gX3_ask_75, gX3_ask_78, gX3_ask_79, gX3_ask_80, gX3_ask_82, gX3_ask_85, am_kill_int, am_kill_ref, am_kill_null, am_kill_F, am_kill_long, am_cat_n, am_cat_i, am_cat_r, am_cat_0, am_cat_l, am_nr_n, am_nr_i, am_nr_r, am_nr_0, am_nr_l, Option.toList_some, Option.toList_none, List.nil_append, List.cons_append, va_rf_s, va_rf_n, am_II, am_I_sR, am_I_sL, am_R_sI, am_RR, am_R_sL, am_L_sI, am_L_sR, am_LL, am_k_sI, am_k_sR, am_k_sL, am_n_sI, am_n_sR, am_n_sL, true_and, and_true, true_or, or_true, or_false, false_or, not_true_eq_false, not_false_eq_true, Nat.reduceLT, am_dS, am_dP, am_d1, Nat.reduceSub, Nat.reduceMul, ne_eq, Nat.reduceBEq, Nat.reduceAdd, Nat.reduceLeDiff, Nat.reduceEqDiff, and_self, and_false, false_and, if_true, if_false, am_nb, am_nb0, am_nb1, am_lc1, am_lc2, am_lc3, am_b0, am_b1, am_10, am_c8, am_c16, am_c24, am_c32, am_c40, am_c48, am_c56, am_c64, am_c72, Nat.add_zero, Bool.false_eq_true, Nat.zero_le, hmu, hN, hltn, wX3_has, orB_has h8 hn, f, hin, hcl, e2, Int32.not_lt.mpr f2, f2, nI_1]
            exact ih'
          · rw [if_neg (fun e => f2 e.2), Nat.add_zero] at ih'
            simp only [gX3_ask_41, gX3_ask_42, gX3_ask_45, gX3_ask_48, gX3_ask_50, gX3_ask_51, gX3_ask_53, gX3_ask_56, gX3_ask_59, gX3_ask_60, gX3_ask_63, gX3_ask_65, gX3_ask_67, gX3_ask_68, gX3_ask_69, gX3_ask_71, gX3_ask_74, gX3_ask_75, gX3_ask_78, gX3_ask_79, gX3_ask_80, gX3_ask_82, gX3_ask_85, am_kill_int, am_kill_ref, am_kill_null, am_kill_F, am_kill_long, am_cat_n, am_cat_i, am_cat_r, am_cat_0, am_cat_l, am_nr_n, am_nr_i, am_nr_r, am_nr_0, am_nr_l, Option.toList_some, Option.toList_none, List.nil_append, List.cons_append, va_rf_s, va_rf_n, am_II, am_I_sR, am_I_sL, am_R_sI, am_RR, am_R_sL, am_L_sI, am_L_sR, am_LL, am_k_sI, am_k_sR, am_k_sL, am_n_sI, am_n_sR, am_n_sL, true_and, and_true, true_or, or_true, or_false, false_or, not_true_eq_false, not_false_eq_true, Nat.reduceLT, am_dS, am_dP, am_d1, Nat.reduceSub, Nat.reduceMul, ne_eq, Nat.reduceBEq, Nat.reduceAdd, Nat.reduceLeDiff, Nat.reduceEqDiff, and_self, and_false, false_and, if_true, if_false, am_nb, am_nb0, am_nb1, am_lc1, am_lc2, am_lc3, am_b0, am_b1, am_10, am_c8, am_c16, am_c24, am_c32, am_c40, am_c48, am_c56, am_c64, am_c72, Nat.add_zero, Bool.false_eq_true, Nat.zero_le, hmu, hN, hltn, wX3_has, orB_has h8 hn, f, hin, hcl, e2, Int32.not_le.mp f2, f2, nI_1, Int32.add_zero]
            exact ih'
        · rw [if_neg (fun e => f e.1), Nat.add_zero] at ih'
          simp only [gX3_ask_41, gX3_ask_42, gX3_ask_45, gX3_ask_48, gX3_ask_50, gX3_ask_51, gX3_ask_53, gX3_ask_56, gX3_ask_59, gX3_ask_60, gX3_ask_63, gX3_ask_65, gX3_ask_67, gX3_ask_68, gX3_ask_69, gX3_ask_71, gX3_ask_74, gX3_ask_75, gX3_ask_78, gX3_ask_79, gX3_ask_80, gX3_ask_82, gX3_ask_85, am_kill_int, am_kill_ref, am_kill_null, am_kill_F, am_kill_long, am_cat_n, am_cat_i, am_cat_r, am_cat_0, am_cat_l, am_nr_n, am_nr_i, am_nr_r, am_nr_0, am_nr_l, Option.toList_some, Option.toList_none, List.nil_append, List.cons_append, va_rf_s, va_rf_n, am_II, am_I_sR, am_I_sL, am_R_sI, am_RR, am_R_sL, am_L_sI, am_L_sR, am_LL, am_k_sI, am_k_sR, am_k_sL, am_n_sI, am_n_sR, am_n_sL, true_and, and_true, true_or, or_true, or_false, false_or, not_true_eq_false, not_false_eq_true, Nat.reduceLT, am_dS, am_dP, am_d1, Nat.reduceSub, Nat.reduceMul, ne_eq, Nat.reduceBEq, Nat.reduceAdd, Nat.reduceLeDiff, Nat.reduceEqDiff, and_self, and_false, false_and, if_true, if_false, am_nb, am_nb0, am_nb1, am_lc1, am_lc2, am_lc3, am_b0, am_b1, am_10, am_c8, am_c16, am_c24, am_c32, am_c40, am_c48, am_c56, am_c64, am_c72, Nat.add_zero, Bool.false_eq_true, Nat.zero_le, hmu, hN, hltn, wX3_has, orB_has h8 hn, f, nI_1, Int32.add_zero]
          exact ih'
      · rintro ls ξ ⟨rfl, rfl⟩
        have eo : maI (nI (ysF p (cS ξ 1) (nI k) N)) (bcI (orB p N) - nI (ysF p (cS ξ 1) (nI k) N)) = o k := by rw [← ho]; rfl
        unfold maI at eo
        have ih' := fun z1 z2 => ih [.ref 54, .int (orB p N), .int (bA (-1) o (k + 1)), .int (lA 2000000000 o (k + 1)), .int (nI (k + 1)), z1, z2] ξ ⟨rfl, _, _, rfl⟩
        rw [show bA (-1) o (k + 1) = nI (bsF o (k + 1)) from rfl, show lA 2000000000 o (k + 1) = o (bsF o (k + 1)) from rfl] at ih'
        rw [gX3_ask_39]
        cases k with
        | zero =>
          have c2 : bsF o (0 + 1) = 0 := by unfold bsF; exact ite_self _
          rw [c2] at ih'
          have hl := (itA_lt (p := p) (S := cS ξ 1) (k := 0) h8).2
          rw [ho] at hl
          simp only [gX3_ask_41, gX3_ask_42, gX3_ask_45, gX3_ask_88, gX3_ask_90, gX3_ask_91, gX3_ask_94, gX3_ask_96, gX3_ask_97, gX3_ask_100, gX3_ask_102, gX3_ask_104, gX3_ask_105, gX3_ask_108, gX3_ask_111, gX3_ask_113, gX3_ask_114, gX3_ask_116, gX3_ask_117, gX3_ask_120, am_kill_int, am_kill_ref, am_kill_null, am_kill_F, am_kill_long, am_cat_n, am_cat_i, am_cat_r, am_cat_0, am_cat_l, am_nr_n, am_nr_i, am_nr_r, am_nr_0, am_nr_l, Option.toList_some, Option.toList_none, List.nil_append, List.cons_append, va_rf_s, va_rf_n, am_II, am_I_sR, am_I_sL, am_R_sI, am_RR, am_R_sL, am_L_sI, am_L_sR, am_LL, am_k_sI, am_k_sR, am_k_sL, am_n_sI, am_n_sR, am_n_sL, true_and, and_true, true_or, or_true, or_false, false_or, not_true_eq_false, not_false_eq_true, Nat.reduceLT, am_dS, am_dP, am_d1, Nat.reduceSub, Nat.reduceMul, ne_eq, Nat.reduceBEq, Nat.reduceAdd, Nat.reduceLeDiff, Nat.reduceEqDiff, and_self, and_false, false_and, if_true, if_false, am_nb, am_nb0, am_nb1, am_lc1, am_lc2, am_lc3, am_b0, am_b1, am_10, am_c8, am_c16, am_c24, am_c32, am_c40, am_c48, am_c56, am_c64, am_c72, Nat.add_zero, Bool.false_eq_true, Nat.zero_le, hmu, hN, Int32.le_refl, wJ10_bitCount, eo, show lA 2000000000 o 0 = 2000000000 from rfl, show bA (-1) o 0 = -1 from rfl, hl, nI_1]
          exact ih' _ _
        | succ k =>
          rw [show bsF o (k + 1 + 1) = if o (k + 1) < o (bsF o (k + 1)) then k + 1 else bsF o (k + 1) from rfl] at ih'
          by_cases f : o (k + 1) < o (bsF o (k + 1))
          · rw [if_pos f] at ih'
            simp only [gX3_ask_41, gX3_ask_42, gX3_ask_45, gX3_ask_88, gX3_ask_90, gX3_ask_91, gX3_ask_94, gX3_ask_96, gX3_ask_97, gX3_ask_100, gX3_ask_102, gX3_ask_104, gX3_ask_105, gX3_ask_108, gX3_ask_111, gX3_ask_113, gX3_ask_114, gX3_ask_116, gX3_ask_117, gX3_ask_120, am_kill_int, am_kill_ref, am_kill_null, am_kill_F, am_kill_long, am_cat_n, am_cat_i, am_cat_r, am_cat_0, am_cat_l, am_nr_n, am_nr_i, am_nr_r, am_nr_0, am_nr_l, Option.toList_some, Option.toList_none, List.nil_append, List.cons_append, va_rf_s, va_rf_n, am_II, am_I_sR, am_I_sL, am_R_sI, am_RR, am_R_sL, am_L_sI, am_L_sR, am_LL, am_k_sI, am_k_sR, am_k_sL, am_n_sI, am_n_sR, am_n_sL, true_and, and_true, true_or, or_true, or_false, false_or, not_true_eq_false, not_false_eq_true, Nat.reduceLT, am_dS, am_dP, am_d1, Nat.reduceSub, Nat.reduceMul, ne_eq, Nat.reduceBEq, Nat.reduceAdd, Nat.reduceLeDiff, Nat.reduceEqDiff, and_self, and_false, false_and, if_true, if_false, am_nb, am_nb0, am_nb1, am_lc1, am_lc2, am_lc3, am_b0, am_b1, am_10, am_c8, am_c16, am_c24, am_c32, am_c40, am_c48, am_c56, am_c64, am_c72, Nat.add_zero, Bool.false_eq_true, Nat.zero_le, hmu, hN, Int32.le_refl, wJ10_bitCount, eo, show lA 2000000000 o (k + 1) = o (bsF o (k + 1)) from rfl, show bA (-1) o (k + 1) = nI (bsF o (k + 1)) from rfl, f, nI_1]
            exact ih' _ _
          · rw [if_neg f] at ih'
            simp only [gX3_ask_41, gX3_ask_42, gX3_ask_45, gX3_ask_88, gX3_ask_90, gX3_ask_91, gX3_ask_94, gX3_ask_96, gX3_ask_97, gX3_ask_100, gX3_ask_102, gX3_ask_104, gX3_ask_105, gX3_ask_108, gX3_ask_111, gX3_ask_113, gX3_ask_114, gX3_ask_116, gX3_ask_117, gX3_ask_120, am_kill_int, am_kill_ref, am_kill_null, am_kill_F, am_kill_long, am_cat_n, am_cat_i, am_cat_r, am_cat_0, am_cat_l, am_nr_n, am_nr_i, am_nr_r, am_nr_0, am_nr_l, Option.toList_some, Option.toList_none, List.nil_append, List.cons_append, va_rf_s, va_rf_n, am_II, am_I_sR, am_I_sL, am_R_sI, am_RR, am_R_sL, am_L_sI, am_L_sR, am_LL, am_k_sI, am_k_sR, am_k_sL, am_n_sI, am_n_sR, am_n_sL, true_and, and_true, true_or, or_true, or_false, false_or, not_true_eq_false, not_false_eq_true, Nat.reduceLT, am_dS, am_dP, am_d1, Nat.reduceSub, Nat.reduceMul, ne_eq, Nat.reduceBEq, Nat.reduceAdd, Nat.reduceLeDiff, Nat.reduceEqDiff, and_self, and_false, false_and, if_true, if_false, am_nb, am_nb0, am_nb1, am_lc1, am_lc2, am_lc3, am_b0, am_b1, am_10, am_c8, am_c16, am_c24, am_c32, am_c40, am_c48, am_c56, am_c64, am_c72, Nat.add_zero, Bool.false_eq_true, Nat.zero_le, hmu, hN, Int32.le_refl, wJ10_bitCount, eo, show lA 2000000000 o (k + 1) = o (bsF o (k + 1)) from rfl, show bA (-1) o (k + 1) = nI (bsF o (k + 1)) from rfl, f, nI_1]
            exact ih' _ _
    · rintro ls ν ⟨rfl, z1, z2, rfl⟩
      rw [gX3_ask_26]
      simp only [gX3_ask_28, gX3_ask_30, gX3_ask_123, gX3_ask_124, gX3_ask_125, gX3_ask_128, gX3_ask_129, gX3_ask_130, gX3_ask_131, gX3_ask_134, gX3_ask_135, am_kill_int, am_kill_ref, am_kill_null, am_kill_F, am_kill_long, am_cat_n, am_cat_i, am_cat_r, am_cat_0, am_cat_l, am_nr_n, am_nr_i, am_nr_r, am_nr_0, am_nr_l, Option.toList_some, Option.toList_none, List.nil_append, List.cons_append, va_rf_s, va_rf_n, am_II, am_I_sR, am_I_sL, am_R_sI, am_RR, am_R_sL, am_L_sI, am_L_sR, am_LL, am_k_sI, am_k_sR, am_k_sL, am_n_sI, am_n_sR, am_n_sL, true_and, and_true, true_or, or_true, or_false, false_or, not_true_eq_false, not_false_eq_true, Nat.reduceLT, am_dS, am_dP, am_d1, Nat.reduceSub, Nat.reduceMul, ne_eq, Nat.reduceBEq, Nat.reduceAdd, Nat.reduceLeDiff, Nat.reduceEqDiff, and_self, and_false, false_and, if_true, if_false, am_nb, am_nb0, am_nb1, am_lc1, am_lc2, am_lc3, am_b0, am_b1, am_10, am_c8, am_c16, am_c24, am_c32, am_c40, am_c48, am_c56, am_c64, am_c72, Nat.add_zero, Bool.false_eq_true, Nat.zero_le, e10, Int32.le_refl, hmu, wX3_tell0, show lA 2000000000 o 10 = o (bsF o 10) from rfl, show bA (-1) o 10 = nI (bsF o 10) from rfl]
      refine hK _ (((Fw.refl.I (by unfold sM; omega)).L (Or.inr rfl)).I (by unfold sM; omega)) ?_ (TN1 ?_ ?_) (fun i => ?_)
      · simp only [am_II, am_I_sL, Nat.reduceEqDiff, and_false, if_false]; exact hP.h17
      · simp only [am_II, and_self, if_true]
      · simp only [am_L_sI, am_LL, and_self, if_true]
      · simp only [am_L_sI, am_LL, Nat.reduceEqDiff, false_and, if_false]
theorem op_ask (hI : Inv q μ) : OP q mX1_ask mX3_ask [.ref 0, am_F, am_F, am_F, am_F, am_F, am_F] [.ref 54, am_F, am_F, am_F, am_F, am_F, am_F] μ :=
  op_W (V := fun N _ _ S e => vAk N S e) (P := fun N _ _ S e => pAk N S e) (fun hP hw => qc_ask hP hw) (fun d K μ h h' => by simp only [gX3_ask_0, gX3_ask_1, gX3_ask_2, am_kill_int, am_kill_ref, am_kill_null, am_kill_F, am_kill_long, am_cat_n, am_cat_i, am_cat_r, am_cat_0, am_cat_l, am_nr_n, am_nr_i, am_nr_r, am_nr_0, am_nr_l, Option.toList_some, Option.toList_none, List.nil_append, List.cons_append, va_rf_s, va_rf_n, am_I_sR, am_I_sL, am_R_sI, am_R_sL, am_L_sI, am_L_sR, am_k_sI, am_k_sR, am_k_sL, am_n_sI, am_n_sR, am_n_sL, true_and, and_true, true_or, or_true, or_false, false_or, not_true_eq_false, not_false_eq_true, Nat.reduceLT, am_dS, am_dP, am_d1, Nat.reduceSub, Nat.reduceMul, ne_eq, Nat.reduceBEq, Nat.reduceAdd, Nat.reduceLeDiff, Nat.reduceEqDiff, and_self, and_false, false_and, if_true, if_false, am_nb, am_nb0, am_nb1, am_lc1, am_lc2, am_lc3, am_b0, am_b1, am_10, am_c8, am_c16, am_c24, am_c32, am_c40, am_c48, am_c56, am_c64, am_c72, Nat.add_zero, Bool.false_eq_true, Nat.zero_le, h]; exact h') (fun hP hw => q5_ask hP hw) hI
end OOV
