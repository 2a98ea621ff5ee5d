/-! nests -/
set_option maxRecDepth 100000
section NPV
variable {d : Nat} {μ ν ξ μ1 ν1 : am_M} {K : Option Value → am_M → Prop} {x y z c w a0 a1 a2 a3 : Int32} {h h' N C i j k r n L M m a b e q q' t u s ln tp : Nat} {v : Int32} {ru : Option PF} {F G : Nat → Nat → Prop} {S S' T : Nat → Int32} {p : Int64} {ch : Nat → Int32} {f : PF}
/-- what nests may write -/
def fNs (a b : Nat) : Prop := (24 ≤ a ∧ a ≤ 27) ∨ (1 ≤ a ∧ a ≤ 11) ∨ (a = 0 ∧ (b = 2 ∨ b = 4 ∨ b = 6 ∨ b = 7 ∨ b = 8 ∨ b = 9 ∨ b = 14 ∨ b = 21)) ∨ a = 55 ∨ a = 58 ∨ (a = 54 ∧ (b = 1 ∨ b = 4 ∨ b = 7 ∨ b = 9 ∨ b = 10 ∨ b = 11 ∨ b = 12 ∨ b = 20 ∨ b = 35))
theorem Sim.put (h8 : N + k ≤ 8) {G' : Nat → Int32} (hs : Sim N S S') (hok : ∀ i, okS (ch i)) (hl : ∀ j, j < k → pLn ch (5 * j) = none) (h1 : putL ch N k S T) (h2 : putL ch N k S' G') : Sim (N + k) T G' := by
  refine ⟨fun j hj => ?_, h1.2.2.1.trans (hs.2.1.trans h2.2.2.1.symm), h1.2.2.2.1.trans (hs.2.2.1.trans h2.2.2.2.1.symm), h1.2.2.2.2.trans (hs.2.2.2.trans h2.2.2.2.2.symm)⟩
  by_cases f : j < N
  · rw [h1.2.1 j (by omega) (Or.inl f), h2.2.1 j (by omega) (Or.inl f)]
    exact hs.1 j f
  · obtain ⟨i, rfl⟩ : ∃ i, j = N + i := ⟨j - N, by omega⟩
    rw [h1.1 i (by omega), h2.1 i (by omega)]
    exact ⟨⟨fun r _ => rfl, fun _ r _ => rfl⟩, lnF_cG hok (hl i (by omega))⟩
theorem ns_end {t : Nat} (hch : ∀ i, 0 ≤ ch i → i < t ∧ i < 39) (q i k : Nat) (h : nsR ch q i = .inr k) : 5 * k - 1 ≤ min t 39 := by
  have hk := (nsR_le (ch := ch) q i).2 k h
  obtain ⟨j, rfl⟩ : ∃ j, k = j + 1 := ⟨k - 1, by omega⟩
  have hp := nsR_ok q i (j + 1) h j (by omega) (by omega)
  have e : ¬ owV (ch (5 * j + 3)) < 0 := by
    unfold pLn at hp
    split at hp
    · cases hp
    split at hp
    · cases hp
    split at hp
    · split at hp
      · cases hp
      · assumption
    · cases hp
  have e2 : 0 ≤ ch (5 * j + 3) := by
    unfold owV at e
    split at e
    · rename_i z
      exact Int32.le_trans (by decide) z.1
    · exact absurd (by decide) e
  have := hch _ e2
  omega
theorem nI_sub : nI (N + k) - nI N = nI k := by
  rw [← nI_add, Int32.add_comm, Int32.add_sub_cancel]
theorem nsE : ∀ b : Fin 101, (-1 - nI b.val < 0) ∧ ¬ (0 : Int32) ≤ -1 - nI b.val := by decide
/-- a call that read nests, and refused or found none -/
theorem inv_ns0 (hI : Inv q μ) (hP : Per N C ru c μ) (hF : Fr (fun a b => (24 ≤ a ∧ a ≤ 27) ∨ (a = 0 ∧ (b = 6 ∨ b = 7 ∨ b = 8 ∨ b = 9 ∨ b = 14)) ∨ a = 58 ∨ (a = 54 ∧ (b = 4 ∨ b = 7 ∨ b = 9 ∨ b = 10 ∨ b = 11 ∨ b = 12))) μ ν) (e6 : am_I ν 0 6 = 0) (e4 : am_I ν 54 4 = 0) : Inv (q + 1) ν := by
  have hI' := hI
  obtain ⟨_, hT, hR, b1, b2, b3, b4⟩ := hI
  exact Inv.mk' (hP.fw hF.toW (fun a b z e => by unfold per at e; omega) ((hF.1 54 17 (by omega)).trans hP.h17)) ⟨0, by omega, e6, e4⟩ (hR.fr hF (fun a b z => by omega)) hF hI' (b4.fw hP.2.2.2.2.2.1 hF.toW fun a b z => by omega)
theorem op_nests (hI : Inv q μ) : OP q mX1_nests mX3_nests [.ref 0, am_F, am_F, am_F, am_F, am_F] [.ref 54, am_F, am_F, am_F, am_F] μ := by
  intro d
  have hI' := hI
  obtain ⟨⟨N, C, ru, c, hP⟩, ⟨t, t1, t2, t3⟩, hRow, b1, b2, b3, b4⟩ := hI
  have hC := hP.1.1
  have hk0 := hC.1.c
  have h8 := hC.2.2.1
  have hS := hP.1.2.1
  have hst : stL μ := hP.1.2.2.1
  have hpt : pTx μ := hP.2.2.2.1
  have hsim : Sim N (cS μ 1) (am_I μ 55) := hP.2.1
  obtain ⟨c1, c2, c3⟩ := hP.2.2.1
  have o10 : ¬ (1 : Int32) = 0 := by decide
  have e39 : (39 : Int32) = nI 39 := rfl
  have hmu := hS.1.1
  unfold mL at hmu
  have hkb : am_k (bgC 39 t μ) 0 = (0, 0) := hk0
  have hCR := CR_begin (t := t) (m := 39) hC hst hpt t1 (by decide)
  have hok : ∀ i, okS (chM (am_I μ 56) t 39 i) := fun i => chM_s (fun i hi => (hpt i hi).2.1) t1 i
  -- the model's start
  have mdl : ∀ (ν : am_M) (K : Option Value → am_M → Prop), mL (am_k ν) (am_R ν) → pTx ν → am_I ν 54 4 = nI t → (t = 0 → K (some (.int 0)) (bgT 39 t (am_sI ν 54 7 0))) → (¬ t = 0 → am_Wp (d + 200) mX3_nests 24 [.ref 54, .int (nI 0), .int 1, am_F, am_F] [] (bgT 39 t (am_sI ν 54 7 0)) K) → am_Wp (d + 200) mX3_nests 0 [.ref 54, am_F, am_F, am_F, am_F] [] ν K := fun ν K hm hp e4 h1 h2 => by
    have hmν := hm
    unfold mL at hmν
    have e4' : am_I (am_sI ν 54 7 0) 54 4 = nI t := by rw [am_I_sI, if_neg (by omega)]; exact e4
    have hm' : mL (am_k (am_sI ν 54 7 0)) (am_R (am_sI ν 54 7 0)) := hm
    have hbt := wX3_beginText' (d := d + 198) (m := 39) (K := fun r1 μ1 => am_nr r1 ∧ am_Wp (d + 200) mX3_nests 11 [.ref 54, am_F, am_F, am_F, am_F] (r1.toList ++ []) μ1 K) hm' e4'
    simp only [gX3_nests_0, gX3_nests_1, gX3_nests_2, gX3_nests_5, gX3_nests_6, gX3_nests_8, am_kill_int, am_kill_ref, am_kill_null, am_kill_F, am_kill_long, am_cat_n, am_cat_i, am_cat_r, am_cat_0, am_cat_l, am_nr_n, am_nr_i, am_nr_r, am_nr_0, am_nr_l, Option.toList_some, Option.toList_none, List.nil_append, List.cons_append, va_rf_s, va_rf_n, am_I_sR, am_I_sL, am_R_sI, am_R_sL, am_L_sI, am_L_sR, am_k_sI, am_k_sR, am_k_sL, am_n_sI, am_n_sR, am_n_sL, true_and, and_true, true_or, or_true, or_false, false_or, not_true_eq_false, not_false_eq_true, Nat.reduceLT, am_dS, am_dP, am_d1, Nat.reduceSub, Nat.reduceMul, ne_eq, Nat.reduceBEq, Nat.reduceAdd, Nat.reduceLeDiff, Nat.reduceEqDiff, and_self, and_false, false_and, if_true, if_false, am_nb, am_nb0, am_nb1, am_lc1, am_lc2, am_lc3, am_b0, am_b1, am_10, am_c8, am_c16, am_c24, am_c32, am_c40, am_c48, am_c56, am_c64, am_c72, Nat.add_zero, Bool.false_eq_true, Nat.zero_le, hmν, e39]
    rw [hbt]
    have h9 : am_I (bgT 39 t (am_sI ν 54 7 0)) 54 9 = nI t := rfl
    have hk54 : am_k (bgT 39 t (am_sI ν 54 7 0)) 54 = (2, 0) := hmν.1.1
    by_cases h0 : t = 0
    · have e0 : nI t = 0 := by rw [h0]; rfl
      refine ⟨trivial, ?_⟩
      simp only [Option.toList_none, List.nil_append, gX3_nests_11, gX3_nests_12, gX3_nests_15, gX3_nests_18, gX3_nests_19, am_kill_int, am_kill_ref, am_kill_null, am_kill_F, am_kill_long, am_cat_n, am_cat_i, am_cat_r, am_cat_0, am_cat_l, am_nr_n, am_nr_i, am_nr_r, am_nr_0, am_nr_l, Option.toList_some, Option.toList_none, List.nil_append, List.cons_append, va_rf_s, va_rf_n, am_I_sR, am_I_sL, am_R_sI, am_R_sL, am_L_sI, am_L_sR, am_k_sI, am_k_sR, am_k_sL, am_n_sI, am_n_sR, am_n_sL, true_and, and_true, true_or, or_true, or_false, false_or, not_true_eq_false, not_false_eq_true, Nat.reduceLT, am_dS, am_dP, am_d1, Nat.reduceSub, Nat.reduceMul, ne_eq, Nat.reduceBEq, Nat.reduceAdd, Nat.reduceLeDiff, Nat.reduceEqDiff, and_self, and_false, false_and, if_true, if_false, am_nb, am_nb0, am_nb1, am_lc1, am_lc2, am_lc3, am_b0, am_b1, am_10, am_c8, am_c16, am_c24, am_c32, am_c40, am_c48, am_c56, am_c64, am_c72, Nat.add_zero, Bool.false_eq_true, Nat.zero_le, hk54, h9, e0]
      exact h1 h0
    · have e0 : ¬ nI t = 0 := fun f => h0 (by rw [← nI_0, nI_inj (by omega) (by omega)] at f; exact f)
      refine ⟨trivial, ?_⟩
      simp only [Option.toList_none, List.nil_append, gX3_nests_11, gX3_nests_12, gX3_nests_15, gX3_nests_20, gX3_nests_21, gX3_nests_22, gX3_nests_23, am_kill_int, am_kill_ref, am_kill_null, am_kill_F, am_kill_long, am_cat_n, am_cat_i, am_cat_r, am_cat_0, am_cat_l, am_nr_n, am_nr_i, am_nr_r, am_nr_0, am_nr_l, Option.toList_some, Option.toList_none, List.nil_append, List.cons_append, va_rf_s, va_rf_n, am_I_sR, am_I_sL, am_R_sI, am_R_sL, am_L_sI, am_L_sR, am_k_sI, am_k_sR, am_k_sL, am_n_sI, am_n_sR, am_n_sL, true_and, and_true, true_or, or_true, or_false, false_or, not_true_eq_false, not_false_eq_true, Nat.reduceLT, am_dS, am_dP, am_d1, Nat.reduceSub, Nat.reduceMul, ne_eq, Nat.reduceBEq, Nat.reduceAdd, Nat.reduceLeDiff, Nat.reduceEqDiff, and_self, and_false, false_and, if_true, if_false, am_nb, am_nb0, am_nb1, am_lc1, am_lc2, am_lc3, am_b0, am_b1, am_10, am_c8, am_c16, am_c24, am_c32, am_c40, am_c48, am_c56, am_c64, am_c72, Nat.add_zero, Bool.false_eq_true, Nat.zero_le, hk54, h9, e0]
      have := h2 h0
      rw [nI_0] at this
      exact this
  have hb := wX1_begins (d := d + 198) (m := 39) (K := fun r1 μ1 => am_nr r1 ∧ am_Wp (d + 200) mX1_nests 6 [.ref 0, am_F, am_F, am_F, am_F, am_F] (r1.toList ++ []) μ1 (fun r1 μ1 => ∃ v, r1 = some (.int v) ∧ am_Wp (d + 200) mX3_nests 0 [.ref 54, am_F, am_F, am_F, am_F] [] μ1 (fun r2 μ2 => r2 = some (.int v) ∧ Inv (q + 1) μ2))) hk0 t2 t1 (by decide)
  rw [gX1_nests_0, gX1_nests_1, e39, gX1_nests_3]
  refine ⟨⟨by decide, by rw [hk0]⟩, Nat.succ_pos _, ?_⟩
  rw [am_dS, hb]
  refine ⟨trivial, ?_⟩
  by_cases h0 : t = 0
  · have e0 : nI t = 0 := by rw [h0]; rfl
    simp only [Option.toList_some, List.cons_append, List.nil_append, gX1_nests_6, gX1_nests_7, gX1_nests_8, gX1_nests_11, gX1_nests_12, am_kill_int, am_kill_ref, am_kill_null, am_kill_F, am_kill_long, am_cat_n, am_cat_i, am_cat_r, am_cat_0, am_cat_l, am_nr_n, am_nr_i, am_nr_r, am_nr_0, am_nr_l, Option.toList_some, Option.toList_none, List.nil_append, List.cons_append, va_rf_s, va_rf_n, am_II, am_I_sR, am_I_sL, am_R_sI, am_RR, am_R_sL, am_L_sI, am_L_sR, am_LL, am_k_sI, am_k_sR, am_k_sL, am_n_sI, am_n_sR, am_n_sL, true_and, and_true, true_or, or_true, or_false, false_or, not_true_eq_false, not_false_eq_true, Nat.reduceLT, am_dS, am_dP, am_d1, Nat.reduceSub, Nat.reduceMul, ne_eq, Nat.reduceBEq, Nat.reduceAdd, Nat.reduceLeDiff, Nat.reduceEqDiff, and_self, and_false, false_and, if_true, if_false, am_nb, am_nb0, am_nb1, am_lc1, am_lc2, am_lc3, am_b0, am_b1, am_10, am_c8, am_c16, am_c24, am_c32, am_c40, am_c48, am_c56, am_c64, am_c72, Nat.add_zero, Bool.false_eq_true, Nat.zero_le, e0]
    refine ⟨_, rfl, ?_⟩
    refine mdl _ _ hS.1.1 (fun i hi => hpt i hi) t3 (fun _ => ⟨rfl, ?_⟩) (fun f => absurd h0 f)
    exact inv_ns0 hI' hP ((bgC_Fr.le fun a b z => by omega).trans ((Fr.I (F := fun a b => a = 54 ∧ b = 7) Fr.refl ⟨rfl, rfl⟩ |>.le fun a b z => by omega).trans (bgT_Fr.le fun a b z => by omega))) rfl rfl
  · have e0 : ¬ nI t = 0 := fun f => h0 (by rw [← nI_0, nI_inj (by omega) (by omega)] at f; exact f)
    have hbN : am_I (bgC 39 t μ) 0 2 = nI N := hC.2.1
    simp only [Option.toList_some, List.cons_append, List.nil_append, gX1_nests_6, gX1_nests_7, gX1_nests_8, gX1_nests_13, gX1_nests_14, gX1_nests_15, gX1_nests_18, gX1_nests_21, gX1_nests_22, gX1_nests_23, gX1_nests_24, am_kill_int, am_kill_ref, am_kill_null, am_kill_F, am_kill_long, am_cat_n, am_cat_i, am_cat_r, am_cat_0, am_cat_l, am_nr_n, am_nr_i, am_nr_r, am_nr_0, am_nr_l, Option.toList_some, Option.toList_none, List.nil_append, List.cons_append, va_rf_s, va_rf_n, am_II, am_I_sR, am_I_sL, am_R_sI, am_RR, am_R_sL, am_L_sI, am_L_sR, am_LL, am_k_sI, am_k_sR, am_k_sL, am_n_sI, am_n_sR, am_n_sL, true_and, and_true, true_or, or_true, or_false, false_or, not_true_eq_false, not_false_eq_true, Nat.reduceLT, am_dS, am_dP, am_d1, Nat.reduceSub, Nat.reduceMul, ne_eq, Nat.reduceBEq, Nat.reduceAdd, Nat.reduceLeDiff, Nat.reduceEqDiff, and_self, and_false, false_and, if_true, if_false, am_nb, am_nb0, am_nb1, am_lc1, am_lc2, am_lc3, am_b0, am_b1, am_10, am_c8, am_c16, am_c24, am_c32, am_c40, am_c48, am_c56, am_c64, am_c72, Nat.add_zero, Bool.false_eq_true, Nat.zero_le, hkb, e0, hbN]
    have hF0 : Fr fNC (bgC 39 t μ) (am_sI (bgC 39 t μ) 0 14 (nI N)) := Fr.I Fr.refl (by unfold fNC; omega)
    -- behind the reading: the fault's place
    have ft : ∀ (g : Bool) (a : Nat) (ν : am_M) (K : Option Value → am_M → Prop), Fr fNC (bgC 39 t μ) ν → am_I ν 0 7 = nI a → a ≤ 100 → (¬ (g = true ∧ a = min t 39 ∧ t ≤ min t 39) → K (some (.int (-1 - nI a))) ν) → (g = true ∧ a = min t 39 ∧ t ≤ min t 39 → am_Wp (d + 200) mX1_nests 72 [.ref 0, .int (nI t), .int (if g = true then 1 else 0), .int 0, .int 0, am_F] [] ν K) → am_Wp (d + 200) mX1_nests 56 [.ref 0, .int (nI t), .int (if g = true then 1 else 0), .int 0, am_F, am_F] [] ν K := fun g a ν K hF h7 ha h1 h2 => by
      have hkν : am_k ν 0 = (0, 0) := by rw [hF.2.2.2.1]; exact hkb
      have h8' : am_I ν 0 8 = nI (min t 39) := (hF.1 0 8 (by unfold fNC; omega)).trans rfl
      have ff := wX1_faultOf (d := d + 199) (n := t) (K := fun r1 μ1 => am_nr r1 ∧ am_Wp (d + 200) mX1_nests 62 [.ref 0, .int (nI t), .int (if g = true then 1 else 0), .int 0, am_F, am_F] (r1.toList ++ []) μ1 K) g hkν h7 h8' (by omega) (by omega) (by omega)
      rw [gX1_nests_56, gX1_nests_57, gX1_nests_58, gX1_nests_59]
      refine ⟨⟨by decide, by rw [hkν]⟩, Nat.succ_pos _, ?_⟩
      rw [show d + 200 - 1 = d + 199 from rfl, ff]
      refine ⟨trivial, ?_⟩
      by_cases hg : g = true ∧ a = min t 39 ∧ t ≤ min t 39
      · have n00 : (0 : Int32) ≤ 0 := by decide
        rw [if_pos hg]
        simp only [Option.toList_some, List.cons_append, List.nil_append, gX1_nests_62, gX1_nests_64, gX1_nests_66, am_kill_int, am_kill_ref, am_kill_null, am_kill_F, am_kill_long, am_cat_n, am_cat_i, am_cat_r, am_cat_0, am_cat_l, am_nr_n, am_nr_i, am_nr_r, am_nr_0, am_nr_l, Option.toList_some, Option.toList_none, List.nil_append, List.cons_append, va_rf_s, va_rf_n, am_II, am_I_sR, am_I_sL, am_R_sI, am_RR, am_R_sL, am_L_sI, am_L_sR, am_LL, am_k_sI, am_k_sR, am_k_sL, am_n_sI, am_n_sR, am_n_sL, true_and, and_true, true_or, or_true, or_false, false_or, not_true_eq_false, not_false_eq_true, Nat.reduceLT, am_dS, am_dP, am_d1, Nat.reduceSub, Nat.reduceMul, ne_eq, Nat.reduceBEq, Nat.reduceAdd, Nat.reduceLeDiff, Nat.reduceEqDiff, and_self, and_false, false_and, if_true, if_false, am_nb, am_nb0, am_nb1, am_lc1, am_lc2, am_lc3, am_b0, am_b1, am_10, am_c8, am_c16, am_c24, am_c32, am_c40, am_c48, am_c56, am_c64, am_c72, Nat.add_zero, Bool.false_eq_true, Nat.zero_le, n00]
        exact h2 hg
      · obtain ⟨q1, q2⟩ := nsE ⟨a, by omega⟩
        simp only at q1 q2
        rw [if_neg hg]
        simp only [Option.toList_some, List.cons_append, List.nil_append, gX1_nests_62, gX1_nests_64, gX1_nests_66, gX1_nests_69, gX1_nests_71, am_kill_int, am_kill_ref, am_kill_null, am_kill_F, am_kill_long, am_cat_n, am_cat_i, am_cat_r, am_cat_0, am_cat_l, am_nr_n, am_nr_i, am_nr_r, am_nr_0, am_nr_l, Option.toList_some, Option.toList_none, List.nil_append, List.cons_append, va_rf_s, va_rf_n, am_II, am_I_sR, am_I_sL, am_R_sI, am_RR, am_R_sL, am_L_sI, am_L_sR, am_LL, am_k_sI, am_k_sR, am_k_sL, am_n_sI, am_n_sR, am_n_sL, true_and, and_true, true_or, or_true, or_false, false_or, not_true_eq_false, not_false_eq_true, Nat.reduceLT, am_dS, am_dP, am_d1, Nat.reduceSub, Nat.reduceMul, ne_eq, Nat.reduceBEq, Nat.reduceAdd, Nat.reduceLeDiff, Nat.reduceEqDiff, and_self, and_false, false_and, if_true, if_false, am_nb, am_nb0, am_nb1, am_lc1, am_lc2, am_lc3, am_b0, am_b1, am_10, am_c8, am_c16, am_c24, am_c32, am_c40, am_c48, am_c56, am_c64, am_c72, Nat.add_zero, Bool.false_eq_true, Nat.zero_le, q2]
        exact h1 hg
    -- the model, by what is read
    have mdl2 : ∀ (ν : am_M) (K : Option Value → am_M → Prop), Fr (fun a b => a < 54) μ ν → pTx ν → (∀ p ξ, nsR (chM (am_I μ 56) t 39) (8 - N) 0 = .inl p → Fr (fun a b => a = 58 ∨ (a = 54 ∧ (b = 4 ∨ b = 7 ∨ b = 9 ∨ b = 10 ∨ b = 11 ∨ b = 12))) ν ξ → am_I ξ 54 4 = 0 → K (some (.int (-1 - nI p))) ξ) →
        (∀ k ξ, nsR (chM (am_I μ 56) t 39) (8 - N) 0 = .inr k → Fr (fun a b => a = 58 ∨ (a = 54 ∧ (b = 4 ∨ b = 7 ∨ b = 9 ∨ b = 10 ∨ b = 11 ∨ b = 12))) ν ξ → am_I ξ 54 4 = 0 → 5 * k - 1 < t → K (some (.int (-1 - nI (5 * k - 1)))) ξ) →
        (∀ k ξ, nsR (chM (am_I μ 56) t 39) (8 - N) 0 = .inr k → Fr (fun a b => a = 58 ∨ (a = 54 ∧ (b = 4 ∨ b = 7 ∨ b = 9 ∨ b = 10 ∨ b = 11 ∨ b = 12))) ν ξ → am_I ξ 54 4 = 0 → ¬ 5 * k - 1 < t → (∀ j, j < k → ∀ r, r < 4 → am_I ξ 58 (4 * j + r) = vLn (chM (am_I μ 56) t 39) (5 * j) r) → am_Wp (d + 200) mX3_nests 93 [.ref 54, .int (nI k), .int 0, .int (nI 0), am_F] [] ξ K) →
        am_Wp (d + 200) mX3_nests 0 [.ref 54, am_F, am_F, am_F, am_F] [] ν K := fun ν K hF hp h1 h2 h3 => by
      have hmν := hF.mLk hS.1.1
      have e4 : am_I ν 54 4 = nI t := (hF.1 54 4 (by omega)).trans t3
      refine mdl ν K hmν hp e4 (fun f => absurd f h0) (fun _ => ?_)
      have hmν' : mL (am_k (am_sI ν 54 7 0)) (am_R (am_sI ν 54 7 0)) := hmν
      have hp' : pTx (am_sI ν 54 7 0) := fun i hi => by
        rw [am_row_o (by decide), am_row_o (by decide)]; exact hp i hi
      have hT := bgT_TM (t := t) (m := 39) hmν' hp' t1 (by decide)
      have r56 : am_I (bgT 39 t (am_sI ν 54 7 0)) 56 = am_I μ 56 := by
        rw [bgT_56, am_row_o (by decide)]; exact funext fun b => hF.1 56 b (by omega)
      have eN : am_I (bgT 39 t (am_sI ν 54 7 0)) 54 1 = nI N := by
        rw [bgT_Fr.1 54 1 (by omega), am_I_sI, if_neg (by omega), hF.1 54 1 (by omega)]; exact hS.1.2.1
      have hFb : Fr (fun a b => a = 58 ∨ (a = 54 ∧ (b = 4 ∨ b = 7 ∨ b = 9 ∨ b = 10 ∨ b = 11 ∨ b = 12))) ν (bgT 39 t (am_sI ν 54 7 0)) := ((Fr.I Fr.refl (by omega)) : Fr _ ν (am_sI ν 54 7 0)).trans (bgT_Fr.le fun a b z => by omega)
      have hx4 : am_I (bgT 39 t (am_sI ν 54 7 0)) 54 4 = 0 := rfl
      have wr : ∀ (b : Nat) (w : Int32) (n' : Int32) (ξ : am_M), TM 56 80 b t 39 w ξ → (¬ (w = -1 ∧ ¬ b < t) → ∀ ξ', Fr (fun a b => a = 54 ∧ b = 12) ξ ξ' → am_I ξ' 54 12 = (if w = -1 then nI b else w) → K (some (.int (-1 - am_I ξ' 54 12))) ξ') → (w = -1 ∧ ¬ b < t → am_Wp (d + 200) mX3_nests 93 [.ref 54, .int n', .int 0, .int (nI 0), am_F] [] ξ K) → am_Wp (d + 200) mX3_nests 77 [.ref 54, .int n', .int 0, am_F, am_F] [] ξ K := fun b w n' ξ hT g1 g2 => by
        have hmξ := hT.1
        unfold mL at hmξ
        have ww := wX3_wasRight (d := d + 197) (K := fun r1 μ1 => am_nr r1 ∧ am_Wp (d + 200) mX3_nests 81 [.ref 54, .int n', .int 0, am_F, am_F] (r1.toList ++ []) μ1 K) hT
        by_cases hw : w = -1 ∧ ¬ b < t
        · have hw2 : ¬ (w = -1 ∧ b < t) := fun f => hw.2 f.2
          rw [if_pos hw, if_neg hw2] at ww
          simp only [gX3_nests_77, gX3_nests_78, am_kill_int, am_kill_ref, am_kill_null, am_kill_F, am_kill_long, am_cat_n, am_cat_i, am_cat_r, am_cat_0, am_cat_l, am_nr_n, am_nr_i, am_nr_r, am_nr_0, am_nr_l, Option.toList_some, Option.toList_none, List.nil_append, List.cons_append, va_rf_s, va_rf_n, am_I_sR, am_I_sL, am_R_sI, am_R_sL, am_L_sI, am_L_sR, am_k_sI, am_k_sR, am_k_sL, am_n_sI, am_n_sR, am_n_sL, true_and, and_true, true_or, or_true, or_false, false_or, not_true_eq_false, not_false_eq_true, Nat.reduceLT, am_dS, am_dP, am_d1, Nat.reduceSub, Nat.reduceMul, ne_eq, Nat.reduceBEq, Nat.reduceAdd, Nat.reduceLeDiff, Nat.reduceEqDiff, and_self, and_false, false_and, if_true, if_false, am_nb, am_nb0, am_nb1, am_lc1, am_lc2, am_lc3, am_b0, am_b1, am_10, am_c8, am_c16, am_c24, am_c32, am_c40, am_c48, am_c56, am_c64, am_c72, Nat.add_zero, Bool.false_eq_true, Nat.zero_le, hmξ, ww]
          simp only [gX3_nests_81, gX3_nests_91, gX3_nests_92, am_kill_int, am_kill_ref, am_kill_null, am_kill_F, am_kill_long, am_cat_n, am_cat_i, am_cat_r, am_cat_0, am_cat_l, am_nr_n, am_nr_i, am_nr_r, am_nr_0, am_nr_l, Option.toList_some, Option.toList_none, List.nil_append, List.cons_append, va_rf_s, va_rf_n, am_I_sR, am_I_sL, am_R_sI, am_R_sL, am_L_sI, am_L_sR, am_k_sI, am_k_sR, am_k_sL, am_n_sI, am_n_sR, am_n_sL, true_and, and_true, true_or, or_true, or_false, false_or, not_true_eq_false, not_false_eq_true, Nat.reduceLT, am_dS, am_dP, am_d1, Nat.reduceSub, Nat.reduceMul, ne_eq, Nat.reduceBEq, Nat.reduceAdd, Nat.reduceLeDiff, Nat.reduceEqDiff, and_self, and_false, false_and, if_true, if_false, am_nb, am_nb0, am_nb1, am_lc1, am_lc2, am_lc3, am_b0, am_b1, am_10, am_c8, am_c16, am_c24, am_c32, am_c40, am_c48, am_c56, am_c64, am_c72, Nat.add_zero, Bool.false_eq_true, Nat.zero_le, o10]
          have := g2 hw
          rw [nI_0] at this
          exact this
        · rw [if_neg hw] at ww
          by_cases hw2 : w = -1 ∧ b < t
          · rw [if_pos hw2] at ww
            simp only [gX3_nests_77, gX3_nests_78, am_kill_int, am_kill_ref, am_kill_null, am_kill_F, am_kill_long, am_cat_n, am_cat_i, am_cat_r, am_cat_0, am_cat_l, am_nr_n, am_nr_i, am_nr_r, am_nr_0, am_nr_l, Option.toList_some, Option.toList_none, List.nil_append, List.cons_append, va_rf_s, va_rf_n, am_I_sR, am_I_sL, am_R_sI, am_R_sL, am_L_sI, am_L_sR, am_k_sI, am_k_sR, am_k_sL, am_n_sI, am_n_sR, am_n_sL, true_and, and_true, true_or, or_true, or_false, false_or, not_true_eq_false, not_false_eq_true, Nat.reduceLT, am_dS, am_dP, am_d1, Nat.reduceSub, Nat.reduceMul, ne_eq, Nat.reduceBEq, Nat.reduceAdd, Nat.reduceLeDiff, Nat.reduceEqDiff, and_self, and_false, false_and, if_true, if_false, am_nb, am_nb0, am_nb1, am_lc1, am_lc2, am_lc3, am_b0, am_b1, am_10, am_c8, am_c16, am_c24, am_c32, am_c40, am_c48, am_c56, am_c64, am_c72, Nat.add_zero, Bool.false_eq_true, Nat.zero_le, hmξ, ww]
            simp only [gX3_nests_81, gX3_nests_84, gX3_nests_85, gX3_nests_86, gX3_nests_89, gX3_nests_90, am_kill_int, am_kill_ref, am_kill_null, am_kill_F, am_kill_long, am_cat_n, am_cat_i, am_cat_r, am_cat_0, am_cat_l, am_nr_n, am_nr_i, am_nr_r, am_nr_0, am_nr_l, Option.toList_some, Option.toList_none, List.nil_append, List.cons_append, va_rf_s, va_rf_n, am_I_sR, am_I_sL, am_R_sI, am_R_sL, am_L_sI, am_L_sR, am_k_sI, am_k_sR, am_k_sL, am_n_sI, am_n_sR, am_n_sL, true_and, and_true, true_or, or_true, or_false, false_or, not_true_eq_false, not_false_eq_true, Nat.reduceLT, am_dS, am_dP, am_d1, Nat.reduceSub, Nat.reduceMul, ne_eq, Nat.reduceBEq, Nat.reduceAdd, Nat.reduceLeDiff, Nat.reduceEqDiff, and_self, and_false, false_and, if_true, if_false, am_nb, am_nb0, am_nb1, am_lc1, am_lc2, am_lc3, am_b0, am_b1, am_10, am_c8, am_c16, am_c24, am_c32, am_c40, am_c48, am_c56, am_c64, am_c72, Nat.add_zero, Bool.false_eq_true, Nat.zero_le, hmξ]
            exact g1 hw _ (Fr.I Fr.refl ⟨rfl, rfl⟩) (by rw [am_I_sI, if_pos ⟨rfl, rfl⟩, if_pos hw2.1])
          · have hw3 : ¬ w = -1 := fun f => by
              by_cases z : b < t
              · exact hw2 ⟨f, z⟩
              · exact hw ⟨f, z⟩
            rw [if_neg hw2] at ww
            simp only [gX3_nests_77, gX3_nests_78, am_kill_int, am_kill_ref, am_kill_null, am_kill_F, am_kill_long, am_cat_n, am_cat_i, am_cat_r, am_cat_0, am_cat_l, am_nr_n, am_nr_i, am_nr_r, am_nr_0, am_nr_l, Option.toList_some, Option.toList_none, List.nil_append, List.cons_append, va_rf_s, va_rf_n, am_I_sR, am_I_sL, am_R_sI, am_R_sL, am_L_sI, am_L_sR, am_k_sI, am_k_sR, am_k_sL, am_n_sI, am_n_sR, am_n_sL, true_and, and_true, true_or, or_true, or_false, false_or, not_true_eq_false, not_false_eq_true, Nat.reduceLT, am_dS, am_dP, am_d1, Nat.reduceSub, Nat.reduceMul, ne_eq, Nat.reduceBEq, Nat.reduceAdd, Nat.reduceLeDiff, Nat.reduceEqDiff, and_self, and_false, false_and, if_true, if_false, am_nb, am_nb0, am_nb1, am_lc1, am_lc2, am_lc3, am_b0, am_b1, am_10, am_c8, am_c16, am_c24, am_c32, am_c40, am_c48, am_c56, am_c64, am_c72, Nat.add_zero, Bool.false_eq_true, Nat.zero_le, hmξ, ww]
            simp only [gX3_nests_81, gX3_nests_84, gX3_nests_85, gX3_nests_86, gX3_nests_89, gX3_nests_90, am_kill_int, am_kill_ref, am_kill_null, am_kill_F, am_kill_long, am_cat_n, am_cat_i, am_cat_r, am_cat_0, am_cat_l, am_nr_n, am_nr_i, am_nr_r, am_nr_0, am_nr_l, Option.toList_some, Option.toList_none, List.nil_append, List.cons_append, va_rf_s, va_rf_n, am_I_sR, am_I_sL, am_R_sI, am_R_sL, am_L_sI, am_L_sR, am_k_sI, am_k_sR, am_k_sL, am_n_sI, am_n_sR, am_n_sL, true_and, and_true, true_or, or_true, or_false, false_or, not_true_eq_false, not_false_eq_true, Nat.reduceLT, am_dS, am_dP, am_d1, Nat.reduceSub, Nat.reduceMul, ne_eq, Nat.reduceBEq, Nat.reduceAdd, Nat.reduceLeDiff, Nat.reduceEqDiff, and_self, and_false, false_and, if_true, if_false, am_nb, am_nb0, am_nb1, am_lc1, am_lc2, am_lc3, am_b0, am_b1, am_10, am_c8, am_c16, am_c24, am_c32, am_c40, am_c48, am_c56, am_c64, am_c72, Nat.add_zero, Bool.false_eq_true, Nat.zero_le, hmξ]
            exact g1 hw ξ Fr.refl (by rw [if_neg hw3]; exact hT.2.2.2.2.2.2.1)
      refine nsM_loop (μ := bgT 39 t (am_sI ν 54 7 0)) t1 (m := 39) (ch := chM (am_I μ 56) t 39) (by rw [r56]) am_F am_F (8 - N) 0 _ (by omega) hT ⟨Fr.refl, rfl⟩ eN (fun j hj => absurd hj (Nat.not_lt_zero j)) (fun p b n' ξ z1 z2 z3 => ?_) (fun k ξ z1 z2 z3 z4 => ?_)
      · have hF5 := hFb.trans (z3.1.le fun a b z => by unfold fNM at z; omega)
        have hm1 : ¬ nI p = -1 := nI_m1 (by have := (nsR_le (ch := chM (am_I μ 56) t 39) (8 - N) 0).1 p z1; omega)
        refine wr b _ n' ξ z2 (fun _ ξ' g1 g2 => ?_) (fun f => absurd f.1 hm1)
        rw [if_neg hm1] at g2
        rw [g2]
        exact h1 p ξ' z1 (hF5.trans (g1.le fun a b z => by omega)) (by rw [g1.1 54 4 (by omega), z3.1.1 54 4 (by unfold fNM; omega)]; rfl)
      · have hF5 := hFb.trans (z3.1.le fun a b z => by unfold fNM at z; omega)
        have h4 : am_I ξ 54 4 = 0 := by rw [z3.1.1 54 4 (by unfold fNM; omega)]; rfl
        refine wr (5 * k - 1) (-1) (nI k) ξ z2 (fun hn ξ' g1 g2 => ?_) (fun hn => h3 k ξ z1 hF5 h4 hn.2 z4)
        rw [if_pos rfl] at g2
        rw [g2]
        exact h2 k ξ' z1 (hF5.trans (g1.le fun a b z => by omega)) (by rw [g1.1 54 4 (by omega)]; exact h4) (Classical.not_not.mp fun f => hn ⟨rfl, f⟩)
    have frm : ∀ ν, Fr fNC (bgC 39 t μ) ν → Fr (fun a b => (24 ≤ a ∧ a ≤ 27) ∨ (a = 0 ∧ (b = 6 ∨ b = 7 ∨ b = 8 ∨ b = 9 ∨ b = 14))) μ ν := fun ν hF => (bgC_Fr.le fun a b z => by omega).trans (hF.le fun a b z => by unfold fNC at z; omega)
    have pt : ∀ ν, Fr (fun a b => (1 ≤ a ∧ a ≤ 11) ∨ (24 ≤ a ∧ a ≤ 27) ∨ a = 0) μ ν → pTx ν := fun ν hF i hi => by
      rw [hF.1 23 i (by omega), hF.1 56 i (by omega)]; exact hpt i hi
    refine nsC_loop (μ := bgC 39 t μ) (N := N) (t := t) (e := min t 39) (ch := chM (am_I μ 56) t 39) am_F am_F (8 - N) 0 1 _ (by omega) (hCR.fr hF0 (by rw [am_I_sI, if_neg (by omega)]; rfl) (by omega)) hF0 (by rw [am_I_sI, if_pos ⟨rfl, rfl⟩]; rfl) (fun j hj => absurd hj (Nat.not_lt_zero j)) (fun p ν z1 z2 z3 => ?_) (fun k ν z1 z2 z3 z4 z5 => ?_)
    · have hp := (nsR_le (ch := chM (am_I μ 56) t 39) (8 - N) 0).1 p z1
      refine ft false p ν _ z2 z3 (by omega) (fun _ => ⟨_, rfl, ?_⟩) (fun f => absurd f.1 (by decide))
      have hf := frm ν z2
      refine mdl2 ν _ (hf.le fun a b z => by omega) (pt ν (hf.le fun a b z => by omega)) (fun p' ξ w1 w2 w3 => ?_) (fun k ξ w1 => by rw [z1] at w1; cases w1) (fun k ξ w1 => by rw [z1] at w1; cases w1)
      rw [z1] at w1
      have ep : p = p' := by injection w1
      subst ep
      exact ⟨rfl, inv_ns0 hI' hP ((hf.le fun a b z => by omega).trans (w2.le fun a b z => by omega)) (by rw [w2.1 0 6 (by omega), z2.1 0 6 (by unfold fNC; omega)]; rfl) w3⟩
    · have hk := (nsR_le (ch := chM (am_I μ 56) t 39) (8 - N) 0).2 k z1
      have hf := frm ν z2
      refine ft true (5 * k - 1) ν _ z2 z3 (by omega) (fun hn => ⟨_, rfl, ?_⟩) (fun hn => ?_)
      · -- at = 5k - 1 ≤ end
        refine mdl2 ν _ (hf.le fun a b z => by omega) (pt ν (hf.le fun a b z => by omega)) (fun p' ξ w1 => by rw [z1] at w1; cases w1) (fun k' ξ w1 w2 w3 w4 => ?_) (fun k' ξ w1 w2 w3 w4 w5 => ?_)
        · rw [z1] at w1
          have ek : k = k' := by injection w1
          subst ek
          exact ⟨rfl, inv_ns0 hI' hP ((hf.le fun a b z => by omega).trans (w2.le fun a b z => by omega)) (by rw [w2.1 0 6 (by omega), z2.1 0 6 (by unfold fNC; omega)]; rfl) w3⟩
        · rw [z1] at w1
          have ek : k = k' := by injection w1
          subst ek
          exfalso
          have := ns_end (ch := chM (am_I μ 56) t 39) (fun i hi => (chM_lt hi)) (8 - N) 0 k z1
          exact hn ⟨rfl, by omega, by omega⟩
      · obtain ⟨_, hn2, hn3⟩ := hn
        have hl : ∀ j, j < k → pLn (chM (am_I μ 56) t 39) (5 * j) = none := fun j hj => nsR_ok (8 - N) 0 k z1 j (by omega) hj
        have hCν : CC N ru c ν := hC.fr hf (fun a b z => by omega)
        have hN8 : N + k ≤ 8 := by omega
        have h2' : am_I ν 0 2 = nI N := hCν.2.1
        have hkν := hCν.1.c
        simp only [if_true]
        simp only [gX1_nests_72, gX1_nests_73, gX1_nests_76, gX1_nests_77, gX1_nests_80, gX1_nests_81, am_kill_int, am_kill_ref, am_kill_null, am_kill_F, am_kill_long, am_cat_n, am_cat_i, am_cat_r, am_cat_0, am_cat_l, am_nr_n, am_nr_i, am_nr_r, am_nr_0, am_nr_l, Option.toList_some, Option.toList_none, List.nil_append, List.cons_append, va_rf_s, va_rf_n, am_II, am_I_sR, am_I_sL, am_R_sI, am_RR, am_R_sL, am_L_sI, am_L_sR, am_LL, am_k_sI, am_k_sR, am_k_sL, am_n_sI, am_n_sR, am_n_sL, true_and, and_true, true_or, or_true, or_false, false_or, not_true_eq_false, not_false_eq_true, Nat.reduceLT, am_dS, am_dP, am_d1, Nat.reduceSub, Nat.reduceMul, ne_eq, Nat.reduceBEq, Nat.reduceAdd, Nat.reduceLeDiff, Nat.reduceEqDiff, and_self, and_false, false_and, if_true, if_false, am_nb, am_nb0, am_nb1, am_lc1, am_lc2, am_lc3, am_b0, am_b1, am_10, am_c8, am_c16, am_c24, am_c32, am_c40, am_c48, am_c56, am_c64, am_c72, Nat.add_zero, Bool.false_eq_true, Nat.zero_le, hkν, z4, h2', nI_sub]
        refine nsC_put (d := d) hCν hN8 z4 z5 _ _ _ _ _ (fun ρ g1 g2 g3 g4 g5 => ⟨_, rfl, ?_⟩) ⟨_, rfl⟩
        have hfρ : Fr fNs μ ρ := (hf.le fun a b z => by unfold fNs; omega).trans (g1.le fun a b z => by unfold fNL at z; unfold fNs; omega)
        have hS1 : cS ν 1 = cS μ 1 := cS_Fr hf fun a b z1 z2 z3 => by omega
        refine mdl2 ρ _ ((hf.le fun a b z => by omega).trans (g1.le fun a b z => by unfold fNL at z; omega)) (pt ρ ((hf.le fun a b z => by omega).trans (g1.le fun a b z => by unfold fNL at z; omega))) (fun p' ξ w1 => by rw [z1] at w1; cases w1) (fun k' ξ w1 w2 w3 w4 => ?_) (fun k' ξ w1 w2 w3 w4 w5 => ?_)
        · rw [z1] at w1
          have ek : k = k' := by injection w1
          subst ek
          omega
        · rw [z1] at w1
          have ek : k = k' := by injection w1
          subst ek
          have hfξ : Fr fNs μ ξ := hfρ.trans (w2.le fun a b z => by unfold fNs; omega)
          have hMξ : MC N c ξ := ⟨hfξ.mLk hS.1.1, by rw [w2.1 54 1 (by omega), g1.1 54 1 (by unfold fNL; omega), hf.1 54 1 (by omega)]; exact hS.1.2.1, h8, by rw [hfξ.1 54 2 (by unfold fNs; omega)]; exact hS.1.2.2.2⟩
          have r55 : am_I ξ 55 = am_I μ 55 := funext fun b => by rw [w2.1 55 b (by omega), g1.1 55 b (by unfold fNL; omega), hf.1 55 b (by omega)]
          refine nsM_put (d := d) hMξ hN8 (by omega) w5 _ (fun σ y1 y2 y3 y4 y5 => ?_)
          rw [r55] at y3
          rw [hS1] at g3
          have hfσ : Fr fNs μ σ := hfξ.trans (y1.le fun a b z => by unfold fNs; omega)
          have oc : ∀ a b, a < 54 → am_I σ a b = am_I ρ a b := fun a b z => by rw [y1.1 a b (by omega), w2.1 a b (by omega)]
          have k1 : cS σ 1 = cS ρ 1 := cS_congr fun a b v1 v2 => oc a b (by omega)
          have hsim' := hsim.put hN8 hok hl g3 y3
          obtain ⟨p1, p2, p3, p4, p5, p6, p7, p8, p9, p10⟩ := hP
          have h17 : am_I σ 54 17 = 0 := (hfσ.1 54 17 (by unfold fNs; omega)).trans p1.2.1.2.1.1.1
          refine ⟨rfl, Inv.mk' (N := N + k) (C := C + 1) (ru := ru) (c := c) ⟨⟨⟨hfσ.cL p1.1.1, (oc 0 2 (by omega)).trans g2, hN8, (hfσ.1 0 3 (by unfold fNs; omega)).trans p1.1.2.2.2.1, hfσ.ruC (fun a b z => by unfold fNs at z; omega) p1.1.2.2.2.2⟩, ⟨⟨hfσ.mLk p1.2.1.1.1, y2, hN8, (hfσ.1 54 2 (by unfold fNs; omega)).trans p1.2.1.1.2.2.2⟩, hfσ.ruM (fun a b z => by unfold fNs at z; omega) h17 p1.2.1.2.1, p1.2.1.2.2⟩, p1.2.2.1.fw hfσ.toW (fun a b z => by unfold fNs at z; omega), p1.2.2.2⟩, by rw [k1]; exact hsim', ⟨by omega, ?_, ?_⟩, p4.fw hfσ.toW (fun a b z => by unfold fNs at z; omega), p5.fw hfσ.toW (fun a b z => by unfold fNs at z; omega), p6.fw hfσ.toW, ⟨0, by omega, (oc 0 21 (by omega)).trans g4, y4, fun k hk => absurd hk (Nat.not_lt_zero k)⟩, fun i hi => ?_, p9.fw hfσ.toW (fun a b z => by unfold fNs at z; omega), by rw [hfσ.2.2.2.2.1]; exact p10⟩ ⟨0, by omega, ?_, ?_⟩ (hRow.fr hfσ (fun a b z => by unfold fNs at z; omega)) hfσ hI' (b4.fwS p6 hfσ.toW (fun a b z => by unfold fNs at z; omega) ?_)⟩
          · rw [oc 0 4 (by omega), g5, hf.1 0 4 (by omega), c2, nI_1]
          · rw [y5, w2.1 54 35 (by omega), g1.1 54 35 (by unfold fNL; omega), hf.1 54 35 (by omega), c3, nI_1]
          · have row : ∀ a, (a = 52 ∨ a = 74 ∨ a = 75 ∨ a = 76) → am_I σ a = am_I μ a := fun a e => funext fun b => hfσ.1 a b (by unfold fNs; omega)
            rw [row 75 (by omega), row 52 (by omega), row 76 (by omega), row 74 (by omega), hfσ.toW.slR]
            rcases p8 i hi with e | ⟨g, q', e1, e2, e3, e4, e5, e6⟩
            · exact Or.inl e
            · exact Or.inr ⟨g, q', e1, e2, e3, e4, by omega, fun z => by omega⟩
          · rw [oc 0 6 (by omega), g1.1 0 6 (by unfold fNL; omega), z2.1 0 6 (by unfold fNC; omega)]; rfl
          · rw [y1.1 54 4 (by omega)]; exact w3
          · obtain ⟨f, v1, v2⟩ := b4.1
            exact ⟨f, by omega, (congrFun k1 81).trans (g3.2.2.2.1.trans v2)⟩
end NPV
