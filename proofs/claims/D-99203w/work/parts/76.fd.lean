/-! feeding: the model's giving -/
set_option maxRecDepth 100000
section FDV
variable {d : Nat} {μ ν ξ : am_M} {K : Option Value → am_M → Prop} {x y z c : Int32} {h h' N C j i k r n M q m t w V p e D sm o : Nat} {v b : Int32} {ru : Option PF} {S a T : Nat → Int32} {g wo : Nat → Bool} {s : Nat → Nat}
theorem nI_subN {a b : Nat} (h : b ≤ a) : nI a - nI b = nI (a - b) := by
  have e : nI a = nI (a - b) + nI b := by rw [nI_add]; congr 1; omega
  rw [e, Int32.sub_eq_add_neg, Int32.add_assoc, Int32.add_right_neg, Int32.add_zero]
theorem nI_min {a b : Nat} (ha : a < 100000) (hb : b < 100000) : (if nI b < nI a then nI b else nI a) = nI (min a b) := by
  by_cases q : b < a
  · rw [if_pos (nI_lt q (by omega)), Nat.min_eq_right (by omega)]
  · rw [if_neg (nI_nlt (by omega) (by omega)), Nat.min_eq_left (by omega)]
/-- one owner gives -/
theorem gvS (hm : mL (am_k ν) (am_R ν)) (hN : am_I ν 54 1 = nI N) (h8 : N ≤ 8) (ho : o < N) (hoi : o ≤ i + 1) (hi : i < 8) (hc : am_I ν 70 o = nI e) (he : e ≤ 9) (hD : D ≤ 30) (hs : sm ≤ 1000)
    (h : am_Wp (d + 1) mX3_givenBy 83 [.ref 54, .int (nI V), .int b, .int (nI (sm + min D e)), .int (nI i), .int (nI (D - min D e)), .int (nI (o + 1)), .int (nI (min D e))] [] (am_sI ν 70 o (nI (e - min D e))) K) (z : Value) :
    am_Wp (d + 1) mX3_givenBy 83 [.ref 54, .int (nI V), .int b, .int (nI sm), .int (nI i), .int (nI D), .int (nI o), z] [] ν K := by
  have hmu := hm
  unfold mL at hmu
  have hin : vp_in (nI o) 8 := vp_in_nI (by omega) (by omega)
  have hcl : (nI o).toNatClampNeg = o := nI_clamp (by omega)
  obtain ⟨N', hN'⟩ : ∃ N', N = N' + 1 := ⟨N - 1, by omega⟩
  have e1 : nI N - 1 = nI N' := by rw [hN', nI_pred]
  have e2 : (if nI (i + 1) < nI N' then nI (i + 1) else nI N') = nI (min N' (i + 1)) := nI_min (by omega) (by omega)
  have hlt : ¬ nI (min N' (i + 1)) < nI o := nI_nlt (by omega) (by omega)
  have e3 : (if nI e < nI D then nI e else nI D) = nI (min D e) := nI_min (by omega) (by omega)
  have e4 : nI e - nI (min D e) = nI (e - min D e) := nI_subN (by omega)
  have e5 : nI D - nI (min D e) = nI (D - min D e) := nI_subN (by omega)
  rw [gX3_givenBy_83]
  simp only [gX3_givenBy_85, gX3_givenBy_86, gX3_givenBy_89, gX3_givenBy_90, gX3_givenBy_91, gX3_givenBy_93, gX3_givenBy_94, gX3_givenBy_95, gX3_givenBy_98, gX3_givenBy_101, gX3_givenBy_103, gX3_givenBy_104, gX3_givenBy_107, gX3_givenBy_109, gX3_givenBy_110, gX3_givenBy_113, gX3_givenBy_115, gX3_givenBy_116, gX3_givenBy_119, gX3_givenBy_121, gX3_givenBy_122, gX3_givenBy_123, gX3_givenBy_125, gX3_givenBy_126, gX3_givenBy_127, gX3_givenBy_129, gX3_givenBy_131, gX3_givenBy_132, gX3_givenBy_134, gX3_givenBy_135, gX3_givenBy_137, gX3_givenBy_138, gX3_givenBy_139, gX3_givenBy_142, am_kill_int, am_kill_ref, am_kill_null, am_kill_F, am_kill_long, am_cat_n, am_cat_i, am_cat_r, am_cat_0, am_cat_l, am_nr_n, am_nr_i, am_nr_r, am_nr_0, am_nr_l, Option.toList_some, Option.toList_none, List.nil_append, List.cons_append, va_rf_s, va_rf_n, am_II, am_I_sR, am_I_sL, am_R_sI, am_RR, am_R_sL, am_L_sI, am_L_sR, am_LL, am_k_sI, am_k_sR, am_k_sL, am_n_sI, am_n_sR, am_n_sL, true_and, and_true, true_or, or_true, or_false, false_or, not_true_eq_false, not_false_eq_true, Nat.reduceLT, am_dS, am_dP, am_d1, Nat.reduceSub, Nat.reduceMul, ne_eq, Nat.reduceBEq, Nat.reduceAdd, Nat.reduceLeDiff, Nat.reduceEqDiff, and_self, and_false, false_and, if_true, if_false, am_nb, am_nb0, am_nb1, am_lc1, am_lc2, am_lc3, am_b0, am_b1, am_10, am_c8, am_c16, am_c24, am_c32, am_c40, am_c48, am_c56, am_c64, am_c72, Nat.add_zero, Bool.false_eq_true, Nat.zero_le, hmu, hN, e1, nI_1, e2, hlt, hin, hcl, hc, e3, e4, e5, nI_add]
  exact h
theorem gvE (hm : mL (am_k ν) (am_R ν)) (hN : am_I ν 54 1 = nI N) (h8 : N ≤ 8) (h1 : 1 ≤ N) (ho : min (N - 1) (i + 1) < o) (ho9 : o ≤ 9) (hi : i < 8) (z z2 : Value)
    (h : am_Wp (d + 1) mX3_givenBy 45 [.ref 54, .int (nI V), .int b, .int (nI sm), .int (nI (i + 1)), z2, .int (nI o), z] [] ν K) :
    am_Wp (d + 1) mX3_givenBy 83 [.ref 54, .int (nI V), .int b, .int (nI sm), .int (nI i), z2, .int (nI o), z] [] ν K := by
  have hmu := hm
  unfold mL at hmu
  obtain ⟨N', hN'⟩ : ∃ N', N = N' + 1 := ⟨N - 1, by omega⟩
  have e1 : nI N - 1 = nI N' := by rw [hN', nI_pred]
  have e2 : (if nI (i + 1) < nI N' then nI (i + 1) else nI N') = nI (min N' (i + 1)) := nI_min (by omega) (by omega)
  have hlt : nI (min N' (i + 1)) < nI o := nI_lt (by omega) (by omega)
  rw [gX3_givenBy_83]
  simp only [gX3_givenBy_85, gX3_givenBy_86, gX3_givenBy_89, gX3_givenBy_90, gX3_givenBy_91, gX3_givenBy_93, gX3_givenBy_94, gX3_givenBy_95, gX3_givenBy_98, gX3_givenBy_145, gX3_givenBy_148, am_kill_int, am_kill_ref, am_kill_null, am_kill_F, am_kill_long, am_cat_n, am_cat_i, am_cat_r, am_cat_0, am_cat_l, am_nr_n, am_nr_i, am_nr_r, am_nr_0, am_nr_l, Option.toList_some, Option.toList_none, List.nil_append, List.cons_append, va_rf_s, va_rf_n, am_II, am_I_sR, am_I_sL, am_R_sI, am_RR, am_R_sL, am_L_sI, am_L_sR, am_LL, am_k_sI, am_k_sR, am_k_sL, am_n_sI, am_n_sR, am_n_sL, true_and, and_true, true_or, or_true, or_false, false_or, not_true_eq_false, not_false_eq_true, Nat.reduceLT, am_dS, am_dP, am_d1, Nat.reduceSub, Nat.reduceMul, ne_eq, Nat.reduceBEq, Nat.reduceAdd, Nat.reduceLeDiff, Nat.reduceEqDiff, and_self, and_false, false_and, if_true, if_false, am_nb, am_nb0, am_nb1, am_lc1, am_lc2, am_lc3, am_b0, am_b1, am_10, am_c8, am_c16, am_c24, am_c32, am_c40, am_c48, am_c56, am_c64, am_c72, Nat.add_zero, Bool.false_eq_true, Nat.zero_le, hmu, hN, e1, nI_1, e2, hlt]
  exact h
theorem fcG_s (y : Nat → Bool) (hy : D = if y i = true then V else 0) : fcG y V s (m + 1) i p q = min D p + min (D - min D p) q + min (D - min D p - min (D - min D p) q) (s (i + 1)) + fcG y V s m (i + 1) (q - min (D - min D p) q) (s (i + 1) - min (D - min D p - min (D - min D p) q) (s (i + 1))) := by
  by_cases f : y i = true
  · rw [if_pos f] at hy
    subst hy
    rw [show fcG y D s (m + 1) i p q = if y i = true then min D p + min (D - min D p) q + min (D - min D p - min (D - min D p) q) (s (i + 1)) + fcG y D s m (i + 1) (q - min (D - min D p) q) (s (i + 1) - min (D - min D p - min (D - min D p) q) (s (i + 1))) else fcG y D s m (i + 1) q (s (i + 1)) from rfl, if_pos f]
  · rw [if_neg f] at hy
    subst hy
    rw [show fcG y V s (m + 1) i p q = if y i = true then min V p + min (V - min V p) q + min (V - min V p - min (V - min V p) q) (s (i + 1)) + fcG y V s m (i + 1) (q - min (V - min V p) q) (s (i + 1) - min (V - min V p - min (V - min V p) q) (s (i + 1))) else fcG y V s m (i + 1) q (s (i + 1)) from rfl, if_neg f]
    simp
theorem gvL (hC : MC N c μ) (hsim : Sim N S (am_I μ 55)) (hV : V ≤ 30) (hst : ∀ n, s n ≤ 9) (hsN : ∀ n, N ≤ n → s n = 0) : ∀ (m i sm p q : Nat) (ν : am_M) (z5 z6 z7 : Value), i + m = N → Fr (fun a _ => a = 70) μ ν → (1 ≤ i → am_I ν 70 (i - 1) = nI p) → (i = 0 → p = 0) → (i < N → am_I ν 70 i = nI q) → (∀ n, i < n → n < N → am_I ν 70 n = nI (s n)) → p ≤ 9 → q ≤ 9 → sm ≤ 90 * i →
    (∀ ξ, Fr (fun a _ => a = 70) μ ξ → K (some (.int (nI (sm + fcG (fun n => decide (n < N) && gF 2 S n) V s m i p q)))) ξ) →
    am_Wp (d + 1) mX3_givenBy 45 [.ref 54, .int (nI V), .int b, .int (nI sm), .int (nI i), z5, z6, z7] [] ν K
  | 0, i, sm, p, q, ν, z5, z6, z7, hi, hF, h1, h0, h2, h3, h4, h5, h6, hK => by
    have e : i = N := hi
    have hC1 := hC.fr hF (fun a b e => by show ¬ _; omega)
    have hmu := hC1.1
    unfold mL at hmu
    have hN := hC1.2.1
    rw [gX3_givenBy_45]
    simp only [gX3_givenBy_47, gX3_givenBy_48, gX3_givenBy_51, gX3_givenBy_151, gX3_givenBy_152, am_kill_int, am_kill_ref, am_kill_null, am_kill_F, am_kill_long, am_cat_n, am_cat_i, am_cat_r, am_cat_0, am_cat_l, am_nr_n, am_nr_i, am_nr_r, am_nr_0, am_nr_l, Option.toList_some, Option.toList_none, List.nil_append, List.cons_append, va_rf_s, va_rf_n, am_II, am_I_sR, am_I_sL, am_R_sI, am_RR, am_R_sL, am_L_sI, am_L_sR, am_LL, am_k_sI, am_k_sR, am_k_sL, am_n_sI, am_n_sR, am_n_sL, true_and, and_true, true_or, or_true, or_false, false_or, not_true_eq_false, not_false_eq_true, Nat.reduceLT, am_dS, am_dP, am_d1, Nat.reduceSub, Nat.reduceMul, ne_eq, Nat.reduceBEq, Nat.reduceAdd, Nat.reduceLeDiff, Nat.reduceEqDiff, and_self, and_false, false_and, if_true, if_false, am_nb, am_nb0, am_nb1, am_lc1, am_lc2, am_lc3, am_b0, am_b1, am_10, am_c8, am_c16, am_c24, am_c32, am_c40, am_c48, am_c56, am_c64, am_c72, Nat.add_zero, Bool.false_eq_true, Nat.zero_le, hmu, hN, e, Int32.le_refl]
    exact hK ν hF
  | m + 1, i, sm, p, q, ν, z5, z6, z7, hi, hF, h1, h0, h2, h3, h4, h5, h6, hK => by
    have hC1 := hC.fr hF (fun a b e => by show ¬ _; omega)
    have hm := hC1.1
    have hmu := hC1.1
    unfold mL at hmu
    have hN := hC1.2.1
    have h8 := hC1.2.2.1
    have hiN : i < N := by omega
    have hlt : ¬ nI N ≤ nI i := nI_ge hiN (by omega)
    have r55 : am_I ν 55 = am_I μ 55 := funext fun b => hF.1 55 b (fun e => absurd (show (55 : Nat) = 70 from e) (by decide))
    have hyy : (yM (am_I ν 55) i = true) = (gF 2 S i = true) := by
      rw [r55]
      unfold yM gF
      rw [← hsim.r6 hiN]
      rcases hsim.gu hiN with w | w | w <;> rw [w] <;> decide
    obtain ⟨D, hD⟩ : ∃ D, D = if (decide (i < N) && gF 2 S i) = true then V else 0 := ⟨_, rfl⟩
    have hD30 : D ≤ 30 := by rw [hD]; split <;> omega
    have hstep := fcG_s (m := m) (p := p) (q := q) (s := s) (V := V) (fun n => decide (n < N) && gF 2 S n) hD
    have eD : (if gF 2 S i = true then nI V else 0) = nI D := by
      rw [hD, decide_eq_true hiN, Bool.true_and]
      split <;> rfl
    have hyo := fun K => wX3_young (d := d) (K := K) hC1
    have start : ∀ z5 z6 z7, am_Wp (d + 1) mX3_givenBy 83 [.ref 54, .int (nI V), .int b, .int (nI sm), .int (nI i), .int (nI D), .int (nI (i - 1)), z7] [] ν K → am_Wp (d + 1) mX3_givenBy 45 [.ref 54, .int (nI V), .int b, .int (nI sm), .int (nI i), z5, z6, z7] [] ν K := fun z5 z6 z7 hh => by
      rw [gX3_givenBy_45]
      simp only [gX3_givenBy_47, gX3_givenBy_48, gX3_givenBy_51, gX3_givenBy_54, gX3_givenBy_55, am_kill_int, am_kill_ref, am_kill_null, am_kill_F, am_kill_long, am_cat_n, am_cat_i, am_cat_r, am_cat_0, am_cat_l, am_nr_n, am_nr_i, am_nr_r, am_nr_0, am_nr_l, Option.toList_some, Option.toList_none, List.nil_append, List.cons_append, va_rf_s, va_rf_n, am_II, am_I_sR, am_I_sL, am_R_sI, am_RR, am_R_sL, am_L_sI, am_L_sR, am_LL, am_k_sI, am_k_sR, am_k_sL, am_n_sI, am_n_sR, am_n_sL, true_and, and_true, true_or, or_true, or_false, false_or, not_true_eq_false, not_false_eq_true, Nat.reduceLT, am_dS, am_dP, am_d1, Nat.reduceSub, Nat.reduceMul, ne_eq, Nat.reduceBEq, Nat.reduceAdd, Nat.reduceLeDiff, Nat.reduceEqDiff, and_self, and_false, false_and, if_true, if_false, am_nb, am_nb0, am_nb1, am_lc1, am_lc2, am_lc3, am_b0, am_b1, am_10, am_c8, am_c16, am_c24, am_c32, am_c40, am_c48, am_c56, am_c64, am_c72, Nat.add_zero, Bool.false_eq_true, Nat.zero_le, hmu, hN, hlt]
      rw [hyo]
      have eo : (if 0 < nI i - 1 then nI i - 1 else 0) = nI (i - 1) := by
        cases i with
        | zero => decide
        | succ i =>
          rw [nI_pred, Nat.add_sub_cancel]
          by_cases f : 0 < i
          · rw [if_pos (by rw [← nI_0]; exact nI_lt f (by omega))]
          · have : i = 0 := by omega
            subst this
            decide
      by_cases f : gF 2 S i = true
      · rw [if_pos f] at eD
        simp only [gX3_givenBy_58, gX3_givenBy_60, gX3_givenBy_63, gX3_givenBy_66, gX3_givenBy_67, gX3_givenBy_70, gX3_givenBy_71, gX3_givenBy_73, gX3_givenBy_74, gX3_givenBy_76, gX3_givenBy_77, gX3_givenBy_78, gX3_givenBy_81, am_kill_int, am_kill_ref, am_kill_null, am_kill_F, am_kill_long, am_cat_n, am_cat_i, am_cat_r, am_cat_0, am_cat_l, am_nr_n, am_nr_i, am_nr_r, am_nr_0, am_nr_l, Option.toList_some, Option.toList_none, List.nil_append, List.cons_append, va_rf_s, va_rf_n, am_II, am_I_sR, am_I_sL, am_R_sI, am_RR, am_R_sL, am_L_sI, am_L_sR, am_LL, am_k_sI, am_k_sR, am_k_sL, am_n_sI, am_n_sR, am_n_sL, true_and, and_true, true_or, or_true, or_false, false_or, not_true_eq_false, not_false_eq_true, Nat.reduceLT, am_dS, am_dP, am_d1, Nat.reduceSub, Nat.reduceMul, ne_eq, Nat.reduceBEq, Nat.reduceAdd, Nat.reduceLeDiff, Nat.reduceEqDiff, and_self, and_false, false_and, if_true, if_false, am_nb, am_nb0, am_nb1, am_lc1, am_lc2, am_lc3, am_b0, am_b1, am_10, am_c8, am_c16, am_c24, am_c32, am_c40, am_c48, am_c56, am_c64, am_c72, Nat.add_zero, Bool.false_eq_true, Nat.zero_le, wX3_has, orB_has h8 hiN, hyy, f, eo]
        rw [← eD] at hh
        exact hh
      · rw [if_neg f] at eD
        simp only [gX3_givenBy_58, gX3_givenBy_60, gX3_givenBy_63, gX3_givenBy_66, gX3_givenBy_67, gX3_givenBy_70, gX3_givenBy_71, gX3_givenBy_73, gX3_givenBy_74, gX3_givenBy_76, gX3_givenBy_77, gX3_givenBy_78, gX3_givenBy_81, am_kill_int, am_kill_ref, am_kill_null, am_kill_F, am_kill_long, am_cat_n, am_cat_i, am_cat_r, am_cat_0, am_cat_l, am_nr_n, am_nr_i, am_nr_r, am_nr_0, am_nr_l, Option.toList_some, Option.toList_none, List.nil_append, List.cons_append, va_rf_s, va_rf_n, am_II, am_I_sR, am_I_sL, am_R_sI, am_RR, am_R_sL, am_L_sI, am_L_sR, am_LL, am_k_sI, am_k_sR, am_k_sL, am_n_sI, am_n_sR, am_n_sL, true_and, and_true, true_or, or_true, or_false, false_or, not_true_eq_false, not_false_eq_true, Nat.reduceLT, am_dS, am_dP, am_d1, Nat.reduceSub, Nat.reduceMul, ne_eq, Nat.reduceBEq, Nat.reduceAdd, Nat.reduceLeDiff, Nat.reduceEqDiff, and_self, and_false, false_and, if_true, if_false, am_nb, am_nb0, am_nb1, am_lc1, am_lc2, am_lc3, am_b0, am_b1, am_10, am_c8, am_c16, am_c24, am_c32, am_c40, am_c48, am_c56, am_c64, am_c72, Nat.add_zero, Bool.false_eq_true, Nat.zero_le, wX3_has, orB_has h8 hiN, hyy, f, eo]
        rw [← eD] at hh
        exact hh
    rw [hstep] at hK
    have hr9 := hst (i + 1)
    -- the last taking and the way on
    have fin : ∀ (ν2 : am_M) (sm2 D2 q2 : Nat) (z : Value), Fr (fun a _ => a = 70) μ ν2 → am_I ν2 70 i = nI q2 → (∀ n, i < n → n < N → am_I ν2 70 n = nI (s n)) → D2 ≤ 30 → q2 ≤ 9 → sm2 ≤ 90 * i + 60 →
        (∀ ξ, Fr (fun a _ => a = 70) μ ξ → K (some (.int (nI (sm2 + min D2 (s (i + 1)) + fcG (fun n => decide (n < N) && gF 2 S n) V s m (i + 1) q2 (s (i + 1) - min D2 (s (i + 1))))))) ξ) →
        am_Wp (d + 1) mX3_givenBy 83 [.ref 54, .int (nI V), .int b, .int (nI sm2), .int (nI i), .int (nI D2), .int (nI (i + 1)), z] [] ν2 K := fun ν2 sm2 D2 q2 z hF2 hc2 hr2 hD2 hq2 hs2 hK2 => by
      have hC2 := hC.fr hF2 (fun a b e => by show ¬ _; omega)
      by_cases f : i + 1 < N
      · refine gvS hC2.1 hC2.2.1 h8 f (Nat.le_refl _) (by omega) (hr2 (i + 1) (by omega) f) hr9 hD2 (by omega) ?_ z
        have hF3 : Fr (fun a _ => a = 70) μ (am_sI ν2 70 (i + 1) (nI (s (i + 1) - min D2 (s (i + 1))))) := Fr.I hF2 rfl
        have hC3 := hC.fr hF3 (fun a b e => by show ¬ _; omega)
        refine gvE hC3.1 hC3.2.1 h8 (by omega) (by omega) (by omega) (by omega) _ _ ?_
        refine gvL hC hsim hV hst hsN m (i + 1) _ q2 (s (i + 1) - min D2 (s (i + 1))) _ _ _ _ (by omega) hF3 (fun _ => ?_) (fun e => absurd e (by omega)) (fun _ => ?_) (fun n hn1 hn2 => ?_) hq2 (by omega) (by omega) hK2
        · rw [am_I_sI, if_neg (by omega)]; exact hc2
        · rw [am_I_sI, if_pos ⟨rfl, rfl⟩]
        · rw [am_I_sI, if_neg (by omega)]; exact hr2 n (by omega) hn2
      · have hs0 : s (i + 1) = 0 := hsN _ (by omega)
        rw [hs0] at hK2
        refine gvE hC2.1 hC2.2.1 h8 (by omega) (by omega) (by omega) (by omega) _ _ ?_
        refine gvL hC hsim hV hst hsN m (i + 1) sm2 q2 0 ν2 _ _ _ (by omega) hF2 (fun _ => hc2) (fun e => absurd e (by omega)) (fun e => absurd e (by omega)) (fun n hn1 hn2 => absurd hn2 (by omega)) hq2 (by omega) (by omega) ?_
        rw [Nat.min_zero, Nat.add_zero, Nat.sub_zero] at hK2
        exact hK2
    refine start _ _ _ ?_
    by_cases f0 : i = 0
    · subst f0
      have hp0 := h0 rfl
      subst hp0
      refine gvS hm hN h8 hiN (by omega) (by omega) (h2 hiN) h5 hD30 (by omega) ?_ _
      refine fin _ _ _ (q - min D q) _ (Fr.I hF rfl) (by rw [am_I_sI, if_pos ⟨rfl, rfl⟩]) (fun n hn1 hn2 => by rw [am_I_sI, if_neg (by omega)]; exact h3 n hn1 hn2) (by omega) (by omega) (by omega) ?_
      simp only [Nat.min_zero, Nat.sub_zero, Nat.zero_add] at hK
      intro ξ hξ
      have := hK ξ hξ
      rw [show sm + (min D q + min (D - min D q) (s (0 + 1)) + fcG (fun n => decide (n < N) && gF 2 S n) V s m (0 + 1) (q - min D q) (s (0 + 1) - min (D - min D q) (s (0 + 1)))) = sm + min D q + min (D - min D q) (s (0 + 1)) + fcG (fun n => decide (n < N) && gF 2 S n) V s m (0 + 1) (q - min D q) (s (0 + 1) - min (D - min D q) (s (0 + 1))) by omega] at this
      exact this
    · have e1 : i - 1 + 1 = i := by omega
      refine gvS hm hN h8 (by omega) (by omega) (by omega) (h1 (by omega)) h4 hD30 (by omega) ?_ _
      rw [e1]
      have hF2 : Fr (fun a _ => a = 70) μ (am_sI ν 70 (i - 1) (nI (p - min D p))) := Fr.I hF rfl
      have hC2 := hC.fr hF2 (fun a b e => by show ¬ _; omega)
      refine gvS hC2.1 hC2.2.1 h8 hiN (by omega) (by omega) (by rw [am_I_sI, if_neg (by omega)]; exact h2 hiN) h5 (by omega) (by omega) ?_ _
      refine fin _ _ _ (q - min (D - min D p) q) _ (Fr.I hF2 rfl) (by rw [am_I_sI, if_pos ⟨rfl, rfl⟩]) (fun n hn1 hn2 => by rw [am_I_sI, if_neg (by omega), am_I_sI, if_neg (by omega)]; exact h3 n hn1 hn2) (by omega) (by omega) (by omega) ?_
      intro ξ hξ
      have := hK ξ hξ
      rw [show ∀ A B C E : Nat, sm + (A + B + C + E) = sm + A + B + C + E from fun A B C E => by omega] at this
      exact this
theorem wX3_givenBy (hC : MC N c μ) (hsim : Sim N S (am_I μ 55)) (hV : V ≤ 30) (hb : ∀ n, n < N → (nI n = b) = (wo n = true)) (hK : ∀ ν, Fr (fun a _ => a = 70) μ ν → K (some (.int (nI (gvF N V S wo)))) ν) :
    am_Wp (d + 1) mX3_givenBy 0 [.ref 54, .int (nI V), .int b, am_F, am_F, am_F, am_F, am_F] [] μ K := by
  have h8 := hC.2.2.1
  have hst : ∀ n, stF N S wo n ≤ 9 := fun n => stF_le hsim
  simp only [gX3_givenBy_0, gX3_givenBy_1, am_kill_int, am_kill_ref, am_kill_null, am_kill_F, am_kill_long, am_cat_n, am_cat_i, am_cat_r, am_cat_0, am_cat_l, am_nr_n, am_nr_i, am_nr_r, am_nr_0, am_nr_l, Option.toList_some, Option.toList_none, List.nil_append, List.cons_append, va_rf_s, va_rf_n, am_II, am_I_sR, am_I_sL, am_R_sI, am_RR, am_R_sL, am_L_sI, am_L_sR, am_LL, am_k_sI, am_k_sR, am_k_sL, am_n_sI, am_n_sR, am_n_sL, true_and, and_true, true_or, or_true, or_false, false_or, not_true_eq_false, not_false_eq_true, Nat.reduceLT, am_dS, am_dP, am_d1, Nat.reduceSub, Nat.reduceMul, ne_eq, Nat.reduceBEq, Nat.reduceAdd, Nat.reduceLeDiff, Nat.reduceEqDiff, and_self, and_false, false_and, if_true, if_false, am_nb, am_nb0, am_nb1, am_lc1, am_lc2, am_lc3, am_b0, am_b1, am_10, am_c8, am_c16, am_c24, am_c32, am_c40, am_c48, am_c56, am_c64, am_c72, Nat.add_zero, Bool.false_eq_true, Nat.zero_le]
  refine am_for (N := N) (fun n ls ν => ls = [.ref 54, .int (nI V), .int b, .int (nI n), am_F, am_F, am_F, am_F] ∧ Fr (fun a _ => a = 70) μ ν ∧ ∀ k, k < n → am_I ν 70 k = nI (stF N S wo k)) ?_ ?_ N 0 _ _ (by omega) ⟨rfl, Fr.refl, fun k hk => absurd hk (Nat.not_lt_zero k)⟩
  · rintro n ls ν hn ⟨rfl, hF, hc⟩ ih
    have hC1 := hC.fr hF (fun a b e => by show ¬ _; omega)
    have hmu := hC1.1
    unfold mL at hmu
    have hN := hC1.2.1
    have hlt : ¬ nI N ≤ nI n := nI_ge hn (by omega)
    have hin : vp_in (nI n) 8 := vp_in_nI (by omega) (by omega)
    have hcl : (nI n).toNatClampNeg = n := nI_clamp (by omega)
    have hv : vp_in (nI (8 + n)) 83 := vp_in_nI (by omega) (by omega)
    have hc8 : (nI (8 + n)).toNatClampNeg = 8 + n := nI_clamp (by omega)
    have r55 : am_I ν 55 (8 + n) = nI (S (8 + n)).toNatClampNeg := by
      rw [hF.1 55 (8 + n) (fun e => absurd (show (55 : Nat) = 70 from e) (by decide)), ← hsim.r1 hn]
      exact (hsim.st hn).2
    have fin : ∀ x, x = nI (stF N S wo n) → am_Wp (d + 1) mX3_givenBy 2 [.ref 54, .int (nI V), .int b, .int (nI (n + 1)), am_F, am_F, am_F, am_F] [] (am_sI ν 70 n x) K := fun x hx => by
      refine ih _ _ ⟨rfl, Fr.I hF rfl, fun k hk => ?_⟩
      by_cases f : k = n
      · subst f; rw [am_I_sI, if_pos ⟨rfl, rfl⟩]; exact hx
      · rw [am_I_sI, if_neg (by omega)]; exact hc k (by omega)
    have hbn := hb n hn
    rw [gX3_givenBy_2]
    by_cases f : wo n = true
    · have f' : nI n = b := by rw [hbn]; exact f
      subst f'
      simp only [gX3_givenBy_3, gX3_givenBy_4, gX3_givenBy_7, gX3_givenBy_10, gX3_givenBy_11, gX3_givenBy_14, gX3_givenBy_15, gX3_givenBy_16, gX3_givenBy_17, gX3_givenBy_20, gX3_givenBy_21, gX3_givenBy_24, gX3_givenBy_25, gX3_givenBy_28, gX3_givenBy_30, gX3_givenBy_31, gX3_givenBy_32, gX3_givenBy_33, gX3_givenBy_34, gX3_givenBy_37, am_kill_int, am_kill_ref, am_kill_null, am_kill_F, am_kill_long, am_cat_n, am_cat_i, am_cat_r, am_cat_0, am_cat_l, am_nr_n, am_nr_i, am_nr_r, am_nr_0, am_nr_l, Option.toList_some, Option.toList_none, List.nil_append, List.cons_append, va_rf_s, va_rf_n, am_II, am_I_sR, am_I_sL, am_R_sI, am_RR, am_R_sL, am_L_sI, am_L_sR, am_LL, am_k_sI, am_k_sR, am_k_sL, am_n_sI, am_n_sR, am_n_sL, true_and, and_true, true_or, or_true, or_false, false_or, not_true_eq_false, not_false_eq_true, Nat.reduceLT, am_dS, am_dP, am_d1, Nat.reduceSub, Nat.reduceMul, ne_eq, Nat.reduceBEq, Nat.reduceAdd, Nat.reduceLeDiff, Nat.reduceEqDiff, and_self, and_false, false_and, if_true, if_false, am_nb, am_nb0, am_nb1, am_lc1, am_lc2, am_lc3, am_b0, am_b1, am_10, am_c8, am_c16, am_c24, am_c32, am_c40, am_c48, am_c56, am_c64, am_c72, Nat.add_zero, Bool.false_eq_true, Nat.zero_le, hmu, hN, hlt, hin, hcl, eq_self, nI_1]
      exact fin 0 (by unfold stF; rw [if_neg (fun e => by rw [e.2] at f; exact absurd f (by decide))]; rfl)
    · have f' : ¬ nI n = b := by rw [hbn]; exact f
      simp only [gX3_givenBy_3, gX3_givenBy_4, gX3_givenBy_7, gX3_givenBy_10, gX3_givenBy_11, gX3_givenBy_14, gX3_givenBy_15, gX3_givenBy_16, gX3_givenBy_17, gX3_givenBy_20, gX3_givenBy_21, gX3_givenBy_24, gX3_givenBy_25, gX3_givenBy_28, gX3_givenBy_30, gX3_givenBy_31, gX3_givenBy_32, gX3_givenBy_33, gX3_givenBy_34, gX3_givenBy_37, am_kill_int, am_kill_ref, am_kill_null, am_kill_F, am_kill_long, am_cat_n, am_cat_i, am_cat_r, am_cat_0, am_cat_l, am_nr_n, am_nr_i, am_nr_r, am_nr_0, am_nr_l, Option.toList_some, Option.toList_none, List.nil_append, List.cons_append, va_rf_s, va_rf_n, am_II, am_I_sR, am_I_sL, am_R_sI, am_RR, am_R_sL, am_L_sI, am_L_sR, am_LL, am_k_sI, am_k_sR, am_k_sL, am_n_sI, am_n_sR, am_n_sL, true_and, and_true, true_or, or_true, or_false, false_or, not_true_eq_false, not_false_eq_true, Nat.reduceLT, am_dS, am_dP, am_d1, Nat.reduceSub, Nat.reduceMul, ne_eq, Nat.reduceBEq, Nat.reduceAdd, Nat.reduceLeDiff, Nat.reduceEqDiff, and_self, and_false, false_and, if_true, if_false, am_nb, am_nb0, am_nb1, am_lc1, am_lc2, am_lc3, am_b0, am_b1, am_10, am_c8, am_c16, am_c24, am_c32, am_c40, am_c48, am_c56, am_c64, am_c72, Nat.add_zero, Bool.false_eq_true, Nat.zero_le, hmu, hN, hlt, hin, hcl, hv, hc8, f', r55, nI_1]
      exact fin _ (by unfold stF; rw [if_pos ⟨hn, eq_false_of_ne_true f⟩])
  · rintro ls ν ⟨rfl, hF, hc⟩
    have hC1 := hC.fr hF (fun a b e => by show ¬ _; omega)
    have hmu := hC1.1
    unfold mL at hmu
    have hN := hC1.2.1
    rw [gX3_givenBy_2]
    simp only [gX3_givenBy_3, gX3_givenBy_4, gX3_givenBy_7, gX3_givenBy_40, gX3_givenBy_41, gX3_givenBy_42, gX3_givenBy_43, am_kill_int, am_kill_ref, am_kill_null, am_kill_F, am_kill_long, am_cat_n, am_cat_i, am_cat_r, am_cat_0, am_cat_l, am_nr_n, am_nr_i, am_nr_r, am_nr_0, am_nr_l, Option.toList_some, Option.toList_none, List.nil_append, List.cons_append, va_rf_s, va_rf_n, am_II, am_I_sR, am_I_sL, am_R_sI, am_RR, am_R_sL, am_L_sI, am_L_sR, am_LL, am_k_sI, am_k_sR, am_k_sL, am_n_sI, am_n_sR, am_n_sL, true_and, and_true, true_or, or_true, or_false, false_or, not_true_eq_false, not_false_eq_true, Nat.reduceLT, am_dS, am_dP, am_d1, Nat.reduceSub, Nat.reduceMul, ne_eq, Nat.reduceBEq, Nat.reduceAdd, Nat.reduceLeDiff, Nat.reduceEqDiff, and_self, and_false, false_and, if_true, if_false, am_nb, am_nb0, am_nb1, am_lc1, am_lc2, am_lc3, am_b0, am_b1, am_10, am_c8, am_c16, am_c24, am_c32, am_c40, am_c48, am_c56, am_c64, am_c72, Nat.add_zero, Bool.false_eq_true, Nat.zero_le, hmu, hN, Int32.le_refl]
    rw [← nI_0]
    refine gvL hC hsim hV hst (fun n hn => by unfold stF; rw [if_neg (by omega)]) N 0 0 0 (stF N S wo 0) ν _ _ _ (by omega) hF (fun e => absurd e (by omega)) (fun _ => rfl) (fun e => hc 0 e) (fun n _ hn => hc n hn) (by omega) (hst 0) (by omega) (fun ξ hξ => ?_)
    rw [Nat.zero_add]
    exact hK ξ hξ
end FDV
