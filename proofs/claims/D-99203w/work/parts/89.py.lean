/-! the model remembers a row -/
set_option maxRecDepth 100000
section PYV
variable {d : Nat} {μ ν ξ : am_M} {K : Option Value → am_M → Prop} {x y z c w : Int32} {h N C j i k r M b q t u : Nat} {v : Int32} {ru : Option PF} {F G : Nat → Nat → Prop} {S T row a a' : Nat → Int32} {p : Int64}
/-- a stack of twelve with one more put by -/
def stN (u : Nat) (f : Nat → Nat → Int32) (g : Nat → Int32) (k i : Nat) : Int32 := if u = 12 then (if k < 11 then f (k + 1) i else g i) else if k = u then g i else f k i
def upN (u : Nat) : Nat := if u = 12 then 12 else u + 1
def jR (a b : Nat) : Prop := a = 62 ∨ (a = 54 ∧ b = 20)
theorem rem_t (hm : mL (am_k μ) (am_R μ)) (hu : am_I μ 54 20 = nI u) (h11 : u < 12) (hk : am_k μ h = (10, 83)) (hh : h ≠ 62) (hK : ∀ ν, Fr jR μ ν → am_I ν 54 20 = nI (u + 1) → (∀ i, i < 83 → am_I ν 62 (83 * u + i) = am_I μ h i) → (∀ j, j < 83 * u → am_I ν 62 j = am_I μ 62 j) → K none ν) (z : Value) :
    am_Wp (d + 1) mX3_remember 49 [.ref 54, .ref h, z] [] μ K := by
  have hmu := hm
  unfold mL at hmu
  have e : (83 : Int32) * nI u = nI (83 * u) := nI83
  simp only [gX3_remember_49, gX3_remember_49n, gX3_remember_50, gX3_remember_51, gX3_remember_54, gX3_remember_56, gX3_remember_57, gX3_remember_60, gX3_remember_61, am_kill_int, am_kill_ref, am_kill_null, am_kill_F, am_kill_long, am_cat_n, am_cat_i, am_cat_r, am_cat_0, am_cat_l, am_nr_n, am_nr_i, am_nr_r, am_nr_0, am_nr_l, Option.toList_some, Option.toList_none, List.nil_append, List.cons_append, va_rf_s, va_rf_n, am_II, am_I_sR, am_I_sL, am_R_sI, am_RR, am_R_sL, am_L_sI, am_L_sR, am_LL, am_k_sI, am_k_sR, am_k_sL, am_n_sI, am_n_sR, am_n_sL, true_and, and_true, true_or, or_true, or_false, false_or, not_true_eq_false, not_false_eq_true, Nat.reduceLT, am_dS, am_dP, am_d1, Nat.reduceSub, Nat.reduceMul, ne_eq, Nat.reduceBEq, Nat.reduceAdd, Nat.reduceLeDiff, Nat.reduceEqDiff, and_self, and_false, false_and, if_true, if_false, am_nb, am_nb0, am_nb1, am_lc1, am_lc2, am_lc3, am_b0, am_b1, am_10, am_c8, am_c16, am_c24, am_c32, am_c40, am_c48, am_c56, am_c64, am_c72, Nat.add_zero, Bool.false_eq_true, Nat.zero_le, hmu, hu, e]
  refine wX3_lay0 (d := d) (L := 996) (k := 83 * u) hk hmu.1.2.2.2.2.2.2.2.2.1 (by omega) (by decide) hh (fun ν hF hT => ?_)
  have hF' : Fr jR μ ν := hF.le fun a b q => Or.inl q.1
  have hmν := hF'.mLk hm
  unfold mL at hmν
  have hu' : am_I ν 54 20 = nI u := (hF.1 54 20 (fun e => absurd e.1 (by decide))).trans hu
  simp only [gX3_remember_64, gX3_remember_65, gX3_remember_66, gX3_remember_69, gX3_remember_70, gX3_remember_71, gX3_remember_74, am_kill_int, am_kill_ref, am_kill_null, am_kill_F, am_kill_long, am_cat_n, am_cat_i, am_cat_r, am_cat_0, am_cat_l, am_nr_n, am_nr_i, am_nr_r, am_nr_0, am_nr_l, Option.toList_some, Option.toList_none, List.nil_append, List.cons_append, va_rf_s, va_rf_n, am_II, am_I_sR, am_I_sL, am_R_sI, am_RR, am_R_sL, am_L_sI, am_L_sR, am_LL, am_k_sI, am_k_sR, am_k_sL, am_n_sI, am_n_sR, am_n_sL, true_and, and_true, true_or, or_true, or_false, false_or, not_true_eq_false, not_false_eq_true, Nat.reduceLT, am_dS, am_dP, am_d1, Nat.reduceSub, Nat.reduceMul, ne_eq, Nat.reduceBEq, Nat.reduceAdd, Nat.reduceLeDiff, Nat.reduceEqDiff, and_self, and_false, false_and, if_true, if_false, am_nb, am_nb0, am_nb1, am_lc1, am_lc2, am_lc3, am_b0, am_b1, am_10, am_c8, am_c16, am_c24, am_c32, am_c40, am_c48, am_c56, am_c64, am_c72, Nat.add_zero, Bool.false_eq_true, Nat.zero_le, hmν, hu', nI_1]
  refine hK _ (Fr.I hF' (Or.inr ⟨rfl, rfl⟩)) (by rw [am_I_sI, if_pos ⟨rfl, rfl⟩]) (fun i hi => ?_) (fun j hj => ?_)
  · rw [am_I_sI, if_neg (by omega)]; exact hT i hi
  · rw [am_I_sI, if_neg (by omega)]; exact hF.1 62 j (fun e => by have := e.2.1; omega)
theorem wX3_remember (hm : mL (am_k μ) (am_R μ)) (hu : am_I μ 54 20 = nI u) (h12 : u ≤ 12) (hk : am_k μ h = (10, 83)) (hh : h ≠ 62) (h54 : h ≠ 54) (hK : ∀ ν, Fr jR μ ν → am_I ν 54 20 = nI (upN u) → (∀ k i, k < upN u → i < 83 → am_I ν 62 (83 * k + i) = stN u (fun k i => am_I μ 62 (83 * k + i)) (am_I μ h) k i) → K none ν) :
    am_Wp (d + 1) mX3_remember 0 [.ref 54, .ref h, am_F] [] μ K := by
  have hmu := hm
  unfold mL at hmu
  by_cases f : u = 12
  · have e12 : nI u = 12 := by rw [f]; rfl
    have e913 : (913 : Int32) = nI 913 := rfl
    simp only [gX3_remember_0, gX3_remember_1, gX3_remember_4, gX3_remember_6, gX3_remember_9, gX3_remember_10, am_kill_int, am_kill_ref, am_kill_null, am_kill_F, am_kill_long, am_cat_n, am_cat_i, am_cat_r, am_cat_0, am_cat_l, am_nr_n, am_nr_i, am_nr_r, am_nr_0, am_nr_l, Option.toList_some, Option.toList_none, List.nil_append, List.cons_append, va_rf_s, va_rf_n, am_II, am_I_sR, am_I_sL, am_R_sI, am_RR, am_R_sL, am_L_sI, am_L_sR, am_LL, am_k_sI, am_k_sR, am_k_sL, am_n_sI, am_n_sR, am_n_sL, true_and, and_true, true_or, or_true, or_false, false_or, not_true_eq_false, not_false_eq_true, Nat.reduceLT, am_dS, am_dP, am_d1, Nat.reduceSub, Nat.reduceMul, ne_eq, Nat.reduceBEq, Nat.reduceAdd, Nat.reduceLeDiff, Nat.reduceEqDiff, and_self, and_false, false_and, if_true, if_false, am_nb, am_nb0, am_nb1, am_lc1, am_lc2, am_lc3, am_b0, am_b1, am_10, am_c8, am_c16, am_c24, am_c32, am_c40, am_c48, am_c56, am_c64, am_c72, Nat.add_zero, Bool.false_eq_true, Nat.zero_le, hmu, hu, e12]
    refine am_for (N := 913) (fun k ls ν => ls = [.ref 54, .ref h, .int (nI k)] ∧ Fr (fun a _ => a = 62) μ ν ∧ (∀ j, j < k → am_I ν 62 j = am_I μ 62 (j + 83)) ∧ ∀ j, k ≤ j → am_I ν 62 j = am_I μ 62 j) ?_ ?_ 913 0 _ _ (by omega) ⟨rfl, Fr.refl, fun j hj => absurd hj (Nat.not_lt_zero j), fun j _ => rfl⟩
    · rintro k ls ν hk' ⟨rfl, hF, h1, h2⟩ ih
      have hmν := hF.mLk hm
      unfold mL at hmν
      have hlt : ¬ nI 913 ≤ nI k := nI_ge hk' (by omega)
      have hv : vp_in (nI k) 996 := vp_in_nI (by omega) (by omega)
      have hck : (nI k).toNatClampNeg = k := nI_clamp (by omega)
      have hv2 : vp_in (nI (k + 83)) 996 := vp_in_nI (by omega) (by omega)
      have hck2 : (nI (k + 83)).toNatClampNeg = k + 83 := nI_clamp (by omega)
      have ek : nI k + 83 = nI (k + 83) := by rw [show (83 : Int32) = nI 83 from rfl, nI_add]
      rw [gX3_remember_11]
      simp only [gX3_remember_12, gX3_remember_15, gX3_remember_18, gX3_remember_19, gX3_remember_22, gX3_remember_23, gX3_remember_24, gX3_remember_27, gX3_remember_28, gX3_remember_30, gX3_remember_31, gX3_remember_32, gX3_remember_33, gX3_remember_36, am_kill_int, am_kill_ref, am_kill_null, am_kill_F, am_kill_long, am_cat_n, am_cat_i, am_cat_r, am_cat_0, am_cat_l, am_nr_n, am_nr_i, am_nr_r, am_nr_0, am_nr_l, Option.toList_some, Option.toList_none, List.nil_append, List.cons_append, va_rf_s, va_rf_n, am_II, am_I_sR, am_I_sL, am_R_sI, am_RR, am_R_sL, am_L_sI, am_L_sR, am_LL, am_k_sI, am_k_sR, am_k_sL, am_n_sI, am_n_sR, am_n_sL, true_and, and_true, true_or, or_true, or_false, false_or, not_true_eq_false, not_false_eq_true, Nat.reduceLT, am_dS, am_dP, am_d1, Nat.reduceSub, Nat.reduceMul, ne_eq, Nat.reduceBEq, Nat.reduceAdd, Nat.reduceLeDiff, Nat.reduceEqDiff, and_self, and_false, false_and, if_true, if_false, am_nb, am_nb0, am_nb1, am_lc1, am_lc2, am_lc3, am_b0, am_b1, am_10, am_c8, am_c16, am_c24, am_c32, am_c40, am_c48, am_c56, am_c64, am_c72, Nat.add_zero, Bool.false_eq_true, Nat.zero_le, hmν, e913, hlt, ek, hv, hck, hv2, hck2, nI_1]
      refine ih _ _ ⟨rfl, Fr.I hF rfl, fun j hj => ?_, fun j hj => ?_⟩
      · by_cases e : j = k
        · subst e; rw [am_I_sI, if_pos ⟨rfl, rfl⟩]; exact h2 _ (by omega)
        · rw [am_I_sI, if_neg (by omega)]; exact h1 j (by omega)
      · rw [am_I_sI, if_neg (by omega)]; exact h2 j (by omega)
    · rintro ls ν ⟨rfl, hF, h1, h2⟩
      have hmν := hF.mLk hm
      unfold mL at hmν
      have hu' : am_I ν 54 20 = nI (11 + 1) := (hF.1 54 20 (by decide)).trans (by rw [hu, f])
      rw [gX3_remember_11]
      simp only [gX3_remember_12, gX3_remember_15, gX3_remember_39, gX3_remember_40, gX3_remember_41, gX3_remember_44, gX3_remember_45, gX3_remember_46, am_kill_int, am_kill_ref, am_kill_null, am_kill_F, am_kill_long, am_cat_n, am_cat_i, am_cat_r, am_cat_0, am_cat_l, am_nr_n, am_nr_i, am_nr_r, am_nr_0, am_nr_l, Option.toList_some, Option.toList_none, List.nil_append, List.cons_append, va_rf_s, va_rf_n, am_II, am_I_sR, am_I_sL, am_R_sI, am_RR, am_R_sL, am_L_sI, am_L_sR, am_LL, am_k_sI, am_k_sR, am_k_sL, am_n_sI, am_n_sR, am_n_sL, true_and, and_true, true_or, or_true, or_false, false_or, not_true_eq_false, not_false_eq_true, Nat.reduceLT, am_dS, am_dP, am_d1, Nat.reduceSub, Nat.reduceMul, ne_eq, Nat.reduceBEq, Nat.reduceAdd, Nat.reduceLeDiff, Nat.reduceEqDiff, and_self, and_false, false_and, if_true, if_false, am_nb, am_nb0, am_nb1, am_lc1, am_lc2, am_lc3, am_b0, am_b1, am_10, am_c8, am_c16, am_c24, am_c32, am_c40, am_c48, am_c56, am_c64, am_c72, Nat.add_zero, Bool.false_eq_true, Nat.zero_le, hmν, e913, Int32.le_refl, hu', nI_pred]
      have hrow : am_I (am_sI ν 54 20 (nI 11)) h = am_I μ h := by
        rw [am_row_o h54]; exact funext fun b => hF.1 h b (fun e => hh e)
      refine rem_t (μ := am_sI ν 54 20 (nI 11)) (u := 11) (hF.mLk hm) (by rw [am_I_sI, if_pos ⟨rfl, rfl⟩]) (by omega) (by show am_k ν h = _; rw [hF.2.2.2.1]; exact hk) hh (fun ξ g1 g2 g3 g4 => ?_) _
      refine hK ξ ((Fr.I (hF.le fun a b q => Or.inl q) (Or.inr ⟨rfl, rfl⟩)).trans g1) (by unfold upN; rw [if_pos f]; exact g2) (fun k i hk hi => ?_)
      unfold upN at hk
      rw [if_pos f] at hk
      unfold stN
      rw [if_pos f]
      by_cases e : k < 11
      · rw [if_pos e, g4 _ (by omega), am_I_sI, if_neg (by omega), h1 _ (by omega)]
        show am_I μ 62 _ = am_I μ 62 _
        congr 1; omega
      · have : k = 11 := by omega
        subst this
        rw [if_neg e, g3 i hi, hrow]
  · have e12 : ¬ nI u = 12 := fun e => by
      have := nI_clamp (n := u) (by omega)
      rw [e] at this
      have z : (12 : Int32).toNatClampNeg = 12 := by decide
      omega
    simp only [gX3_remember_0, gX3_remember_1, gX3_remember_4, gX3_remember_6, am_kill_int, am_kill_ref, am_kill_null, am_kill_F, am_kill_long, am_cat_n, am_cat_i, am_cat_r, am_cat_0, am_cat_l, am_nr_n, am_nr_i, am_nr_r, am_nr_0, am_nr_l, Option.toList_some, Option.toList_none, List.nil_append, List.cons_append, va_rf_s, va_rf_n, am_II, am_I_sR, am_I_sL, am_R_sI, am_RR, am_R_sL, am_L_sI, am_L_sR, am_LL, am_k_sI, am_k_sR, am_k_sL, am_n_sI, am_n_sR, am_n_sL, true_and, and_true, true_or, or_true, or_false, false_or, not_true_eq_false, not_false_eq_true, Nat.reduceLT, am_dS, am_dP, am_d1, Nat.reduceSub, Nat.reduceMul, ne_eq, Nat.reduceBEq, Nat.reduceAdd, Nat.reduceLeDiff, Nat.reduceEqDiff, and_self, and_false, false_and, if_true, if_false, am_nb, am_nb0, am_nb1, am_lc1, am_lc2, am_lc3, am_b0, am_b1, am_10, am_c8, am_c16, am_c24, am_c32, am_c40, am_c48, am_c56, am_c64, am_c72, Nat.add_zero, Bool.false_eq_true, Nat.zero_le, hmu, hu, e12]
    refine rem_t hm hu (by omega) hk hh (fun ν g1 g2 g3 g4 => ?_) _
    refine hK ν g1 (by unfold upN; rw [if_neg f]; exact g2) (fun k i hk hi => ?_)
    unfold upN at hk
    rw [if_neg f] at hk
    unfold stN
    rw [if_neg f]
    by_cases e : k = u
    · subst e; rw [if_pos rfl]; exact g3 i hi
    · rw [if_neg e]; exact g4 _ (by omega)
end PYV
