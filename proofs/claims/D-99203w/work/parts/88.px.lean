/-! calls that write: sheet -/
set_option maxRecDepth 100000
section PXV
variable {d : Nat} {μ ν ξ : am_M} {K : Option Value → am_M → Prop} {x y z c w kd nn ff st : Int32} {h N C j i k r M b q t u : Nat} {v : Int32} {ru : Option PF} {F G : Nat → Nat → Prop} {S T row a a' : Nat → Int32} {p : Int64}
def itsV (kd v : Int32) : Int32 := if kd = 0 then v.toInt8.toInt32 else if kd = 1 then v.toInt16.toInt32 else v
def eV (kd nn v : Int32) (k : Nat) : Int32 := if kd = 3 ∨ nn ≤ nI k then 1 else maI 1 (miI 9 (itsV kd v))
def vSh (ff st : Int32) : Nat → Int32
  | 0 => ff
  | k + 1 => vSh ff st k + st
def eK (kd nn ff st : Int32) (k : Nat) : Int32 := eV kd nn (vSh ff st k) k
def shT (kd nn ff st : Int32) (S : Nat → Int32) : Nat → (Nat → Int32)
  | 0 => S
  | k + 1 => spU (shT kd nn ff st S k) (8 + k) (eK kd nn ff st k)
theorem mm_r (w : Int32) : 1 ≤ maI 1 (miI 9 w) ∧ maI 1 (miI 9 w) ≤ 9 := by
  unfold maI miI
  by_cases f : w < 9
  · rw [if_pos f]
    by_cases f2 : 1 < w
    · rw [if_pos f2]; exact ⟨Int32.le_of_lt f2, Int32.le_of_lt f⟩
    · rw [if_neg f2]; decide
  · rw [if_neg f]; decide
theorem eK_r : 1 ≤ eK kd nn ff st k ∧ eK kd nn ff st k ≤ 9 := by
  unfold eK eV
  split
  · decide
  · exact mm_r _
theorem Sim.str (h : Sim N S a) (h8 : N ≤ 8) (hj : j < N) (hx : 1 ≤ x ∧ x ≤ 9) : Sim N (spU S (8 + j) x) (spU a (8 + j) x) := by
  have hj8 : j < 8 := by omega
  have hg := h.cg hj
  refine h.one h8 hj ⟨?_, ?_⟩ (fun i hi e => ⟨?_, ?_⟩) (fun k hk => ⟨?_, ?_⟩)
  · rw [cu1 hj8, cu1 hj8]
    exact (h.1 j hj).1.u (by decide)
  · rw [cu1 hj8]
    obtain ⟨g1, g2, g3, g4, g5, g6, g7, g8, g9, g10⟩ := hg
    unfold cG
    simp (decide := true) only [spU, if_true, if_false, true_and, and_self, g1, g2, g3, g4, g5, g6, g8, g9, g10, hx]
  · rw [co1 hi hj8 e]
  · rw [co1 hi hj8 e]
  · rw [spU_n (by omega)]
  · rw [spU_n (by omega)]
theorem Sim.sh (h : Sim N S a) (h8 : N ≤ 8) : ∀ k, k ≤ N → Sim N (shT kd nn ff st S k) (shT kd nn ff st a k)
  | 0, _ => h
  | k + 1, hk => (Sim.sh h h8 k (by omega)).str h8 (by omega) eK_r
theorem shT_v : ∀ {k}, k ≤ 8 → ∀ {i}, i < 8 → shT kd nn ff st S k (8 + i) = if i < k then eK kd nn ff st i else S (8 + i)
  | 0, _, i, _ => by rw [if_neg (Nat.not_lt_zero i)]; rfl
  | k + 1, hk, i, hi => by
    unfold shT
    by_cases e : i = k
    · subst e; rw [spU_e, if_pos (by omega)]
    · rw [spU_n (by omega), shT_v (by omega) hi]
      by_cases f : i < k
      · rw [if_pos f, if_pos (by omega)]
      · rw [if_neg f, if_neg (by omega)]
/-- one strength, in the component -/
theorem shC1 {z7 : Value} (hk0 : am_k μ 0 = (0, 0)) (hR1 : am_R μ 0 0 = some 1) (hk1 : am_k μ 1 = (1, 0)) (hR3 : am_R μ 1 1 = some 3) (hk3 : am_k μ 3 = (10, 8)) (hN : am_I μ 0 2 = nI N) (h8 : N ≤ 8) (hk : k < N)
    (hK : ∀ z7, am_Wp (d + 200) mX1_sheet 38 [.ref 0, .int kd, .int nn, .int ff, .int st, .int (v + st), .int (nI (k + 1)), z7] [] (am_sI μ 3 k (eV kd nn v k)) K) :
    am_Wp (d + 200) mX1_sheet 38 [.ref 0, .int kd, .int nn, .int ff, .int st, .int v, .int (nI k), z7] [] μ K := by
  have hlt : ¬ nI N ≤ nI k := nI_ge hk (by omega)
  have hin : vp_in (nI k) 8 := vp_in_nI (by omega) (by omega)
  have hcl : (nI k).toNatClampNeg = k := nI_clamp (by omega)
  have o01 : ¬ (0 : Int32) = 1 := by decide
  have o03 : ¬ (0 : Int32) = 3 := by decide
  have o13 : ¬ (1 : Int32) = 3 := by decide
  have o10 : ¬ (1 : Int32) = 0 := by decide
  have o30 : ¬ (3 : Int32) = 0 := by decide
  have o31 : ¬ (3 : Int32) = 1 := by decide
  unfold eV itsV maI miI at hK
  rw [gX1_sheet_38]
  by_cases k3 : kd = 3
  · subst k3
    simp only [true_or, if_true] at hK
    simp only [gX1_sheet_40, gX1_sheet_41, gX1_sheet_44, gX1_sheet_47, gX1_sheet_48, gX1_sheet_51, gX1_sheet_53, gX1_sheet_54, gX1_sheet_57, gX1_sheet_58, gX1_sheet_59, gX1_sheet_62, gX1_sheet_64, gX1_sheet_65, gX1_sheet_68, gX1_sheet_70, gX1_sheet_72, gX1_sheet_73, gX1_sheet_76, gX1_sheet_79, gX1_sheet_81, gX1_sheet_82, gX1_sheet_83, gX1_sheet_86, gX1_sheet_88, gX1_sheet_89, gX1_sheet_92, gX1_sheet_93, gX1_sheet_96, gX1_sheet_97, gX1_sheet_99, gX1_sheet_101, gX1_sheet_104, gX1_sheet_107, gX1_sheet_108, gX1_sheet_110, gX1_sheet_112, gX1_sheet_113, gX1_sheet_115, gX1_sheet_118, am_kill_int, am_kill_ref, am_kill_null, am_kill_F, am_kill_long, am_cat_n, am_cat_i, am_cat_r, am_cat_0, am_cat_l, am_nr_n, am_nr_i, am_nr_r, am_nr_0, am_nr_l, Option.toList_some, Option.toList_none, List.nil_append, List.cons_append, va_rf_s, va_rf_n, am_II, am_I_sR, am_I_sL, am_R_sI, am_RR, am_R_sL, am_L_sI, am_L_sR, am_LL, am_k_sI, am_k_sR, am_k_sL, am_n_sI, am_n_sR, am_n_sL, true_and, and_true, true_or, or_true, or_false, false_or, not_true_eq_false, not_false_eq_true, Nat.reduceLT, am_dS, am_dP, am_d1, Nat.reduceSub, Nat.reduceMul, ne_eq, Nat.reduceBEq, Nat.reduceAdd, Nat.reduceLeDiff, Nat.reduceEqDiff, and_self, and_false, false_and, if_true, if_false, am_nb, am_nb0, am_nb1, am_lc1, am_lc2, am_lc3, am_b0, am_b1, am_10, am_c8, am_c16, am_c24, am_c32, am_c40, am_c48, am_c56, am_c64, am_c72, Nat.add_zero, Bool.false_eq_true, Nat.zero_le, hk0, hR1, hk1, hR3, hk3, hN, hlt, hin, hcl, o30, o31, nI_1]
    exact hK _
  · by_cases hn : nn ≤ nI k
    · simp only [hn, or_true, if_true] at hK
      have hn' := Int32.not_lt.mpr hn
      by_cases k0 : kd = 0
      · subst k0
        simp only [gX1_sheet_40, gX1_sheet_41, gX1_sheet_44, gX1_sheet_47, gX1_sheet_48, gX1_sheet_51, gX1_sheet_53, gX1_sheet_54, gX1_sheet_57, gX1_sheet_58, gX1_sheet_59, gX1_sheet_62, gX1_sheet_64, gX1_sheet_65, gX1_sheet_68, gX1_sheet_70, gX1_sheet_72, gX1_sheet_73, gX1_sheet_76, gX1_sheet_79, gX1_sheet_81, gX1_sheet_82, gX1_sheet_83, gX1_sheet_86, gX1_sheet_88, gX1_sheet_89, gX1_sheet_92, gX1_sheet_93, gX1_sheet_96, gX1_sheet_97, gX1_sheet_99, gX1_sheet_101, gX1_sheet_104, gX1_sheet_107, gX1_sheet_108, gX1_sheet_110, gX1_sheet_112, gX1_sheet_113, gX1_sheet_115, gX1_sheet_118, am_kill_int, am_kill_ref, am_kill_null, am_kill_F, am_kill_long, am_cat_n, am_cat_i, am_cat_r, am_cat_0, am_cat_l, am_nr_n, am_nr_i, am_nr_r, am_nr_0, am_nr_l, Option.toList_some, Option.toList_none, List.nil_append, List.cons_append, va_rf_s, va_rf_n, am_II, am_I_sR, am_I_sL, am_R_sI, am_RR, am_R_sL, am_L_sI, am_L_sR, am_LL, am_k_sI, am_k_sR, am_k_sL, am_n_sI, am_n_sR, am_n_sL, true_and, and_true, true_or, or_true, or_false, false_or, not_true_eq_false, not_false_eq_true, Nat.reduceLT, am_dS, am_dP, am_d1, Nat.reduceSub, Nat.reduceMul, ne_eq, Nat.reduceBEq, Nat.reduceAdd, Nat.reduceLeDiff, Nat.reduceEqDiff, and_self, and_false, false_and, if_true, if_false, am_nb, am_nb0, am_nb1, am_lc1, am_lc2, am_lc3, am_b0, am_b1, am_10, am_c8, am_c16, am_c24, am_c32, am_c40, am_c48, am_c56, am_c64, am_c72, Nat.add_zero, Bool.false_eq_true, Nat.zero_le, hk0, hR1, hk1, hR3, hk3, hN, hlt, hin, hcl, o03, hn, hn', nI_1]
        exact hK _
      · by_cases k1 : kd = 1
        · subst k1
          simp only [gX1_sheet_40, gX1_sheet_41, gX1_sheet_44, gX1_sheet_47, gX1_sheet_48, gX1_sheet_51, gX1_sheet_53, gX1_sheet_54, gX1_sheet_57, gX1_sheet_58, gX1_sheet_59, gX1_sheet_62, gX1_sheet_64, gX1_sheet_65, gX1_sheet_68, gX1_sheet_70, gX1_sheet_72, gX1_sheet_73, gX1_sheet_76, gX1_sheet_79, gX1_sheet_81, gX1_sheet_82, gX1_sheet_83, gX1_sheet_86, gX1_sheet_88, gX1_sheet_89, gX1_sheet_92, gX1_sheet_93, gX1_sheet_96, gX1_sheet_97, gX1_sheet_99, gX1_sheet_101, gX1_sheet_104, gX1_sheet_107, gX1_sheet_108, gX1_sheet_110, gX1_sheet_112, gX1_sheet_113, gX1_sheet_115, gX1_sheet_118, am_kill_int, am_kill_ref, am_kill_null, am_kill_F, am_kill_long, am_cat_n, am_cat_i, am_cat_r, am_cat_0, am_cat_l, am_nr_n, am_nr_i, am_nr_r, am_nr_0, am_nr_l, Option.toList_some, Option.toList_none, List.nil_append, List.cons_append, va_rf_s, va_rf_n, am_II, am_I_sR, am_I_sL, am_R_sI, am_RR, am_R_sL, am_L_sI, am_L_sR, am_LL, am_k_sI, am_k_sR, am_k_sL, am_n_sI, am_n_sR, am_n_sL, true_and, and_true, true_or, or_true, or_false, false_or, not_true_eq_false, not_false_eq_true, Nat.reduceLT, am_dS, am_dP, am_d1, Nat.reduceSub, Nat.reduceMul, ne_eq, Nat.reduceBEq, Nat.reduceAdd, Nat.reduceLeDiff, Nat.reduceEqDiff, and_self, and_false, false_and, if_true, if_false, am_nb, am_nb0, am_nb1, am_lc1, am_lc2, am_lc3, am_b0, am_b1, am_10, am_c8, am_c16, am_c24, am_c32, am_c40, am_c48, am_c56, am_c64, am_c72, Nat.add_zero, Bool.false_eq_true, Nat.zero_le, hk0, hR1, hk1, hR3, hk3, hN, hlt, hin, hcl, o10, o13, hn, hn', nI_1]
          exact hK _
        · simp only [gX1_sheet_40, gX1_sheet_41, gX1_sheet_44, gX1_sheet_47, gX1_sheet_48, gX1_sheet_51, gX1_sheet_53, gX1_sheet_54, gX1_sheet_57, gX1_sheet_58, gX1_sheet_59, gX1_sheet_62, gX1_sheet_64, gX1_sheet_65, gX1_sheet_68, gX1_sheet_70, gX1_sheet_72, gX1_sheet_73, gX1_sheet_76, gX1_sheet_79, gX1_sheet_81, gX1_sheet_82, gX1_sheet_83, gX1_sheet_86, gX1_sheet_88, gX1_sheet_89, gX1_sheet_92, gX1_sheet_93, gX1_sheet_96, gX1_sheet_97, gX1_sheet_99, gX1_sheet_101, gX1_sheet_104, gX1_sheet_107, gX1_sheet_108, gX1_sheet_110, gX1_sheet_112, gX1_sheet_113, gX1_sheet_115, gX1_sheet_118, am_kill_int, am_kill_ref, am_kill_null, am_kill_F, am_kill_long, am_cat_n, am_cat_i, am_cat_r, am_cat_0, am_cat_l, am_nr_n, am_nr_i, am_nr_r, am_nr_0, am_nr_l, Option.toList_some, Option.toList_none, List.nil_append, List.cons_append, va_rf_s, va_rf_n, am_II, am_I_sR, am_I_sL, am_R_sI, am_RR, am_R_sL, am_L_sI, am_L_sR, am_LL, am_k_sI, am_k_sR, am_k_sL, am_n_sI, am_n_sR, am_n_sL, true_and, and_true, true_or, or_true, or_false, false_or, not_true_eq_false, not_false_eq_true, Nat.reduceLT, am_dS, am_dP, am_d1, Nat.reduceSub, Nat.reduceMul, ne_eq, Nat.reduceBEq, Nat.reduceAdd, Nat.reduceLeDiff, Nat.reduceEqDiff, and_self, and_false, false_and, if_true, if_false, am_nb, am_nb0, am_nb1, am_lc1, am_lc2, am_lc3, am_b0, am_b1, am_10, am_c8, am_c16, am_c24, am_c32, am_c40, am_c48, am_c56, am_c64, am_c72, Nat.add_zero, Bool.false_eq_true, Nat.zero_le, hk0, hR1, hk1, hR3, hk3, hN, hlt, hin, hcl, k0, k1, k3, hn, hn', nI_1]
          exact hK _
    · have hn' := Int32.not_le.mp hn
      by_cases k0 : kd = 0
      · subst k0
        simp only [o03, hn, or_self, if_true, if_false] at hK
        simp only [gX1_sheet_40, gX1_sheet_41, gX1_sheet_44, gX1_sheet_47, gX1_sheet_48, gX1_sheet_51, gX1_sheet_53, gX1_sheet_54, gX1_sheet_57, gX1_sheet_58, gX1_sheet_59, gX1_sheet_62, gX1_sheet_64, gX1_sheet_65, gX1_sheet_68, gX1_sheet_70, gX1_sheet_72, gX1_sheet_73, gX1_sheet_76, gX1_sheet_79, gX1_sheet_81, gX1_sheet_82, gX1_sheet_83, gX1_sheet_86, gX1_sheet_88, gX1_sheet_89, gX1_sheet_92, gX1_sheet_93, gX1_sheet_96, gX1_sheet_97, gX1_sheet_99, gX1_sheet_101, gX1_sheet_104, gX1_sheet_107, gX1_sheet_108, gX1_sheet_110, gX1_sheet_112, gX1_sheet_113, gX1_sheet_115, gX1_sheet_118, am_kill_int, am_kill_ref, am_kill_null, am_kill_F, am_kill_long, am_cat_n, am_cat_i, am_cat_r, am_cat_0, am_cat_l, am_nr_n, am_nr_i, am_nr_r, am_nr_0, am_nr_l, Option.toList_some, Option.toList_none, List.nil_append, List.cons_append, va_rf_s, va_rf_n, am_II, am_I_sR, am_I_sL, am_R_sI, am_RR, am_R_sL, am_L_sI, am_L_sR, am_LL, am_k_sI, am_k_sR, am_k_sL, am_n_sI, am_n_sR, am_n_sL, true_and, and_true, true_or, or_true, or_false, false_or, not_true_eq_false, not_false_eq_true, Nat.reduceLT, am_dS, am_dP, am_d1, Nat.reduceSub, Nat.reduceMul, ne_eq, Nat.reduceBEq, Nat.reduceAdd, Nat.reduceLeDiff, Nat.reduceEqDiff, and_self, and_false, false_and, if_true, if_false, am_nb, am_nb0, am_nb1, am_lc1, am_lc2, am_lc3, am_b0, am_b1, am_10, am_c8, am_c16, am_c24, am_c32, am_c40, am_c48, am_c56, am_c64, am_c72, Nat.add_zero, Bool.false_eq_true, Nat.zero_le, hk0, hR1, hk1, hR3, hk3, hN, hlt, hin, hcl, o03, hn, hn', nI_1]
        exact hK _
      · by_cases k1 : kd = 1
        · subst k1
          simp only [o13, o10, hn, or_self, if_true, if_false] at hK
          simp only [gX1_sheet_40, gX1_sheet_41, gX1_sheet_44, gX1_sheet_47, gX1_sheet_48, gX1_sheet_51, gX1_sheet_53, gX1_sheet_54, gX1_sheet_57, gX1_sheet_58, gX1_sheet_59, gX1_sheet_62, gX1_sheet_64, gX1_sheet_65, gX1_sheet_68, gX1_sheet_70, gX1_sheet_72, gX1_sheet_73, gX1_sheet_76, gX1_sheet_79, gX1_sheet_81, gX1_sheet_82, gX1_sheet_83, gX1_sheet_86, gX1_sheet_88, gX1_sheet_89, gX1_sheet_92, gX1_sheet_93, gX1_sheet_96, gX1_sheet_97, gX1_sheet_99, gX1_sheet_101, gX1_sheet_104, gX1_sheet_107, gX1_sheet_108, gX1_sheet_110, gX1_sheet_112, gX1_sheet_113, gX1_sheet_115, gX1_sheet_118, am_kill_int, am_kill_ref, am_kill_null, am_kill_F, am_kill_long, am_cat_n, am_cat_i, am_cat_r, am_cat_0, am_cat_l, am_nr_n, am_nr_i, am_nr_r, am_nr_0, am_nr_l, Option.toList_some, Option.toList_none, List.nil_append, List.cons_append, va_rf_s, va_rf_n, am_II, am_I_sR, am_I_sL, am_R_sI, am_RR, am_R_sL, am_L_sI, am_L_sR, am_LL, am_k_sI, am_k_sR, am_k_sL, am_n_sI, am_n_sR, am_n_sL, true_and, and_true, true_or, or_true, or_false, false_or, not_true_eq_false, not_false_eq_true, Nat.reduceLT, am_dS, am_dP, am_d1, Nat.reduceSub, Nat.reduceMul, ne_eq, Nat.reduceBEq, Nat.reduceAdd, Nat.reduceLeDiff, Nat.reduceEqDiff, and_self, and_false, false_and, if_true, if_false, am_nb, am_nb0, am_nb1, am_lc1, am_lc2, am_lc3, am_b0, am_b1, am_10, am_c8, am_c16, am_c24, am_c32, am_c40, am_c48, am_c56, am_c64, am_c72, Nat.add_zero, Bool.false_eq_true, Nat.zero_le, hk0, hR1, hk1, hR3, hk3, hN, hlt, hin, hcl, o10, o13, hn, hn', nI_1]
          exact hK _
        · simp only [k3, k0, k1, hn, or_self, if_false] at hK
          simp only [gX1_sheet_40, gX1_sheet_41, gX1_sheet_44, gX1_sheet_47, gX1_sheet_48, gX1_sheet_51, gX1_sheet_53, gX1_sheet_54, gX1_sheet_57, gX1_sheet_58, gX1_sheet_59, gX1_sheet_62, gX1_sheet_64, gX1_sheet_65, gX1_sheet_68, gX1_sheet_70, gX1_sheet_72, gX1_sheet_73, gX1_sheet_76, gX1_sheet_79, gX1_sheet_81, gX1_sheet_82, gX1_sheet_83, gX1_sheet_86, gX1_sheet_88, gX1_sheet_89, gX1_sheet_92, gX1_sheet_93, gX1_sheet_96, gX1_sheet_97, gX1_sheet_99, gX1_sheet_101, gX1_sheet_104, gX1_sheet_107, gX1_sheet_108, gX1_sheet_110, gX1_sheet_112, gX1_sheet_113, gX1_sheet_115, gX1_sheet_118, am_kill_int, am_kill_ref, am_kill_null, am_kill_F, am_kill_long, am_cat_n, am_cat_i, am_cat_r, am_cat_0, am_cat_l, am_nr_n, am_nr_i, am_nr_r, am_nr_0, am_nr_l, Option.toList_some, Option.toList_none, List.nil_append, List.cons_append, va_rf_s, va_rf_n, am_II, am_I_sR, am_I_sL, am_R_sI, am_RR, am_R_sL, am_L_sI, am_L_sR, am_LL, am_k_sI, am_k_sR, am_k_sL, am_n_sI, am_n_sR, am_n_sL, true_and, and_true, true_or, or_true, or_false, false_or, not_true_eq_false, not_false_eq_true, Nat.reduceLT, am_dS, am_dP, am_d1, Nat.reduceSub, Nat.reduceMul, ne_eq, Nat.reduceBEq, Nat.reduceAdd, Nat.reduceLeDiff, Nat.reduceEqDiff, and_self, and_false, false_and, if_true, if_false, am_nb, am_nb0, am_nb1, am_lc1, am_lc2, am_lc3, am_b0, am_b1, am_10, am_c8, am_c16, am_c24, am_c32, am_c40, am_c48, am_c56, am_c64, am_c72, Nat.add_zero, Bool.false_eq_true, Nat.zero_le, hk0, hR1, hk1, hR3, hk3, hN, hlt, hin, hcl, k0, k1, k3, hn, hn', nI_1]
          exact hK _
/-- one strength, in the model -/
theorem shM1 {z7 : Value} {sm : Int32} (hk0 : am_k μ 54 = (2, 0)) (hR1 : am_R μ 54 0 = some 55) (hk1 : am_k μ 55 = (10, 83)) (hN : am_I μ 54 1 = nI N) (h8 : N ≤ 8) (hk : k < N)
    (hK : ∀ z7, am_Wp (d + 200) mX3_sheet 43 [.ref 54, .int kd, .int nn, .int ff, .int st, .int (sm + eV kd nn v k), .int (v + st), .int (nI (k + 1)), z7] [] (am_sI μ 55 (8 + k) (eV kd nn v k)) K) :
    am_Wp (d + 200) mX3_sheet 43 [.ref 54, .int kd, .int nn, .int ff, .int st, .int sm, .int v, .int (nI k), z7] [] μ K := by
  have hlt : ¬ nI N ≤ nI k := nI_ge hk (by omega)
  have hin : vp_in (nI (8 + k)) 83 := vp_in_nI (by omega) (by omega)
  have hcl : (nI (8 + k)).toNatClampNeg = 8 + k := nI_clamp (by omega)
  have o01 : ¬ (0 : Int32) = 1 := by decide
  have o03 : ¬ (0 : Int32) = 3 := by decide
  have o13 : ¬ (1 : Int32) = 3 := by decide
  have o10 : ¬ (1 : Int32) = 0 := by decide
  have o30 : ¬ (3 : Int32) = 0 := by decide
  have o31 : ¬ (3 : Int32) = 1 := by decide
  unfold eV itsV maI miI at hK
  rw [gX3_sheet_43]
  by_cases k3 : kd = 3
  · subst k3
    simp only [true_or, if_true] at hK
    simp only [gX3_sheet_45, gX3_sheet_46, gX3_sheet_49, gX3_sheet_52, gX3_sheet_53, gX3_sheet_56, gX3_sheet_58, gX3_sheet_59, gX3_sheet_62, gX3_sheet_63, gX3_sheet_64, gX3_sheet_67, gX3_sheet_69, gX3_sheet_70, gX3_sheet_73, gX3_sheet_75, gX3_sheet_77, gX3_sheet_78, gX3_sheet_81, gX3_sheet_83, gX3_sheet_85, gX3_sheet_86, gX3_sheet_87, gX3_sheet_88, gX3_sheet_91, gX3_sheet_93, gX3_sheet_94, gX3_sheet_97, gX3_sheet_98, gX3_sheet_101, gX3_sheet_102, gX3_sheet_104, gX3_sheet_106, gX3_sheet_109, gX3_sheet_112, gX3_sheet_113, gX3_sheet_115, gX3_sheet_116, gX3_sheet_119, gX3_sheet_121, gX3_sheet_123, gX3_sheet_124, gX3_sheet_125, gX3_sheet_126, gX3_sheet_128, gX3_sheet_130, gX3_sheet_132, gX3_sheet_133, gX3_sheet_135, gX3_sheet_138, am_kill_int, am_kill_ref, am_kill_null, am_kill_F, am_kill_long, am_cat_n, am_cat_i, am_cat_r, am_cat_0, am_cat_l, am_nr_n, am_nr_i, am_nr_r, am_nr_0, am_nr_l, Option.toList_some, Option.toList_none, List.nil_append, List.cons_append, va_rf_s, va_rf_n, am_II, am_I_sR, am_I_sL, am_R_sI, am_RR, am_R_sL, am_L_sI, am_L_sR, am_LL, am_k_sI, am_k_sR, am_k_sL, am_n_sI, am_n_sR, am_n_sL, true_and, and_true, true_or, or_true, or_false, false_or, not_true_eq_false, not_false_eq_true, Nat.reduceLT, am_dS, am_dP, am_d1, Nat.reduceSub, Nat.reduceMul, ne_eq, Nat.reduceBEq, Nat.reduceAdd, Nat.reduceLeDiff, Nat.reduceEqDiff, and_self, and_false, false_and, if_true, if_false, am_nb, am_nb0, am_nb1, am_lc1, am_lc2, am_lc3, am_b0, am_b1, am_10, am_c8, am_c16, am_c24, am_c32, am_c40, am_c48, am_c56, am_c64, am_c72, Nat.add_zero, Bool.false_eq_true, Nat.zero_le, hk0, hR1, hk1, hN, hlt, hin, hcl, o30, o31, nI_1]
    exact hK _
  · by_cases hn : nn ≤ nI k
    · simp only [hn, or_true, if_true] at hK
      have hn' := Int32.not_lt.mpr hn
      by_cases k0 : kd = 0
      · subst k0
        simp only [gX3_sheet_45, gX3_sheet_46, gX3_sheet_49, gX3_sheet_52, gX3_sheet_53, gX3_sheet_56, gX3_sheet_58, gX3_sheet_59, gX3_sheet_62, gX3_sheet_63, gX3_sheet_64, gX3_sheet_67, gX3_sheet_69, gX3_sheet_70, gX3_sheet_73, gX3_sheet_75, gX3_sheet_77, gX3_sheet_78, gX3_sheet_81, gX3_sheet_83, gX3_sheet_85, gX3_sheet_86, gX3_sheet_87, gX3_sheet_88, gX3_sheet_91, gX3_sheet_93, gX3_sheet_94, gX3_sheet_97, gX3_sheet_98, gX3_sheet_101, gX3_sheet_102, gX3_sheet_104, gX3_sheet_106, gX3_sheet_109, gX3_sheet_112, gX3_sheet_113, gX3_sheet_115, gX3_sheet_116, gX3_sheet_119, gX3_sheet_121, gX3_sheet_123, gX3_sheet_124, gX3_sheet_125, gX3_sheet_126, gX3_sheet_128, gX3_sheet_130, gX3_sheet_132, gX3_sheet_133, gX3_sheet_135, gX3_sheet_138, am_kill_int, am_kill_ref, am_kill_null, am_kill_F, am_kill_long, am_cat_n, am_cat_i, am_cat_r, am_cat_0, am_cat_l, am_nr_n, am_nr_i, am_nr_r, am_nr_0, am_nr_l, Option.toList_some, Option.toList_none, List.nil_append, List.cons_append, va_rf_s, va_rf_n, am_II, am_I_sR, am_I_sL, am_R_sI, am_RR, am_R_sL, am_L_sI, am_L_sR, am_LL, am_k_sI, am_k_sR, am_k_sL, am_n_sI, am_n_sR, am_n_sL, true_and, and_true, true_or, or_true, or_false, false_or, not_true_eq_false, not_false_eq_true, Nat.reduceLT, am_dS, am_dP, am_d1, Nat.reduceSub, Nat.reduceMul, ne_eq, Nat.reduceBEq, Nat.reduceAdd, Nat.reduceLeDiff, Nat.reduceEqDiff, and_self, and_false, false_and, if_true, if_false, am_nb, am_nb0, am_nb1, am_lc1, am_lc2, am_lc3, am_b0, am_b1, am_10, am_c8, am_c16, am_c24, am_c32, am_c40, am_c48, am_c56, am_c64, am_c72, Nat.add_zero, Bool.false_eq_true, Nat.zero_le, hk0, hR1, hk1, hN, hlt, hin, hcl, o03, hn, hn', nI_1]
        exact hK _
      · by_cases k1 : kd = 1
        · subst k1
          simp only [gX3_sheet_45, gX3_sheet_46, gX3_sheet_49, gX3_sheet_52, gX3_sheet_53, gX3_sheet_56, gX3_sheet_58, gX3_sheet_59, gX3_sheet_62, gX3_sheet_63, gX3_sheet_64, gX3_sheet_67, gX3_sheet_69, gX3_sheet_70, gX3_sheet_73, gX3_sheet_75, gX3_sheet_77, gX3_sheet_78, gX3_sheet_81, gX3_sheet_83, gX3_sheet_85, gX3_sheet_86, gX3_sheet_87, gX3_sheet_88, gX3_sheet_91, gX3_sheet_93, gX3_sheet_94, gX3_sheet_97, gX3_sheet_98, gX3_sheet_101, gX3_sheet_102, gX3_sheet_104, gX3_sheet_106, gX3_sheet_109, gX3_sheet_112, gX3_sheet_113, gX3_sheet_115, gX3_sheet_116, gX3_sheet_119, gX3_sheet_121, gX3_sheet_123, gX3_sheet_124, gX3_sheet_125, gX3_sheet_126, gX3_sheet_128, gX3_sheet_130, gX3_sheet_132, gX3_sheet_133, gX3_sheet_135, gX3_sheet_138, am_kill_int, am_kill_ref, am_kill_null, am_kill_F, am_kill_long, am_cat_n, am_cat_i, am_cat_r, am_cat_0, am_cat_l, am_nr_n, am_nr_i, am_nr_r, am_nr_0, am_nr_l, Option.toList_some, Option.toList_none, List.nil_append, List.cons_append, va_rf_s, va_rf_n, am_II, am_I_sR, am_I_sL, am_R_sI, am_RR, am_R_sL, am_L_sI, am_L_sR, am_LL, am_k_sI, am_k_sR, am_k_sL, am_n_sI, am_n_sR, am_n_sL, true_and, and_true, true_or, or_true, or_false, false_or, not_true_eq_false, not_false_eq_true, Nat.reduceLT, am_dS, am_dP, am_d1, Nat.reduceSub, Nat.reduceMul, ne_eq, Nat.reduceBEq, Nat.reduceAdd, Nat.reduceLeDiff, Nat.reduceEqDiff, and_self, and_false, false_and, if_true, if_false, am_nb, am_nb0, am_nb1, am_lc1, am_lc2, am_lc3, am_b0, am_b1, am_10, am_c8, am_c16, am_c24, am_c32, am_c40, am_c48, am_c56, am_c64, am_c72, Nat.add_zero, Bool.false_eq_true, Nat.zero_le, hk0, hR1, hk1, hN, hlt, hin, hcl, o10, o13, hn, hn', nI_1]
          exact hK _
        · simp only [gX3_sheet_45, gX3_sheet_46, gX3_sheet_49, gX3_sheet_52, gX3_sheet_53, gX3_sheet_56, gX3_sheet_58, gX3_sheet_59, gX3_sheet_62, gX3_sheet_63, gX3_sheet_64, gX3_sheet_67, gX3_sheet_69, gX3_sheet_70, gX3_sheet_73, gX3_sheet_75, gX3_sheet_77, gX3_sheet_78, gX3_sheet_81, gX3_sheet_83, gX3_sheet_85, gX3_sheet_86, gX3_sheet_87, gX3_sheet_88, gX3_sheet_91, gX3_sheet_93, gX3_sheet_94, gX3_sheet_97, gX3_sheet_98, gX3_sheet_101, gX3_sheet_102, gX3_sheet_104, gX3_sheet_106, gX3_sheet_109, gX3_sheet_112, gX3_sheet_113, gX3_sheet_115, gX3_sheet_116, gX3_sheet_119, gX3_sheet_121, gX3_sheet_123, gX3_sheet_124, gX3_sheet_125, gX3_sheet_126, gX3_sheet_128, gX3_sheet_130, gX3_sheet_132, gX3_sheet_133, gX3_sheet_135, gX3_sheet_138, am_kill_int, am_kill_ref, am_kill_null, am_kill_F, am_kill_long, am_cat_n, am_cat_i, am_cat_r, am_cat_0, am_cat_l, am_nr_n, am_nr_i, am_nr_r, am_nr_0, am_nr_l, Option.toList_some, Option.toList_none, List.nil_append, List.cons_append, va_rf_s, va_rf_n, am_II, am_I_sR, am_I_sL, am_R_sI, am_RR, am_R_sL, am_L_sI, am_L_sR, am_LL, am_k_sI, am_k_sR, am_k_sL, am_n_sI, am_n_sR, am_n_sL, true_and, and_true, true_or, or_true, or_false, false_or, not_true_eq_false, not_false_eq_true, Nat.reduceLT, am_dS, am_dP, am_d1, Nat.reduceSub, Nat.reduceMul, ne_eq, Nat.reduceBEq, Nat.reduceAdd, Nat.reduceLeDiff, Nat.reduceEqDiff, and_self, and_false, false_and, if_true, if_false, am_nb, am_nb0, am_nb1, am_lc1, am_lc2, am_lc3, am_b0, am_b1, am_10, am_c8, am_c16, am_c24, am_c32, am_c40, am_c48, am_c56, am_c64, am_c72, Nat.add_zero, Bool.false_eq_true, Nat.zero_le, hk0, hR1, hk1, hN, hlt, hin, hcl, k0, k1, k3, hn, hn', nI_1]
          exact hK _
    · have hn' := Int32.not_le.mp hn
      by_cases k0 : kd = 0
      · subst k0
        simp only [o03, hn, or_self, if_true, if_false] at hK
        simp only [gX3_sheet_45, gX3_sheet_46, gX3_sheet_49, gX3_sheet_52, gX3_sheet_53, gX3_sheet_56, gX3_sheet_58, gX3_sheet_59, gX3_sheet_62, gX3_sheet_63, gX3_sheet_64, gX3_sheet_67, gX3_sheet_69, gX3_sheet_70, gX3_sheet_73, gX3_sheet_75, gX3_sheet_77, gX3_sheet_78, gX3_sheet_81, gX3_sheet_83, gX3_sheet_85, gX3_sheet_86, gX3_sheet_87, gX3_sheet_88, gX3_sheet_91, gX3_sheet_93, gX3_sheet_94, gX3_sheet_97, gX3_sheet_98, gX3_sheet_101, gX3_sheet_102, gX3_sheet_104, gX3_sheet_106, gX3_sheet_109, gX3_sheet_112, gX3_sheet_113, gX3_sheet_115, gX3_sheet_116, gX3_sheet_119, gX3_sheet_121, gX3_sheet_123, gX3_sheet_124, gX3_sheet_125, gX3_sheet_126, gX3_sheet_128, gX3_sheet_130, gX3_sheet_132, gX3_sheet_133, gX3_sheet_135, gX3_sheet_138, am_kill_int, am_kill_ref, am_kill_null, am_kill_F, am_kill_long, am_cat_n, am_cat_i, am_cat_r, am_cat_0, am_cat_l, am_nr_n, am_nr_i, am_nr_r, am_nr_0, am_nr_l, Option.toList_some, Option.toList_none, List.nil_append, List.cons_append, va_rf_s, va_rf_n, am_II, am_I_sR, am_I_sL, am_R_sI, am_RR, am_R_sL, am_L_sI, am_L_sR, am_LL, am_k_sI, am_k_sR, am_k_sL, am_n_sI, am_n_sR, am_n_sL, true_and, and_true, true_or, or_true, or_false, false_or, not_true_eq_false, not_false_eq_true, Nat.reduceLT, am_dS, am_dP, am_d1, Nat.reduceSub, Nat.reduceMul, ne_eq, Nat.reduceBEq, Nat.reduceAdd, Nat.reduceLeDiff, Nat.reduceEqDiff, and_self, and_false, false_and, if_true, if_false, am_nb, am_nb0, am_nb1, am_lc1, am_lc2, am_lc3, am_b0, am_b1, am_10, am_c8, am_c16, am_c24, am_c32, am_c40, am_c48, am_c56, am_c64, am_c72, Nat.add_zero, Bool.false_eq_true, Nat.zero_le, hk0, hR1, hk1, hN, hlt, hin, hcl, o03, hn, hn', nI_1]
        exact hK _
      · by_cases k1 : kd = 1
        · subst k1
          simp only [o13, o10, hn, or_self, if_true, if_false] at hK
          simp only [gX3_sheet_45, gX3_sheet_46, gX3_sheet_49, gX3_sheet_52, gX3_sheet_53, gX3_sheet_56, gX3_sheet_58, gX3_sheet_59, gX3_sheet_62, gX3_sheet_63, gX3_sheet_64, gX3_sheet_67, gX3_sheet_69, gX3_sheet_70, gX3_sheet_73, gX3_sheet_75, gX3_sheet_77, gX3_sheet_78, gX3_sheet_81, gX3_sheet_83, gX3_sheet_85, gX3_sheet_86, gX3_sheet_87, gX3_sheet_88, gX3_sheet_91, gX3_sheet_93, gX3_sheet_94, gX3_sheet_97, gX3_sheet_98, gX3_sheet_101, gX3_sheet_102, gX3_sheet_104, gX3_sheet_106, gX3_sheet_109, gX3_sheet_112, gX3_sheet_113, gX3_sheet_115, gX3_sheet_116, gX3_sheet_119, gX3_sheet_121, gX3_sheet_123, gX3_sheet_124, gX3_sheet_125, gX3_sheet_126, gX3_sheet_128, gX3_sheet_130, gX3_sheet_132, gX3_sheet_133, gX3_sheet_135, gX3_sheet_138, am_kill_int, am_kill_ref, am_kill_null, am_kill_F, am_kill_long, am_cat_n, am_cat_i, am_cat_r, am_cat_0, am_cat_l, am_nr_n, am_nr_i, am_nr_r, am_nr_0, am_nr_l, Option.toList_some, Option.toList_none, List.nil_append, List.cons_append, va_rf_s, va_rf_n, am_II, am_I_sR, am_I_sL, am_R_sI, am_RR, am_R_sL, am_L_sI, am_L_sR, am_LL, am_k_sI, am_k_sR, am_k_sL, am_n_sI, am_n_sR, am_n_sL, true_and, and_true, true_or, or_true, or_false, false_or, not_true_eq_false, not_false_eq_true, Nat.reduceLT, am_dS, am_dP, am_d1, Nat.reduceSub, Nat.reduceMul, ne_eq, Nat.reduceBEq, Nat.reduceAdd, Nat.reduceLeDiff, Nat.reduceEqDiff, and_self, and_false, false_and, if_true, if_false, am_nb, am_nb0, am_nb1, am_lc1, am_lc2, am_lc3, am_b0, am_b1, am_10, am_c8, am_c16, am_c24, am_c32, am_c40, am_c48, am_c56, am_c64, am_c72, Nat.add_zero, Bool.false_eq_true, Nat.zero_le, hk0, hR1, hk1, hN, hlt, hin, hcl, o10, o13, hn, hn', nI_1]
          exact hK _
        · simp only [k3, k0, k1, hn, or_self, if_false] at hK
          simp only [gX3_sheet_45, gX3_sheet_46, gX3_sheet_49, gX3_sheet_52, gX3_sheet_53, gX3_sheet_56, gX3_sheet_58, gX3_sheet_59, gX3_sheet_62, gX3_sheet_63, gX3_sheet_64, gX3_sheet_67, gX3_sheet_69, gX3_sheet_70, gX3_sheet_73, gX3_sheet_75, gX3_sheet_77, gX3_sheet_78, gX3_sheet_81, gX3_sheet_83, gX3_sheet_85, gX3_sheet_86, gX3_sheet_87, gX3_sheet_88, gX3_sheet_91, gX3_sheet_93, gX3_sheet_94, gX3_sheet_97, gX3_sheet_98, gX3_sheet_101, gX3_sheet_102, gX3_sheet_104, gX3_sheet_106, gX3_sheet_109, gX3_sheet_112, gX3_sheet_113, gX3_sheet_115, gX3_sheet_116, gX3_sheet_119, gX3_sheet_121, gX3_sheet_123, gX3_sheet_124, gX3_sheet_125, gX3_sheet_126, gX3_sheet_128, gX3_sheet_130, gX3_sheet_132, gX3_sheet_133, gX3_sheet_135, gX3_sheet_138, am_kill_int, am_kill_ref, am_kill_null, am_kill_F, am_kill_long, am_cat_n, am_cat_i, am_cat_r, am_cat_0, am_cat_l, am_nr_n, am_nr_i, am_nr_r, am_nr_0, am_nr_l, Option.toList_some, Option.toList_none, List.nil_append, List.cons_append, va_rf_s, va_rf_n, am_II, am_I_sR, am_I_sL, am_R_sI, am_RR, am_R_sL, am_L_sI, am_L_sR, am_LL, am_k_sI, am_k_sR, am_k_sL, am_n_sI, am_n_sR, am_n_sL, true_and, and_true, true_or, or_true, or_false, false_or, not_true_eq_false, not_false_eq_true, Nat.reduceLT, am_dS, am_dP, am_d1, Nat.reduceSub, Nat.reduceMul, ne_eq, Nat.reduceBEq, Nat.reduceAdd, Nat.reduceLeDiff, Nat.reduceEqDiff, and_self, and_false, false_and, if_true, if_false, am_nb, am_nb0, am_nb1, am_lc1, am_lc2, am_lc3, am_b0, am_b1, am_10, am_c8, am_c16, am_c24, am_c32, am_c40, am_c48, am_c56, am_c64, am_c72, Nat.add_zero, Bool.false_eq_true, Nat.zero_le, hk0, hR1, hk1, hN, hlt, hin, hcl, k0, k1, k3, hn, hn', nI_1]
          exact hK _
theorem op_sheet (hI : Inv q μ) : OP q mX1_sheet mX3_sheet [.ref 0, .int kd, .int nn, .int ff, .int st, am_F, am_F, am_F] [.ref 54, .int kd, .int nn, .int ff, .int st, am_F, am_F, am_F, am_F] μ := by
  intro d
  have hI' := hI
  obtain ⟨⟨N, C, ru, c, hP⟩, hT, hR, b1, b2, b3⟩ := hI
  have hC := hP.1.1
  have hcu := hC.1
  simp only [cL, spL, Nat.reduceAdd] at hcu
  have hN := hC.2.1
  have h8 := hC.2.2.1
  have hS := hP.1.2.1
  have hmu := hS.1.1
  unfold mL at hmu
  have l3 : (3 : Int64) = (3 : Int32).toInt64 := by decide
  by_cases hx : 0 ≤ kd ∧ kd ≤ 3
  · have hxL : (0 : Int32).toInt64 ≤ kd.toInt64 ∧ kd.toInt64 ≤ (3 : Int32).toInt64 := by rw [am_leL, am_leL]; exact hx
    by_cases hn8 : nn ≤ 8
    · have hle3 : (3 ≤ kd) = (kd = 3) := propext ⟨fun e => Int32.le_antisymm hx.2 e, fun e => by rw [e]; exact Int32.le_refl _⟩
      by_cases h2 : ¬ kd = 3 ∧ nn < 0
      · have h2' := Int32.not_le.mpr h2.2
        simp only [gX1_sheet_0, gX1_sheet_1, gX1_sheet_2, gX1_sheet_3, gX1_sheet_6, gX1_sheet_9, gX1_sheet_12, gX1_sheet_13, gX1_sheet_15, gX1_sheet_18, gX1_sheet_19, gX1_sheet_20, gX1_sheet_21, gX1_sheet_22, gX1_sheet_25, gX1_sheet_26, gX1_sheet_29, gX1_sheet_31, am_kill_int, am_kill_ref, am_kill_null, am_kill_F, am_kill_long, am_cat_n, am_cat_i, am_cat_r, am_cat_0, am_cat_l, am_nr_n, am_nr_i, am_nr_r, am_nr_0, am_nr_l, Option.toList_some, Option.toList_none, List.nil_append, List.cons_append, va_rf_s, va_rf_n, am_II, am_I_sR, am_I_sL, am_R_sI, am_RR, am_R_sL, am_L_sI, am_L_sR, am_LL, am_k_sI, am_k_sR, am_k_sL, am_n_sI, am_n_sR, am_n_sL, true_and, and_true, true_or, or_true, or_false, false_or, not_true_eq_false, not_false_eq_true, Nat.reduceLT, am_dS, am_dP, am_d1, Nat.reduceSub, Nat.reduceMul, ne_eq, Nat.reduceBEq, Nat.reduceAdd, Nat.reduceLeDiff, Nat.reduceEqDiff, and_self, and_false, false_and, if_true, if_false, am_nb, am_nb0, am_nb1, am_lc1, am_lc2, am_lc3, am_b0, am_b1, am_10, am_c8, am_c16, am_c24, am_c32, am_c40, am_c48, am_c56, am_c64, am_c72, Nat.add_zero, Bool.false_eq_true, Nat.zero_le, hcu, wX1_in, am_l0, l3, hxL, hn8, h2.1, h2.2, h2']
        refine ⟨_, rfl, ?_⟩
        simp only [gX3_sheet_0, gX3_sheet_1, gX3_sheet_2, gX3_sheet_5, gX3_sheet_6, gX3_sheet_7, gX3_sheet_8, gX3_sheet_11, gX3_sheet_14, gX3_sheet_15, gX3_sheet_17, gX3_sheet_20, gX3_sheet_21, gX3_sheet_22, gX3_sheet_23, gX3_sheet_24, gX3_sheet_27, gX3_sheet_28, gX3_sheet_31, gX3_sheet_33, am_kill_int, am_kill_ref, am_kill_null, am_kill_F, am_kill_long, am_cat_n, am_cat_i, am_cat_r, am_cat_0, am_cat_l, am_nr_n, am_nr_i, am_nr_r, am_nr_0, am_nr_l, Option.toList_some, Option.toList_none, List.nil_append, List.cons_append, va_rf_s, va_rf_n, am_II, am_I_sR, am_I_sL, am_R_sI, am_RR, am_R_sL, am_L_sI, am_L_sR, am_LL, am_k_sI, am_k_sR, am_k_sL, am_n_sI, am_n_sR, am_n_sL, true_and, and_true, true_or, or_true, or_false, false_or, not_true_eq_false, not_false_eq_true, Nat.reduceLT, am_dS, am_dP, am_d1, Nat.reduceSub, Nat.reduceMul, ne_eq, Nat.reduceBEq, Nat.reduceAdd, Nat.reduceLeDiff, Nat.reduceEqDiff, and_self, and_false, false_and, if_true, if_false, am_nb, am_nb0, am_nb1, am_lc1, am_lc2, am_lc3, am_b0, am_b1, am_10, am_c8, am_c16, am_c24, am_c32, am_c40, am_c48, am_c56, am_c64, am_c72, Nat.add_zero, Bool.false_eq_true, Nat.zero_le, hmu, wX3_in, hx, hn8, h2.1, h2.2, h2', hle3]
        exact hI'.thr
      · have mainM : ∀ ν, Fr (fun a _ => a = 3) μ ν → cS ν 1 = shT kd nn ff st (cS μ 1) N → am_Wp (d + 200) mX3_sheet 43 [.ref 54, .int kd, .int nn, .int ff, .int st, .int 0, .int ff, .int 0, am_F] [] (am_sI ν 54 7 0) (fun r2 μ2 => r2 = some (.int (if kd = 3 then -3 else suI (eK kd nn ff st) N)) ∧ Inv (q + 1) μ2) := fun ν hF hTc => by
          have hF0 : Fr (fun a b => a = 3 ∨ a = 55 ∨ (a = 54 ∧ b = 7)) μ (am_sI ν 54 7 0) := Fr.I (hF.le fun a b q => Or.inl q) (Or.inr (Or.inr ⟨rfl, rfl⟩))
          refine am_for (N := N) (fun k ls ξ => (∃ z, ls = [.ref 54, .int kd, .int nn, .int ff, .int st, .int (suI (eK kd nn ff st) k), .int (vSh ff st k), .int (nI k), z]) ∧ Fr (fun a _ => a = 55) (am_sI ν 54 7 0) ξ ∧ am_I ξ 55 = shT kd nn ff st (am_I μ 55) k) ?_ ?_ N 0 _ _ (by omega) ⟨⟨_, rfl⟩, Fr.refl, ?_⟩
          · rintro k ls ξ hk ⟨⟨z, rfl⟩, hF2, hr⟩ ih
            have hmξ := hF2.mLk (hF0.mLk hS.1.1)
            unfold mL at hmξ
            have hNξ : am_I ξ 54 1 = nI N := by rw [hF2.1 54 1 (by decide), hF0.1 54 1 (by omega)]; exact hS.1.2.1
            refine shM1 hmξ.1.1 hmξ.2.1 hmξ.1.2.1 hNξ h8 hk (fun z7 => ?_)
            refine ih _ _ ⟨⟨_, rfl⟩, Fr.I hF2 rfl, ?_⟩
            rw [am_row, hr]
            rfl
          · rintro ls ξ ⟨⟨z, rfl⟩, hF2, hr⟩
            have hmξ := hF2.mLk (hF0.mLk hS.1.1)
            unfold mL at hmξ
            have hNξ : am_I ξ 54 1 = nI N := by rw [hF2.1 54 1 (by decide), hF0.1 54 1 (by omega)]; exact hS.1.2.1
            have hFa : Fr (fun a b => a = 3 ∨ a = 55 ∨ (a = 54 ∧ b = 7)) μ ξ := hF0.trans (hF2.le fun a b q => Or.inr (Or.inl q))
            have hinv : Inv (q + 1) ξ := by
              refine inv_N hI' hP (hFa.le fun a b q => by unfold fN; omega) ?_ (hP.2.2.2.2.2.2.1.fw hP.2.2.2.2.2.1 hFa.toW (fun a b z => by omega)) (by obtain ⟨f, z1, z2⟩ := b3.2.1; exact ⟨f, by omega, (hFa.1 1 11 (by omega)).trans z2⟩)
              rw [cS_Fr hF2 fun a b z1 z2 z3 => by omega, cS_o (by omega), hTc, hr]
              exact hP.2.1.sh h8 N (Nat.le_refl N)
            rw [gX3_sheet_43]
            by_cases f : kd = 3
            · simp only [gX3_sheet_45, gX3_sheet_46, gX3_sheet_49, gX3_sheet_141, gX3_sheet_142, gX3_sheet_143, gX3_sheet_146, gX3_sheet_148, gX3_sheet_151, gX3_sheet_153, am_kill_int, am_kill_ref, am_kill_null, am_kill_F, am_kill_long, am_cat_n, am_cat_i, am_cat_r, am_cat_0, am_cat_l, am_nr_n, am_nr_i, am_nr_r, am_nr_0, am_nr_l, Option.toList_some, Option.toList_none, List.nil_append, List.cons_append, va_rf_s, va_rf_n, am_II, am_I_sR, am_I_sL, am_R_sI, am_RR, am_R_sL, am_L_sI, am_L_sR, am_LL, am_k_sI, am_k_sR, am_k_sL, am_n_sI, am_n_sR, am_n_sL, true_and, and_true, true_or, or_true, or_false, false_or, not_true_eq_false, not_false_eq_true, Nat.reduceLT, am_dS, am_dP, am_d1, Nat.reduceSub, Nat.reduceMul, ne_eq, Nat.reduceBEq, Nat.reduceAdd, Nat.reduceLeDiff, Nat.reduceEqDiff, and_self, and_false, false_and, if_true, if_false, am_nb, am_nb0, am_nb1, am_lc1, am_lc2, am_lc3, am_b0, am_b1, am_10, am_c8, am_c16, am_c24, am_c32, am_c40, am_c48, am_c56, am_c64, am_c72, Nat.add_zero, Bool.false_eq_true, Nat.zero_le, hmξ, hNξ, Int32.le_refl, f]
              exact hinv
            · simp only [gX3_sheet_45, gX3_sheet_46, gX3_sheet_49, gX3_sheet_141, gX3_sheet_142, gX3_sheet_143, gX3_sheet_146, gX3_sheet_148, gX3_sheet_151, gX3_sheet_153, am_kill_int, am_kill_ref, am_kill_null, am_kill_F, am_kill_long, am_cat_n, am_cat_i, am_cat_r, am_cat_0, am_cat_l, am_nr_n, am_nr_i, am_nr_r, am_nr_0, am_nr_l, Option.toList_some, Option.toList_none, List.nil_append, List.cons_append, va_rf_s, va_rf_n, am_II, am_I_sR, am_I_sL, am_R_sI, am_RR, am_R_sL, am_L_sI, am_L_sR, am_LL, am_k_sI, am_k_sR, am_k_sL, am_n_sI, am_n_sR, am_n_sL, true_and, and_true, true_or, or_true, or_false, false_or, not_true_eq_false, not_false_eq_true, Nat.reduceLT, am_dS, am_dP, am_d1, Nat.reduceSub, Nat.reduceMul, ne_eq, Nat.reduceBEq, Nat.reduceAdd, Nat.reduceLeDiff, Nat.reduceEqDiff, and_self, and_false, false_and, if_true, if_false, am_nb, am_nb0, am_nb1, am_lc1, am_lc2, am_lc3, am_b0, am_b1, am_10, am_c8, am_c16, am_c24, am_c32, am_c40, am_c48, am_c56, am_c64, am_c72, Nat.add_zero, Bool.false_eq_true, Nat.zero_le, hmξ, hNξ, Int32.le_refl, f]
              exact hinv
          · rw [am_row_o (by decide)]
            exact funext fun b => hF.1 55 b (fun e => absurd (show (55 : Nat) = 3 from e) (by decide))
        have hnn : ¬ kd = 3 → 0 ≤ nn := fun e => Int32.not_lt.mp fun z => h2 ⟨e, z⟩
        have fin : ∀ ν, Fr (fun a _ => a = 3) μ ν → cS ν 1 = shT kd nn ff st (cS μ 1) N → am_Wp (d + 200) mX3_sheet 0 [.ref 54, .int kd, .int nn, .int ff, .int st, am_F, am_F, am_F, am_F] [] ν (fun r2 μ2 => r2 = some (.int (if kd = 3 then -3 else suI (eK kd nn ff st) N)) ∧ Inv (q + 1) μ2) := fun ν hF hTc => by
          have hmν := hF.mLk hS.1.1
          unfold mL at hmν
          have hm := mainM ν hF hTc
          by_cases f : kd = 3
          · have f3 : (3 : Int32) ≤ kd := by rw [hle3]; exact f
            simp only [gX3_sheet_0, gX3_sheet_1, gX3_sheet_2, gX3_sheet_5, gX3_sheet_6, gX3_sheet_7, gX3_sheet_8, gX3_sheet_11, gX3_sheet_14, gX3_sheet_15, gX3_sheet_17, gX3_sheet_20, gX3_sheet_21, gX3_sheet_22, gX3_sheet_23, gX3_sheet_24, gX3_sheet_27, gX3_sheet_28, gX3_sheet_31, gX3_sheet_33, gX3_sheet_34, gX3_sheet_35, gX3_sheet_37, gX3_sheet_38, gX3_sheet_40, gX3_sheet_41, am_kill_int, am_kill_ref, am_kill_null, am_kill_F, am_kill_long, am_cat_n, am_cat_i, am_cat_r, am_cat_0, am_cat_l, am_nr_n, am_nr_i, am_nr_r, am_nr_0, am_nr_l, Option.toList_some, Option.toList_none, List.nil_append, List.cons_append, va_rf_s, va_rf_n, am_II, am_I_sR, am_I_sL, am_R_sI, am_RR, am_R_sL, am_L_sI, am_L_sR, am_LL, am_k_sI, am_k_sR, am_k_sL, am_n_sI, am_n_sR, am_n_sL, true_and, and_true, true_or, or_true, or_false, false_or, not_true_eq_false, not_false_eq_true, Nat.reduceLT, am_dS, am_dP, am_d1, Nat.reduceSub, Nat.reduceMul, ne_eq, Nat.reduceBEq, Nat.reduceAdd, Nat.reduceLeDiff, Nat.reduceEqDiff, and_self, and_false, false_and, if_true, if_false, am_nb, am_nb0, am_nb1, am_lc1, am_lc2, am_lc3, am_b0, am_b1, am_10, am_c8, am_c16, am_c24, am_c32, am_c40, am_c48, am_c56, am_c64, am_c72, Nat.add_zero, Bool.false_eq_true, Nat.zero_le, hmν, wX3_in, hx, hn8, f3]
            exact hm
          · have f3 : ¬ (3 : Int32) ≤ kd := by rw [hle3]; exact f
            simp only [gX3_sheet_0, gX3_sheet_1, gX3_sheet_2, gX3_sheet_5, gX3_sheet_6, gX3_sheet_7, gX3_sheet_8, gX3_sheet_11, gX3_sheet_14, gX3_sheet_15, gX3_sheet_17, gX3_sheet_20, gX3_sheet_21, gX3_sheet_22, gX3_sheet_23, gX3_sheet_24, gX3_sheet_27, gX3_sheet_28, gX3_sheet_31, gX3_sheet_33, gX3_sheet_34, gX3_sheet_35, gX3_sheet_37, gX3_sheet_38, gX3_sheet_40, gX3_sheet_41, am_kill_int, am_kill_ref, am_kill_null, am_kill_F, am_kill_long, am_cat_n, am_cat_i, am_cat_r, am_cat_0, am_cat_l, am_nr_n, am_nr_i, am_nr_r, am_nr_0, am_nr_l, Option.toList_some, Option.toList_none, List.nil_append, List.cons_append, va_rf_s, va_rf_n, am_II, am_I_sR, am_I_sL, am_R_sI, am_RR, am_R_sL, am_L_sI, am_L_sR, am_LL, am_k_sI, am_k_sR, am_k_sL, am_n_sI, am_n_sR, am_n_sL, true_and, and_true, true_or, or_true, or_false, false_or, not_true_eq_false, not_false_eq_true, Nat.reduceLT, am_dS, am_dP, am_d1, Nat.reduceSub, Nat.reduceMul, ne_eq, Nat.reduceBEq, Nat.reduceAdd, Nat.reduceLeDiff, Nat.reduceEqDiff, and_self, and_false, false_and, if_true, if_false, am_nb, am_nb0, am_nb1, am_lc1, am_lc2, am_lc3, am_b0, am_b1, am_10, am_c8, am_c16, am_c24, am_c32, am_c40, am_c48, am_c56, am_c64, am_c72, Nat.add_zero, Bool.false_eq_true, Nat.zero_le, hmν, wX3_in, hx, hn8, f3, hnn f]
            exact hm
        have main : am_Wp (d + 200) mX1_sheet 38 [.ref 0, .int kd, .int nn, .int ff, .int st, .int ff, .int 0, am_F] [] μ (fun r1 μ1 => ∃ v, r1 = some (.int v) ∧ am_Wp (d + 200) mX3_sheet 0 [.ref 54, .int kd, .int nn, .int ff, .int st, am_F, am_F, am_F, am_F] [] μ1 (fun r2 μ2 => r2 = some (.int v) ∧ Inv (q + 1) μ2)) := by
          refine am_for (N := N) (fun k ls ν => (∃ z, ls = [.ref 0, .int kd, .int nn, .int ff, .int st, .int (vSh ff st k), .int (nI k), z]) ∧ Fr (fun a _ => a = 3) μ ν ∧ cS ν 1 = shT kd nn ff st (cS μ 1) k) ?_ ?_ N 0 _ _ (by omega) ⟨⟨_, rfl⟩, Fr.refl, rfl⟩
          · rintro k ls ν hk ⟨⟨z, rfl⟩, hF, hr⟩ ih
            have hcν : cL (am_k ν) (am_R ν) := hF.cL hC.1
            simp only [cL, spL, Nat.reduceAdd] at hcν
            have hNν : am_I ν 0 2 = nI N := (hF.1 0 2 (by decide)).trans hN
            refine shC1 hcν.1.1 hcν.2.1.1 hcν.2.2.1.1 hcν.2.2.1.2.2.1 hcν.2.2.1.2.2.2.2.2.2.2.2.2.2.2.2.1 hNν h8 hk (fun z7 => ?_)
            refine ih _ _ ⟨⟨_, rfl⟩, Fr.I hF rfl, ?_⟩
            rw [show (3 : Nat) = 1 + 2 by decide, cS_w1 (by omega), hr]
            rfl
          · rintro ls ν ⟨⟨z, rfl⟩, hF, hr⟩
            have hcν : cL (am_k ν) (am_R ν) := hF.cL hC.1
            simp only [cL, spL, Nat.reduceAdd] at hcν
            have hNν : am_I ν 0 2 = nI N := (hF.1 0 2 (by decide)).trans hN
            have hsu : suI (am_I ν 3) N = suI (eK kd nn ff st) N := suI_c fun j hj => by
              rw [show am_I ν 3 j = cS ν 1 (8 + j) from (cS_1 (by omega)).symm, hr, shT_v h8 (by omega), if_pos hj]
            have hsum := fun K => wX1_sumOf (d := d + 199) (K := K) (h := 3) hNν h8 hcν.1.1 hcν.2.2.1.2.2.2.2.2.2.2.2.2.2.2.2.1
            rw [hsu] at hsum
            have ff' := fin ν hF hr
            rw [gX1_sheet_38]
            by_cases f : kd = 3
            · rw [if_pos f] at ff'
              simp only [gX1_sheet_40, gX1_sheet_41, gX1_sheet_44, gX1_sheet_121, gX1_sheet_122, gX1_sheet_123, gX1_sheet_126, gX1_sheet_128, gX1_sheet_142, am_kill_int, am_kill_ref, am_kill_null, am_kill_F, am_kill_long, am_cat_n, am_cat_i, am_cat_r, am_cat_0, am_cat_l, am_nr_n, am_nr_i, am_nr_r, am_nr_0, am_nr_l, Option.toList_some, Option.toList_none, List.nil_append, List.cons_append, va_rf_s, va_rf_n, am_II, am_I_sR, am_I_sL, am_R_sI, am_RR, am_R_sL, am_L_sI, am_L_sR, am_LL, am_k_sI, am_k_sR, am_k_sL, am_n_sI, am_n_sR, am_n_sL, true_and, and_true, true_or, or_true, or_false, false_or, not_true_eq_false, not_false_eq_true, Nat.reduceLT, am_dS, am_dP, am_d1, Nat.reduceSub, Nat.reduceMul, ne_eq, Nat.reduceBEq, Nat.reduceAdd, Nat.reduceLeDiff, Nat.reduceEqDiff, and_self, and_false, false_and, if_true, if_false, am_nb, am_nb0, am_nb1, am_lc1, am_lc2, am_lc3, am_b0, am_b1, am_10, am_c8, am_c16, am_c24, am_c32, am_c40, am_c48, am_c56, am_c64, am_c72, Nat.add_zero, Bool.false_eq_true, Nat.zero_le, hcν, hNν, Int32.le_refl, f]
              rw [f] at ff'
              exact ⟨_, rfl, ff'⟩
            · rw [if_neg f] at ff'
              simp only [gX1_sheet_40, gX1_sheet_41, gX1_sheet_44, gX1_sheet_121, gX1_sheet_122, gX1_sheet_123, gX1_sheet_126, gX1_sheet_128, gX1_sheet_131, gX1_sheet_132, gX1_sheet_133, gX1_sheet_136, gX1_sheet_139, am_kill_int, am_kill_ref, am_kill_null, am_kill_F, am_kill_long, am_cat_n, am_cat_i, am_cat_r, am_cat_0, am_cat_l, am_nr_n, am_nr_i, am_nr_r, am_nr_0, am_nr_l, Option.toList_some, Option.toList_none, List.nil_append, List.cons_append, va_rf_s, va_rf_n, am_II, am_I_sR, am_I_sL, am_R_sI, am_RR, am_R_sL, am_L_sI, am_L_sR, am_LL, am_k_sI, am_k_sR, am_k_sL, am_n_sI, am_n_sR, am_n_sL, true_and, and_true, true_or, or_true, or_false, false_or, not_true_eq_false, not_false_eq_true, Nat.reduceLT, am_dS, am_dP, am_d1, Nat.reduceSub, Nat.reduceMul, ne_eq, Nat.reduceBEq, Nat.reduceAdd, Nat.reduceLeDiff, Nat.reduceEqDiff, and_self, and_false, false_and, if_true, if_false, am_nb, am_nb0, am_nb1, am_lc1, am_lc2, am_lc3, am_b0, am_b1, am_10, am_c8, am_c16, am_c24, am_c32, am_c40, am_c48, am_c56, am_c64, am_c72, Nat.add_zero, Bool.false_eq_true, Nat.zero_le, hcν, hNν, Int32.le_refl, f]
              rw [hsum]
              simp only [gX1_sheet_142, am_kill_int, am_kill_ref, am_kill_null, am_kill_F, am_kill_long, am_cat_n, am_cat_i, am_cat_r, am_cat_0, am_cat_l, am_nr_n, am_nr_i, am_nr_r, am_nr_0, am_nr_l, Option.toList_some, Option.toList_none, List.nil_append, List.cons_append, va_rf_s, va_rf_n, am_II, am_I_sR, am_I_sL, am_R_sI, am_RR, am_R_sL, am_L_sI, am_L_sR, am_LL, am_k_sI, am_k_sR, am_k_sL, am_n_sI, am_n_sR, am_n_sL, true_and, and_true, true_or, or_true, or_false, false_or, not_true_eq_false, not_false_eq_true, Nat.reduceLT, am_dS, am_dP, am_d1, Nat.reduceSub, Nat.reduceMul, ne_eq, Nat.reduceBEq, Nat.reduceAdd, Nat.reduceLeDiff, Nat.reduceEqDiff, and_self, and_false, false_and, if_true, if_false, am_nb, am_nb0, am_nb1, am_lc1, am_lc2, am_lc3, am_b0, am_b1, am_10, am_c8, am_c16, am_c24, am_c32, am_c40, am_c48, am_c56, am_c64, am_c72, Nat.add_zero, Bool.false_eq_true, Nat.zero_le]
              exact ⟨_, rfl, ff'⟩
        by_cases f : kd = 3
        · have f3 : (3 : Int32) ≤ kd := by rw [hle3]; exact f
          simp only [gX1_sheet_0, gX1_sheet_1, gX1_sheet_2, gX1_sheet_3, gX1_sheet_6, gX1_sheet_9, gX1_sheet_12, gX1_sheet_13, gX1_sheet_15, gX1_sheet_18, gX1_sheet_19, gX1_sheet_20, gX1_sheet_21, gX1_sheet_22, gX1_sheet_25, gX1_sheet_26, gX1_sheet_29, gX1_sheet_31, gX1_sheet_32, gX1_sheet_33, gX1_sheet_35, gX1_sheet_36, am_kill_int, am_kill_ref, am_kill_null, am_kill_F, am_kill_long, am_cat_n, am_cat_i, am_cat_r, am_cat_0, am_cat_l, am_nr_n, am_nr_i, am_nr_r, am_nr_0, am_nr_l, Option.toList_some, Option.toList_none, List.nil_append, List.cons_append, va_rf_s, va_rf_n, am_II, am_I_sR, am_I_sL, am_R_sI, am_RR, am_R_sL, am_L_sI, am_L_sR, am_LL, am_k_sI, am_k_sR, am_k_sL, am_n_sI, am_n_sR, am_n_sL, true_and, and_true, true_or, or_true, or_false, false_or, not_true_eq_false, not_false_eq_true, Nat.reduceLT, am_dS, am_dP, am_d1, Nat.reduceSub, Nat.reduceMul, ne_eq, Nat.reduceBEq, Nat.reduceAdd, Nat.reduceLeDiff, Nat.reduceEqDiff, and_self, and_false, false_and, if_true, if_false, am_nb, am_nb0, am_nb1, am_lc1, am_lc2, am_lc3, am_b0, am_b1, am_10, am_c8, am_c16, am_c24, am_c32, am_c40, am_c48, am_c56, am_c64, am_c72, Nat.add_zero, Bool.false_eq_true, Nat.zero_le, hcu, wX1_in, am_l0, l3, hxL, hn8, if_pos f]
          exact main
        · simp only [gX1_sheet_0, gX1_sheet_1, gX1_sheet_2, gX1_sheet_3, gX1_sheet_6, gX1_sheet_9, gX1_sheet_12, gX1_sheet_13, gX1_sheet_15, gX1_sheet_18, gX1_sheet_19, gX1_sheet_20, gX1_sheet_21, gX1_sheet_22, gX1_sheet_25, gX1_sheet_26, gX1_sheet_29, gX1_sheet_31, gX1_sheet_32, gX1_sheet_33, gX1_sheet_35, gX1_sheet_36, am_kill_int, am_kill_ref, am_kill_null, am_kill_F, am_kill_long, am_cat_n, am_cat_i, am_cat_r, am_cat_0, am_cat_l, am_nr_n, am_nr_i, am_nr_r, am_nr_0, am_nr_l, Option.toList_some, Option.toList_none, List.nil_append, List.cons_append, va_rf_s, va_rf_n, am_II, am_I_sR, am_I_sL, am_R_sI, am_RR, am_R_sL, am_L_sI, am_L_sR, am_LL, am_k_sI, am_k_sR, am_k_sL, am_n_sI, am_n_sR, am_n_sL, true_and, and_true, true_or, or_true, or_false, false_or, not_true_eq_false, not_false_eq_true, Nat.reduceLT, am_dS, am_dP, am_d1, Nat.reduceSub, Nat.reduceMul, ne_eq, Nat.reduceBEq, Nat.reduceAdd, Nat.reduceLeDiff, Nat.reduceEqDiff, and_self, and_false, false_and, if_true, if_false, am_nb, am_nb0, am_nb1, am_lc1, am_lc2, am_lc3, am_b0, am_b1, am_10, am_c8, am_c16, am_c24, am_c32, am_c40, am_c48, am_c56, am_c64, am_c72, Nat.add_zero, Bool.false_eq_true, Nat.zero_le, hcu, wX1_in, am_l0, l3, hxL, hn8, f, hnn f]
          exact main
    · simp only [gX1_sheet_0, gX1_sheet_1, gX1_sheet_2, gX1_sheet_3, gX1_sheet_6, gX1_sheet_9, gX1_sheet_12, gX1_sheet_13, gX1_sheet_15, gX1_sheet_18, gX1_sheet_19, am_kill_int, am_kill_ref, am_kill_null, am_kill_F, am_kill_long, am_cat_n, am_cat_i, am_cat_r, am_cat_0, am_cat_l, am_nr_n, am_nr_i, am_nr_r, am_nr_0, am_nr_l, Option.toList_some, Option.toList_none, List.nil_append, List.cons_append, va_rf_s, va_rf_n, am_II, am_I_sR, am_I_sL, am_R_sI, am_RR, am_R_sL, am_L_sI, am_L_sR, am_LL, am_k_sI, am_k_sR, am_k_sL, am_n_sI, am_n_sR, am_n_sL, true_and, and_true, true_or, or_true, or_false, false_or, not_true_eq_false, not_false_eq_true, Nat.reduceLT, am_dS, am_dP, am_d1, Nat.reduceSub, Nat.reduceMul, ne_eq, Nat.reduceBEq, Nat.reduceAdd, Nat.reduceLeDiff, Nat.reduceEqDiff, and_self, and_false, false_and, if_true, if_false, am_nb, am_nb0, am_nb1, am_lc1, am_lc2, am_lc3, am_b0, am_b1, am_10, am_c8, am_c16, am_c24, am_c32, am_c40, am_c48, am_c56, am_c64, am_c72, Nat.add_zero, Bool.false_eq_true, Nat.zero_le, hcu, wX1_in, am_l0, l3, hxL, hn8]
      refine ⟨_, rfl, ?_⟩
      simp only [gX3_sheet_0, gX3_sheet_1, gX3_sheet_2, gX3_sheet_5, gX3_sheet_6, gX3_sheet_7, gX3_sheet_8, gX3_sheet_11, gX3_sheet_14, gX3_sheet_15, gX3_sheet_17, gX3_sheet_20, gX3_sheet_21, am_kill_int, am_kill_ref, am_kill_null, am_kill_F, am_kill_long, am_cat_n, am_cat_i, am_cat_r, am_cat_0, am_cat_l, am_nr_n, am_nr_i, am_nr_r, am_nr_0, am_nr_l, Option.toList_some, Option.toList_none, List.nil_append, List.cons_append, va_rf_s, va_rf_n, am_II, am_I_sR, am_I_sL, am_R_sI, am_RR, am_R_sL, am_L_sI, am_L_sR, am_LL, am_k_sI, am_k_sR, am_k_sL, am_n_sI, am_n_sR, am_n_sL, true_and, and_true, true_or, or_true, or_false, false_or, not_true_eq_false, not_false_eq_true, Nat.reduceLT, am_dS, am_dP, am_d1, Nat.reduceSub, Nat.reduceMul, ne_eq, Nat.reduceBEq, Nat.reduceAdd, Nat.reduceLeDiff, Nat.reduceEqDiff, and_self, and_false, false_and, if_true, if_false, am_nb, am_nb0, am_nb1, am_lc1, am_lc2, am_lc3, am_b0, am_b1, am_10, am_c8, am_c16, am_c24, am_c32, am_c40, am_c48, am_c56, am_c64, am_c72, Nat.add_zero, Bool.false_eq_true, Nat.zero_le, hmu, wX3_in, hx, hn8]
      exact hI'.thr
  · have hxL : ¬ ((0 : Int32).toInt64 ≤ kd.toInt64 ∧ kd.toInt64 ≤ (3 : Int32).toInt64) := by rw [am_leL, am_leL]; exact hx
    simp only [gX1_sheet_0, gX1_sheet_1, gX1_sheet_2, gX1_sheet_3, gX1_sheet_6, gX1_sheet_9, gX1_sheet_12, gX1_sheet_13, gX1_sheet_15, gX1_sheet_18, gX1_sheet_19, am_kill_int, am_kill_ref, am_kill_null, am_kill_F, am_kill_long, am_cat_n, am_cat_i, am_cat_r, am_cat_0, am_cat_l, am_nr_n, am_nr_i, am_nr_r, am_nr_0, am_nr_l, Option.toList_some, Option.toList_none, List.nil_append, List.cons_append, va_rf_s, va_rf_n, am_II, am_I_sR, am_I_sL, am_R_sI, am_RR, am_R_sL, am_L_sI, am_L_sR, am_LL, am_k_sI, am_k_sR, am_k_sL, am_n_sI, am_n_sR, am_n_sL, true_and, and_true, true_or, or_true, or_false, false_or, not_true_eq_false, not_false_eq_true, Nat.reduceLT, am_dS, am_dP, am_d1, Nat.reduceSub, Nat.reduceMul, ne_eq, Nat.reduceBEq, Nat.reduceAdd, Nat.reduceLeDiff, Nat.reduceEqDiff, and_self, and_false, false_and, if_true, if_false, am_nb, am_nb0, am_nb1, am_lc1, am_lc2, am_lc3, am_b0, am_b1, am_10, am_c8, am_c16, am_c24, am_c32, am_c40, am_c48, am_c56, am_c64, am_c72, Nat.add_zero, Bool.false_eq_true, Nat.zero_le, hcu, wX1_in, am_l0, l3, hxL]
    refine ⟨_, rfl, ?_⟩
    simp only [gX3_sheet_0, gX3_sheet_1, gX3_sheet_2, gX3_sheet_5, gX3_sheet_6, gX3_sheet_7, gX3_sheet_8, gX3_sheet_11, gX3_sheet_14, gX3_sheet_15, gX3_sheet_17, gX3_sheet_20, gX3_sheet_21, am_kill_int, am_kill_ref, am_kill_null, am_kill_F, am_kill_long, am_cat_n, am_cat_i, am_cat_r, am_cat_0, am_cat_l, am_nr_n, am_nr_i, am_nr_r, am_nr_0, am_nr_l, Option.toList_some, Option.toList_none, List.nil_append, List.cons_append, va_rf_s, va_rf_n, am_II, am_I_sR, am_I_sL, am_R_sI, am_RR, am_R_sL, am_L_sI, am_L_sR, am_LL, am_k_sI, am_k_sR, am_k_sL, am_n_sI, am_n_sR, am_n_sL, true_and, and_true, true_or, or_true, or_false, false_or, not_true_eq_false, not_false_eq_true, Nat.reduceLT, am_dS, am_dP, am_d1, Nat.reduceSub, Nat.reduceMul, ne_eq, Nat.reduceBEq, Nat.reduceAdd, Nat.reduceLeDiff, Nat.reduceEqDiff, and_self, and_false, false_and, if_true, if_false, am_nb, am_nb0, am_nb1, am_lc1, am_lc2, am_lc3, am_b0, am_b1, am_10, am_c8, am_c16, am_c24, am_c32, am_c40, am_c48, am_c56, am_c64, am_c72, Nat.add_zero, Bool.false_eq_true, Nat.zero_le, hmu, wX3_in, hx]
    exact hI'.thr
end PXV
