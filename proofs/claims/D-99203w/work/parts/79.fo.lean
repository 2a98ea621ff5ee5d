/-! calls that ask: exchanged -/
set_option maxRecDepth 100000
section FOV
variable {d : Nat} {μ ν ξ : am_M} {K : Option Value → am_M → Prop} {x y z c : Int32} {h h' N C i j k r n M q m t w a b : Nat} {ru : Option PF} {S T row : Nat → Int32} {p : Nat → Bool} {v : Nat → Nat → Int32}
theorem fcN_s : ∀ {n i : Nat}, fcN p (n + 1) i = fcN p n i + (if p (i + n) = true then 1 else 0) := fun {n i} => by
  rw [fcN_a]
  rfl
theorem cnI_e : ∀ n, cnI p n x = x + nI (fcN p n 0)
  | 0 => by show x = x + 0; rw [Int32.add_zero]
  | n + 1 => by
    rw [show cnI p (n + 1) x = if p n = true then cnI p n x + 1 else cnI p n x from rfl, fcN_s, Nat.zero_add, cnI_e n]
    split
    · rw [Int32.add_assoc, nI_1]
    · rw [Nat.add_zero]
theorem turned_e (h8 : N ≤ 8) (h82 : T 82 = y) : dayC N ru T 82 - y = nI (fcN (outB N ru T) N 0) := by
  rw [dayC_82 h8, cnI_e, h82, Int32.add_comm, Int32.add_sub_cancel]
/-- the first of the least pairs -/
def stE (s : Option (Int32 × Nat × Nat)) (v : Int32) (a b : Nat) : Option (Int32 × Nat × Nat) := match s with
  | none => some (v, a, b)
  | some (l, x, y) => if v < l then some (v, a, b) else some (l, x, y)
def inE (v : Nat → Nat → Int32) (a : Nat) (s : Option (Int32 × Nat × Nat)) : Nat → Option (Int32 × Nat × Nat)
  | 0 => s
  | k + 1 => stE (inE v a s k) (v a (a + 1 + k)) a (a + 1 + k)
def ouE (v : Nat → Nat → Int32) (N : Nat) : Nat → Option (Int32 × Nat × Nat)
  | 0 => none
  | a + 1 => inE v a (ouE v N a) (N - (a + 1))
theorem stE_some {s : Option (Int32 × Nat × Nat)} {v : Int32} : ∃ l, stE s v a b = some l := by
  cases s with
  | none => exact ⟨_, rfl⟩
  | some q =>
    unfold stE
    by_cases f : v < q.1
    · exact ⟨_, if_pos f⟩
    · exact ⟨_, if_neg f⟩
theorem inE_some {s : Option (Int32 × Nat × Nat)} : ∀ k, ((∃ l, s = some l) ∨ 1 ≤ k) → ∃ l, inE v a s k = some l
  | 0, h => h.elim id (fun e => absurd e (by omega))
  | k + 1, _ => stE_some
theorem ouE_some (hN : 2 ≤ N) : ∀ k, 1 ≤ k → ∃ l, ouE v N k = some l
  | 0, h => absurd h (by omega)
  | 1, _ => inE_some (N - 1) (Or.inr (by omega))
  | k + 2, _ => inE_some (N - (k + 2)) (Or.inl (ouE_some hN (k + 1) (by omega)))
def eL (l0 : Int32) (s : Option (Int32 × Nat × Nat)) : Int32 := match s with
  | none => l0
  | some q => q.1
def eX (l0 : Int32) (s : Option (Int32 × Nat × Nat)) : Int32 := match s with
  | none => l0
  | some q => nI q.2.1
def eY (l0 : Int32) (s : Option (Int32 × Nat × Nat)) : Int32 := match s with
  | none => l0
  | some q => nI q.2.2
def vEx (N : Nat) (ru : Option PF) (S : Nat → Int32) (a b : Nat) : Int32 := nI (fcN (outB N ru (excT S a b)) N 0)
theorem vEx_lt (h8 : N ≤ 8) : vEx N ru S a b < 1000000 ∧ vEx N ru S a b < 2000000000 := by
  have := fcN_le (p := outB N ru (excT S a b)) (n := N) (i := 0)
  unfold vEx
  exact ⟨by rw [show (1000000 : Int32) = nI 1000000 from rfl]; exact nI_lt (by omega) (by omega), by rw [show (2000000000 : Int32) = nI 2000000000 from rfl]; exact nI_lt (by omega) (by omega)⟩
def fEx (N : Nat) (ru : Option PF) (S : Nat → Int32) : Option (Int32 × Nat × Nat) := ouE (vEx N ru S) N N
def vXd (N : Nat) (ru : Option PF) (S : Nat → Int32) : Int32 := if 2 ≤ N then eL 0 (fEx N ru S) else -2
def pXd (N : Nat) (ru : Option PF) (S : Nat → Int32) : Option (List Int64) := if 2 ≤ N then some [(eX 0 (fEx N ru S)).toInt64, (eY 0 (fEx N ru S)).toInt64, (nI (fcN (outB N ru S) N 0)).toInt64] else none
theorem wX1_tells1' {p : Int64} (hr : am_I μ 0 40 = 1) (hk : am_k μ 0 = (0, 0)) (hR : am_R μ 0 39 = some 53) (hk2 : am_k μ 53 = (12, 16)) : am_Wp d mX1_tells 0 [.ref 0, .long p, am_F] [] μ K ↔ K none (am_sI (am_sL μ 53 1 p) 0 40 2) := wX1_tells1 hr hk hR hk2
theorem qc_exchanged (hP : Per N C ru c μ) : QC mX1_exchanged [.ref 0, am_F, am_F, am_F, am_F, am_F, am_F] μ (vXd N ru (cS μ 1)) (pXd N ru (cS μ 1)) := by
  intro d K hK
  have hC := hP.1.1
  have hcu := hC.1
  simp only [cL, spL, Nat.reduceAdd] at hcu
  have hN := hC.2.1
  have h8 := hC.2.2.1
  have hk := hC.1.c
  unfold vXd pXd at hK
  have e2 : (2 : Int32) = nI 2 := rfl
  by_cases h2 : 2 ≤ N
  · simp only [if_pos h2] at hK
    have hle : nI 2 ≤ nI N := nI_le h2 (by omega)
    simp only [gX1_exchanged_0, gX1_exchanged_1, gX1_exchanged_4, gX1_exchanged_5, gX1_exchanged_8, gX1_exchanged_10, gX1_exchanged_11, gX1_exchanged_12, gX1_exchanged_13, gX1_exchanged_14, gX1_exchanged_15, gX1_exchanged_18, gX1_exchanged_19, gX1_exchanged_20, am_kill_int, am_kill_ref, am_kill_null, am_kill_F, am_kill_long, am_cat_n, am_cat_i, am_cat_r, am_cat_0, am_cat_l, am_nr_n, am_nr_i, am_nr_r, am_nr_0, am_nr_l, Option.toList_some, Option.toList_none, List.nil_append, List.cons_append, va_rf_s, va_rf_n, am_II, am_I_sR, am_I_sL, am_R_sI, am_RR, am_R_sL, am_L_sI, am_L_sR, am_LL, am_k_sI, am_k_sR, am_k_sL, am_n_sI, am_n_sR, am_n_sL, true_and, and_true, true_or, or_true, or_false, false_or, not_true_eq_false, not_false_eq_true, Nat.reduceLT, am_dS, am_dP, am_d1, Nat.reduceSub, Nat.reduceMul, ne_eq, Nat.reduceBEq, Nat.reduceAdd, Nat.reduceLeDiff, Nat.reduceEqDiff, and_self, and_false, false_and, if_true, if_false, am_nb, am_nb0, am_nb1, am_lc1, am_lc2, am_lc3, am_b0, am_b1, am_10, am_c8, am_c16, am_c24, am_c32, am_c40, am_c48, am_c56, am_c64, am_c72, Nat.add_zero, Bool.false_eq_true, Nat.zero_le, hcu, hN, e2, hle]
    obtain ⟨v, hv⟩ : ∃ v, v = vEx N ru (cS μ 1) := ⟨_, rfl⟩
    have hvl : ∀ a b, v a b < 1000000 := fun a b => by rw [hv]; exact (vEx_lt h8).1
    unfold fEx at hK
    rw [← hv] at hK
    refine am_for (N := N) (fun a ls ν => (∃ z5 z6, ls = [.ref 0, .int (eX 0 (ouE v N a)), .int (eY 0 (ouE v N a)), .int (eL 1000000 (ouE v N a)), .int (nI a), z5, z6]) ∧ Fr (jS 12) μ ν) ?_ ?_ N 0 _ _ (by omega) ⟨⟨_, _, rfl⟩, Fr.refl⟩
    · rintro a ls ν ha ⟨⟨z5, z6, rfl⟩, hF⟩ ih
      have hlt : ¬ nI N ≤ nI a := nI_ge ha (by omega)
      have hC1 := hC.js (by decide) (by decide) hF
      rw [gX1_exchanged_22]
      simp only [gX1_exchanged_24, gX1_exchanged_25, gX1_exchanged_28, gX1_exchanged_31, gX1_exchanged_33, gX1_exchanged_34, gX1_exchanged_35, am_kill_int, am_kill_ref, am_kill_null, am_kill_F, am_kill_long, am_cat_n, am_cat_i, am_cat_r, am_cat_0, am_cat_l, am_nr_n, am_nr_i, am_nr_r, am_nr_0, am_nr_l, Option.toList_some, Option.toList_none, List.nil_append, List.cons_append, va_rf_s, va_rf_n, am_II, am_I_sR, am_I_sL, am_R_sI, am_RR, am_R_sL, am_L_sI, am_L_sR, am_LL, am_k_sI, am_k_sR, am_k_sL, am_n_sI, am_n_sR, am_n_sL, true_and, and_true, true_or, or_true, or_false, false_or, not_true_eq_false, not_false_eq_true, Nat.reduceLT, am_dS, am_dP, am_d1, Nat.reduceSub, Nat.reduceMul, ne_eq, Nat.reduceBEq, Nat.reduceAdd, Nat.reduceLeDiff, Nat.reduceEqDiff, and_self, and_false, false_and, if_true, if_false, am_nb, am_nb0, am_nb1, am_lc1, am_lc2, am_lc3, am_b0, am_b1, am_10, am_c8, am_c16, am_c24, am_c32, am_c40, am_c48, am_c56, am_c64, am_c72, Nat.add_zero, Bool.false_eq_true, Nat.zero_le, hC1.1.c, hC1.2.1, hlt, nI_1]
      refine am_for (N := N - (a + 1)) (fun k ls ν => (∃ z6, ls = [.ref 0, .int (eX 0 (inE v a (ouE v N a) k)), .int (eY 0 (inE v a (ouE v N a) k)), .int (eL 1000000 (inE v a (ouE v N a) k)), .int (nI a), .int (nI (a + 1 + k)), z6]) ∧ Fr (jS 12) μ ν) ?_ ?_ (N - (a + 1)) 0 _ _ (by omega) ⟨⟨_, rfl⟩, hF⟩
      · rintro k ls ν hk' ⟨⟨z6, rfl⟩, hF⟩ ih2
        have hltb : ¬ nI N ≤ nI (a + 1 + k) := nI_ge (by omega) (by omega)
        have hC1 := hC.js (by decide) (by decide) hF
        have hcν := hC1.1
        simp only [cL, spL, Nat.reduceAdd] at hcν
        rw [gX1_exchanged_37]
        simp only [gX1_exchanged_39, gX1_exchanged_40, gX1_exchanged_43, gX1_exchanged_46, gX1_exchanged_47, gX1_exchanged_50, gX1_exchanged_51, gX1_exchanged_54, am_kill_int, am_kill_ref, am_kill_null, am_kill_F, am_kill_long, am_cat_n, am_cat_i, am_cat_r, am_cat_0, am_cat_l, am_nr_n, am_nr_i, am_nr_r, am_nr_0, am_nr_l, Option.toList_some, Option.toList_none, List.nil_append, List.cons_append, va_rf_s, va_rf_n, am_II, am_I_sR, am_I_sL, am_R_sI, am_RR, am_R_sL, am_L_sI, am_L_sR, am_LL, am_k_sI, am_k_sR, am_k_sL, am_n_sI, am_n_sR, am_n_sL, true_and, and_true, true_or, or_true, or_false, false_or, not_true_eq_false, not_false_eq_true, Nat.reduceLT, am_dS, am_dP, am_d1, Nat.reduceSub, Nat.reduceMul, ne_eq, Nat.reduceBEq, Nat.reduceAdd, Nat.reduceLeDiff, Nat.reduceEqDiff, and_self, and_false, false_and, if_true, if_false, am_nb, am_nb0, am_nb1, am_lc1, am_lc2, am_lc3, am_b0, am_b1, am_10, am_c8, am_c16, am_c24, am_c32, am_c40, am_c48, am_c56, am_c64, am_c72, Nat.add_zero, Bool.false_eq_true, Nat.zero_le, hcν, hC1.2.1, hltb]
        refine wX2_becomes (d := d + 198) hC1.1.s1 hC1.1.s2 (by decide) (fun ν1 hF1 hT1 => ?_)
        have hF1' := hF.trans (jS_le hF1)
        have hC2 := hC.js (by decide) (by decide) hF1'
        have hcν2 := hC2.1
        simp only [cL, spL, Nat.reduceAdd] at hcν2
        simp only [gX1_exchanged_57, gX1_exchanged_58, gX1_exchanged_59, gX1_exchanged_62, gX1_exchanged_64, gX1_exchanged_66, am_kill_int, am_kill_ref, am_kill_null, am_kill_F, am_kill_long, am_cat_n, am_cat_i, am_cat_r, am_cat_0, am_cat_l, am_nr_n, am_nr_i, am_nr_r, am_nr_0, am_nr_l, Option.toList_some, Option.toList_none, List.nil_append, List.cons_append, va_rf_s, va_rf_n, am_II, am_I_sR, am_I_sL, am_R_sI, am_RR, am_R_sL, am_L_sI, am_L_sR, am_LL, am_k_sI, am_k_sR, am_k_sL, am_n_sI, am_n_sR, am_n_sL, true_and, and_true, true_or, or_true, or_false, false_or, not_true_eq_false, not_false_eq_true, Nat.reduceLT, am_dS, am_dP, am_d1, Nat.reduceSub, Nat.reduceMul, ne_eq, Nat.reduceBEq, Nat.reduceAdd, Nat.reduceLeDiff, Nat.reduceEqDiff, and_self, and_false, false_and, if_true, if_false, am_nb, am_nb0, am_nb1, am_lc1, am_lc2, am_lc3, am_b0, am_b1, am_10, am_c8, am_c16, am_c24, am_c32, am_c40, am_c48, am_c56, am_c64, am_c72, Nat.add_zero, Bool.false_eq_true, Nat.zero_le, hcν2]
        refine wX1_exchanges (d := d + 196) hC2 hC2.1.s2 (fun ν2 hF2 hT2 => ?_)
        have hx : isN (nI a) N = true := isN_nI (by omega) (by omega)
        have hy : isN (nI (a + 1 + k)) N = true := isN_nI (by omega) (by omega)
        have hca : (nI a).toNatClampNeg = a := nI_clamp (by omega)
        have hcb : (nI (a + 1 + k)).toNatClampNeg = a + 1 + k := nI_clamp (by omega)
        have hab : ¬ nI a = nI (a + 1 + k) := fun e => by rw [e, hcb] at hca; omega
        have hT2' : cS ν2 12 = excT (cS μ 1) a (a + 1 + k) := by
          rw [hT2, hT1, jS_1 hF]
          unfold excO
          rw [if_pos ⟨hx, hy, hab⟩, hca, hcb]
        have hF2' := hF1'.trans (jS_le hF2)
        have hC3 := hC.js (by decide) (by decide) hF2'
        simp only [gX1_exchanged_69, gX1_exchanged_70, gX1_exchanged_71, am_kill_int, am_kill_ref, am_kill_null, am_kill_F, am_kill_long, am_cat_n, am_cat_i, am_cat_r, am_cat_0, am_cat_l, am_nr_n, am_nr_i, am_nr_r, am_nr_0, am_nr_l, Option.toList_some, Option.toList_none, List.nil_append, List.cons_append, va_rf_s, va_rf_n, am_II, am_I_sR, am_I_sL, am_R_sI, am_RR, am_R_sL, am_L_sI, am_L_sR, am_LL, am_k_sI, am_k_sR, am_k_sL, am_n_sI, am_n_sR, am_n_sL, true_and, and_true, true_or, or_true, or_false, false_or, not_true_eq_false, not_false_eq_true, Nat.reduceLT, am_dS, am_dP, am_d1, Nat.reduceSub, Nat.reduceMul, ne_eq, Nat.reduceBEq, Nat.reduceAdd, Nat.reduceLeDiff, Nat.reduceEqDiff, and_self, and_false, false_and, if_true, if_false, am_nb, am_nb0, am_nb1, am_lc1, am_lc2, am_lc3, am_b0, am_b1, am_10, am_c8, am_c16, am_c24, am_c32, am_c40, am_c48, am_c56, am_c64, am_c72, Nat.add_zero, Bool.false_eq_true, Nat.zero_le, hC3.1.c]
        refine wX1_turnedNow (d := d + 130) hC3 (fun ν3 hF3 hT3 => ?_)
        have hF3' := hF2'.trans hF3
        have ev : dayC N ru (cS ν2 12) 82 - cS ν2 1 82 = v a (a + 1 + k) := by
          rw [hT2', jS_1 hF2', hv]
          exact turned_e h8 (exc_k (by omega) (by omega) (by decide))
        rw [ev]
        have ih' := fun z6 => ih2 [.ref 0, .int (eX 0 (inE v a (ouE v N a) (k + 1))), .int (eY 0 (inE v a (ouE v N a) (k + 1))), .int (eL 1000000 (inE v a (ouE v N a) (k + 1))), .int (nI a), .int (nI (a + 1 + (k + 1))), z6] ν3 ⟨⟨z6, rfl⟩, hF3'⟩
        rw [show inE v a (ouE v N a) (k + 1) = stE (inE v a (ouE v N a) k) (v a (a + 1 + k)) a (a + 1 + k) from rfl] at ih'
        have e3 : nI (a + 1 + k) + 1 = nI (a + 1 + (k + 1)) := nI_1 _
        cases e : inE v a (ouE v N a) k with
        | none =>
          rw [e] at ih'
          have hl := hvl a (a + 1 + k)
          simp only [stE, eX, eY, eL] at ih'
          simp only [gX1_exchanged_74, gX1_exchanged_76, gX1_exchanged_78, gX1_exchanged_79, gX1_exchanged_82, gX1_exchanged_85, gX1_exchanged_87, gX1_exchanged_88, gX1_exchanged_90, gX1_exchanged_91, gX1_exchanged_93, gX1_exchanged_94, gX1_exchanged_97, am_kill_int, am_kill_ref, am_kill_null, am_kill_F, am_kill_long, am_cat_n, am_cat_i, am_cat_r, am_cat_0, am_cat_l, am_nr_n, am_nr_i, am_nr_r, am_nr_0, am_nr_l, Option.toList_some, Option.toList_none, List.nil_append, List.cons_append, va_rf_s, va_rf_n, am_II, am_I_sR, am_I_sL, am_R_sI, am_RR, am_R_sL, am_L_sI, am_L_sR, am_LL, am_k_sI, am_k_sR, am_k_sL, am_n_sI, am_n_sR, am_n_sL, true_and, and_true, true_or, or_true, or_false, false_or, not_true_eq_false, not_false_eq_true, Nat.reduceLT, am_dS, am_dP, am_d1, Nat.reduceSub, Nat.reduceMul, ne_eq, Nat.reduceBEq, Nat.reduceAdd, Nat.reduceLeDiff, Nat.reduceEqDiff, and_self, and_false, false_and, if_true, if_false, am_nb, am_nb0, am_nb1, am_lc1, am_lc2, am_lc3, am_b0, am_b1, am_10, am_c8, am_c16, am_c24, am_c32, am_c40, am_c48, am_c56, am_c64, am_c72, Nat.add_zero, Bool.false_eq_true, Nat.zero_le, eL, hl, e3]
          exact ih' _
        | some q =>
          rw [e] at ih'
          simp only [stE] at ih'
          by_cases f : v a (a + 1 + k) < q.1
          · simp only [if_pos f, eX, eY, eL] at ih'
            simp only [gX1_exchanged_74, gX1_exchanged_76, gX1_exchanged_78, gX1_exchanged_79, gX1_exchanged_82, gX1_exchanged_85, gX1_exchanged_87, gX1_exchanged_88, gX1_exchanged_90, gX1_exchanged_91, gX1_exchanged_93, gX1_exchanged_94, gX1_exchanged_97, am_kill_int, am_kill_ref, am_kill_null, am_kill_F, am_kill_long, am_cat_n, am_cat_i, am_cat_r, am_cat_0, am_cat_l, am_nr_n, am_nr_i, am_nr_r, am_nr_0, am_nr_l, Option.toList_some, Option.toList_none, List.nil_append, List.cons_append, va_rf_s, va_rf_n, am_II, am_I_sR, am_I_sL, am_R_sI, am_RR, am_R_sL, am_L_sI, am_L_sR, am_LL, am_k_sI, am_k_sR, am_k_sL, am_n_sI, am_n_sR, am_n_sL, true_and, and_true, true_or, or_true, or_false, false_or, not_true_eq_false, not_false_eq_true, Nat.reduceLT, am_dS, am_dP, am_d1, Nat.reduceSub, Nat.reduceMul, ne_eq, Nat.reduceBEq, Nat.reduceAdd, Nat.reduceLeDiff, Nat.reduceEqDiff, and_self, and_false, false_and, if_true, if_false, am_nb, am_nb0, am_nb1, am_lc1, am_lc2, am_lc3, am_b0, am_b1, am_10, am_c8, am_c16, am_c24, am_c32, am_c40, am_c48, am_c56, am_c64, am_c72, Nat.add_zero, Bool.false_eq_true, Nat.zero_le, eX, eY, eL, f, e3]
            exact ih' _
          · simp only [if_neg f, eX, eY, eL] at ih'
            simp only [gX1_exchanged_74, gX1_exchanged_76, gX1_exchanged_78, gX1_exchanged_79, gX1_exchanged_82, gX1_exchanged_85, gX1_exchanged_87, gX1_exchanged_88, gX1_exchanged_90, gX1_exchanged_91, gX1_exchanged_93, gX1_exchanged_94, gX1_exchanged_97, am_kill_int, am_kill_ref, am_kill_null, am_kill_F, am_kill_long, am_cat_n, am_cat_i, am_cat_r, am_cat_0, am_cat_l, am_nr_n, am_nr_i, am_nr_r, am_nr_0, am_nr_l, Option.toList_some, Option.toList_none, List.nil_append, List.cons_append, va_rf_s, va_rf_n, am_II, am_I_sR, am_I_sL, am_R_sI, am_RR, am_R_sL, am_L_sI, am_L_sR, am_LL, am_k_sI, am_k_sR, am_k_sL, am_n_sI, am_n_sR, am_n_sL, true_and, and_true, true_or, or_true, or_false, false_or, not_true_eq_false, not_false_eq_true, Nat.reduceLT, am_dS, am_dP, am_d1, Nat.reduceSub, Nat.reduceMul, ne_eq, Nat.reduceBEq, Nat.reduceAdd, Nat.reduceLeDiff, Nat.reduceEqDiff, and_self, and_false, false_and, if_true, if_false, am_nb, am_nb0, am_nb1, am_lc1, am_lc2, am_lc3, am_b0, am_b1, am_10, am_c8, am_c16, am_c24, am_c32, am_c40, am_c48, am_c56, am_c64, am_c72, Nat.add_zero, Bool.false_eq_true, Nat.zero_le, eX, eY, eL, f, e3]
            exact ih' _
      · rintro ls ν ⟨⟨z6, rfl⟩, hF⟩
        have hC1 := hC.js (by decide) (by decide) hF
        have hle : nI N ≤ nI (a + 1 + (N - (a + 1))) := nI_le (by omega) (by omega)
        have ih' := fun z5 z6 => ih [.ref 0, .int (eX 0 (ouE v N (a + 1))), .int (eY 0 (ouE v N (a + 1))), .int (eL 1000000 (ouE v N (a + 1))), .int (nI (a + 1)), z5, z6] ν ⟨⟨_, _, rfl⟩, hF⟩
        rw [show ouE v N (a + 1) = inE v a (ouE v N a) (N - (a + 1)) from rfl] at ih'
        rw [gX1_exchanged_37]
        simp only [gX1_exchanged_39, gX1_exchanged_40, gX1_exchanged_43, gX1_exchanged_100, gX1_exchanged_103, am_kill_int, am_kill_ref, am_kill_null, am_kill_F, am_kill_long, am_cat_n, am_cat_i, am_cat_r, am_cat_0, am_cat_l, am_nr_n, am_nr_i, am_nr_r, am_nr_0, am_nr_l, Option.toList_some, Option.toList_none, List.nil_append, List.cons_append, va_rf_s, va_rf_n, am_II, am_I_sR, am_I_sL, am_R_sI, am_RR, am_R_sL, am_L_sI, am_L_sR, am_LL, am_k_sI, am_k_sR, am_k_sL, am_n_sI, am_n_sR, am_n_sL, true_and, and_true, true_or, or_true, or_false, false_or, not_true_eq_false, not_false_eq_true, Nat.reduceLT, am_dS, am_dP, am_d1, Nat.reduceSub, Nat.reduceMul, ne_eq, Nat.reduceBEq, Nat.reduceAdd, Nat.reduceLeDiff, Nat.reduceEqDiff, and_self, and_false, false_and, if_true, if_false, am_nb, am_nb0, am_nb1, am_lc1, am_lc2, am_lc3, am_b0, am_b1, am_10, am_c8, am_c16, am_c24, am_c32, am_c40, am_c48, am_c56, am_c64, am_c72, Nat.add_zero, Bool.false_eq_true, Nat.zero_le, hC1.1.c, hC1.2.1, hle, nI_1]
        exact ih' _ _
    · rintro ls ν ⟨⟨z5, z6, rfl⟩, hF⟩
      have hC1 := hC.js (by decide) (by decide) hF
      have hcν := hC1.1
      simp only [cL, spL, Nat.reduceAdd] at hcν
      obtain ⟨l, hl⟩ := ouE_some (v := v) h2 N (by omega)
      rw [hl] at hK
      simp only [eX, eY, eL] at hK
      rw [gX1_exchanged_22]
      simp only [gX1_exchanged_24, gX1_exchanged_25, gX1_exchanged_28, gX1_exchanged_106, gX1_exchanged_107, gX1_exchanged_110, gX1_exchanged_111, gX1_exchanged_114, am_kill_int, am_kill_ref, am_kill_null, am_kill_F, am_kill_long, am_cat_n, am_cat_i, am_cat_r, am_cat_0, am_cat_l, am_nr_n, am_nr_i, am_nr_r, am_nr_0, am_nr_l, Option.toList_some, Option.toList_none, List.nil_append, List.cons_append, va_rf_s, va_rf_n, am_II, am_I_sR, am_I_sL, am_R_sI, am_RR, am_R_sL, am_L_sI, am_L_sR, am_LL, am_k_sI, am_k_sR, am_k_sL, am_n_sI, am_n_sR, am_n_sL, true_and, and_true, true_or, or_true, or_false, false_or, not_true_eq_false, not_false_eq_true, Nat.reduceLT, am_dS, am_dP, am_d1, Nat.reduceSub, Nat.reduceMul, ne_eq, Nat.reduceBEq, Nat.reduceAdd, Nat.reduceLeDiff, Nat.reduceEqDiff, and_self, and_false, false_and, if_true, if_false, am_nb, am_nb0, am_nb1, am_lc1, am_lc2, am_lc3, am_b0, am_b1, am_10, am_c8, am_c16, am_c24, am_c32, am_c40, am_c48, am_c56, am_c64, am_c72, Nat.add_zero, Bool.false_eq_true, Nat.zero_le, hcν, hC1.2.1, Int32.le_refl, hl, eX, eY, eL]
      refine wX2_becomes (d := d + 198) hC1.1.s1 hC1.1.s2 (by decide) (fun ν1 hF1 hT1 => ?_)
      have hF1' := hF.trans (jS_le hF1)
      have hC2 := hC.js (by decide) (by decide) hF1'
      simp only [gX1_exchanged_117, gX1_exchanged_118, am_kill_int, am_kill_ref, am_kill_null, am_kill_F, am_kill_long, am_cat_n, am_cat_i, am_cat_r, am_cat_0, am_cat_l, am_nr_n, am_nr_i, am_nr_r, am_nr_0, am_nr_l, Option.toList_some, Option.toList_none, List.nil_append, List.cons_append, va_rf_s, va_rf_n, am_II, am_I_sR, am_I_sL, am_R_sI, am_RR, am_R_sL, am_L_sI, am_L_sR, am_LL, am_k_sI, am_k_sR, am_k_sL, am_n_sI, am_n_sR, am_n_sL, true_and, and_true, true_or, or_true, or_false, false_or, not_true_eq_false, not_false_eq_true, Nat.reduceLT, am_dS, am_dP, am_d1, Nat.reduceSub, Nat.reduceMul, ne_eq, Nat.reduceBEq, Nat.reduceAdd, Nat.reduceLeDiff, Nat.reduceEqDiff, and_self, and_false, false_and, if_true, if_false, am_nb, am_nb0, am_nb1, am_lc1, am_lc2, am_lc3, am_b0, am_b1, am_10, am_c8, am_c16, am_c24, am_c32, am_c40, am_c48, am_c56, am_c64, am_c72, Nat.add_zero, Bool.false_eq_true, Nat.zero_le, hC2.1.c]
      refine wX1_turnedNow (d := d + 130) hC2 (fun ν2 hF2 hT2 => ?_)
      have hF2' := hF1'.trans hF2
      have hC3 := hC.js (by decide) (by decide) hF2'
      have hcν3 := hC3.1
      simp only [cL, spL, Nat.reduceAdd] at hcν3
      have ev : dayC N ru (cS ν1 12) 82 - cS ν1 1 82 = nI (fcN (outB N ru (cS μ 1)) N 0) := by
        rw [hT1, jS_1 hF, jS_1 hF1']
        exact turned_e h8 rfl
      rw [ev]
      have g := (jS_qc hF2').1
      simp only [gX1_exchanged_121, gX1_exchanged_123, gX1_exchanged_124, gX1_exchanged_125, gX1_exchanged_128, gX1_exchanged_129, gX1_exchanged_130, gX1_exchanged_131, gX1_exchanged_134, gX1_exchanged_135, gX1_exchanged_136, gX1_exchanged_137, gX1_exchanged_140, gX1_exchanged_141, gX1_exchanged_143, gX1_exchanged_144, gX1_exchanged_147, gX1_exchanged_148, am_kill_int, am_kill_ref, am_kill_null, am_kill_F, am_kill_long, am_cat_n, am_cat_i, am_cat_r, am_cat_0, am_cat_l, am_nr_n, am_nr_i, am_nr_r, am_nr_0, am_nr_l, Option.toList_some, Option.toList_none, List.nil_append, List.cons_append, va_rf_s, va_rf_n, am_II, am_I_sR, am_I_sL, am_R_sI, am_RR, am_R_sL, am_L_sI, am_L_sR, am_LL, am_k_sI, am_k_sR, am_k_sL, am_n_sI, am_n_sR, am_n_sL, true_and, and_true, true_or, or_true, or_false, false_or, not_true_eq_false, not_false_eq_true, Nat.reduceLT, am_dS, am_dP, am_d1, Nat.reduceSub, Nat.reduceMul, ne_eq, Nat.reduceBEq, Nat.reduceAdd, Nat.reduceLeDiff, Nat.reduceEqDiff, and_self, and_false, false_and, if_true, if_false, am_nb, am_nb0, am_nb1, am_lc1, am_lc2, am_lc3, am_b0, am_b1, am_10, am_c8, am_c16, am_c24, am_c32, am_c40, am_c48, am_c56, am_c64, am_c72, Nat.add_zero, Bool.false_eq_true, Nat.zero_le, hcν3, wX1_tells0, wX1_tells1, wX1_tells2]
      refine hK _ (((((((g.I (by unfold sC; omega)).L (Or.inl rfl)).I (by unfold sC; omega)).L (Or.inl rfl)).I (by unfold sC; omega)).L (Or.inl rfl)).I (by unfold sC; omega)) (TC3 ?_ ?_ ?_ ?_) (fun i => ?_)
      · simp only [am_II, and_self, if_true]
      · simp only [am_L_sI, am_LL, and_self, if_true, Nat.reduceEqDiff, and_false, if_false]
      · simp only [am_L_sI, am_LL, and_self, if_true, Nat.reduceEqDiff, and_false, if_false]
      · simp only [am_L_sI, am_LL, and_self, if_true]
      · simp only [am_L_sI, am_LL, Nat.reduceEqDiff, false_and, if_false]; exact hF2'.L
  · simp only [if_neg h2] at hK
    have hle : ¬ nI 2 ≤ nI N := nI_ge (by omega) (by omega)
    simp only [gX1_exchanged_0, gX1_exchanged_1, gX1_exchanged_4, gX1_exchanged_5, gX1_exchanged_8, gX1_exchanged_10, am_kill_int, am_kill_ref, am_kill_null, am_kill_F, am_kill_long, am_cat_n, am_cat_i, am_cat_r, am_cat_0, am_cat_l, am_nr_n, am_nr_i, am_nr_r, am_nr_0, am_nr_l, Option.toList_some, Option.toList_none, List.nil_append, List.cons_append, va_rf_s, va_rf_n, am_II, am_I_sR, am_I_sL, am_R_sI, am_RR, am_R_sL, am_L_sI, am_L_sR, am_LL, am_k_sI, am_k_sR, am_k_sL, am_n_sI, am_n_sR, am_n_sL, true_and, and_true, true_or, or_true, or_false, false_or, not_true_eq_false, not_false_eq_true, Nat.reduceLT, am_dS, am_dP, am_d1, Nat.reduceSub, Nat.reduceMul, ne_eq, Nat.reduceBEq, Nat.reduceAdd, Nat.reduceLeDiff, Nat.reduceEqDiff, and_self, and_false, false_and, if_true, if_false, am_nb, am_nb0, am_nb1, am_lc1, am_lc2, am_lc3, am_b0, am_b1, am_10, am_c8, am_c16, am_c24, am_c32, am_c40, am_c48, am_c56, am_c64, am_c72, Nat.add_zero, Bool.false_eq_true, Nat.zero_le, hcu, hN, e2, hle]
    exact hK μ Fw.refl TC0 (fun _ => rfl)
theorem q5_exchanged (hP : Per N C ru c μ) : Q5 mX3_exchanged [.ref 54, am_F, am_F, am_F, am_F, am_F, am_F] μ (vXd N ru (cS μ 1)) (pXd N ru (cS μ 1)) := by
  intro d K hK
  have hS := hP.1.2.1
  have hC := hS.1
  have hmu := hC.1
  unfold mL at hmu
  have hN := hC.2.1
  have h8 := hC.2.2.1
  unfold vXd pXd at hK
  have e2 : (2 : Int32) = nI 2 := rfl
  have eb : ∀ {T row : Nat → Int32}, Sim N T row → bcI (orB (ouM N ru row) N) = nI (fcN (outB N ru T) N 0) := fun {T row} hs => by
    rw [← bc_cnt h8, orB_congr fun j hj => (out_W hS.2.2 hs hj).symm]
  by_cases h2 : 2 ≤ N
  · simp only [if_pos h2] at hK
    have hle : nI 2 ≤ nI N := nI_le h2 (by omega)
    simp only [gX3_exchanged_5, gX3_exchanged_6, gX3_exchanged_9, gX3_exchanged_10, gX3_exchanged_13, gX3_exchanged_15, gX3_exchanged_16, gX3_exchanged_19, gX3_exchanged_20, gX3_exchanged_21, gX3_exchanged_22, gX3_exchanged_23, gX3_exchanged_24, gX3_exchanged_25, am_kill_int, am_kill_ref, am_kill_null, am_kill_F, am_kill_long, am_cat_n, am_cat_i, am_cat_r, am_cat_0, am_cat_l, am_nr_n, am_nr_i, am_nr_r, am_nr_0, am_nr_l, Option.toList_some, Option.toList_none, List.nil_append, List.cons_append, va_rf_s, va_rf_n, am_II, am_I_sR, am_I_sL, am_R_sI, am_RR, am_R_sL, am_L_sI, am_L_sR, am_LL, am_k_sI, am_k_sR, am_k_sL, am_n_sI, am_n_sR, am_n_sL, true_and, and_true, true_or, or_true, or_false, false_or, not_true_eq_false, not_false_eq_true, Nat.reduceLT, am_dS, am_dP, am_d1, Nat.reduceSub, Nat.reduceMul, ne_eq, Nat.reduceBEq, Nat.reduceAdd, Nat.reduceLeDiff, Nat.reduceEqDiff, and_self, and_false, false_and, if_true, if_false, am_nb, am_nb0, am_nb1, am_lc1, am_lc2, am_lc3, am_b0, am_b1, am_10, am_c8, am_c16, am_c24, am_c32, am_c40, am_c48, am_c56, am_c64, am_c72, Nat.add_zero, Bool.false_eq_true, Nat.zero_le, hmu, hN, e2, hle]
    obtain ⟨v, hv⟩ : ∃ v, v = vEx N ru (cS μ 1) := ⟨_, rfl⟩
    have hvl : ∀ a b, v a b < 2000000000 := fun a b => by rw [hv]; exact (vEx_lt h8).2
    unfold fEx at hK
    rw [← hv] at hK
    refine am_for (N := N) (fun a ls ν => (∃ z5 z6, ls = [.ref 54, .int (eL 2000000000 (ouE v N a)), .int (eX (-1) (ouE v N a)), .int (eY (-1) (ouE v N a)), .int (nI a), z5, z6]) ∧ Fr jW μ ν ∧ am_I ν 54 17 = 0) ?_ ?_ N 0 _ _ (by omega) ⟨⟨_, _, rfl⟩, Fr.refl, hP.h17⟩
    · rintro a ls ν ha ⟨⟨z5, z6, rfl⟩, hF, h17⟩ ih
      have hlt : ¬ nI N ≤ nI a := nI_ge ha (by omega)
      have hS1 := hS.jW hF h17
      have hmν := hS1.1.1
      unfold mL at hmν
      rw [gX3_exchanged_27]
      simp only [gX3_exchanged_29, gX3_exchanged_30, gX3_exchanged_33, gX3_exchanged_36, gX3_exchanged_38, gX3_exchanged_39, gX3_exchanged_40, am_kill_int, am_kill_ref, am_kill_null, am_kill_F, am_kill_long, am_cat_n, am_cat_i, am_cat_r, am_cat_0, am_cat_l, am_nr_n, am_nr_i, am_nr_r, am_nr_0, am_nr_l, Option.toList_some, Option.toList_none, List.nil_append, List.cons_append, va_rf_s, va_rf_n, am_II, am_I_sR, am_I_sL, am_R_sI, am_RR, am_R_sL, am_L_sI, am_L_sR, am_LL, am_k_sI, am_k_sR, am_k_sL, am_n_sI, am_n_sR, am_n_sL, true_and, and_true, true_or, or_true, or_false, false_or, not_true_eq_false, not_false_eq_true, Nat.reduceLT, am_dS, am_dP, am_d1, Nat.reduceSub, Nat.reduceMul, ne_eq, Nat.reduceBEq, Nat.reduceAdd, Nat.reduceLeDiff, Nat.reduceEqDiff, and_self, and_false, false_and, if_true, if_false, am_nb, am_nb0, am_nb1, am_lc1, am_lc2, am_lc3, am_b0, am_b1, am_10, am_c8, am_c16, am_c24, am_c32, am_c40, am_c48, am_c56, am_c64, am_c72, Nat.add_zero, Bool.false_eq_true, Nat.zero_le, hmν, hS1.1.2.1, hlt, nI_1]
      refine am_for (N := N - (a + 1)) (fun k ls ν => (∃ z6, ls = [.ref 54, .int (eL 2000000000 (inE v a (ouE v N a) k)), .int (eX (-1) (inE v a (ouE v N a) k)), .int (eY (-1) (inE v a (ouE v N a) k)), .int (nI a), .int (nI (a + 1 + k)), z6]) ∧ Fr jW μ ν ∧ am_I ν 54 17 = 0) ?_ ?_ (N - (a + 1)) 0 _ _ (by omega) ⟨⟨_, rfl⟩, hF, h17⟩
      · rintro k ls ν hk' ⟨⟨z6, rfl⟩, hF, h17⟩ ih2
        have hltb : ¬ nI N ≤ nI (a + 1 + k) := nI_ge (by omega) (by omega)
        have hS1 := hS.jW hF h17
        have hmν := hS1.1.1
        unfold mL at hmν
        have r55 : am_I ν 55 = am_I μ 55 := funext fun b => hF.1 55 b (by unfold jW jM; omega)
        rw [gX3_exchanged_42]
        simp only [gX3_exchanged_44, gX3_exchanged_45, gX3_exchanged_48, gX3_exchanged_51, gX3_exchanged_52, gX3_exchanged_55, gX3_exchanged_56, gX3_exchanged_59, gX3_exchanged_60, am_kill_int, am_kill_ref, am_kill_null, am_kill_F, am_kill_long, am_cat_n, am_cat_i, am_cat_r, am_cat_0, am_cat_l, am_nr_n, am_nr_i, am_nr_r, am_nr_0, am_nr_l, Option.toList_some, Option.toList_none, List.nil_append, List.cons_append, va_rf_s, va_rf_n, am_II, am_I_sR, am_I_sL, am_R_sI, am_RR, am_R_sL, am_L_sI, am_L_sR, am_LL, am_k_sI, am_k_sR, am_k_sL, am_n_sI, am_n_sR, am_n_sL, true_and, and_true, true_or, or_true, or_false, false_or, not_true_eq_false, not_false_eq_true, Nat.reduceLT, am_dS, am_dP, am_d1, Nat.reduceSub, Nat.reduceMul, ne_eq, Nat.reduceBEq, Nat.reduceAdd, Nat.reduceLeDiff, Nat.reduceEqDiff, and_self, and_false, false_and, if_true, if_false, am_nb, am_nb0, am_nb1, am_lc1, am_lc2, am_lc3, am_b0, am_b1, am_10, am_c8, am_c16, am_c24, am_c32, am_c40, am_c48, am_c56, am_c64, am_c72, Nat.add_zero, Bool.false_eq_true, Nat.zero_le, hmν, hS1.1.2.1, hltb]
        refine wX3_lay00 hmν.1.2.1 hmν.1.2.2.2.2.2.2.2.2.2.2.1 (by decide) (fun ν1 hF1 hT1 => ?_)
        have hF1' := hF.trans (e64 hF1)
        have h171 : am_I ν1 54 17 = 0 := (hF1.1 54 17 (by decide)).trans h17
        have hS2 := hS.jW hF1' h171
        have hm2 := hS2.1.1
        unfold mL at hm2
        rw [r55] at hT1
        have hs1 := hP.2.1.row h8 hT1
        simp only [gX3_exchanged_63, gX3_exchanged_64, gX3_exchanged_67, gX3_exchanged_69, gX3_exchanged_71, am_kill_int, am_kill_ref, am_kill_null, am_kill_F, am_kill_long, am_cat_n, am_cat_i, am_cat_r, am_cat_0, am_cat_l, am_nr_n, am_nr_i, am_nr_r, am_nr_0, am_nr_l, Option.toList_some, Option.toList_none, List.nil_append, List.cons_append, va_rf_s, va_rf_n, am_II, am_I_sR, am_I_sL, am_R_sI, am_RR, am_R_sL, am_L_sI, am_L_sR, am_LL, am_k_sI, am_k_sR, am_k_sL, am_n_sI, am_n_sR, am_n_sL, true_and, and_true, true_or, or_true, or_false, false_or, not_true_eq_false, not_false_eq_true, Nat.reduceLT, am_dS, am_dP, am_d1, Nat.reduceSub, Nat.reduceMul, ne_eq, Nat.reduceBEq, Nat.reduceAdd, Nat.reduceLeDiff, Nat.reduceEqDiff, and_self, and_false, false_and, if_true, if_false, am_nb, am_nb0, am_nb1, am_lc1, am_lc2, am_lc3, am_b0, am_b1, am_10, am_c8, am_c16, am_c24, am_c32, am_c40, am_c48, am_c56, am_c64, am_c72, Nat.add_zero, Bool.false_eq_true, Nat.zero_le, hm2]
        refine wX3_goExchange (d := d + 199) (i := a) (j := a + 1 + k) (by omega) (by omega) hm2.1.2.2.2.2.2.2.2.2.2.2.1 (fun ν2 hF2 hT2 => ?_)
        have hF2' := hF1'.trans (e64 hF2)
        have h172 : am_I ν2 54 17 = 0 := (hF2.1 54 17 (by decide)).trans h171
        have hS3 := hS.jW hF2' h172
        have hm3 := hS3.1.1
        unfold mL at hm3
        have hs2 := hs1.exc h8 (i := a) (j := a + 1 + k) (by omega) (by omega) (by omega)
        rw [← hT2] at hs2
        simp only [gX3_exchanged_74, gX3_exchanged_75, gX3_exchanged_76, gX3_exchanged_79, am_kill_int, am_kill_ref, am_kill_null, am_kill_F, am_kill_long, am_cat_n, am_cat_i, am_cat_r, am_cat_0, am_cat_l, am_nr_n, am_nr_i, am_nr_r, am_nr_0, am_nr_l, Option.toList_some, Option.toList_none, List.nil_append, List.cons_append, va_rf_s, va_rf_n, am_II, am_I_sR, am_I_sL, am_R_sI, am_RR, am_R_sL, am_L_sI, am_L_sR, am_LL, am_k_sI, am_k_sR, am_k_sL, am_n_sI, am_n_sR, am_n_sL, true_and, and_true, true_or, or_true, or_false, false_or, not_true_eq_false, not_false_eq_true, Nat.reduceLT, am_dS, am_dP, am_d1, Nat.reduceSub, Nat.reduceMul, ne_eq, Nat.reduceBEq, Nat.reduceAdd, Nat.reduceLeDiff, Nat.reduceEqDiff, and_self, and_false, false_and, if_true, if_false, am_nb, am_nb0, am_nb1, am_lc1, am_lc2, am_lc3, am_b0, am_b1, am_10, am_c8, am_c16, am_c24, am_c32, am_c40, am_c48, am_c56, am_c64, am_c72, Nat.add_zero, Bool.false_eq_true, Nat.zero_le, hm3]
        refine wX3_outs (d := d + 128) hS3 hm3.1.2.2.2.2.2.2.2.2.2.2.1 (fun ν3 hF3 h173 => ?_)
        have hF3' := hF2'.trans (hF3.le fun a b q => (Or.inr (Or.inr q) : jW a b))
        have ev : bcI (orB (ouM N ru (am_I ν2 64)) N) = v a (a + 1 + k) := by rw [eb hs2, hv]; rfl
        have ih' := fun z6 => ih2 [.ref 54, .int (eL 2000000000 (inE v a (ouE v N a) (k + 1))), .int (eX (-1) (inE v a (ouE v N a) (k + 1))), .int (eY (-1) (inE v a (ouE v N a) (k + 1))), .int (nI a), .int (nI (a + 1 + (k + 1))), z6] ν3 ⟨⟨z6, rfl⟩, hF3', h173⟩
        rw [show inE v a (ouE v N a) (k + 1) = stE (inE v a (ouE v N a) k) (v a (a + 1 + k)) a (a + 1 + k) from rfl] at ih'
        have e3 : nI (a + 1 + k) + 1 = nI (a + 1 + (k + 1)) := nI_1 _
        cases e : inE v a (ouE v N a) k with
        | none =>
          rw [e] at ih'
          have hl := hvl a (a + 1 + k)
          simp only [stE, eX, eY, eL] at ih'
          simp only [gX3_exchanged_82, gX3_exchanged_85, gX3_exchanged_87, gX3_exchanged_89, gX3_exchanged_90, gX3_exchanged_93, gX3_exchanged_96, gX3_exchanged_98, gX3_exchanged_99, gX3_exchanged_101, gX3_exchanged_102, gX3_exchanged_104, gX3_exchanged_105, gX3_exchanged_108, am_kill_int, am_kill_ref, am_kill_null, am_kill_F, am_kill_long, am_cat_n, am_cat_i, am_cat_r, am_cat_0, am_cat_l, am_nr_n, am_nr_i, am_nr_r, am_nr_0, am_nr_l, Option.toList_some, Option.toList_none, List.nil_append, List.cons_append, va_rf_s, va_rf_n, am_II, am_I_sR, am_I_sL, am_R_sI, am_RR, am_R_sL, am_L_sI, am_L_sR, am_LL, am_k_sI, am_k_sR, am_k_sL, am_n_sI, am_n_sR, am_n_sL, true_and, and_true, true_or, or_true, or_false, false_or, not_true_eq_false, not_false_eq_true, Nat.reduceLT, am_dS, am_dP, am_d1, Nat.reduceSub, Nat.reduceMul, ne_eq, Nat.reduceBEq, Nat.reduceAdd, Nat.reduceLeDiff, Nat.reduceEqDiff, and_self, and_false, false_and, if_true, if_false, am_nb, am_nb0, am_nb1, am_lc1, am_lc2, am_lc3, am_b0, am_b1, am_10, am_c8, am_c16, am_c24, am_c32, am_c40, am_c48, am_c56, am_c64, am_c72, Nat.add_zero, Bool.false_eq_true, Nat.zero_le, wJ10_bitCount, ev, eL, hl, e3]
          exact ih' _
        | some q =>
          rw [e] at ih'
          simp only [stE] at ih'
          by_cases f : v a (a + 1 + k) < q.1
          · simp only [if_pos f, eX, eY, eL] at ih'
            simp only [gX3_exchanged_82, gX3_exchanged_85, gX3_exchanged_87, gX3_exchanged_89, gX3_exchanged_90, gX3_exchanged_93, gX3_exchanged_96, gX3_exchanged_98, gX3_exchanged_99, gX3_exchanged_101, gX3_exchanged_102, gX3_exchanged_104, gX3_exchanged_105, gX3_exchanged_108, am_kill_int, am_kill_ref, am_kill_null, am_kill_F, am_kill_long, am_cat_n, am_cat_i, am_cat_r, am_cat_0, am_cat_l, am_nr_n, am_nr_i, am_nr_r, am_nr_0, am_nr_l, Option.toList_some, Option.toList_none, List.nil_append, List.cons_append, va_rf_s, va_rf_n, am_II, am_I_sR, am_I_sL, am_R_sI, am_RR, am_R_sL, am_L_sI, am_L_sR, am_LL, am_k_sI, am_k_sR, am_k_sL, am_n_sI, am_n_sR, am_n_sL, true_and, and_true, true_or, or_true, or_false, false_or, not_true_eq_false, not_false_eq_true, Nat.reduceLT, am_dS, am_dP, am_d1, Nat.reduceSub, Nat.reduceMul, ne_eq, Nat.reduceBEq, Nat.reduceAdd, Nat.reduceLeDiff, Nat.reduceEqDiff, and_self, and_false, false_and, if_true, if_false, am_nb, am_nb0, am_nb1, am_lc1, am_lc2, am_lc3, am_b0, am_b1, am_10, am_c8, am_c16, am_c24, am_c32, am_c40, am_c48, am_c56, am_c64, am_c72, Nat.add_zero, Bool.false_eq_true, Nat.zero_le, wJ10_bitCount, ev, eX, eY, eL, f, e3]
            exact ih' _
          · simp only [if_neg f, eX, eY, eL] at ih'
            simp only [gX3_exchanged_82, gX3_exchanged_85, gX3_exchanged_87, gX3_exchanged_89, gX3_exchanged_90, gX3_exchanged_93, gX3_exchanged_96, gX3_exchanged_98, gX3_exchanged_99, gX3_exchanged_101, gX3_exchanged_102, gX3_exchanged_104, gX3_exchanged_105, gX3_exchanged_108, am_kill_int, am_kill_ref, am_kill_null, am_kill_F, am_kill_long, am_cat_n, am_cat_i, am_cat_r, am_cat_0, am_cat_l, am_nr_n, am_nr_i, am_nr_r, am_nr_0, am_nr_l, Option.toList_some, Option.toList_none, List.nil_append, List.cons_append, va_rf_s, va_rf_n, am_II, am_I_sR, am_I_sL, am_R_sI, am_RR, am_R_sL, am_L_sI, am_L_sR, am_LL, am_k_sI, am_k_sR, am_k_sL, am_n_sI, am_n_sR, am_n_sL, true_and, and_true, true_or, or_true, or_false, false_or, not_true_eq_false, not_false_eq_true, Nat.reduceLT, am_dS, am_dP, am_d1, Nat.reduceSub, Nat.reduceMul, ne_eq, Nat.reduceBEq, Nat.reduceAdd, Nat.reduceLeDiff, Nat.reduceEqDiff, and_self, and_false, false_and, if_true, if_false, am_nb, am_nb0, am_nb1, am_lc1, am_lc2, am_lc3, am_b0, am_b1, am_10, am_c8, am_c16, am_c24, am_c32, am_c40, am_c48, am_c56, am_c64, am_c72, Nat.add_zero, Bool.false_eq_true, Nat.zero_le, wJ10_bitCount, ev, eX, eY, eL, f, e3]
            exact ih' _
      · rintro ls ν ⟨⟨z6, rfl⟩, hF, h17⟩
        have hS1 := hS.jW hF h17
        have hmν := hS1.1.1
        unfold mL at hmν
        have hle : nI N ≤ nI (a + 1 + (N - (a + 1))) := nI_le (by omega) (by omega)
        have ih' := fun z5 z6 => ih [.ref 54, .int (eL 2000000000 (ouE v N (a + 1))), .int (eX (-1) (ouE v N (a + 1))), .int (eY (-1) (ouE v N (a + 1))), .int (nI (a + 1)), z5, z6] ν ⟨⟨_, _, rfl⟩, hF, h17⟩
        rw [show ouE v N (a + 1) = inE v a (ouE v N a) (N - (a + 1)) from rfl] at ih'
        rw [gX3_exchanged_42]
        simp only [gX3_exchanged_44, gX3_exchanged_45, gX3_exchanged_48, gX3_exchanged_111, gX3_exchanged_114, am_kill_int, am_kill_ref, am_kill_null, am_kill_F, am_kill_long, am_cat_n, am_cat_i, am_cat_r, am_cat_0, am_cat_l, am_nr_n, am_nr_i, am_nr_r, am_nr_0, am_nr_l, Option.toList_some, Option.toList_none, List.nil_append, List.cons_append, va_rf_s, va_rf_n, am_II, am_I_sR, am_I_sL, am_R_sI, am_RR, am_R_sL, am_L_sI, am_L_sR, am_LL, am_k_sI, am_k_sR, am_k_sL, am_n_sI, am_n_sR, am_n_sL, true_and, and_true, true_or, or_true, or_false, false_or, not_true_eq_false, not_false_eq_true, Nat.reduceLT, am_dS, am_dP, am_d1, Nat.reduceSub, Nat.reduceMul, ne_eq, Nat.reduceBEq, Nat.reduceAdd, Nat.reduceLeDiff, Nat.reduceEqDiff, and_self, and_false, false_and, if_true, if_false, am_nb, am_nb0, am_nb1, am_lc1, am_lc2, am_lc3, am_b0, am_b1, am_10, am_c8, am_c16, am_c24, am_c32, am_c40, am_c48, am_c56, am_c64, am_c72, Nat.add_zero, Bool.false_eq_true, Nat.zero_le, hmν, hS1.1.2.1, hle, nI_1]
        exact ih' _ _
    · rintro ls ν ⟨⟨z5, z6, rfl⟩, hF, h17⟩
      have hS1 := hS.jW hF h17
      have hmν := hS1.1.1
      unfold mL at hmν
      have r55 : am_I ν 55 = am_I μ 55 := funext fun b => hF.1 55 b (by unfold jW jM; omega)
      obtain ⟨l, hl⟩ := ouE_some (v := v) h2 N (by omega)
      rw [hl] at hK
      simp only [eX, eY, eL] at hK
      have hF2 : Fw sM ν (am_sI (am_sL (am_sI (am_sL (am_sI ν 54 6 0) 57 0 (nI l.2.1).toInt64) 54 6 1) 57 1 (nI l.2.2).toInt64) 54 6 2) := ((((Fw.refl.I (by unfold sM; omega)).L (Or.inr rfl)).I (by unfold sM; omega)).L (Or.inr rfl)).I (by unfold sM; omega)
      have hS2 := hS1.sMm hF2 (by simp only [am_II, am_I_sL, Nat.reduceEqDiff, and_false, if_false]; exact h17)
      rw [gX3_exchanged_27]
      simp only [gX3_exchanged_29, gX3_exchanged_30, gX3_exchanged_33, gX3_exchanged_117, gX3_exchanged_118, gX3_exchanged_119, gX3_exchanged_122, gX3_exchanged_123, gX3_exchanged_124, gX3_exchanged_125, gX3_exchanged_128, gX3_exchanged_129, gX3_exchanged_130, gX3_exchanged_131, gX3_exchanged_134, gX3_exchanged_135, gX3_exchanged_136, gX3_exchanged_137, gX3_exchanged_140, am_kill_int, am_kill_ref, am_kill_null, am_kill_F, am_kill_long, am_cat_n, am_cat_i, am_cat_r, am_cat_0, am_cat_l, am_nr_n, am_nr_i, am_nr_r, am_nr_0, am_nr_l, Option.toList_some, Option.toList_none, List.nil_append, List.cons_append, va_rf_s, va_rf_n, am_II, am_I_sR, am_I_sL, am_R_sI, am_RR, am_R_sL, am_L_sI, am_L_sR, am_LL, am_k_sI, am_k_sR, am_k_sL, am_n_sI, am_n_sR, am_n_sL, true_and, and_true, true_or, or_true, or_false, false_or, not_true_eq_false, not_false_eq_true, Nat.reduceLT, am_dS, am_dP, am_d1, Nat.reduceSub, Nat.reduceMul, ne_eq, Nat.reduceBEq, Nat.reduceAdd, Nat.reduceLeDiff, Nat.reduceEqDiff, and_self, and_false, false_and, if_true, if_false, am_nb, am_nb0, am_nb1, am_lc1, am_lc2, am_lc3, am_b0, am_b1, am_10, am_c8, am_c16, am_c24, am_c32, am_c40, am_c48, am_c56, am_c64, am_c72, Nat.add_zero, Bool.false_eq_true, Nat.zero_le, hmν, hS1.1.2.1, Int32.le_refl, hl, eX, eY, eL, wX3_tell0, wX3_tell1]
      refine wX3_outs (d := d + 128) hS2 hmν.1.2.1 (fun ν3 hF3 h173 => ?_)
      rw [am_row_o (by decide), am_I_sL, am_row_o (by decide), am_I_sL, am_row_o (by decide), r55]
      have hS3 := hS2.jm hF3 h173
      have hm3 := hS3.1.1
      unfold mL at hm3
      have h62 : am_I ν3 54 6 = 2 := (hF3.1 54 6 (by unfold jM; omega)).trans (by rw [am_I_sI, if_pos ⟨rfl, rfl⟩])
      have hL0 : am_L ν3 57 0 = (nI l.2.1).toInt64 := by rw [hF3.L]; simp only [am_L_sI, am_LL, and_self, if_true, Nat.reduceEqDiff, and_false, if_false]
      have hL1 : am_L ν3 57 1 = (nI l.2.2).toInt64 := by rw [hF3.L]; simp only [am_L_sI, am_LL, and_self, if_true, Nat.reduceEqDiff, and_false, if_false]
      simp only [gX3_exchanged_143, gX3_exchanged_146, gX3_exchanged_147, gX3_exchanged_150, gX3_exchanged_151, am_kill_int, am_kill_ref, am_kill_null, am_kill_F, am_kill_long, am_cat_n, am_cat_i, am_cat_r, am_cat_0, am_cat_l, am_nr_n, am_nr_i, am_nr_r, am_nr_0, am_nr_l, Option.toList_some, Option.toList_none, List.nil_append, List.cons_append, va_rf_s, va_rf_n, am_II, am_I_sR, am_I_sL, am_R_sI, am_RR, am_R_sL, am_L_sI, am_L_sR, am_LL, am_k_sI, am_k_sR, am_k_sL, am_n_sI, am_n_sR, am_n_sL, true_and, and_true, true_or, or_true, or_false, false_or, not_true_eq_false, not_false_eq_true, Nat.reduceLT, am_dS, am_dP, am_d1, Nat.reduceSub, Nat.reduceMul, ne_eq, Nat.reduceBEq, Nat.reduceAdd, Nat.reduceLeDiff, Nat.reduceEqDiff, and_self, and_false, false_and, if_true, if_false, am_nb, am_nb0, am_nb1, am_lc1, am_lc2, am_lc3, am_b0, am_b1, am_10, am_c8, am_c16, am_c24, am_c32, am_c40, am_c48, am_c56, am_c64, am_c72, Nat.add_zero, Bool.false_eq_true, Nat.zero_le, hm3, wJ10_bitCount, eb hP.2.1, h62, wX3_tell2]
      refine hK _ (((((jW_sM hF).trans hF2).trans (jM_sM hF3)).L (Or.inr rfl)).I (by unfold sM; omega)) ?_ (TN3 ?_ ?_ ?_ ?_) (fun i => ?_)
      · simp only [am_II, am_I_sL, Nat.reduceEqDiff, and_false, if_false]; exact h173
      · simp only [am_II, and_self, if_true]
      · simp only [am_L_sI, am_LL, and_self, if_true, Nat.reduceEqDiff, and_false, if_false]; exact hL0
      · simp only [am_L_sI, am_LL, and_self, if_true, Nat.reduceEqDiff, and_false, if_false]; exact hL1
      · simp only [am_L_sI, am_LL, and_self, if_true]
      · simp only [am_L_sI, am_LL, Nat.reduceEqDiff, false_and, if_false]; rw [hF3.L]; simp only [am_L_sI, am_LL, Nat.reduceEqDiff, false_and, if_false]; exact hF.L
  · simp only [if_neg h2] at hK
    have hle : ¬ nI 2 ≤ nI N := nI_ge (by omega) (by omega)
    simp only [gX3_exchanged_5, gX3_exchanged_6, gX3_exchanged_9, gX3_exchanged_10, gX3_exchanged_13, gX3_exchanged_15, am_kill_int, am_kill_ref, am_kill_null, am_kill_F, am_kill_long, am_cat_n, am_cat_i, am_cat_r, am_cat_0, am_cat_l, am_nr_n, am_nr_i, am_nr_r, am_nr_0, am_nr_l, Option.toList_some, Option.toList_none, List.nil_append, List.cons_append, va_rf_s, va_rf_n, am_II, am_I_sR, am_I_sL, am_R_sI, am_RR, am_R_sL, am_L_sI, am_L_sR, am_LL, am_k_sI, am_k_sR, am_k_sL, am_n_sI, am_n_sR, am_n_sL, true_and, and_true, true_or, or_true, or_false, false_or, not_true_eq_false, not_false_eq_true, Nat.reduceLT, am_dS, am_dP, am_d1, Nat.reduceSub, Nat.reduceMul, ne_eq, Nat.reduceBEq, Nat.reduceAdd, Nat.reduceLeDiff, Nat.reduceEqDiff, and_self, and_false, false_and, if_true, if_false, am_nb, am_nb0, am_nb1, am_lc1, am_lc2, am_lc3, am_b0, am_b1, am_10, am_c8, am_c16, am_c24, am_c32, am_c40, am_c48, am_c56, am_c64, am_c72, Nat.add_zero, Bool.false_eq_true, Nat.zero_le, hmu, hN, e2, hle]
    exact hK μ Fw.refl hP.h17 TN0 (fun _ => rfl)
theorem op_exchanged (hI : Inv q μ) : OP q mX1_exchanged mX3_exchanged [.ref 0, am_F, am_F, am_F, am_F, am_F, am_F] [.ref 54, am_F, am_F, am_F, am_F, am_F, am_F] μ :=
  op_S (V := fun N ru c S => vXd N ru S) (P := fun N ru c S => pXd N ru S) (fun hP => qc_exchanged hP) (fun d K μ h h' => by simp only [gX3_exchanged_0, gX3_exchanged_1, gX3_exchanged_2, am_kill_int, am_kill_ref, am_kill_null, am_kill_F, am_kill_long, am_cat_n, am_cat_i, am_cat_r, am_cat_0, am_cat_l, am_nr_n, am_nr_i, am_nr_r, am_nr_0, am_nr_l, Option.toList_some, Option.toList_none, List.nil_append, List.cons_append, va_rf_s, va_rf_n, am_I_sR, am_I_sL, am_R_sI, am_R_sL, am_L_sI, am_L_sR, am_k_sI, am_k_sR, am_k_sL, am_n_sI, am_n_sR, am_n_sL, true_and, and_true, true_or, or_true, or_false, false_or, not_true_eq_false, not_false_eq_true, Nat.reduceLT, am_dS, am_dP, am_d1, Nat.reduceSub, Nat.reduceMul, ne_eq, Nat.reduceBEq, Nat.reduceAdd, Nat.reduceLeDiff, Nat.reduceEqDiff, and_self, and_false, false_and, if_true, if_false, am_nb, am_nb0, am_nb1, am_lc1, am_lc2, am_lc3, am_b0, am_b1, am_10, am_c8, am_c16, am_c24, am_c32, am_c40, am_c48, am_c56, am_c64, am_c72, Nat.add_zero, Bool.false_eq_true, Nat.zero_le, h]; exact h') (fun hP => q5_exchanged hP) hI
end FOV
