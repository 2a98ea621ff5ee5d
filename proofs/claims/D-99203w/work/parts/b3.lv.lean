/-! calls that ask by a text; leavers: who leaves -/
set_option maxRecDepth 100000
section LVV
variable {d : Nat} {μ ν ξ μ1 ν1 : am_M} {K : Option Value → am_M → Prop} {x y z c w : Int32} {h h' N C i j k r n L R M m a b e q q' t u s f B : Nat} {v : Int32} {ru : Option PF} {F G : Nat → Nat → Prop} {S S' T : Nat → Int32} {cf : Nat → Int32} {dl : Nat → Nat → Int32} {p : Nat → Bool} {lo dv : Nat → Nat} {ch : Nat → Int32} {ps : Option (List Int64)} {mc mm : am_MI} {lc lm : List Value}
def sCt (a b : Nat) : Prop := sC a b ∨ (a = 0 ∧ b = 6)
def sMt (a b : Nat) : Prop := sM a b ∨ (a = 54 ∧ b = 4)
def QCt (mc : am_MI) (lc : List Value) (μ : am_M) (v : Int32) (ps : Option (List Int64)) : Prop := ∀ (d : Nat) (K : Option Value → am_M → Prop), (∀ ν, Fw sCt μ ν → am_I ν 0 6 = 0 → TC μ ν ps → (∀ i, am_L ν 57 i = am_L μ 57 i) → K (some (.int v)) ν) → am_Wp (d + 200) mc 0 lc [] μ K
def QMt (mm : am_MI) (lm : List Value) (μ : am_M) (v : Int32) (ps : Option (List Int64)) : Prop := ∀ (d : Nat) (K : Option Value → am_M → Prop), (∀ ν, Fw sMt μ ν → am_I ν 54 17 = 0 → am_I ν 54 4 = 0 → TN μ ν ps → (∀ i, am_L ν 53 i = am_L μ 53 i) → K (some (.int v)) ν) → am_Wp (d + 200) mm 0 lm [] μ K
theorem op_T (hq : ∀ N C ru c t μ, Per N C ru c μ → FB q μ → t ≤ 80 → am_I μ 0 6 = nI t → am_I μ 54 4 = nI t → ∃ v ps, QCt mc lc μ v ps ∧ ∀ ν, Fw sCt μ ν → Per N C ru c ν → am_I ν 54 4 = nI t → QMt mm lm ν v ps) (hI : Inv q μ) : OP q mc mm lc lm μ := by
  intro d
  obtain ⟨⟨N, C, ru, c, hP⟩, ⟨t, t1, t2, t3⟩, ⟨r, r1, r2, r3, r4⟩, b1, b2, b3, b4⟩ := hI
  obtain ⟨v, ps, h1, h2⟩ := hq N C ru c t μ hP b4 t1 t2 t3
  refine h1 d _ (fun ν hF h6 hT hL => ⟨v, rfl, ?_⟩)
  have hP1 : Per N C ru c ν := hP.fw hF (fun a b z e => by unfold sCt sC at z; unfold per at e; omega) ((hF.1 54 17 (by unfold sCt sC; omega)).trans hP.h17)
  refine h2 ν hF hP1 ((hF.1 54 4 (by unfold sCt sC; omega)).trans t3) d _ (fun ξ hF2 h17 h4 hT2 hL2 => ⟨rfl, ?_⟩)
  have hP2 := hP1.fw hF2 (fun a b z e => by unfold sMt sM at z; unfold per at e; omega) h17
  have e3 : am_I ξ 0 40 = am_I ν 0 40 := hF2.1 0 40 (fun h => by unfold sMt sM at h; omega)
  have e4 : am_I ν 54 6 = am_I μ 54 6 := hF.1 54 6 (fun h => by unfold sCt sC at h; omega)
  refine ⟨⟨N, C, ru, c, hP2⟩, ⟨0, by omega, (hF2.1 0 6 (fun h => by unfold sMt sM at h; omega)).trans h6, h4⟩, ?_, ?_, ?_, ?_, (b4.fw hP.2.2.2.2.2.1 ((hF.le fun a b z => Or.inl z).trans (hF2.le fun a b z => Or.inr z) : Fw (fun a b => sCt a b ∨ sMt a b) μ ξ) fun a b z => by unfold sCt sMt sC sM at z; omega)⟩
  · cases ps with
    | none =>
      exact ⟨r, r1, e3.trans (hT.1.trans r2), hT2.1.trans (e4.trans r3), fun i hi => by rw [hL2, hT.2, hT2.2, hL, r4 i hi]⟩
    | some l =>
      exact ⟨l.length, hT.1, e3.trans hT.2.1, hT2.1, fun i hi => by rw [hL2, hT.2.2 i hi, hT2.2 i hi]⟩
  · rw [hF2.2.2.2.2.1, hF.2.2.2.2.1]; omega
  · rw [hF2.2.2.2.2.2.1, hF.2.2.2.2.2.1]; omega
  · rw [hF2.2.2.2.2.2.2, hF.2.2.2.2.2.2]; omega
/-! who leaves -/
def wHB (dl : Nat → Nat → Int32) (dv : Nat → Nat) (a n : Nat) : Bool := decide (dl a n < dl a (dv a))
def pHB (dl : Nat → Nat → Int32) (dv : Nat → Nat) (a b : Nat) : Bool := wHB dl dv a (dv b) && wHB dl dv b (dv a)
def lvP (dl : Nat → Nat → Int32) (dv : Nat → Nat) (N n : Nat) : Bool := wHB dl dv n n || (List.range N).any (fun j => pHB dl dv n j)
theorem pHB_s : pHB dl dv a b = pHB dl dv b a := by unfold pHB; rw [Bool.and_comm]
theorem pHB_r : pHB dl dv a a = false := by
  unfold pHB wHB
  rw [decide_eq_false Int32.lt_irrefl]; rfl
def lvE (dl : Nat → Nat → Int32) (dv : Nat → Nat) (N a b n : Nat) : Prop := ∃ i j, i < j ∧ j < N ∧ (i < a ∨ (i = a ∧ j < b)) ∧ pHB dl dv i j = true ∧ (n = i ∨ n = j)
theorem lvE_0 : lvE dl dv N a (a + 1) n ↔ lvE dl dv N a 0 n :=
  ⟨fun ⟨i, j, h1, h2, h3, h4, h5⟩ => ⟨i, j, h1, h2, by omega, h4, h5⟩, fun ⟨i, j, h1, h2, h3, h4, h5⟩ => ⟨i, j, h1, h2, by omega, h4, h5⟩⟩
theorem lvE_N : lvE dl dv N a N n ↔ lvE dl dv N (a + 1) 0 n :=
  ⟨fun ⟨i, j, h1, h2, h3, h4, h5⟩ => ⟨i, j, h1, h2, by omega, h4, h5⟩, fun ⟨i, j, h1, h2, h3, h4, h5⟩ => ⟨i, j, h1, h2, by omega, h4, h5⟩⟩
theorem lvE_s (hab : a < b) (hb : b < N) : lvE dl dv N a (b + 1) n ↔ lvE dl dv N a b n ∨ (pHB dl dv a b = true ∧ (n = a ∨ n = b)) := by
  constructor
  · rintro ⟨i, j, h1, h2, h3, h4, h5⟩
    by_cases f : i = a ∧ j = b
    · obtain ⟨rfl, rfl⟩ := f; exact Or.inr ⟨h4, h5⟩
    · exact Or.inl ⟨i, j, h1, h2, by omega, h4, h5⟩
  · rintro (⟨i, j, h1, h2, h3, h4, h5⟩ | ⟨h1, h2⟩)
    · exact ⟨i, j, h1, h2, by omega, h4, h5⟩
    · exact ⟨a, b, hab, hb, by omega, h1, h2⟩
/-- the component's bits, at a of the owners and b of the others -/
def leC (dl : Nat → Nat → Int32) (dv : Nat → Nat) (N a w b B : Nat) : Prop := B < 256 ∧ ∀ n, n < 8 → (B.testBit n = true ↔ (n < w ∧ wHB dl dv n n = true) ∨ lvE dl dv N a b n)
theorem leC_end (hN : N ≤ 8) (h : leC dl dv N N N 0 B) : nI B = orB (lvP dl dv N) N := by
  rw [orB_eq hN]
  congr 1
  refine Nat.eq_of_testBit_eq fun n => ?_
  rw [vB_bit]
  by_cases hn : n < 8
  · have := h.2 n hn
    by_cases hnN : n < N
    · rw [decide_eq_true hnN, Bool.true_and, Bool.eq_iff_iff, this]
      unfold lvP
      rw [Bool.or_eq_true, List.any_eq_true]
      constructor
      · rintro (⟨_, h2⟩ | ⟨i, j, h1, h2, h3, h4, h5⟩)
        · exact Or.inl h2
        · rcases h5 with e | e
          · subst e; exact Or.inr ⟨j, List.mem_range.mpr h2, h4⟩
          · subst e; exact Or.inr ⟨i, List.mem_range.mpr (by omega), by rw [pHB_s]; exact h4⟩
      · rintro (h2 | ⟨j, h1, h2⟩)
        · exact Or.inl ⟨hnN, h2⟩
        · have hj := List.mem_range.mp h1
          by_cases f : n < j
          · exact Or.inr ⟨n, j, f, hj, Or.inl hnN, h2, Or.inl rfl⟩
          · by_cases f2 : n = j
            · subst f2; rw [pHB_r] at h2; cases h2
            · exact Or.inr ⟨j, n, by omega, hnN, Or.inl hj, by rw [pHB_s]; exact h2, Or.inr rfl⟩
    · rw [decide_eq_false hnN, Bool.false_and]
      cases hb : B.testBit n with
      | false => rfl
      | true =>
        rcases this.mp hb with ⟨h1, _⟩ | ⟨i, j, h1, h2, h3, h4, h5⟩
        · omega
        · omega
  · rw [decide_eq_false (by omega), Bool.false_and]
    exact Nat.testBit_lt_two_pow (Nat.lt_of_lt_of_le (show B < 2 ^ 8 from h.1) (Nat.pow_le_pow_right (by decide) (by omega)))
/-- the model's bits -/
def leM (dl : Nat → Nat → Int32) (dv : Nat → Nat) (N a b B : Nat) (w : Bool) : Prop := B < 256 ∧ ∀ n, n < 8 → (B.testBit n = true ↔ (n < a ∧ lvP dl dv N n = true) ∨ (n = a ∧ (w = true ∨ (List.range b).any (fun j => pHB dl dv a j) = true)))
theorem leM_end (hN : N ≤ 8) (h : leM dl dv N N 0 B false) : nI B = orB (lvP dl dv N) N := by
  rw [orB_eq hN]
  congr 1
  refine Nat.eq_of_testBit_eq fun n => ?_
  rw [vB_bit]
  by_cases hn : n < 8
  · have := h.2 n hn
    rw [Bool.eq_iff_iff, this, Bool.and_eq_true, decide_eq_true_eq]
    constructor
    · rintro (h1 | ⟨h1, h2⟩)
      · exact h1
      · rcases h2 with e | e <;> cases e
    · exact fun h1 => Or.inl h1
  · rw [decide_eq_false (by omega), Bool.false_and]
    exact Nat.testBit_lt_two_pow (Nat.lt_of_lt_of_le (show B < 2 ^ 8 from h.1) (Nat.pow_le_pow_right (by decide) (by omega)))
theorem wX1_wouldHave (hC : CC N ru c μ) (hj : j < N) (hcf : ∀ o, o < N → cS μ 1 (16 + o) = cf o) (ht : am_I μ 48 j = nI (dv j)) : am_Wp (d + 2) mX1_wouldHave 0 [.ref 0, .int (nI j), .int (nI n)] [] μ K ↔ K (some (.int (if wHB (fun o n => dlV (cf o) n) dv j n = true then 1 else 0))) μ := by
  have hcu := hC.1
  simp only [cL, spL, Nat.reduceAdd] at hcu
  have h8 := hC.2.2.1
  have hin : vp_in (nI j) 8 := vp_in_nI (by omega) (by omega)
  have hcl : (nI j).toNatClampNeg = j := nI_clamp (by omega)
  have dd : ∀ n K, am_Wp (d + 1) mX1_dislikes 0 [.ref 0, .int (nI j), .int (nI n)] [] μ K ↔ K (some (.int (dlV (cf j) n))) μ := fun n K => by
    rw [wX1_dislikes hC (by omega), hcf j hj]
  unfold wHB
  refine am_Wp.det ?_
  by_cases f : dlV (cf j) n < dlV (cf j) (dv j)
  · simp only [gX1_wouldHave_0, gX1_wouldHave_1, gX1_wouldHave_2, gX1_wouldHave_3, gX1_wouldHave_6, gX1_wouldHave_7, gX1_wouldHave_8, gX1_wouldHave_9, gX1_wouldHave_12, gX1_wouldHave_13, gX1_wouldHave_14, gX1_wouldHave_17, gX1_wouldHave_20, gX1_wouldHave_21, gX1_wouldHave_24, gX1_wouldHave_25, am_kill_int, am_kill_ref, am_kill_null, am_kill_F, am_kill_long, am_cat_n, am_cat_i, am_cat_r, am_cat_0, am_cat_l, am_nr_n, am_nr_i, am_nr_r, am_nr_0, am_nr_l, Option.toList_some, Option.toList_none, List.nil_append, List.cons_append, va_rf_s, va_rf_n, am_II, am_I_sR, am_I_sL, am_R_sI, am_RR, am_R_sL, am_L_sI, am_L_sR, am_LL, am_k_sI, am_k_sR, am_k_sL, am_n_sI, am_n_sR, am_n_sL, true_and, and_true, true_or, or_true, or_false, false_or, not_true_eq_false, not_false_eq_true, Nat.reduceLT, am_dS, am_dP, am_d1, Nat.reduceSub, Nat.reduceMul, ne_eq, Nat.reduceBEq, Nat.reduceAdd, Nat.reduceLeDiff, Nat.reduceEqDiff, and_self, and_false, false_and, if_true, if_false, am_nb, am_nb0, am_nb1, am_lc1, am_lc2, am_lc3, am_b0, am_b1, am_10, am_c8, am_c16, am_c24, am_c32, am_c40, am_c48, am_c56, am_c64, am_c72, Nat.add_zero, Bool.false_eq_true, Nat.zero_le, hcu, dd, ht, hin, hcl, f, Int32.not_le.mpr f, decide_true]
  · simp only [gX1_wouldHave_0, gX1_wouldHave_1, gX1_wouldHave_2, gX1_wouldHave_3, gX1_wouldHave_6, gX1_wouldHave_7, gX1_wouldHave_8, gX1_wouldHave_9, gX1_wouldHave_12, gX1_wouldHave_13, gX1_wouldHave_14, gX1_wouldHave_17, gX1_wouldHave_20, gX1_wouldHave_21, gX1_wouldHave_24, gX1_wouldHave_25, am_kill_int, am_kill_ref, am_kill_null, am_kill_F, am_kill_long, am_cat_n, am_cat_i, am_cat_r, am_cat_0, am_cat_l, am_nr_n, am_nr_i, am_nr_r, am_nr_0, am_nr_l, Option.toList_some, Option.toList_none, List.nil_append, List.cons_append, va_rf_s, va_rf_n, am_II, am_I_sR, am_I_sL, am_R_sI, am_RR, am_R_sL, am_L_sI, am_L_sR, am_LL, am_k_sI, am_k_sR, am_k_sL, am_n_sI, am_n_sR, am_n_sL, true_and, and_true, true_or, or_true, or_false, false_or, not_true_eq_false, not_false_eq_true, Nat.reduceLT, am_dS, am_dP, am_d1, Nat.reduceSub, Nat.reduceMul, ne_eq, Nat.reduceBEq, Nat.reduceAdd, Nat.reduceLeDiff, Nat.reduceEqDiff, and_self, and_false, false_and, if_true, if_false, am_nb, am_nb0, am_nb1, am_lc1, am_lc2, am_lc3, am_b0, am_b1, am_10, am_c8, am_c16, am_c24, am_c32, am_c40, am_c48, am_c56, am_c64, am_c72, Nat.add_zero, Bool.false_eq_true, Nat.zero_le, hcu, dd, ht, hin, hcl, f, Int32.not_lt.mp f, decide_false]
theorem bt_or' (hB : B < 256) (hi : i < 8) : nI B ||| 1 <<< (nI i &&& 31) = nI (B ||| 2 ^ i) := bt_or ⟨B, hB⟩ ⟨i, hi⟩
theorem bt_z (hB : B < 256) : nI B ||| 0 = nI B := bt_or0 ⟨B, hB⟩
/-- the component counts who leaves -/
theorem leC_loop (hC : CC N ru c μ) (hcf : ∀ o, o < N → cS μ 1 (16 + o) = cf o) (ht : ∀ j, j < N → am_I μ 48 j = nI (dv j)) (hdv : ∀ j, j < N → dv j < N) (z1 : Int32) (z4 : Value)
    (hK : ∀ z4', am_Wp (d + 200) mX1_leavers 229 [.ref 0, .int z1, .int (orB (lvP (fun o n => dlV (cf o) n) dv N) N), .int (nI N), z4'] [] μ K) :
    am_Wp (d + 200) mX1_leavers 131 [.ref 0, .int z1, .int (nI 0), .int (nI 0), z4] [] μ K := by
  have hcu := hC.1
  simp only [cL, spL, Nat.reduceAdd] at hcu
  have hN := hC.2.1
  have h8 := hC.2.2.1
  have o10 : ¬ (1 : Int32) = 0 := by decide
  refine am_for (N := N) (fun a ls ρ => ρ = μ ∧ ∃ B z4, ls = [.ref 0, .int z1, .int (nI B), .int (nI a), z4] ∧ leC (fun o n => dlV (cf o) n) dv N a a 0 B) ?_ ?_ N 0 _ _ (by omega) ⟨rfl, 0, z4, rfl, by omega, fun n hn => ⟨fun z => absurd z (by rw [Nat.zero_testBit]; decide), ?_⟩⟩
  · rintro a ls ρ ha ⟨rfl, B, z4, rfl, hB8, hB⟩ ih
    have hlt : ¬ nI N ≤ nI a := nI_ge ha (by omega)
    have inner : ∀ B', leC (fun o n => dlV (cf o) n) dv N a (a + 1) (a + 1) B' → am_Wp (d + 200) mX1_leavers 163 [.ref 0, .int z1, .int (nI B'), .int (nI a), .int (nI (a + 1))] [] ρ K := fun B' hB' => by
      refine am_for (N := N) (fun b ls σ => σ = ρ ∧ a < b ∧ ∃ B, ls = [.ref 0, .int z1, .int (nI B), .int (nI a), .int (nI b)] ∧ leC (fun o n => dlV (cf o) n) dv N a (a + 1) b B) ?_ ?_ (N - (a + 1)) (a + 1) _ _ (by omega) ⟨rfl, by omega, B', rfl, hB'⟩
      · rintro b ls σ hb ⟨rfl, hab, B, rfl, hB8, hB⟩ ih2
        have hltb : ¬ nI N ≤ nI b := nI_ge hb (by omega)
        have hina : vp_in (nI a) 8 := vp_in_nI (by omega) (by omega)
        have hcla : (nI a).toNatClampNeg = a := nI_clamp (by omega)
        have hinb : vp_in (nI b) 8 := vp_in_nI (by omega) (by omega)
        have hclb : (nI b).toNatClampNeg = b := nI_clamp (by omega)
        have w1 := fun n K => wX1_wouldHave (d := d + 197) (n := n) (K := K) hC ha hcf (ht a ha)
        have w2 := fun n K => wX1_wouldHave (d := d + 197) (n := n) (K := K) hC hb hcf (ht b hb)
        rw [gX1_leavers_163]
        by_cases f1 : wHB (fun o n => dlV (cf o) n) dv a (dv b) = true
        · by_cases f2 : wHB (fun o n => dlV (cf o) n) dv b (dv a) = true
          · have hp : pHB (fun o n => dlV (cf o) n) dv a b = true := by unfold pHB; rw [f1, f2]; rfl
            simp only [gX1_leavers_165, gX1_leavers_166, gX1_leavers_169, gX1_leavers_172, gX1_leavers_173, gX1_leavers_174, gX1_leavers_175, gX1_leavers_176, gX1_leavers_179, gX1_leavers_181, gX1_leavers_182, gX1_leavers_185, gX1_leavers_188, gX1_leavers_189, gX1_leavers_191, gX1_leavers_192, gX1_leavers_195, gX1_leavers_196, gX1_leavers_197, gX1_leavers_200, gX1_leavers_203, gX1_leavers_204, gX1_leavers_205, gX1_leavers_206, gX1_leavers_207, gX1_leavers_209, gX1_leavers_210, gX1_leavers_211, gX1_leavers_214, gX1_leavers_215, gX1_leavers_216, gX1_leavers_217, gX1_leavers_220, am_kill_int, am_kill_ref, am_kill_null, am_kill_F, am_kill_long, am_cat_n, am_cat_i, am_cat_r, am_cat_0, am_cat_l, am_nr_n, am_nr_i, am_nr_r, am_nr_0, am_nr_l, Option.toList_some, Option.toList_none, List.nil_append, List.cons_append, va_rf_s, va_rf_n, am_II, am_I_sR, am_I_sL, am_R_sI, am_RR, am_R_sL, am_L_sI, am_L_sR, am_LL, am_k_sI, am_k_sR, am_k_sL, am_n_sI, am_n_sR, am_n_sL, true_and, and_true, true_or, or_true, or_false, false_or, not_true_eq_false, not_false_eq_true, Nat.reduceLT, am_dS, am_dP, am_d1, Nat.reduceSub, Nat.reduceMul, ne_eq, Nat.reduceBEq, Nat.reduceAdd, Nat.reduceLeDiff, Nat.reduceEqDiff, and_self, and_false, false_and, if_true, if_false, am_nb, am_nb0, am_nb1, am_lc1, am_lc2, am_lc3, am_b0, am_b1, am_10, am_c8, am_c16, am_c24, am_c32, am_c40, am_c48, am_c56, am_c64, am_c72, Nat.add_zero, Bool.false_eq_true, Nat.zero_le, hcu, hN, hltb, hina, hcla, hinb, hclb, ht a ha, ht b hb, w1, w2, f1, f2, o10, nI_1]
            rw [← Int32.or_assoc, bt_or' hB8 (by omega), bt_or' (or_256 hB8 (by omega)) (by omega)]
            refine ih2 _ _ ⟨rfl, by omega, _, rfl, or_256 (or_256 hB8 (by omega)) (by omega), fun n hn => ?_⟩
            rw [or_bit, or_bit, Bool.or_eq_true, Bool.or_eq_true, decide_eq_true_eq, decide_eq_true_eq, hB n hn, lvE_s hab hb, hp]
            constructor
            · rintro ((h1 | h1) | h1)
              · rcases h1 with h1 | h1
                · exact Or.inl h1
                · exact Or.inr (Or.inl h1)
              · exact Or.inr (Or.inr ⟨rfl, Or.inl h1.symm⟩)
              · exact Or.inr (Or.inr ⟨rfl, Or.inr h1.symm⟩)
            · rintro (h1 | h1 | ⟨_, h1 | h1⟩)
              · exact Or.inl (Or.inl (Or.inl h1))
              · exact Or.inl (Or.inl (Or.inr h1))
              · exact Or.inl (Or.inr h1.symm)
              · exact Or.inr h1.symm
          · have hp : ¬ pHB (fun o n => dlV (cf o) n) dv a b = true := by unfold pHB; rw [Bool.and_eq_true]; exact fun z => f2 z.2
            simp only [gX1_leavers_165, gX1_leavers_166, gX1_leavers_169, gX1_leavers_172, gX1_leavers_173, gX1_leavers_174, gX1_leavers_175, gX1_leavers_176, gX1_leavers_179, gX1_leavers_181, gX1_leavers_182, gX1_leavers_185, gX1_leavers_188, gX1_leavers_189, gX1_leavers_191, gX1_leavers_192, gX1_leavers_195, gX1_leavers_196, gX1_leavers_197, gX1_leavers_200, gX1_leavers_203, gX1_leavers_204, gX1_leavers_205, gX1_leavers_206, gX1_leavers_207, gX1_leavers_209, gX1_leavers_210, gX1_leavers_211, gX1_leavers_214, gX1_leavers_215, gX1_leavers_216, gX1_leavers_217, gX1_leavers_220, am_kill_int, am_kill_ref, am_kill_null, am_kill_F, am_kill_long, am_cat_n, am_cat_i, am_cat_r, am_cat_0, am_cat_l, am_nr_n, am_nr_i, am_nr_r, am_nr_0, am_nr_l, Option.toList_some, Option.toList_none, List.nil_append, List.cons_append, va_rf_s, va_rf_n, am_II, am_I_sR, am_I_sL, am_R_sI, am_RR, am_R_sL, am_L_sI, am_L_sR, am_LL, am_k_sI, am_k_sR, am_k_sL, am_n_sI, am_n_sR, am_n_sL, true_and, and_true, true_or, or_true, or_false, false_or, not_true_eq_false, not_false_eq_true, Nat.reduceLT, am_dS, am_dP, am_d1, Nat.reduceSub, Nat.reduceMul, ne_eq, Nat.reduceBEq, Nat.reduceAdd, Nat.reduceLeDiff, Nat.reduceEqDiff, and_self, and_false, false_and, if_true, if_false, am_nb, am_nb0, am_nb1, am_lc1, am_lc2, am_lc3, am_b0, am_b1, am_10, am_c8, am_c16, am_c24, am_c32, am_c40, am_c48, am_c56, am_c64, am_c72, Nat.add_zero, Bool.false_eq_true, Nat.zero_le, hcu, hN, hltb, hina, hcla, hinb, hclb, ht a ha, ht b hb, w1, w2, f1, f2, o10, nI_1, bt_z hB8]
            refine ih2 _ _ ⟨rfl, by omega, _, rfl, hB8, fun n hn => ?_⟩
            rw [hB n hn, lvE_s hab hb]
            exact ⟨fun z => z.elim Or.inl (fun z => Or.inr (Or.inl z)), fun z => z.elim Or.inl (fun z => z.elim Or.inr (fun z => absurd z.1 hp))⟩
        · have hp : ¬ pHB (fun o n => dlV (cf o) n) dv a b = true := by unfold pHB; rw [Bool.and_eq_true]; exact fun z => f1 z.1
          simp only [gX1_leavers_165, gX1_leavers_166, gX1_leavers_169, gX1_leavers_172, gX1_leavers_173, gX1_leavers_174, gX1_leavers_175, gX1_leavers_176, gX1_leavers_179, gX1_leavers_181, gX1_leavers_182, gX1_leavers_185, gX1_leavers_214, gX1_leavers_215, gX1_leavers_216, gX1_leavers_217, gX1_leavers_220, am_kill_int, am_kill_ref, am_kill_null, am_kill_F, am_kill_long, am_cat_n, am_cat_i, am_cat_r, am_cat_0, am_cat_l, am_nr_n, am_nr_i, am_nr_r, am_nr_0, am_nr_l, Option.toList_some, Option.toList_none, List.nil_append, List.cons_append, va_rf_s, va_rf_n, am_II, am_I_sR, am_I_sL, am_R_sI, am_RR, am_R_sL, am_L_sI, am_L_sR, am_LL, am_k_sI, am_k_sR, am_k_sL, am_n_sI, am_n_sR, am_n_sL, true_and, and_true, true_or, or_true, or_false, false_or, not_true_eq_false, not_false_eq_true, Nat.reduceLT, am_dS, am_dP, am_d1, Nat.reduceSub, Nat.reduceMul, ne_eq, Nat.reduceBEq, Nat.reduceAdd, Nat.reduceLeDiff, Nat.reduceEqDiff, and_self, and_false, false_and, if_true, if_false, am_nb, am_nb0, am_nb1, am_lc1, am_lc2, am_lc3, am_b0, am_b1, am_10, am_c8, am_c16, am_c24, am_c32, am_c40, am_c48, am_c56, am_c64, am_c72, Nat.add_zero, Bool.false_eq_true, Nat.zero_le, hcu, hN, hltb, hina, hcla, hinb, hclb, ht a ha, ht b hb, w1, w2, f1, o10, nI_1, bt_z hB8]
          refine ih2 _ _ ⟨rfl, by omega, _, rfl, hB8, fun n hn => ?_⟩
          rw [hB n hn, lvE_s hab hb]
          exact ⟨fun z => z.elim Or.inl (fun z => Or.inr (Or.inl z)), fun z => z.elim Or.inl (fun z => z.elim Or.inr (fun z => absurd z.1 hp))⟩
      · rintro ls σ ⟨rfl, _, B, rfl, hB8, hB⟩
        rw [gX1_leavers_163]
        simp only [gX1_leavers_165, gX1_leavers_166, gX1_leavers_169, gX1_leavers_223, gX1_leavers_226, am_kill_int, am_kill_ref, am_kill_null, am_kill_F, am_kill_long, am_cat_n, am_cat_i, am_cat_r, am_cat_0, am_cat_l, am_nr_n, am_nr_i, am_nr_r, am_nr_0, am_nr_l, Option.toList_some, Option.toList_none, List.nil_append, List.cons_append, va_rf_s, va_rf_n, am_II, am_I_sR, am_I_sL, am_R_sI, am_RR, am_R_sL, am_L_sI, am_L_sR, am_LL, am_k_sI, am_k_sR, am_k_sL, am_n_sI, am_n_sR, am_n_sL, true_and, and_true, true_or, or_true, or_false, false_or, not_true_eq_false, not_false_eq_true, Nat.reduceLT, am_dS, am_dP, am_d1, Nat.reduceSub, Nat.reduceMul, ne_eq, Nat.reduceBEq, Nat.reduceAdd, Nat.reduceLeDiff, Nat.reduceEqDiff, and_self, and_false, false_and, if_true, if_false, am_nb, am_nb0, am_nb1, am_lc1, am_lc2, am_lc3, am_b0, am_b1, am_10, am_c8, am_c16, am_c24, am_c32, am_c40, am_c48, am_c56, am_c64, am_c72, Nat.add_zero, Bool.false_eq_true, Nat.zero_le, hcu, hN, Int32.le_refl, nI_1]
        exact ih _ _ ⟨rfl, B, _, rfl, hB8, fun n hn => by rw [hB n hn, lvE_N]⟩
    have w1 := wX1_wouldHave (d := d + 197) (n := a) (K := fun r1 μ1 => am_nr r1 ∧ am_Wp (d + 200) mX1_leavers 146 [.ref 0, .int z1, .int (nI B), .int (nI a), z4] (r1.toList ++ [.int (nI B)]) μ1 K) hC ha hcf (ht a ha)
    rw [gX1_leavers_131]
    by_cases f1 : wHB (fun o n => dlV (cf o) n) dv a a = true
    · rw [if_pos f1] at w1
      simp only [gX1_leavers_132, gX1_leavers_133, gX1_leavers_136, gX1_leavers_139, gX1_leavers_140, gX1_leavers_141, gX1_leavers_142, gX1_leavers_143, am_kill_int, am_kill_ref, am_kill_null, am_kill_F, am_kill_long, am_cat_n, am_cat_i, am_cat_r, am_cat_0, am_cat_l, am_nr_n, am_nr_i, am_nr_r, am_nr_0, am_nr_l, Option.toList_some, Option.toList_none, List.nil_append, List.cons_append, va_rf_s, va_rf_n, am_II, am_I_sR, am_I_sL, am_R_sI, am_RR, am_R_sL, am_L_sI, am_L_sR, am_LL, am_k_sI, am_k_sR, am_k_sL, am_n_sI, am_n_sR, am_n_sL, true_and, and_true, true_or, or_true, or_false, false_or, not_true_eq_false, not_false_eq_true, Nat.reduceLT, am_dS, am_dP, am_d1, Nat.reduceSub, Nat.reduceMul, ne_eq, Nat.reduceBEq, Nat.reduceAdd, Nat.reduceLeDiff, Nat.reduceEqDiff, and_self, and_false, false_and, if_true, if_false, am_nb, am_nb0, am_nb1, am_lc1, am_lc2, am_lc3, am_b0, am_b1, am_10, am_c8, am_c16, am_c24, am_c32, am_c40, am_c48, am_c56, am_c64, am_c72, Nat.add_zero, Bool.false_eq_true, Nat.zero_le, hcu, hN, hlt, w1]
      simp only [gX1_leavers_146, gX1_leavers_149, gX1_leavers_150, gX1_leavers_151, gX1_leavers_152, gX1_leavers_155, gX1_leavers_156, gX1_leavers_157, gX1_leavers_158, gX1_leavers_159, gX1_leavers_160, gX1_leavers_161, am_kill_int, am_kill_ref, am_kill_null, am_kill_F, am_kill_long, am_cat_n, am_cat_i, am_cat_r, am_cat_0, am_cat_l, am_nr_n, am_nr_i, am_nr_r, am_nr_0, am_nr_l, Option.toList_some, Option.toList_none, List.nil_append, List.cons_append, va_rf_s, va_rf_n, am_II, am_I_sR, am_I_sL, am_R_sI, am_RR, am_R_sL, am_L_sI, am_L_sR, am_LL, am_k_sI, am_k_sR, am_k_sL, am_n_sI, am_n_sR, am_n_sL, true_and, and_true, true_or, or_true, or_false, false_or, not_true_eq_false, not_false_eq_true, Nat.reduceLT, am_dS, am_dP, am_d1, Nat.reduceSub, Nat.reduceMul, ne_eq, Nat.reduceBEq, Nat.reduceAdd, Nat.reduceLeDiff, Nat.reduceEqDiff, and_self, and_false, false_and, if_true, if_false, am_nb, am_nb0, am_nb1, am_lc1, am_lc2, am_lc3, am_b0, am_b1, am_10, am_c8, am_c16, am_c24, am_c32, am_c40, am_c48, am_c56, am_c64, am_c72, Nat.add_zero, Bool.false_eq_true, Nat.zero_le, o10, nI_1, bt_or' hB8 (show a < 8 by omega)]
      refine inner _ ⟨or_256 hB8 (by omega), fun n hn => ?_⟩
      rw [or_bit, Bool.or_eq_true, decide_eq_true_eq, hB n hn, lvE_0]
      constructor
      · rintro ((⟨h1, h2⟩ | h1) | h1)
        · exact Or.inl ⟨by omega, h2⟩
        · exact Or.inr h1
        · subst h1; exact Or.inl ⟨by omega, f1⟩
      · rintro (⟨h1, h2⟩ | h1)
        · by_cases g : a = n
          · exact Or.inr g
          · exact Or.inl (Or.inl ⟨by omega, h2⟩)
        · exact Or.inl (Or.inr h1)
    · rw [if_neg f1] at w1
      simp only [gX1_leavers_132, gX1_leavers_133, gX1_leavers_136, gX1_leavers_139, gX1_leavers_140, gX1_leavers_141, gX1_leavers_142, gX1_leavers_143, am_kill_int, am_kill_ref, am_kill_null, am_kill_F, am_kill_long, am_cat_n, am_cat_i, am_cat_r, am_cat_0, am_cat_l, am_nr_n, am_nr_i, am_nr_r, am_nr_0, am_nr_l, Option.toList_some, Option.toList_none, List.nil_append, List.cons_append, va_rf_s, va_rf_n, am_II, am_I_sR, am_I_sL, am_R_sI, am_RR, am_R_sL, am_L_sI, am_L_sR, am_LL, am_k_sI, am_k_sR, am_k_sL, am_n_sI, am_n_sR, am_n_sL, true_and, and_true, true_or, or_true, or_false, false_or, not_true_eq_false, not_false_eq_true, Nat.reduceLT, am_dS, am_dP, am_d1, Nat.reduceSub, Nat.reduceMul, ne_eq, Nat.reduceBEq, Nat.reduceAdd, Nat.reduceLeDiff, Nat.reduceEqDiff, and_self, and_false, false_and, if_true, if_false, am_nb, am_nb0, am_nb1, am_lc1, am_lc2, am_lc3, am_b0, am_b1, am_10, am_c8, am_c16, am_c24, am_c32, am_c40, am_c48, am_c56, am_c64, am_c72, Nat.add_zero, Bool.false_eq_true, Nat.zero_le, hcu, hN, hlt, w1]
      simp only [gX1_leavers_146, gX1_leavers_155, gX1_leavers_156, gX1_leavers_157, gX1_leavers_158, gX1_leavers_159, gX1_leavers_160, gX1_leavers_161, am_kill_int, am_kill_ref, am_kill_null, am_kill_F, am_kill_long, am_cat_n, am_cat_i, am_cat_r, am_cat_0, am_cat_l, am_nr_n, am_nr_i, am_nr_r, am_nr_0, am_nr_l, Option.toList_some, Option.toList_none, List.nil_append, List.cons_append, va_rf_s, va_rf_n, am_II, am_I_sR, am_I_sL, am_R_sI, am_RR, am_R_sL, am_L_sI, am_L_sR, am_LL, am_k_sI, am_k_sR, am_k_sL, am_n_sI, am_n_sR, am_n_sL, true_and, and_true, true_or, or_true, or_false, false_or, not_true_eq_false, not_false_eq_true, Nat.reduceLT, am_dS, am_dP, am_d1, Nat.reduceSub, Nat.reduceMul, ne_eq, Nat.reduceBEq, Nat.reduceAdd, Nat.reduceLeDiff, Nat.reduceEqDiff, and_self, and_false, false_and, if_true, if_false, am_nb, am_nb0, am_nb1, am_lc1, am_lc2, am_lc3, am_b0, am_b1, am_10, am_c8, am_c16, am_c24, am_c32, am_c40, am_c48, am_c56, am_c64, am_c72, Nat.add_zero, Bool.false_eq_true, Nat.zero_le, o10, nI_1, bt_z hB8]
      refine inner _ ⟨hB8, fun n hn => ?_⟩
      rw [hB n hn, lvE_0]
      constructor
      · rintro (⟨h1, h2⟩ | h1)
        · exact Or.inl ⟨by omega, h2⟩
        · exact Or.inr h1
      · rintro (⟨h1, h2⟩ | h1)
        · by_cases g : a = n
          · subst g; exact absurd h2 f1
          · exact Or.inl ⟨by omega, h2⟩
        · exact Or.inr h1
  · rintro ls ρ ⟨rfl, B, z4, rfl, hB⟩
    rw [gX1_leavers_131]
    simp only [gX1_leavers_132, gX1_leavers_133, gX1_leavers_136, am_kill_int, am_kill_ref, am_kill_null, am_kill_F, am_kill_long, am_cat_n, am_cat_i, am_cat_r, am_cat_0, am_cat_l, am_nr_n, am_nr_i, am_nr_r, am_nr_0, am_nr_l, Option.toList_some, Option.toList_none, List.nil_append, List.cons_append, va_rf_s, va_rf_n, am_II, am_I_sR, am_I_sL, am_R_sI, am_RR, am_R_sL, am_L_sI, am_L_sR, am_LL, am_k_sI, am_k_sR, am_k_sL, am_n_sI, am_n_sR, am_n_sL, true_and, and_true, true_or, or_true, or_false, false_or, not_true_eq_false, not_false_eq_true, Nat.reduceLT, am_dS, am_dP, am_d1, Nat.reduceSub, Nat.reduceMul, ne_eq, Nat.reduceBEq, Nat.reduceAdd, Nat.reduceLeDiff, Nat.reduceEqDiff, and_self, and_false, false_and, if_true, if_false, am_nb, am_nb0, am_nb1, am_lc1, am_lc2, am_lc3, am_b0, am_b1, am_10, am_c8, am_c16, am_c24, am_c32, am_c40, am_c48, am_c56, am_c64, am_c72, Nat.add_zero, Bool.false_eq_true, Nat.zero_le, hcu, hN, Int32.le_refl]
    rw [leC_end h8 hB]
    exact hK z4
  · rintro (⟨h1, _⟩ | ⟨i, j, h1, h2, h3, _⟩)
    · omega
    · omega
/-- the model counts who leaves -/
theorem leM_loop (hC : MC N c μ) (hcf : ∀ o, o < N → am_I μ 55 (16 + o) = cf o) (ht : ∀ j, j < N → am_I μ 71 j = nI (dv j)) (hdv : ∀ j, j < N → dv j < N) (z1 : Int32) (z4 : Value)
    (hK : ∀ z4', am_Wp (d + 200) mX3_leavers 240 [.ref 54, .int z1, .int (orB (lvP (fun o n => dlV (cf o) n) dv N) N), .int (nI N), z4'] [] μ K) :
    am_Wp (d + 200) mX3_leavers 114 [.ref 54, .int z1, .int (nI 0), .int (nI 0), z4] [] μ K := by
  have hcu := hC.1
  unfold mL at hcu
  have hN := hC.2.1
  have h8 := hC.2.2.1
  refine am_for (N := N) (fun a ls ρ => ρ = μ ∧ ∃ B z4, ls = [.ref 54, .int z1, .int (nI B), .int (nI a), z4] ∧ leM (fun o n => dlV (cf o) n) dv N a 0 B false) ?_ ?_ N 0 _ _ (by omega) ⟨rfl, 0, z4, rfl, by omega, fun n hn => ⟨fun z => absurd z (by rw [Nat.zero_testBit]; decide), ?_⟩⟩
  · rintro a ls ρ ha ⟨rfl, B, z4, rfl, hB8, hB⟩ ih
    have hlt : ¬ nI N ≤ nI a := nI_ge ha (by omega)
    have hina : vp_in (nI a) 8 := vp_in_nI (by omega) (by omega)
    have hcla : (nI a).toNatClampNeg = a := nI_clamp (by omega)
    have wa : ∀ n K, am_Wp (d + 199) mX3_worse 0 [.ref 54, .int (nI a), .int (nI n)] [] ρ K ↔ K (some (.int (dlV (cf a) n))) ρ := fun n K => by
      rw [wX3_worse (d := d + 198) hC (by omega), hcf a ha]
    have inner : ∀ B', leM (fun o n => dlV (cf o) n) dv N a 0 B' (wHB (fun o n => dlV (cf o) n) dv a a) → am_Wp (d + 200) mX3_leavers 155 [.ref 54, .int z1, .int (nI B'), .int (nI a), .int (nI 0)] [] ρ K := fun B' hB' => by
      refine am_for (N := N) (fun b ls σ => σ = ρ ∧ ∃ B, ls = [.ref 54, .int z1, .int (nI B), .int (nI a), .int (nI b)] ∧ leM (fun o n => dlV (cf o) n) dv N a b B (wHB (fun o n => dlV (cf o) n) dv a a)) ?_ ?_ N 0 _ _ (by omega) ⟨rfl, B', rfl, hB'⟩
      · rintro b ls σ hb ⟨rfl, B, rfl, hB8, hB⟩ ih2
        have hltb : ¬ nI N ≤ nI b := nI_ge hb (by omega)
        have hinb : vp_in (nI b) 8 := vp_in_nI (by omega) (by omega)
        have hclb : (nI b).toNatClampNeg = b := nI_clamp (by omega)
        have wb : ∀ n K, am_Wp (d + 199) mX3_worse 0 [.ref 54, .int (nI b), .int (nI n)] [] σ K ↔ K (some (.int (dlV (cf b) n))) σ := fun n K => by
          rw [wX3_worse (d := d + 198) hC (by omega), hcf b hb]
        have an : (List.range (b + 1)).any (fun j => pHB (fun o n => dlV (cf o) n) dv a j) = true ↔ (List.range b).any (fun j => pHB (fun o n => dlV (cf o) n) dv a j) = true ∨ pHB (fun o n => dlV (cf o) n) dv a b = true := by
          rw [List.range_succ, List.any_append, Bool.or_eq_true]
          simp only [List.any_cons, List.any_nil, Bool.or_false]
        have step0 : ¬ pHB (fun o n => dlV (cf o) n) dv a b = true → leM (fun o n => dlV (cf o) n) dv N a (b + 1) B (wHB (fun o n => dlV (cf o) n) dv a a) := fun hp => ⟨hB8, fun n hn => by
          rw [hB n hn, an]
          exact ⟨fun z => z.elim Or.inl (fun z => Or.inr ⟨z.1, z.2.elim Or.inl (fun y => Or.inr (Or.inl y))⟩), fun z => z.elim Or.inl (fun z => Or.inr ⟨z.1, z.2.elim Or.inl (fun y => y.elim Or.inr (fun y => absurd y hp))⟩)⟩⟩
        rw [gX3_leavers_155]
        by_cases f1 : dlV (cf a) (dv b) < dlV (cf a) (dv a)
        · by_cases f2 : dlV (cf b) (dv a) < dlV (cf b) (dv b)
          · have hp : pHB (fun o n => dlV (cf o) n) dv a b = true := by
              unfold pHB wHB
              rw [decide_eq_true f1, decide_eq_true f2]; rfl
            simp only [gX3_leavers_157, gX3_leavers_158, gX3_leavers_161, gX3_leavers_164, gX3_leavers_165, gX3_leavers_166, gX3_leavers_167, gX3_leavers_168, gX3_leavers_171, gX3_leavers_173, gX3_leavers_174, gX3_leavers_177, gX3_leavers_178, gX3_leavers_179, gX3_leavers_180, gX3_leavers_183, gX3_leavers_184, gX3_leavers_185, gX3_leavers_188, gX3_leavers_191, gX3_leavers_192, gX3_leavers_194, gX3_leavers_195, gX3_leavers_198, gX3_leavers_199, gX3_leavers_200, gX3_leavers_203, gX3_leavers_204, gX3_leavers_206, gX3_leavers_207, gX3_leavers_210, gX3_leavers_212, gX3_leavers_213, gX3_leavers_216, gX3_leavers_219, gX3_leavers_220, gX3_leavers_221, gX3_leavers_222, gX3_leavers_225, gX3_leavers_226, gX3_leavers_227, gX3_leavers_228, gX3_leavers_231, am_kill_int, am_kill_ref, am_kill_null, am_kill_F, am_kill_long, am_cat_n, am_cat_i, am_cat_r, am_cat_0, am_cat_l, am_nr_n, am_nr_i, am_nr_r, am_nr_0, am_nr_l, Option.toList_some, Option.toList_none, List.nil_append, List.cons_append, va_rf_s, va_rf_n, am_II, am_I_sR, am_I_sL, am_R_sI, am_RR, am_R_sL, am_L_sI, am_L_sR, am_LL, am_k_sI, am_k_sR, am_k_sL, am_n_sI, am_n_sR, am_n_sL, true_and, and_true, true_or, or_true, or_false, false_or, not_true_eq_false, not_false_eq_true, Nat.reduceLT, am_dS, am_dP, am_d1, Nat.reduceSub, Nat.reduceMul, ne_eq, Nat.reduceBEq, Nat.reduceAdd, Nat.reduceLeDiff, Nat.reduceEqDiff, and_self, and_false, false_and, if_true, if_false, am_nb, am_nb0, am_nb1, am_lc1, am_lc2, am_lc3, am_b0, am_b1, am_10, am_c8, am_c16, am_c24, am_c32, am_c40, am_c48, am_c56, am_c64, am_c72, Nat.add_zero, Bool.false_eq_true, Nat.zero_le, hcu, hN, hltb, hina, hcla, hinb, hclb, ht a ha, ht b hb, wa, wb, Int32.not_le.mpr f1, Int32.not_le.mpr f2, nI_1, bt_or' hB8 (show a < 8 by omega)]
            refine ih2 _ _ ⟨rfl, _, rfl, or_256 hB8 (by omega), fun n hn => ?_⟩
            rw [or_bit, Bool.or_eq_true, decide_eq_true_eq, hB n hn, an]
            constructor
            · rintro ((h1 | ⟨h1, h2⟩) | h1)
              · exact Or.inl h1
              · exact Or.inr ⟨h1, h2.elim Or.inl (fun y => Or.inr (Or.inl y))⟩
              · exact Or.inr ⟨h1.symm, Or.inr (Or.inr hp)⟩
            · rintro (h1 | ⟨h1, _⟩)
              · exact Or.inl (Or.inl h1)
              · exact Or.inr h1.symm
          · have hp : ¬ pHB (fun o n => dlV (cf o) n) dv a b = true := by
              unfold pHB wHB
              rw [decide_eq_false f2, Bool.and_false]; decide
            simp only [gX3_leavers_157, gX3_leavers_158, gX3_leavers_161, gX3_leavers_164, gX3_leavers_165, gX3_leavers_166, gX3_leavers_167, gX3_leavers_168, gX3_leavers_171, gX3_leavers_173, gX3_leavers_174, gX3_leavers_177, gX3_leavers_178, gX3_leavers_179, gX3_leavers_180, gX3_leavers_183, gX3_leavers_184, gX3_leavers_185, gX3_leavers_188, gX3_leavers_191, gX3_leavers_192, gX3_leavers_194, gX3_leavers_195, gX3_leavers_198, gX3_leavers_199, gX3_leavers_200, gX3_leavers_203, gX3_leavers_204, gX3_leavers_206, gX3_leavers_207, gX3_leavers_210, gX3_leavers_212, gX3_leavers_213, gX3_leavers_216, gX3_leavers_219, gX3_leavers_220, gX3_leavers_221, gX3_leavers_222, gX3_leavers_225, gX3_leavers_226, gX3_leavers_227, gX3_leavers_228, gX3_leavers_231, am_kill_int, am_kill_ref, am_kill_null, am_kill_F, am_kill_long, am_cat_n, am_cat_i, am_cat_r, am_cat_0, am_cat_l, am_nr_n, am_nr_i, am_nr_r, am_nr_0, am_nr_l, Option.toList_some, Option.toList_none, List.nil_append, List.cons_append, va_rf_s, va_rf_n, am_II, am_I_sR, am_I_sL, am_R_sI, am_RR, am_R_sL, am_L_sI, am_L_sR, am_LL, am_k_sI, am_k_sR, am_k_sL, am_n_sI, am_n_sR, am_n_sL, true_and, and_true, true_or, or_true, or_false, false_or, not_true_eq_false, not_false_eq_true, Nat.reduceLT, am_dS, am_dP, am_d1, Nat.reduceSub, Nat.reduceMul, ne_eq, Nat.reduceBEq, Nat.reduceAdd, Nat.reduceLeDiff, Nat.reduceEqDiff, and_self, and_false, false_and, if_true, if_false, am_nb, am_nb0, am_nb1, am_lc1, am_lc2, am_lc3, am_b0, am_b1, am_10, am_c8, am_c16, am_c24, am_c32, am_c40, am_c48, am_c56, am_c64, am_c72, Nat.add_zero, Bool.false_eq_true, Nat.zero_le, hcu, hN, hltb, hina, hcla, hinb, hclb, ht a ha, ht b hb, wa, wb, Int32.not_le.mpr f1, Int32.not_lt.mp f2, nI_1, bt_z hB8]
            exact ih2 _ _ ⟨rfl, _, rfl, step0 hp⟩
        · have hp : ¬ pHB (fun o n => dlV (cf o) n) dv a b = true := by
            unfold pHB wHB
            rw [decide_eq_false f1, Bool.false_and]; decide
          simp only [gX3_leavers_157, gX3_leavers_158, gX3_leavers_161, gX3_leavers_164, gX3_leavers_165, gX3_leavers_166, gX3_leavers_167, gX3_leavers_168, gX3_leavers_171, gX3_leavers_173, gX3_leavers_174, gX3_leavers_177, gX3_leavers_178, gX3_leavers_179, gX3_leavers_180, gX3_leavers_183, gX3_leavers_184, gX3_leavers_185, gX3_leavers_188, gX3_leavers_225, gX3_leavers_226, gX3_leavers_227, gX3_leavers_228, gX3_leavers_231, am_kill_int, am_kill_ref, am_kill_null, am_kill_F, am_kill_long, am_cat_n, am_cat_i, am_cat_r, am_cat_0, am_cat_l, am_nr_n, am_nr_i, am_nr_r, am_nr_0, am_nr_l, Option.toList_some, Option.toList_none, List.nil_append, List.cons_append, va_rf_s, va_rf_n, am_II, am_I_sR, am_I_sL, am_R_sI, am_RR, am_R_sL, am_L_sI, am_L_sR, am_LL, am_k_sI, am_k_sR, am_k_sL, am_n_sI, am_n_sR, am_n_sL, true_and, and_true, true_or, or_true, or_false, false_or, not_true_eq_false, not_false_eq_true, Nat.reduceLT, am_dS, am_dP, am_d1, Nat.reduceSub, Nat.reduceMul, ne_eq, Nat.reduceBEq, Nat.reduceAdd, Nat.reduceLeDiff, Nat.reduceEqDiff, and_self, and_false, false_and, if_true, if_false, am_nb, am_nb0, am_nb1, am_lc1, am_lc2, am_lc3, am_b0, am_b1, am_10, am_c8, am_c16, am_c24, am_c32, am_c40, am_c48, am_c56, am_c64, am_c72, Nat.add_zero, Bool.false_eq_true, Nat.zero_le, hcu, hN, hltb, hina, hcla, hinb, hclb, ht a ha, ht b hb, wa, Int32.not_lt.mp f1, nI_1, bt_z hB8]
          exact ih2 _ _ ⟨rfl, _, rfl, step0 hp⟩
      · rintro ls σ ⟨rfl, B, rfl, hB8, hB⟩
        rw [gX3_leavers_155]
        simp only [gX3_leavers_157, gX3_leavers_158, gX3_leavers_161, gX3_leavers_234, gX3_leavers_237, am_kill_int, am_kill_ref, am_kill_null, am_kill_F, am_kill_long, am_cat_n, am_cat_i, am_cat_r, am_cat_0, am_cat_l, am_nr_n, am_nr_i, am_nr_r, am_nr_0, am_nr_l, Option.toList_some, Option.toList_none, List.nil_append, List.cons_append, va_rf_s, va_rf_n, am_II, am_I_sR, am_I_sL, am_R_sI, am_RR, am_R_sL, am_L_sI, am_L_sR, am_LL, am_k_sI, am_k_sR, am_k_sL, am_n_sI, am_n_sR, am_n_sL, true_and, and_true, true_or, or_true, or_false, false_or, not_true_eq_false, not_false_eq_true, Nat.reduceLT, am_dS, am_dP, am_d1, Nat.reduceSub, Nat.reduceMul, ne_eq, Nat.reduceBEq, Nat.reduceAdd, Nat.reduceLeDiff, Nat.reduceEqDiff, and_self, and_false, false_and, if_true, if_false, am_nb, am_nb0, am_nb1, am_lc1, am_lc2, am_lc3, am_b0, am_b1, am_10, am_c8, am_c16, am_c24, am_c32, am_c40, am_c48, am_c56, am_c64, am_c72, Nat.add_zero, Bool.false_eq_true, Nat.zero_le, hcu, hN, Int32.le_refl, nI_1]
        refine ih _ _ ⟨rfl, B, _, rfl, hB8, fun n hn => ?_⟩
        rw [hB n hn]
        have e : lvP (fun o n => dlV (cf o) n) dv N a = true ↔ wHB (fun o n => dlV (cf o) n) dv a a = true ∨ (List.range N).any (fun j => pHB (fun o n => dlV (cf o) n) dv a j) = true := by
          unfold lvP; rw [Bool.or_eq_true]
        constructor
        · rintro (⟨h1, h2⟩ | ⟨h1, h2⟩)
          · exact Or.inl ⟨by omega, h2⟩
          · subst h1; exact Or.inl ⟨by omega, e.mpr h2⟩
        · rintro (⟨h1, h2⟩ | ⟨_, h2⟩)
          · by_cases g : n = a
            · subst g; exact Or.inr ⟨rfl, e.mp h2⟩
            · exact Or.inl ⟨by omega, h2⟩
          · rcases h2 with h2 | h2 <;> cases h2
    rw [gX3_leavers_114]
    have base : ∀ n, n < 8 → (B.testBit n = true ↔ (n < a ∧ lvP (fun o n => dlV (cf o) n) dv N n = true)) := fun n hn => by
      rw [hB n hn]
      exact ⟨fun z => z.elim id (fun z => by rcases z.2 with y | y <;> cases y), Or.inl⟩
    by_cases f1 : dlV (cf a) a < dlV (cf a) (dv a)
    · have hw : wHB (fun o n => dlV (cf o) n) dv a a = true := by unfold wHB; exact decide_eq_true f1
      simp only [gX3_leavers_115, gX3_leavers_116, gX3_leavers_119, gX3_leavers_122, gX3_leavers_123, gX3_leavers_124, gX3_leavers_125, gX3_leavers_126, gX3_leavers_129, gX3_leavers_130, gX3_leavers_131, gX3_leavers_132, gX3_leavers_135, gX3_leavers_136, gX3_leavers_137, gX3_leavers_140, gX3_leavers_143, gX3_leavers_144, gX3_leavers_145, gX3_leavers_146, gX3_leavers_149, gX3_leavers_150, gX3_leavers_151, gX3_leavers_152, gX3_leavers_153, am_kill_int, am_kill_ref, am_kill_null, am_kill_F, am_kill_long, am_cat_n, am_cat_i, am_cat_r, am_cat_0, am_cat_l, am_nr_n, am_nr_i, am_nr_r, am_nr_0, am_nr_l, Option.toList_some, Option.toList_none, List.nil_append, List.cons_append, va_rf_s, va_rf_n, am_II, am_I_sR, am_I_sL, am_R_sI, am_RR, am_R_sL, am_L_sI, am_L_sR, am_LL, am_k_sI, am_k_sR, am_k_sL, am_n_sI, am_n_sR, am_n_sL, true_and, and_true, true_or, or_true, or_false, false_or, not_true_eq_false, not_false_eq_true, Nat.reduceLT, am_dS, am_dP, am_d1, Nat.reduceSub, Nat.reduceMul, ne_eq, Nat.reduceBEq, Nat.reduceAdd, Nat.reduceLeDiff, Nat.reduceEqDiff, and_self, and_false, false_and, if_true, if_false, am_nb, am_nb0, am_nb1, am_lc1, am_lc2, am_lc3, am_b0, am_b1, am_10, am_c8, am_c16, am_c24, am_c32, am_c40, am_c48, am_c56, am_c64, am_c72, Nat.add_zero, Bool.false_eq_true, Nat.zero_le, hcu, hN, hlt, hina, hcla, ht a ha, wa, Int32.not_le.mpr f1, bt_or' hB8 (show a < 8 by omega)]
      refine inner _ ⟨or_256 hB8 (by omega), fun n hn => ?_⟩
      rw [or_bit, Bool.or_eq_true, decide_eq_true_eq, base n hn, hw]
      constructor
      · rintro (h1 | h1)
        · exact Or.inl h1
        · exact Or.inr ⟨h1.symm, Or.inl rfl⟩
      · rintro (h1 | ⟨h1, _⟩)
        · exact Or.inl h1
        · exact Or.inr h1.symm
    · have hw : wHB (fun o n => dlV (cf o) n) dv a a = false := by unfold wHB; exact decide_eq_false f1
      simp only [gX3_leavers_115, gX3_leavers_116, gX3_leavers_119, gX3_leavers_122, gX3_leavers_123, gX3_leavers_124, gX3_leavers_125, gX3_leavers_126, gX3_leavers_129, gX3_leavers_130, gX3_leavers_131, gX3_leavers_132, gX3_leavers_135, gX3_leavers_136, gX3_leavers_137, gX3_leavers_140, gX3_leavers_143, gX3_leavers_144, gX3_leavers_145, gX3_leavers_146, gX3_leavers_149, gX3_leavers_150, gX3_leavers_151, gX3_leavers_152, gX3_leavers_153, am_kill_int, am_kill_ref, am_kill_null, am_kill_F, am_kill_long, am_cat_n, am_cat_i, am_cat_r, am_cat_0, am_cat_l, am_nr_n, am_nr_i, am_nr_r, am_nr_0, am_nr_l, Option.toList_some, Option.toList_none, List.nil_append, List.cons_append, va_rf_s, va_rf_n, am_II, am_I_sR, am_I_sL, am_R_sI, am_RR, am_R_sL, am_L_sI, am_L_sR, am_LL, am_k_sI, am_k_sR, am_k_sL, am_n_sI, am_n_sR, am_n_sL, true_and, and_true, true_or, or_true, or_false, false_or, not_true_eq_false, not_false_eq_true, Nat.reduceLT, am_dS, am_dP, am_d1, Nat.reduceSub, Nat.reduceMul, ne_eq, Nat.reduceBEq, Nat.reduceAdd, Nat.reduceLeDiff, Nat.reduceEqDiff, and_self, and_false, false_and, if_true, if_false, am_nb, am_nb0, am_nb1, am_lc1, am_lc2, am_lc3, am_b0, am_b1, am_10, am_c8, am_c16, am_c24, am_c32, am_c40, am_c48, am_c56, am_c64, am_c72, Nat.add_zero, Bool.false_eq_true, Nat.zero_le, hcu, hN, hlt, hina, hcla, ht a ha, wa, Int32.not_lt.mp f1, bt_z hB8]
      refine inner _ ⟨hB8, fun n hn => ?_⟩
      rw [base n hn, hw]
      constructor
      · exact Or.inl
      · rintro (h1 | ⟨_, h1 | h1⟩)
        · exact h1
        · cases h1
        · cases h1
  · rintro ls ρ ⟨rfl, B, z4, rfl, hB⟩
    rw [gX3_leavers_114]
    simp only [gX3_leavers_115, gX3_leavers_116, gX3_leavers_119, am_kill_int, am_kill_ref, am_kill_null, am_kill_F, am_kill_long, am_cat_n, am_cat_i, am_cat_r, am_cat_0, am_cat_l, am_nr_n, am_nr_i, am_nr_r, am_nr_0, am_nr_l, Option.toList_some, Option.toList_none, List.nil_append, List.cons_append, va_rf_s, va_rf_n, am_II, am_I_sR, am_I_sL, am_R_sI, am_RR, am_R_sL, am_L_sI, am_L_sR, am_LL, am_k_sI, am_k_sR, am_k_sL, am_n_sI, am_n_sR, am_n_sL, true_and, and_true, true_or, or_true, or_false, false_or, not_true_eq_false, not_false_eq_true, Nat.reduceLT, am_dS, am_dP, am_d1, Nat.reduceSub, Nat.reduceMul, ne_eq, Nat.reduceBEq, Nat.reduceAdd, Nat.reduceLeDiff, Nat.reduceEqDiff, and_self, and_false, false_and, if_true, if_false, am_nb, am_nb0, am_nb1, am_lc1, am_lc2, am_lc3, am_b0, am_b1, am_10, am_c8, am_c16, am_c24, am_c32, am_c40, am_c48, am_c56, am_c64, am_c72, Nat.add_zero, Bool.false_eq_true, Nat.zero_le, hcu, hN, Int32.le_refl]
    rw [leM_end h8 hB]
    exact hK z4
  · rintro (⟨h1, _⟩ | ⟨_, h1 | h1⟩)
    · omega
    · cases h1
    · cases h1
end LVV
