/-! lodgings: the rings, on both sides -/
set_option maxRecDepth 100000
section LRV
variable {d : Nat} {μ ν ξ μ1 ν1 : am_M} {K : Option Value → am_M → Prop} {x y z c w : Int32} {h h' N C i j k r n L R M m a b e q q' t u s f : Nat} {v : Int32} {ru : Option PF} {S S' T : Nat → Int32} {cf : Nat → Int32} {dl : Nat → Nat → Int32} {p : Nat → Bool} {lo : Nat → Nat}
def itP (g : Nat → Nat) : Nat → Nat → Nat
  | 0, x => x
  | n + 1, x => g (itP g n x)
def rinR (dl : Nat → Nat → Int32) (N L : Nat) : Nat → Nat → Nat → (Nat → Nat) → Nat × (Nat → Nat)
  | 0, _, R, lo => (R, lo)
  | f + 1, one, R, lo => if R.testBit one = true then (R, lo) else rinR dl N L f (ptN dl N L one) (R ||| 2 ^ one) (fun k => if k = one then ptN dl N L one else lo k)
def lyR (dl : Nat → Nat → Int32) (N : Nat) : Nat → Nat → (Nat → Nat) → (Nat → Nat)
  | 0, _, lo => lo
  | f + 1, L, lo => if L = 0 then lo else lyR dl N f (L &&& (255 ^^^ (rinR dl N L 256 (itP (ptN dl N L) N (ntN L)) 0 lo).1)) (rinR dl N L 256 (itP (ptN dl N L) N (ntN L)) 0 lo).2
/-- by owners the nests they have then -/
def lyL (N : Nat) (cf : Nat → Int32) : Nat → Nat := lyR (fun o n => dlV (cf o) n) N 256 (2 ^ N - 1) (fun _ => 0)
theorem or_bit {n : Nat} : (R ||| 2 ^ i).testBit n = (R.testBit n || decide (i = n)) := by
  rw [Nat.testBit_or, Nat.testBit_two_pow]
theorem or_256 (hR : R < 256) (hi : i < 8) : R ||| 2 ^ i < 256 := by
  have : (2 : Nat) ^ i < 2 ^ 8 := Nat.pow_lt_pow_right (by decide) hi
  exact Nat.or_lt_two_pow (n := 8) hR this
theorem or_gt (hn : ¬ R.testBit i = true) : R < R ||| 2 ^ i := by
  have h1 : R ≤ R ||| 2 ^ i := Nat.left_le_or
  have h2 : R ≠ R ||| 2 ^ i := fun e => by
    have : (R ||| 2 ^ i).testBit i = true := by rw [or_bit, decide_eq_true rfl, Bool.or_true]
    rw [← e] at this
    exact hn this
  omega
theorem rin_ok (hN : N ≤ 8) (hL : L < 2 ^ N) (h0 : L ≠ 0) : ∀ (f one R : Nat) (lo : Nat → Nat), 256 ≤ f + R → one < N → L.testBit one = true → R < 256 → (∀ n, R.testBit n = true → L.testBit n = true) → (∀ n, n < N → (L.testBit n = false ∨ R.testBit n = true) → lo n < N) →
    (rinR dl N L f one R lo).1 < 256 ∧ (∀ n, (rinR dl N L f one R lo).1.testBit n = true → L.testBit n = true) ∧ (∀ n, R.testBit n = true → (rinR dl N L f one R lo).1.testBit n = true) ∧ (rinR dl N L f one R lo).1.testBit one = true ∧ (∀ n, n < N → (L.testBit n = false ∨ (rinR dl N L f one R lo).1.testBit n = true) → (rinR dl N L f one R lo).2 n < N)
  | 0, one, R, lo, hf, h1, h2, h3, h4, h5 => by omega
  | f + 1, one, R, lo, hf, h1, h2, h3, h4, h5 => by
    unfold rinR
    by_cases hb : R.testBit one = true
    · rw [if_pos hb]
      exact ⟨h3, h4, fun _ h => h, hb, h5⟩
    · rw [if_neg hb]
      obtain ⟨p1, p2, p3⟩ := ptN_s (dl := dl) (a := one) hL h0
      have hg := or_gt hb
      obtain ⟨g1, g2, g3, g4, g5⟩ := rin_ok hN hL h0 f (ptN dl N L one) (R ||| 2 ^ one) (fun k => if k = one then ptN dl N L one else lo k) (by omega) p2 p3 (or_256 h3 (by omega)) (fun n hn => by
        rw [or_bit, Bool.or_eq_true, decide_eq_true_eq] at hn
        rcases hn with hn | hn
        · exact h4 n hn
        · rw [← hn]; exact h2) (fun n hn hn2 => by
        show (if n = one then ptN dl N L one else lo n) < N
        split
        · exact p2
        · refine h5 n hn ?_
          rcases hn2 with e | e
          · exact Or.inl e
          · rw [or_bit, Bool.or_eq_true, decide_eq_true_eq] at e
            rcases e with e | e
            · exact Or.inr e
            · omega)
      exact ⟨g1, g2, fun n hn => g3 n (by rw [or_bit, hn, Bool.true_or]), g3 one (by rw [or_bit, decide_eq_true rfl, Bool.or_true]), g5⟩
theorem it_ok (hL : L < 2 ^ N) (h0 : L ≠ 0) (hx : i < N ∧ L.testBit i = true) : ∀ k, itP (ptN dl N L) k i < N ∧ L.testBit (itP (ptN dl N L) k i) = true
  | 0 => hx
  | k + 1 => (ptN_s hL h0).2
theorem nt_ok (hN : N ≤ 8) (hL : L < 2 ^ N) (h0 : L ≠ 0) : ntN L < N ∧ L.testBit (ntN L) = true := by
  obtain ⟨h1, h2, _⟩ := nt_all ⟨L, lt256 hN hL⟩ h0
  refine ⟨?_, h2⟩
  by_cases f : ntN L < N
  · exact f
  · have := Nat.testBit_lt_two_pow (Nat.lt_of_lt_of_le hL (Nat.pow_le_pow_right (by decide) (by omega : N ≤ ntN L)))
    rw [h2] at this; cases this
theorem andn_bit (n : Nat) (hn : n < 8) : (L &&& (255 ^^^ R)).testBit n = (L.testBit n && !R.testBit n) := by
  rw [Nat.testBit_and, Nat.testBit_xor, show (255 : Nat) = 2 ^ 8 - 1 from rfl, Nat.testBit_two_pow_sub_one, decide_eq_true hn, Bool.true_xor]
theorem andn_I (hL : L < 256) : nI L &&& (nI R ^^^ -1) = nI (L &&& (255 ^^^ R)) := by
  refine bitsI fun i hi => ?_
  rw [nI_bit hi, Int32.toBitVec_and, Int32.toBitVec_xor, BitVec.getLsbD_and, BitVec.getLsbD_xor, nI_bit hi, nI_bit hi, m1_bit hi]
  by_cases f : i < 8
  · rw [andn_bit i f, Bool.xor_true]
  · have e : L.testBit i = false := Nat.testBit_lt_two_pow (Nat.lt_of_lt_of_le (show L < 2 ^ 8 from hL) (Nat.pow_le_pow_right (by decide) (by omega : 8 ≤ i)))
    rw [Nat.testBit_and, e, Bool.false_and, Bool.false_and]
theorem andn_lt (hL : L < 2 ^ N) (hi : i < 8) (h1 : L.testBit i = true) (h2 : R.testBit i = true) : L &&& (255 ^^^ R) < L := by
  have h3 : L &&& (255 ^^^ R) ≤ L := Nat.and_le_left
  have h4 : L &&& (255 ^^^ R) ≠ L := fun e => by
    have := andn_bit (L := L) (R := R) i hi
    rw [e, h1, h2] at this
    cases this
  omega
theorem ly_lt (hN : N ≤ 8) : ∀ (f L : Nat) (lo : Nat → Nat), L ≤ f → L < 2 ^ N → (∀ n, n < N → L.testBit n = false → lo n < N) → ∀ n, n < N → lyR dl N f L lo n < N
  | 0, L, lo, hf, hL, h, n, hn => by
    have e : L = 0 := by omega
    subst e
    exact h n hn (Nat.zero_testBit n)
  | f + 1, L, lo, hf, hL, h, n, hn => by
    unfold lyR
    by_cases h0 : L = 0
    · rw [if_pos h0]
      subst h0
      exact h n hn (Nat.zero_testBit n)
    · rw [if_neg h0]
      have hnt := nt_ok hN hL h0
      have hit := it_ok (dl := dl) hL h0 hnt N
      obtain ⟨g1, g2, g3, g4, g5⟩ := rin_ok (dl := dl) hN hL h0 256 (itP (ptN dl N L) N (ntN L)) 0 lo (by omega) hit.1 hit.2 (by omega) (fun n hn => by rw [Nat.zero_testBit] at hn; cases hn) (fun n hn hn2 => h n hn (by
        rcases hn2 with e | e
        · exact e
        · rw [Nat.zero_testBit] at e; cases e))
      have hlt := andn_lt (R := (rinR dl N L 256 (itP (ptN dl N L) N (ntN L)) 0 lo).1) hL (by omega) hit.2 g4
      refine ly_lt hN f _ _ (by omega) (by omega) (fun n hn hn2 => g5 n hn ?_) n hn
      rw [andn_bit n (by omega)] at hn2
      cases e1 : L.testBit n with
      | false => exact Or.inl rfl
      | true =>
        rw [e1, Bool.true_and] at hn2
        cases e2 : (rinR dl N L 256 (itP (ptN dl N L) N (ntN L)) 0 lo).1.testBit n with
        | false => rw [e2] at hn2; cases hn2
        | true => exact Or.inr rfl
theorem lyL_lt (hN : N ≤ 8) (hn : n < N) : lyL N cf n < N :=
  ly_lt hN 256 (2 ^ N - 1) (fun _ => 0) (by have := Nat.pow_le_pow_right (n := 2) (by decide) hN; omega) (by have := Nat.two_pow_pos N; omega) (fun n hn h => by
    rw [Nat.testBit_two_pow_sub_one, decide_eq_true hn] at h; cases h) n hn
theorem left0 : ∀ n : Fin 9, 1 <<< (nI n.val &&& 31) - 1 = nI (2 ^ n.val - 1) := by decide
theorem nI_z (hL : L < 256) : (nI L = 0) = (L = 0) := by rw [← nI_0, nI_inj (by omega) (by omega)]
theorem rin_mono : ∀ (f one R : Nat) (lo : Nat → Nat) (n : Nat), R.testBit n = true → (rinR dl N L f one R lo).1.testBit n = true
  | 0, _, _, _, _, h => h
  | f + 1, one, R, lo, n, h => by
    unfold rinR
    split
    · exact h
    · exact rin_mono f _ _ _ n (by rw [or_bit, h, Bool.true_or])
theorem rin_bit (hN : N ≤ 8) (hL : L < 2 ^ N) (h0 : L ≠ 0) (h1 : i < N) (h2 : L.testBit i = true) : (rinR dl N L 256 i 0 lo).1.testBit i = true := by
  unfold rinR
  rw [if_neg (by rw [Nat.zero_testBit]; decide)]
  obtain ⟨p1, p2, p3⟩ := ptN_s (dl := dl) (a := i) hL h0
  refine rin_mono 255 _ _ _ i ?_
  rw [or_bit, decide_eq_true rfl, Bool.or_true]
theorem X1_laysLodgings_ring (hC : CC N ru c μ) (hcf : ∀ o, o < N → cS μ 1 (16 + o) = cf o) (hL : L < 2 ^ N) (h0 : L ≠ 0) : ∀ (f one R : Nat) (lo : Nat → Nat) (ρ : am_M), 256 ≤ f + R → one < N → L.testBit one = true → R < 256 → Fr (fun a _ => a = 47) μ ρ → (∀ n, n < N → (L.testBit n = false ∨ R.testBit n = true) → am_I ρ 47 n = nI (lo n)) →
    (∀ ρ' one', Fr (fun a _ => a = 47) μ ρ' → (∀ n, n < N → (L.testBit n = false ∨ (rinR (fun o n => dlV (cf o) n) N L f one R lo).1.testBit n = true) → am_I ρ' 47 n = nI ((rinR (fun o n => dlV (cf o) n) N L f one R lo).2 n)) → am_Wp (d + 3) mX1_laysLodgings 79 [.ref 0, .int (nI L), .int one', .int (nI (rinR (fun o n => dlV (cf o) n) N L f one R lo).1)] [] ρ' K) →
    am_Wp (d + 3) mX1_laysLodgings 43 [.ref 0, .int (nI L), .int (nI one), .int (nI R)] [] ρ K := by
  have hN8 := hC.2.2.1
  intro f
  induction f with
  | zero => intro one R lo ρ hf h1 h2 h3; omega
  | succ f ih =>
    intro one R lo ρ hf h1 h2 h3 hF hr hK
    have hCρ : CC N ru c ρ := hC.fr hF (fun a b z => by omega)
    have hcfρ : ∀ o, o < N → cS ρ 1 (16 + o) = cf o := fun o ho => by rw [show cS ρ 1 = cS μ 1 from cS_Fr hF fun a b z1 z2 z3 => by omega]; exact hcf o ho
    have hb : ((nI R >>> (nI one &&& 31)) &&& 1 = 1) = (R.testBit one = true) := bt_has ⟨R, h3⟩ ⟨one, by omega⟩
    rw [gX1_laysLodgings_43]
    by_cases hbt : R.testBit one = true
    · have e : rinR (fun o n => dlV (cf o) n) N L (f + 1) one R lo = (R, lo) := by unfold rinR; exact if_pos hbt
      rw [e] at hK
      have o10 : ¬ (1 : Int32) = 0 := by decide
      simp only [gX1_laysLodgings_44, gX1_laysLodgings_45, gX1_laysLodgings_48, am_kill_int, am_kill_ref, am_kill_null, am_kill_F, am_kill_long, am_cat_n, am_cat_i, am_cat_r, am_cat_0, am_cat_l, am_nr_n, am_nr_i, am_nr_r, am_nr_0, am_nr_l, Option.toList_some, Option.toList_none, List.nil_append, List.cons_append, va_rf_s, va_rf_n, am_II, am_I_sR, am_I_sL, am_R_sI, am_RR, am_R_sL, am_L_sI, am_L_sR, am_LL, am_k_sI, am_k_sR, am_k_sL, am_n_sI, am_n_sR, am_n_sL, true_and, and_true, true_or, or_true, or_false, false_or, not_true_eq_false, not_false_eq_true, Nat.reduceLT, am_dS, am_dP, am_d1, Nat.reduceSub, Nat.reduceMul, ne_eq, Nat.reduceBEq, Nat.reduceAdd, Nat.reduceLeDiff, Nat.reduceEqDiff, and_self, and_false, false_and, if_true, if_false, am_nb, am_nb0, am_nb1, am_lc1, am_lc2, am_lc3, am_b0, am_b1, am_10, am_c8, am_c16, am_c24, am_c32, am_c40, am_c48, am_c56, am_c64, am_c72, Nat.add_zero, Bool.false_eq_true, Nat.zero_le, wX1_has, hb, hbt, o10]
      exact hK ρ _ hF hr
    · have e : rinR (fun o n => dlV (cf o) n) N L (f + 1) one R lo = rinR (fun o n => dlV (cf o) n) N L f (ptN (fun o n => dlV (cf o) n) N L one) (R ||| 2 ^ one) (fun k => if k = one then ptN (fun o n => dlV (cf o) n) N L one else lo k) := by
        conv => lhs; unfold rinR
        exact if_neg hbt
      rw [e] at hK
      have hcu := hCρ.1
      simp only [cL, spL, Nat.reduceAdd] at hcu
      obtain ⟨p1, p2, p3⟩ := ptN_s (dl := fun o n => dlV (cf o) n) (a := one) hL h0
      have hpt := wX1_pointsTo (d := d) (K := fun r1 μ1 => am_nr r1 ∧ am_Wp (d + 3) mX1_laysLodgings 68 [.ref 0, .int (nI L), .int (nI one), .int (nI (R ||| 2 ^ one))] (r1.toList ++ [.int (nI one), .ref 47]) μ1 K) hCρ (j := one) h1 hL hcfρ
      rw [p1] at hpt
      have hor : nI R ||| 1 <<< (nI one &&& 31) = nI (R ||| 2 ^ one) := bt_or ⟨R, h3⟩ ⟨one, by omega⟩
      have hin : vp_in (nI one) 8 := vp_in_nI (by omega) (by omega)
      have hcl : (nI one).toNatClampNeg = one := nI_clamp (by omega)
      have o00 : (0 : Int32) = 0 := rfl
      simp only [gX1_laysLodgings_44, gX1_laysLodgings_45, gX1_laysLodgings_48, gX1_laysLodgings_51, gX1_laysLodgings_52, gX1_laysLodgings_53, gX1_laysLodgings_54, gX1_laysLodgings_55, gX1_laysLodgings_56, gX1_laysLodgings_57, gX1_laysLodgings_58, gX1_laysLodgings_61, gX1_laysLodgings_62, gX1_laysLodgings_63, gX1_laysLodgings_64, gX1_laysLodgings_65, am_kill_int, am_kill_ref, am_kill_null, am_kill_F, am_kill_long, am_cat_n, am_cat_i, am_cat_r, am_cat_0, am_cat_l, am_nr_n, am_nr_i, am_nr_r, am_nr_0, am_nr_l, Option.toList_some, Option.toList_none, List.nil_append, List.cons_append, va_rf_s, va_rf_n, am_II, am_I_sR, am_I_sL, am_R_sI, am_RR, am_R_sL, am_L_sI, am_L_sR, am_LL, am_k_sI, am_k_sR, am_k_sL, am_n_sI, am_n_sR, am_n_sL, true_and, and_true, true_or, or_true, or_false, false_or, not_true_eq_false, not_false_eq_true, Nat.reduceLT, am_dS, am_dP, am_d1, Nat.reduceSub, Nat.reduceMul, ne_eq, Nat.reduceBEq, Nat.reduceAdd, Nat.reduceLeDiff, Nat.reduceEqDiff, and_self, and_false, false_and, if_true, if_false, am_nb, am_nb0, am_nb1, am_lc1, am_lc2, am_lc3, am_b0, am_b1, am_10, am_c8, am_c16, am_c24, am_c32, am_c40, am_c48, am_c56, am_c64, am_c72, Nat.add_zero, Bool.false_eq_true, Nat.zero_le, wX1_has, hb, hbt, hcu, hor]
      rw [hpt]
      have q1 : oI (some (ptN (fun o n => dlV (cf o) n) N L one)) = nI (ptN (fun o n => dlV (cf o) n) N L one) := rfl
      simp only [gX1_laysLodgings_68, gX1_laysLodgings_69, gX1_laysLodgings_70, gX1_laysLodgings_73, gX1_laysLodgings_74, gX1_laysLodgings_75, gX1_laysLodgings_76, am_kill_int, am_kill_ref, am_kill_null, am_kill_F, am_kill_long, am_cat_n, am_cat_i, am_cat_r, am_cat_0, am_cat_l, am_nr_n, am_nr_i, am_nr_r, am_nr_0, am_nr_l, Option.toList_some, Option.toList_none, List.nil_append, List.cons_append, va_rf_s, va_rf_n, am_II, am_I_sR, am_I_sL, am_R_sI, am_RR, am_R_sL, am_L_sI, am_L_sR, am_LL, am_k_sI, am_k_sR, am_k_sL, am_n_sI, am_n_sR, am_n_sL, true_and, and_true, true_or, or_true, or_false, false_or, not_true_eq_false, not_false_eq_true, Nat.reduceLT, am_dS, am_dP, am_d1, Nat.reduceSub, Nat.reduceMul, ne_eq, Nat.reduceBEq, Nat.reduceAdd, Nat.reduceLeDiff, Nat.reduceEqDiff, and_self, and_false, false_and, if_true, if_false, am_nb, am_nb0, am_nb1, am_lc1, am_lc2, am_lc3, am_b0, am_b1, am_10, am_c8, am_c16, am_c24, am_c32, am_c40, am_c48, am_c56, am_c64, am_c72, Nat.add_zero, Bool.false_eq_true, Nat.zero_le, hcu, hin, hcl, q1]
      have hg := or_gt hbt
      refine ih (ptN (fun o n => dlV (cf o) n) N L one) (R ||| 2 ^ one) _ _ (by omega) p2 p3 (or_256 h3 (by omega)) (Fr.I hF rfl) (fun n hn hn2 => ?_) hK
      by_cases en : n = one
      · subst en; rw [am_I_sI, if_pos ⟨rfl, rfl⟩, if_pos rfl]
      · rw [am_I_sI, if_neg (by omega), if_neg en]
        refine hr n hn ?_
        rcases hn2 with z | z
        · exact Or.inl z
        · rw [or_bit, Bool.or_eq_true, decide_eq_true_eq] at z
          rcases z with z | z
          · exact Or.inr z
          · omega
theorem wX1_laysLodgings (hC : CC N ru c μ) (hcf : ∀ o, o < N → cS μ 1 (16 + o) = cf o) (hK : ∀ ν, Fr (fun a _ => a = 47) μ ν → (∀ n, n < N → am_I ν 47 n = nI (lyL N cf n)) → K none ν) : am_Wp (d + 3) mX1_laysLodgings 0 [.ref 0, am_F, am_F, am_F] [] μ K := by
  have hcu := hC.1
  simp only [cL, spL, Nat.reduceAdd] at hcu
  have hN8 := hC.2.2.1
  have hN := hC.2.1
  have el := left0 ⟨N, by omega⟩
  simp only at el
  simp only [gX1_laysLodgings_0, gX1_laysLodgings_1, gX1_laysLodgings_2, gX1_laysLodgings_5, gX1_laysLodgings_6, gX1_laysLodgings_7, gX1_laysLodgings_8, am_kill_int, am_kill_ref, am_kill_null, am_kill_F, am_kill_long, am_cat_n, am_cat_i, am_cat_r, am_cat_0, am_cat_l, am_nr_n, am_nr_i, am_nr_r, am_nr_0, am_nr_l, Option.toList_some, Option.toList_none, List.nil_append, List.cons_append, va_rf_s, va_rf_n, am_II, am_I_sR, am_I_sL, am_R_sI, am_RR, am_R_sL, am_L_sI, am_L_sR, am_LL, am_k_sI, am_k_sR, am_k_sL, am_n_sI, am_n_sR, am_n_sL, true_and, and_true, true_or, or_true, or_false, false_or, not_true_eq_false, not_false_eq_true, Nat.reduceLT, am_dS, am_dP, am_d1, Nat.reduceSub, Nat.reduceMul, ne_eq, Nat.reduceBEq, Nat.reduceAdd, Nat.reduceLeDiff, Nat.reduceEqDiff, and_self, and_false, false_and, if_true, if_false, am_nb, am_nb0, am_nb1, am_lc1, am_lc2, am_lc3, am_b0, am_b1, am_10, am_c8, am_c16, am_c24, am_c32, am_c40, am_c48, am_c56, am_c64, am_c72, Nat.add_zero, Bool.false_eq_true, Nat.zero_le, hcu, hN, el]
  have main : ∀ (F L : Nat) (lo : Nat → Nat) (ρ : am_M) (z2 z3 : Value), L ≤ F → L < 2 ^ N → Fr (fun a _ => a = 47) μ ρ → (∀ n, n < N → L.testBit n = false → am_I ρ 47 n = nI (lo n)) → (∀ ν, Fr (fun a _ => a = 47) μ ν → (∀ n, n < N → am_I ν 47 n = nI (lyR (fun o n => dlV (cf o) n) N F L lo n)) → K none ν) → am_Wp (d + 3) mX1_laysLodgings 9 [.ref 0, .int (nI L), z2, z3] [] ρ K := fun F => by
    induction F with
    | zero =>
      intro L lo ρ z2 z3 hf hL hF hr hK
      have e : L = 0 := by omega
      subst e
      rw [gX1_laysLodgings_9]
      simp only [nI_0, gX1_laysLodgings_10, gX1_laysLodgings_88, am_kill_int, am_kill_ref, am_kill_null, am_kill_F, am_kill_long, am_cat_n, am_cat_i, am_cat_r, am_cat_0, am_cat_l, am_nr_n, am_nr_i, am_nr_r, am_nr_0, am_nr_l, Option.toList_some, Option.toList_none, List.nil_append, List.cons_append, va_rf_s, va_rf_n, am_II, am_I_sR, am_I_sL, am_R_sI, am_RR, am_R_sL, am_L_sI, am_L_sR, am_LL, am_k_sI, am_k_sR, am_k_sL, am_n_sI, am_n_sR, am_n_sL, true_and, and_true, true_or, or_true, or_false, false_or, not_true_eq_false, not_false_eq_true, Nat.reduceLT, am_dS, am_dP, am_d1, Nat.reduceSub, Nat.reduceMul, ne_eq, Nat.reduceBEq, Nat.reduceAdd, Nat.reduceLeDiff, Nat.reduceEqDiff, and_self, and_false, false_and, if_true, if_false, am_nb, am_nb0, am_nb1, am_lc1, am_lc2, am_lc3, am_b0, am_b1, am_10, am_c8, am_c16, am_c24, am_c32, am_c40, am_c48, am_c56, am_c64, am_c72, Nat.add_zero, Bool.false_eq_true, Nat.zero_le]
      exact hK ρ hF fun n hn => hr n hn (Nat.zero_testBit n)
    | succ F ih =>
      intro L lo ρ z2 z3 hf hL hF hr hK
      have hL8 := lt256 hN8 hL
      by_cases h0 : L = 0
      · subst h0
        have e : lyR (fun o n => dlV (cf o) n) N (F + 1) 0 lo = lo := by unfold lyR; exact if_pos rfl
        rw [e] at hK
        rw [gX1_laysLodgings_9]
        simp only [nI_0, gX1_laysLodgings_10, gX1_laysLodgings_88, am_kill_int, am_kill_ref, am_kill_null, am_kill_F, am_kill_long, am_cat_n, am_cat_i, am_cat_r, am_cat_0, am_cat_l, am_nr_n, am_nr_i, am_nr_r, am_nr_0, am_nr_l, Option.toList_some, Option.toList_none, List.nil_append, List.cons_append, va_rf_s, va_rf_n, am_II, am_I_sR, am_I_sL, am_R_sI, am_RR, am_R_sL, am_L_sI, am_L_sR, am_LL, am_k_sI, am_k_sR, am_k_sL, am_n_sI, am_n_sR, am_n_sL, true_and, and_true, true_or, or_true, or_false, false_or, not_true_eq_false, not_false_eq_true, Nat.reduceLT, am_dS, am_dP, am_d1, Nat.reduceSub, Nat.reduceMul, ne_eq, Nat.reduceBEq, Nat.reduceAdd, Nat.reduceLeDiff, Nat.reduceEqDiff, and_self, and_false, false_and, if_true, if_false, am_nb, am_nb0, am_nb1, am_lc1, am_lc2, am_lc3, am_b0, am_b1, am_10, am_c8, am_c16, am_c24, am_c32, am_c40, am_c48, am_c56, am_c64, am_c72, Nat.add_zero, Bool.false_eq_true, Nat.zero_le]
        exact hK ρ hF fun n hn => hr n hn (Nat.zero_testBit n)
      · have hCρ : CC N ru c ρ := hC.fr hF (fun a b z => by omega)
        have hcfρ : ∀ o, o < N → cS ρ 1 (16 + o) = cf o := fun o ho => by rw [show cS ρ 1 = cS μ 1 from cS_Fr hF fun a b z1 z2 z3 => by omega]; exact hcf o ho
        have nz : ¬ nI L = 0 := by rw [nI_z hL8]; exact h0
        have hk : am_k ρ 0 = (0, 0) := by rw [hF.2.2.2.1]; simp only [hcu]
        have hNρ := hCρ.2.1
        rw [gX1_laysLodgings_9]
        simp only [gX1_laysLodgings_10, gX1_laysLodgings_13, gX1_laysLodgings_14, gX1_laysLodgings_17, gX1_laysLodgings_18, gX1_laysLodgings_19, am_kill_int, am_kill_ref, am_kill_null, am_kill_F, am_kill_long, am_cat_n, am_cat_i, am_cat_r, am_cat_0, am_cat_l, am_nr_n, am_nr_i, am_nr_r, am_nr_0, am_nr_l, Option.toList_some, Option.toList_none, List.nil_append, List.cons_append, va_rf_s, va_rf_n, am_II, am_I_sR, am_I_sL, am_R_sI, am_RR, am_R_sL, am_L_sI, am_L_sR, am_LL, am_k_sI, am_k_sR, am_k_sL, am_n_sI, am_n_sR, am_n_sL, true_and, and_true, true_or, or_true, or_false, false_or, not_true_eq_false, not_false_eq_true, Nat.reduceLT, am_dS, am_dP, am_d1, Nat.reduceSub, Nat.reduceMul, ne_eq, Nat.reduceBEq, Nat.reduceAdd, Nat.reduceLeDiff, Nat.reduceEqDiff, and_self, and_false, false_and, if_true, if_false, am_nb, am_nb0, am_nb1, am_lc1, am_lc2, am_lc3, am_b0, am_b1, am_10, am_c8, am_c16, am_c24, am_c32, am_c40, am_c48, am_c56, am_c64, am_c72, Nat.add_zero, Bool.false_eq_true, Nat.zero_le, nz, wJ10_ntz hL8 h0]
        have hnt := nt_ok hN8 hL h0
        refine am_for (N := N) (fun k ls σ => σ = ρ ∧ ls = [.ref 0, .int (nI L), .int (nI (itP (ptN (fun o n => dlV (cf o) n) N L) k (ntN L))), .int (nI k)]) ?_ ?_ N 0 _ _ (by omega) ⟨rfl, rfl⟩
        · rintro k ls σ hkN ⟨rfl, rfl⟩ ih2
          have hlt : ¬ nI N ≤ nI k := nI_ge hkN (by omega)
          have hit := it_ok (dl := fun o n => dlV (cf o) n) hL h0 hnt k
          have hpt := wX1_pointsTo (d := d) (K := fun r1 μ1 => am_nr r1 ∧ am_Wp (d + 3) mX1_laysLodgings 34 [.ref 0, .int (nI L), .int (nI (itP (ptN (fun o n => dlV (cf o) n) N L) k (ntN L))), .int (nI k)] (r1.toList ++ []) μ1 K) hCρ (j := itP (ptN (fun o n => dlV (cf o) n) N L) k (ntN L)) hit.1 hL hcfρ
          rw [(ptN_s (dl := fun o n => dlV (cf o) n) hL h0).1] at hpt
          rw [gX1_laysLodgings_20]
          simp only [gX1_laysLodgings_21, gX1_laysLodgings_22, gX1_laysLodgings_25, gX1_laysLodgings_28, gX1_laysLodgings_29, gX1_laysLodgings_30, gX1_laysLodgings_31, am_kill_int, am_kill_ref, am_kill_null, am_kill_F, am_kill_long, am_cat_n, am_cat_i, am_cat_r, am_cat_0, am_cat_l, am_nr_n, am_nr_i, am_nr_r, am_nr_0, am_nr_l, Option.toList_some, Option.toList_none, List.nil_append, List.cons_append, va_rf_s, va_rf_n, am_II, am_I_sR, am_I_sL, am_R_sI, am_RR, am_R_sL, am_L_sI, am_L_sR, am_LL, am_k_sI, am_k_sR, am_k_sL, am_n_sI, am_n_sR, am_n_sL, true_and, and_true, true_or, or_true, or_false, false_or, not_true_eq_false, not_false_eq_true, Nat.reduceLT, am_dS, am_dP, am_d1, Nat.reduceSub, Nat.reduceMul, ne_eq, Nat.reduceBEq, Nat.reduceAdd, Nat.reduceLeDiff, Nat.reduceEqDiff, and_self, and_false, false_and, if_true, if_false, am_nb, am_nb0, am_nb1, am_lc1, am_lc2, am_lc3, am_b0, am_b1, am_10, am_c8, am_c16, am_c24, am_c32, am_c40, am_c48, am_c56, am_c64, am_c72, Nat.add_zero, Bool.false_eq_true, Nat.zero_le, hk, hNρ, hlt]
          rw [hpt]
          have q1 : ∀ b, oI (some b) = nI b := fun b => rfl
          simp only [gX1_laysLodgings_34, gX1_laysLodgings_35, gX1_laysLodgings_38, am_kill_int, am_kill_ref, am_kill_null, am_kill_F, am_kill_long, am_cat_n, am_cat_i, am_cat_r, am_cat_0, am_cat_l, am_nr_n, am_nr_i, am_nr_r, am_nr_0, am_nr_l, Option.toList_some, Option.toList_none, List.nil_append, List.cons_append, va_rf_s, va_rf_n, am_II, am_I_sR, am_I_sL, am_R_sI, am_RR, am_R_sL, am_L_sI, am_L_sR, am_LL, am_k_sI, am_k_sR, am_k_sL, am_n_sI, am_n_sR, am_n_sL, true_and, and_true, true_or, or_true, or_false, false_or, not_true_eq_false, not_false_eq_true, Nat.reduceLT, am_dS, am_dP, am_d1, Nat.reduceSub, Nat.reduceMul, ne_eq, Nat.reduceBEq, Nat.reduceAdd, Nat.reduceLeDiff, Nat.reduceEqDiff, and_self, and_false, false_and, if_true, if_false, am_nb, am_nb0, am_nb1, am_lc1, am_lc2, am_lc3, am_b0, am_b1, am_10, am_c8, am_c16, am_c24, am_c32, am_c40, am_c48, am_c56, am_c64, am_c72, Nat.add_zero, Bool.false_eq_true, Nat.zero_le, q1, nI_1]
          exact ih2 _ _ ⟨rfl, rfl⟩
        · rintro ls σ ⟨rfl, rfl⟩
          have hit := it_ok (dl := fun o n => dlV (cf o) n) hL h0 hnt N
          rw [gX1_laysLodgings_20]
          simp only [gX1_laysLodgings_21, gX1_laysLodgings_22, gX1_laysLodgings_25, gX1_laysLodgings_41, gX1_laysLodgings_42, am_kill_int, am_kill_ref, am_kill_null, am_kill_F, am_kill_long, am_cat_n, am_cat_i, am_cat_r, am_cat_0, am_cat_l, am_nr_n, am_nr_i, am_nr_r, am_nr_0, am_nr_l, Option.toList_some, Option.toList_none, List.nil_append, List.cons_append, va_rf_s, va_rf_n, am_II, am_I_sR, am_I_sL, am_R_sI, am_RR, am_R_sL, am_L_sI, am_L_sR, am_LL, am_k_sI, am_k_sR, am_k_sL, am_n_sI, am_n_sR, am_n_sL, true_and, and_true, true_or, or_true, or_false, false_or, not_true_eq_false, not_false_eq_true, Nat.reduceLT, am_dS, am_dP, am_d1, Nat.reduceSub, Nat.reduceMul, ne_eq, Nat.reduceBEq, Nat.reduceAdd, Nat.reduceLeDiff, Nat.reduceEqDiff, and_self, and_false, false_and, if_true, if_false, am_nb, am_nb0, am_nb1, am_lc1, am_lc2, am_lc3, am_b0, am_b1, am_10, am_c8, am_c16, am_c24, am_c32, am_c40, am_c48, am_c56, am_c64, am_c72, Nat.add_zero, Bool.false_eq_true, Nat.zero_le, hk, hNρ, Int32.le_refl]
          have z0 : ∀ n, (0 : Nat).testBit n = true → False := fun n z => by rw [Nat.zero_testBit] at z; cases z
          refine X1_laysLodgings_ring (d := d) hC hcf hL h0 256 _ 0 lo σ (by omega) hit.1 hit.2 (by omega) hF (fun n hn hn2 => hr n hn ?_) (fun ρ' one' g1 g2 => ?_)
          · rcases hn2 with z | z
            · exact z
            · exact absurd z (z0 n)
          · have hlt := andn_lt (R := (rinR (fun o n => dlV (cf o) n) N L 256 (itP (ptN (fun o n => dlV (cf o) n) N L) N (ntN L)) 0 lo).1) hL (by omega) hit.2 (rin_bit hN8 hL h0 hit.1 hit.2)
            simp only [gX1_laysLodgings_79, gX1_laysLodgings_80, gX1_laysLodgings_81, gX1_laysLodgings_82, gX1_laysLodgings_83, gX1_laysLodgings_84, gX1_laysLodgings_85, am_kill_int, am_kill_ref, am_kill_null, am_kill_F, am_kill_long, am_cat_n, am_cat_i, am_cat_r, am_cat_0, am_cat_l, am_nr_n, am_nr_i, am_nr_r, am_nr_0, am_nr_l, Option.toList_some, Option.toList_none, List.nil_append, List.cons_append, va_rf_s, va_rf_n, am_II, am_I_sR, am_I_sL, am_R_sI, am_RR, am_R_sL, am_L_sI, am_L_sR, am_LL, am_k_sI, am_k_sR, am_k_sL, am_n_sI, am_n_sR, am_n_sL, true_and, and_true, true_or, or_true, or_false, false_or, not_true_eq_false, not_false_eq_true, Nat.reduceLT, am_dS, am_dP, am_d1, Nat.reduceSub, Nat.reduceMul, ne_eq, Nat.reduceBEq, Nat.reduceAdd, Nat.reduceLeDiff, Nat.reduceEqDiff, and_self, and_false, false_and, if_true, if_false, am_nb, am_nb0, am_nb1, am_lc1, am_lc2, am_lc3, am_b0, am_b1, am_10, am_c8, am_c16, am_c24, am_c32, am_c40, am_c48, am_c56, am_c64, am_c72, Nat.add_zero, Bool.false_eq_true, Nat.zero_le, andn_I hL8]
            have e : lyR (fun o n => dlV (cf o) n) N (F + 1) L lo = lyR (fun o n => dlV (cf o) n) N F (L &&& (255 ^^^ (rinR (fun o n => dlV (cf o) n) N L 256 (itP (ptN (fun o n => dlV (cf o) n) N L) N (ntN L)) 0 lo).1)) (rinR (fun o n => dlV (cf o) n) N L 256 (itP (ptN (fun o n => dlV (cf o) n) N L) N (ntN L)) 0 lo).2 := by
              conv => lhs; unfold lyR
              exact if_neg h0
            rw [e] at hK
            refine ih _ _ ρ' _ _ (by omega) (by omega) g1 (fun n hn hn2 => g2 n hn ?_) hK
            rw [andn_bit n (by omega)] at hn2
            cases e1 : L.testBit n with
            | false => exact Or.inl rfl
            | true =>
              rw [e1, Bool.true_and] at hn2
              cases e2 : (rinR (fun o n => dlV (cf o) n) N L 256 (itP (ptN (fun o n => dlV (cf o) n) N L) N (ntN L)) 0 lo).1.testBit n with
              | false => rw [e2] at hn2; cases hn2
              | true => exact Or.inr rfl
  refine main 256 (2 ^ N - 1) (fun _ => 0) μ _ _ (by have := Nat.pow_le_pow_right (n := 2) (by decide) hN8; omega) (by have := Nat.two_pow_pos N; omega) Fr.refl (fun n hn h => ?_) hK
  rw [Nat.testBit_two_pow_sub_one, decide_eq_true hn] at h; cases h
theorem X3_layLodgings_ring (hC : MC N c μ) (hcf : ∀ o, o < N → am_I μ 55 (16 + o) = cf o) (hL : L < 2 ^ N) (h0 : L ≠ 0) : ∀ (f one R : Nat) (lo : Nat → Nat) (ρ : am_M), 256 ≤ f + R → one < N → L.testBit one = true → R < 256 → Fr (fun a _ => a = 71) μ ρ → (∀ n, n < N → (L.testBit n = false ∨ R.testBit n = true) → am_I ρ 71 n = nI (lo n)) →
    (∀ ρ' one', Fr (fun a _ => a = 71) μ ρ' → (∀ n, n < N → (L.testBit n = false ∨ (rinR (fun o n => dlV (cf o) n) N L f one R lo).1.testBit n = true) → am_I ρ' 71 n = nI ((rinR (fun o n => dlV (cf o) n) N L f one R lo).2 n)) → am_Wp (d + 3) mX3_layLodgings 79 [.ref 54, .int (nI L), .int one', .int (nI (rinR (fun o n => dlV (cf o) n) N L f one R lo).1)] [] ρ' K) →
    am_Wp (d + 3) mX3_layLodgings 43 [.ref 54, .int (nI L), .int (nI one), .int (nI R)] [] ρ K := by
  have hN8 := hC.2.2.1
  intro f
  induction f with
  | zero => intro one R lo ρ hf h1 h2 h3; omega
  | succ f ih =>
    intro one R lo ρ hf h1 h2 h3 hF hr hK
    have hCρ : MC N c ρ := hC.fr hF (fun a b z => by omega)
    have hcfρ : ∀ o, o < N → am_I ρ 55 (16 + o) = cf o := fun o ho => by rw [hF.1 55 _ (by omega)]; exact hcf o ho
    have hb : ((nI R >>> (nI one &&& 31)) &&& 1 = 1) = (R.testBit one = true) := bt_has ⟨R, h3⟩ ⟨one, by omega⟩
    rw [gX3_layLodgings_43]
    by_cases hbt : R.testBit one = true
    · have e : rinR (fun o n => dlV (cf o) n) N L (f + 1) one R lo = (R, lo) := by unfold rinR; exact if_pos hbt
      rw [e] at hK
      have o10 : ¬ (1 : Int32) = 0 := by decide
      simp only [gX3_layLodgings_44, gX3_layLodgings_45, gX3_layLodgings_48, am_kill_int, am_kill_ref, am_kill_null, am_kill_F, am_kill_long, am_cat_n, am_cat_i, am_cat_r, am_cat_0, am_cat_l, am_nr_n, am_nr_i, am_nr_r, am_nr_0, am_nr_l, Option.toList_some, Option.toList_none, List.nil_append, List.cons_append, va_rf_s, va_rf_n, am_II, am_I_sR, am_I_sL, am_R_sI, am_RR, am_R_sL, am_L_sI, am_L_sR, am_LL, am_k_sI, am_k_sR, am_k_sL, am_n_sI, am_n_sR, am_n_sL, true_and, and_true, true_or, or_true, or_false, false_or, not_true_eq_false, not_false_eq_true, Nat.reduceLT, am_dS, am_dP, am_d1, Nat.reduceSub, Nat.reduceMul, ne_eq, Nat.reduceBEq, Nat.reduceAdd, Nat.reduceLeDiff, Nat.reduceEqDiff, and_self, and_false, false_and, if_true, if_false, am_nb, am_nb0, am_nb1, am_lc1, am_lc2, am_lc3, am_b0, am_b1, am_10, am_c8, am_c16, am_c24, am_c32, am_c40, am_c48, am_c56, am_c64, am_c72, Nat.add_zero, Bool.false_eq_true, Nat.zero_le, wX3_has, hb, hbt, o10]
      exact hK ρ _ hF hr
    · have e : rinR (fun o n => dlV (cf o) n) N L (f + 1) one R lo = rinR (fun o n => dlV (cf o) n) N L f (ptN (fun o n => dlV (cf o) n) N L one) (R ||| 2 ^ one) (fun k => if k = one then ptN (fun o n => dlV (cf o) n) N L one else lo k) := by
        conv => lhs; unfold rinR
        exact if_neg hbt
      rw [e] at hK
      have hcu := hCρ.1
      unfold mL at hcu
      obtain ⟨p1, p2, p3⟩ := ptN_s (dl := fun o n => dlV (cf o) n) (a := one) hL h0
      have hpt := wX3_wish (d := d) (K := fun r1 μ1 => am_nr r1 ∧ am_Wp (d + 3) mX3_layLodgings 68 [.ref 54, .int (nI L), .int (nI one), .int (nI (R ||| 2 ^ one))] (r1.toList ++ [.int (nI one), .ref 71]) μ1 K) hCρ (j := one) h1 hL hcfρ
      rw [p1] at hpt
      have hor : nI R ||| 1 <<< (nI one &&& 31) = nI (R ||| 2 ^ one) := bt_or ⟨R, h3⟩ ⟨one, by omega⟩
      have hin : vp_in (nI one) 8 := vp_in_nI (by omega) (by omega)
      have hcl : (nI one).toNatClampNeg = one := nI_clamp (by omega)
      have o00 : (0 : Int32) = 0 := rfl
      simp only [gX3_layLodgings_44, gX3_layLodgings_45, gX3_layLodgings_48, gX3_layLodgings_51, gX3_layLodgings_52, gX3_layLodgings_53, gX3_layLodgings_54, gX3_layLodgings_55, gX3_layLodgings_56, gX3_layLodgings_57, gX3_layLodgings_58, gX3_layLodgings_61, gX3_layLodgings_62, gX3_layLodgings_63, gX3_layLodgings_64, gX3_layLodgings_65, am_kill_int, am_kill_ref, am_kill_null, am_kill_F, am_kill_long, am_cat_n, am_cat_i, am_cat_r, am_cat_0, am_cat_l, am_nr_n, am_nr_i, am_nr_r, am_nr_0, am_nr_l, Option.toList_some, Option.toList_none, List.nil_append, List.cons_append, va_rf_s, va_rf_n, am_II, am_I_sR, am_I_sL, am_R_sI, am_RR, am_R_sL, am_L_sI, am_L_sR, am_LL, am_k_sI, am_k_sR, am_k_sL, am_n_sI, am_n_sR, am_n_sL, true_and, and_true, true_or, or_true, or_false, false_or, not_true_eq_false, not_false_eq_true, Nat.reduceLT, am_dS, am_dP, am_d1, Nat.reduceSub, Nat.reduceMul, ne_eq, Nat.reduceBEq, Nat.reduceAdd, Nat.reduceLeDiff, Nat.reduceEqDiff, and_self, and_false, false_and, if_true, if_false, am_nb, am_nb0, am_nb1, am_lc1, am_lc2, am_lc3, am_b0, am_b1, am_10, am_c8, am_c16, am_c24, am_c32, am_c40, am_c48, am_c56, am_c64, am_c72, Nat.add_zero, Bool.false_eq_true, Nat.zero_le, wX3_has, hb, hbt, hcu, hor]
      rw [hpt]
      have q1 : oI (some (ptN (fun o n => dlV (cf o) n) N L one)) = nI (ptN (fun o n => dlV (cf o) n) N L one) := rfl
      simp only [gX3_layLodgings_68, gX3_layLodgings_69, gX3_layLodgings_70, gX3_layLodgings_73, gX3_layLodgings_74, gX3_layLodgings_75, gX3_layLodgings_76, am_kill_int, am_kill_ref, am_kill_null, am_kill_F, am_kill_long, am_cat_n, am_cat_i, am_cat_r, am_cat_0, am_cat_l, am_nr_n, am_nr_i, am_nr_r, am_nr_0, am_nr_l, Option.toList_some, Option.toList_none, List.nil_append, List.cons_append, va_rf_s, va_rf_n, am_II, am_I_sR, am_I_sL, am_R_sI, am_RR, am_R_sL, am_L_sI, am_L_sR, am_LL, am_k_sI, am_k_sR, am_k_sL, am_n_sI, am_n_sR, am_n_sL, true_and, and_true, true_or, or_true, or_false, false_or, not_true_eq_false, not_false_eq_true, Nat.reduceLT, am_dS, am_dP, am_d1, Nat.reduceSub, Nat.reduceMul, ne_eq, Nat.reduceBEq, Nat.reduceAdd, Nat.reduceLeDiff, Nat.reduceEqDiff, and_self, and_false, false_and, if_true, if_false, am_nb, am_nb0, am_nb1, am_lc1, am_lc2, am_lc3, am_b0, am_b1, am_10, am_c8, am_c16, am_c24, am_c32, am_c40, am_c48, am_c56, am_c64, am_c72, Nat.add_zero, Bool.false_eq_true, Nat.zero_le, hcu, hin, hcl, q1]
      have hg := or_gt hbt
      refine ih (ptN (fun o n => dlV (cf o) n) N L one) (R ||| 2 ^ one) _ _ (by omega) p2 p3 (or_256 h3 (by omega)) (Fr.I hF rfl) (fun n hn hn2 => ?_) hK
      by_cases en : n = one
      · subst en; rw [am_I_sI, if_pos ⟨rfl, rfl⟩, if_pos rfl]
      · rw [am_I_sI, if_neg (by omega), if_neg en]
        refine hr n hn ?_
        rcases hn2 with z | z
        · exact Or.inl z
        · rw [or_bit, Bool.or_eq_true, decide_eq_true_eq] at z
          rcases z with z | z
          · exact Or.inr z
          · omega
theorem wX3_layLodgings (hC : MC N c μ) (hcf : ∀ o, o < N → am_I μ 55 (16 + o) = cf o) (hK : ∀ ν, Fr (fun a _ => a = 71) μ ν → (∀ n, n < N → am_I ν 71 n = nI (lyL N cf n)) → K none ν) : am_Wp (d + 3) mX3_layLodgings 0 [.ref 54, am_F, am_F, am_F] [] μ K := by
  have hcu := hC.1
  unfold mL at hcu
  have hN8 := hC.2.2.1
  have hN := hC.2.1
  have el := left0 ⟨N, by omega⟩
  simp only at el
  simp only [gX3_layLodgings_0, gX3_layLodgings_1, gX3_layLodgings_2, gX3_layLodgings_5, gX3_layLodgings_6, gX3_layLodgings_7, gX3_layLodgings_8, am_kill_int, am_kill_ref, am_kill_null, am_kill_F, am_kill_long, am_cat_n, am_cat_i, am_cat_r, am_cat_0, am_cat_l, am_nr_n, am_nr_i, am_nr_r, am_nr_0, am_nr_l, Option.toList_some, Option.toList_none, List.nil_append, List.cons_append, va_rf_s, va_rf_n, am_II, am_I_sR, am_I_sL, am_R_sI, am_RR, am_R_sL, am_L_sI, am_L_sR, am_LL, am_k_sI, am_k_sR, am_k_sL, am_n_sI, am_n_sR, am_n_sL, true_and, and_true, true_or, or_true, or_false, false_or, not_true_eq_false, not_false_eq_true, Nat.reduceLT, am_dS, am_dP, am_d1, Nat.reduceSub, Nat.reduceMul, ne_eq, Nat.reduceBEq, Nat.reduceAdd, Nat.reduceLeDiff, Nat.reduceEqDiff, and_self, and_false, false_and, if_true, if_false, am_nb, am_nb0, am_nb1, am_lc1, am_lc2, am_lc3, am_b0, am_b1, am_10, am_c8, am_c16, am_c24, am_c32, am_c40, am_c48, am_c56, am_c64, am_c72, Nat.add_zero, Bool.false_eq_true, Nat.zero_le, hcu, hN, el]
  have main : ∀ (F L : Nat) (lo : Nat → Nat) (ρ : am_M) (z2 z3 : Value), L ≤ F → L < 2 ^ N → Fr (fun a _ => a = 71) μ ρ → (∀ n, n < N → L.testBit n = false → am_I ρ 71 n = nI (lo n)) → (∀ ν, Fr (fun a _ => a = 71) μ ν → (∀ n, n < N → am_I ν 71 n = nI (lyR (fun o n => dlV (cf o) n) N F L lo n)) → K none ν) → am_Wp (d + 3) mX3_layLodgings 9 [.ref 54, .int (nI L), z2, z3] [] ρ K := fun F => by
    induction F with
    | zero =>
      intro L lo ρ z2 z3 hf hL hF hr hK
      have e : L = 0 := by omega
      subst e
      rw [gX3_layLodgings_9]
      simp only [nI_0, gX3_layLodgings_10, gX3_layLodgings_88, am_kill_int, am_kill_ref, am_kill_null, am_kill_F, am_kill_long, am_cat_n, am_cat_i, am_cat_r, am_cat_0, am_cat_l, am_nr_n, am_nr_i, am_nr_r, am_nr_0, am_nr_l, Option.toList_some, Option.toList_none, List.nil_append, List.cons_append, va_rf_s, va_rf_n, am_II, am_I_sR, am_I_sL, am_R_sI, am_RR, am_R_sL, am_L_sI, am_L_sR, am_LL, am_k_sI, am_k_sR, am_k_sL, am_n_sI, am_n_sR, am_n_sL, true_and, and_true, true_or, or_true, or_false, false_or, not_true_eq_false, not_false_eq_true, Nat.reduceLT, am_dS, am_dP, am_d1, Nat.reduceSub, Nat.reduceMul, ne_eq, Nat.reduceBEq, Nat.reduceAdd, Nat.reduceLeDiff, Nat.reduceEqDiff, and_self, and_false, false_and, if_true, if_false, am_nb, am_nb0, am_nb1, am_lc1, am_lc2, am_lc3, am_b0, am_b1, am_10, am_c8, am_c16, am_c24, am_c32, am_c40, am_c48, am_c56, am_c64, am_c72, Nat.add_zero, Bool.false_eq_true, Nat.zero_le]
      exact hK ρ hF fun n hn => hr n hn (Nat.zero_testBit n)
    | succ F ih =>
      intro L lo ρ z2 z3 hf hL hF hr hK
      have hL8 := lt256 hN8 hL
      by_cases h0 : L = 0
      · subst h0
        have e : lyR (fun o n => dlV (cf o) n) N (F + 1) 0 lo = lo := by unfold lyR; exact if_pos rfl
        rw [e] at hK
        rw [gX3_layLodgings_9]
        simp only [nI_0, gX3_layLodgings_10, gX3_layLodgings_88, am_kill_int, am_kill_ref, am_kill_null, am_kill_F, am_kill_long, am_cat_n, am_cat_i, am_cat_r, am_cat_0, am_cat_l, am_nr_n, am_nr_i, am_nr_r, am_nr_0, am_nr_l, Option.toList_some, Option.toList_none, List.nil_append, List.cons_append, va_rf_s, va_rf_n, am_II, am_I_sR, am_I_sL, am_R_sI, am_RR, am_R_sL, am_L_sI, am_L_sR, am_LL, am_k_sI, am_k_sR, am_k_sL, am_n_sI, am_n_sR, am_n_sL, true_and, and_true, true_or, or_true, or_false, false_or, not_true_eq_false, not_false_eq_true, Nat.reduceLT, am_dS, am_dP, am_d1, Nat.reduceSub, Nat.reduceMul, ne_eq, Nat.reduceBEq, Nat.reduceAdd, Nat.reduceLeDiff, Nat.reduceEqDiff, and_self, and_false, false_and, if_true, if_false, am_nb, am_nb0, am_nb1, am_lc1, am_lc2, am_lc3, am_b0, am_b1, am_10, am_c8, am_c16, am_c24, am_c32, am_c40, am_c48, am_c56, am_c64, am_c72, Nat.add_zero, Bool.false_eq_true, Nat.zero_le]
        exact hK ρ hF fun n hn => hr n hn (Nat.zero_testBit n)
      · have hCρ : MC N c ρ := hC.fr hF (fun a b z => by omega)
        have hcfρ : ∀ o, o < N → am_I ρ 55 (16 + o) = cf o := fun o ho => by rw [hF.1 55 _ (by omega)]; exact hcf o ho
        have nz : ¬ nI L = 0 := by rw [nI_z hL8]; exact h0
        have hk : am_k ρ 54 = (2, 0) := by rw [hF.2.2.2.1]; simp only [hcu]
        have hNρ := hCρ.2.1
        rw [gX3_layLodgings_9]
        simp only [gX3_layLodgings_10, gX3_layLodgings_13, gX3_layLodgings_14, gX3_layLodgings_17, gX3_layLodgings_18, gX3_layLodgings_19, am_kill_int, am_kill_ref, am_kill_null, am_kill_F, am_kill_long, am_cat_n, am_cat_i, am_cat_r, am_cat_0, am_cat_l, am_nr_n, am_nr_i, am_nr_r, am_nr_0, am_nr_l, Option.toList_some, Option.toList_none, List.nil_append, List.cons_append, va_rf_s, va_rf_n, am_II, am_I_sR, am_I_sL, am_R_sI, am_RR, am_R_sL, am_L_sI, am_L_sR, am_LL, am_k_sI, am_k_sR, am_k_sL, am_n_sI, am_n_sR, am_n_sL, true_and, and_true, true_or, or_true, or_false, false_or, not_true_eq_false, not_false_eq_true, Nat.reduceLT, am_dS, am_dP, am_d1, Nat.reduceSub, Nat.reduceMul, ne_eq, Nat.reduceBEq, Nat.reduceAdd, Nat.reduceLeDiff, Nat.reduceEqDiff, and_self, and_false, false_and, if_true, if_false, am_nb, am_nb0, am_nb1, am_lc1, am_lc2, am_lc3, am_b0, am_b1, am_10, am_c8, am_c16, am_c24, am_c32, am_c40, am_c48, am_c56, am_c64, am_c72, Nat.add_zero, Bool.false_eq_true, Nat.zero_le, nz, wJ10_ntz hL8 h0]
        have hnt := nt_ok hN8 hL h0
        refine am_for (N := N) (fun k ls σ => σ = ρ ∧ ls = [.ref 54, .int (nI L), .int (nI (itP (ptN (fun o n => dlV (cf o) n) N L) k (ntN L))), .int (nI k)]) ?_ ?_ N 0 _ _ (by omega) ⟨rfl, rfl⟩
        · rintro k ls σ hkN ⟨rfl, rfl⟩ ih2
          have hlt : ¬ nI N ≤ nI k := nI_ge hkN (by omega)
          have hit := it_ok (dl := fun o n => dlV (cf o) n) hL h0 hnt k
          have hpt := wX3_wish (d := d) (K := fun r1 μ1 => am_nr r1 ∧ am_Wp (d + 3) mX3_layLodgings 34 [.ref 54, .int (nI L), .int (nI (itP (ptN (fun o n => dlV (cf o) n) N L) k (ntN L))), .int (nI k)] (r1.toList ++ []) μ1 K) hCρ (j := itP (ptN (fun o n => dlV (cf o) n) N L) k (ntN L)) hit.1 hL hcfρ
          rw [(ptN_s (dl := fun o n => dlV (cf o) n) hL h0).1] at hpt
          rw [gX3_layLodgings_20]
          simp only [gX3_layLodgings_21, gX3_layLodgings_22, gX3_layLodgings_25, gX3_layLodgings_28, gX3_layLodgings_29, gX3_layLodgings_30, gX3_layLodgings_31, am_kill_int, am_kill_ref, am_kill_null, am_kill_F, am_kill_long, am_cat_n, am_cat_i, am_cat_r, am_cat_0, am_cat_l, am_nr_n, am_nr_i, am_nr_r, am_nr_0, am_nr_l, Option.toList_some, Option.toList_none, List.nil_append, List.cons_append, va_rf_s, va_rf_n, am_II, am_I_sR, am_I_sL, am_R_sI, am_RR, am_R_sL, am_L_sI, am_L_sR, am_LL, am_k_sI, am_k_sR, am_k_sL, am_n_sI, am_n_sR, am_n_sL, true_and, and_true, true_or, or_true, or_false, false_or, not_true_eq_false, not_false_eq_true, Nat.reduceLT, am_dS, am_dP, am_d1, Nat.reduceSub, Nat.reduceMul, ne_eq, Nat.reduceBEq, Nat.reduceAdd, Nat.reduceLeDiff, Nat.reduceEqDiff, and_self, and_false, false_and, if_true, if_false, am_nb, am_nb0, am_nb1, am_lc1, am_lc2, am_lc3, am_b0, am_b1, am_10, am_c8, am_c16, am_c24, am_c32, am_c40, am_c48, am_c56, am_c64, am_c72, Nat.add_zero, Bool.false_eq_true, Nat.zero_le, hk, hNρ, hlt]
          rw [hpt]
          have q1 : ∀ b, oI (some b) = nI b := fun b => rfl
          simp only [gX3_layLodgings_34, gX3_layLodgings_35, gX3_layLodgings_38, am_kill_int, am_kill_ref, am_kill_null, am_kill_F, am_kill_long, am_cat_n, am_cat_i, am_cat_r, am_cat_0, am_cat_l, am_nr_n, am_nr_i, am_nr_r, am_nr_0, am_nr_l, Option.toList_some, Option.toList_none, List.nil_append, List.cons_append, va_rf_s, va_rf_n, am_II, am_I_sR, am_I_sL, am_R_sI, am_RR, am_R_sL, am_L_sI, am_L_sR, am_LL, am_k_sI, am_k_sR, am_k_sL, am_n_sI, am_n_sR, am_n_sL, true_and, and_true, true_or, or_true, or_false, false_or, not_true_eq_false, not_false_eq_true, Nat.reduceLT, am_dS, am_dP, am_d1, Nat.reduceSub, Nat.reduceMul, ne_eq, Nat.reduceBEq, Nat.reduceAdd, Nat.reduceLeDiff, Nat.reduceEqDiff, and_self, and_false, false_and, if_true, if_false, am_nb, am_nb0, am_nb1, am_lc1, am_lc2, am_lc3, am_b0, am_b1, am_10, am_c8, am_c16, am_c24, am_c32, am_c40, am_c48, am_c56, am_c64, am_c72, Nat.add_zero, Bool.false_eq_true, Nat.zero_le, q1, nI_1]
          exact ih2 _ _ ⟨rfl, rfl⟩
        · rintro ls σ ⟨rfl, rfl⟩
          have hit := it_ok (dl := fun o n => dlV (cf o) n) hL h0 hnt N
          rw [gX3_layLodgings_20]
          simp only [gX3_layLodgings_21, gX3_layLodgings_22, gX3_layLodgings_25, gX3_layLodgings_41, gX3_layLodgings_42, am_kill_int, am_kill_ref, am_kill_null, am_kill_F, am_kill_long, am_cat_n, am_cat_i, am_cat_r, am_cat_0, am_cat_l, am_nr_n, am_nr_i, am_nr_r, am_nr_0, am_nr_l, Option.toList_some, Option.toList_none, List.nil_append, List.cons_append, va_rf_s, va_rf_n, am_II, am_I_sR, am_I_sL, am_R_sI, am_RR, am_R_sL, am_L_sI, am_L_sR, am_LL, am_k_sI, am_k_sR, am_k_sL, am_n_sI, am_n_sR, am_n_sL, true_and, and_true, true_or, or_true, or_false, false_or, not_true_eq_false, not_false_eq_true, Nat.reduceLT, am_dS, am_dP, am_d1, Nat.reduceSub, Nat.reduceMul, ne_eq, Nat.reduceBEq, Nat.reduceAdd, Nat.reduceLeDiff, Nat.reduceEqDiff, and_self, and_false, false_and, if_true, if_false, am_nb, am_nb0, am_nb1, am_lc1, am_lc2, am_lc3, am_b0, am_b1, am_10, am_c8, am_c16, am_c24, am_c32, am_c40, am_c48, am_c56, am_c64, am_c72, Nat.add_zero, Bool.false_eq_true, Nat.zero_le, hk, hNρ, Int32.le_refl]
          have z0 : ∀ n, (0 : Nat).testBit n = true → False := fun n z => by rw [Nat.zero_testBit] at z; cases z
          refine X3_layLodgings_ring (d := d) hC hcf hL h0 256 _ 0 lo σ (by omega) hit.1 hit.2 (by omega) hF (fun n hn hn2 => hr n hn ?_) (fun ρ' one' g1 g2 => ?_)
          · rcases hn2 with z | z
            · exact z
            · exact absurd z (z0 n)
          · have hlt := andn_lt (R := (rinR (fun o n => dlV (cf o) n) N L 256 (itP (ptN (fun o n => dlV (cf o) n) N L) N (ntN L)) 0 lo).1) hL (by omega) hit.2 (rin_bit hN8 hL h0 hit.1 hit.2)
            simp only [gX3_layLodgings_79, gX3_layLodgings_80, gX3_layLodgings_81, gX3_layLodgings_82, gX3_layLodgings_83, gX3_layLodgings_84, gX3_layLodgings_85, am_kill_int, am_kill_ref, am_kill_null, am_kill_F, am_kill_long, am_cat_n, am_cat_i, am_cat_r, am_cat_0, am_cat_l, am_nr_n, am_nr_i, am_nr_r, am_nr_0, am_nr_l, Option.toList_some, Option.toList_none, List.nil_append, List.cons_append, va_rf_s, va_rf_n, am_II, am_I_sR, am_I_sL, am_R_sI, am_RR, am_R_sL, am_L_sI, am_L_sR, am_LL, am_k_sI, am_k_sR, am_k_sL, am_n_sI, am_n_sR, am_n_sL, true_and, and_true, true_or, or_true, or_false, false_or, not_true_eq_false, not_false_eq_true, Nat.reduceLT, am_dS, am_dP, am_d1, Nat.reduceSub, Nat.reduceMul, ne_eq, Nat.reduceBEq, Nat.reduceAdd, Nat.reduceLeDiff, Nat.reduceEqDiff, and_self, and_false, false_and, if_true, if_false, am_nb, am_nb0, am_nb1, am_lc1, am_lc2, am_lc3, am_b0, am_b1, am_10, am_c8, am_c16, am_c24, am_c32, am_c40, am_c48, am_c56, am_c64, am_c72, Nat.add_zero, Bool.false_eq_true, Nat.zero_le, andn_I hL8]
            have e : lyR (fun o n => dlV (cf o) n) N (F + 1) L lo = lyR (fun o n => dlV (cf o) n) N F (L &&& (255 ^^^ (rinR (fun o n => dlV (cf o) n) N L 256 (itP (ptN (fun o n => dlV (cf o) n) N L) N (ntN L)) 0 lo).1)) (rinR (fun o n => dlV (cf o) n) N L 256 (itP (ptN (fun o n => dlV (cf o) n) N L) N (ntN L)) 0 lo).2 := by
              conv => lhs; unfold lyR
              exact if_neg h0
            rw [e] at hK
            refine ih _ _ ρ' _ _ (by omega) (by omega) g1 (fun n hn hn2 => g2 n hn ?_) hK
            rw [andn_bit n (by omega)] at hn2
            cases e1 : L.testBit n with
            | false => exact Or.inl rfl
            | true =>
              rw [e1, Bool.true_and] at hn2
              cases e2 : (rinR (fun o n => dlV (cf o) n) N L 256 (itP (ptN (fun o n => dlV (cf o) n) N L) N (ntN L)) 0 lo).1.testBit n with
              | false => rw [e2] at hn2; cases hn2
              | true => exact Or.inr rfl
  refine main 256 (2 ^ N - 1) (fun _ => 0) μ _ _ (by have := Nat.pow_le_pow_right (n := 2) (by decide) hN8; omega) (by have := Nat.two_pow_pos N; omega) Fr.refl (fun n hn h => ?_) hK
  rw [Nat.testBit_two_pow_sub_one, decide_eq_true hn] at h; cases h
end LRV
