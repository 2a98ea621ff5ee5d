/-! feeding: the component's least cut -/
set_option maxRecDepth 100000
section FBV
variable {d : Nat} {μ ν ξ : am_M} {K : Option Value → am_M → Prop} {x y z c : Int32} {h h' N C j i k r n M b q m t w V : Nat} {v : Int32} {ru : Option PF} {A o o' W O W' O' : Nat → Int32} {S a T : Nat → Int32} {g p p' wo σ : Nat → Bool} {s : Nat → Nat}
theorem has_bit : ∀ n : Fin 8, ∀ k : Fin 512, ((nI k.val >>> (nI n.val &&& 31)) &&& 1 = 1) = (k.val.testBit n.val = true) := by decide +kernel
theorem cnt_256 : ∀ k : Fin 256, bcI (nI k.val) = nI (fcN (fun i => k.val.testBit i) 8 0) := by decide +kernel
theorem nI_bit (hi : i < 32) : (nI k).toBitVec.getLsbD i = k.testBit i := by
  show (BitVec.ofNat 32 k).getLsbD i = _
  rw [BitVec.getLsbD_ofNat, decide_eq_true hi, Bool.true_and]
theorem m1_bit (hi : i < 32) : (-1 : Int32).toBitVec.getLsbD i = true := by
  show (BitVec.allOnes 32).getLsbD i = true
  rw [BitVec.getLsbD_allOnes, decide_eq_true hi]
theorem orB_andk (h8 : N ≤ 8) : orB p N &&& (nI k ^^^ -1) = orB (fun i => p i && !k.testBit i) N := by
  refine bitsI fun i hi => ?_
  rw [orB_bit h8, Int32.toBitVec_and, BitVec.getLsbD_and, orB_bit h8, Int32.toBitVec_xor, BitVec.getLsbD_xor, nI_bit hi, m1_bit hi]
  by_cases q : i < N
  · rw [decide_eq_true q]; simp
  · rw [decide_eq_false q]; simp
theorem fcN_c : ∀ {n i : Nat}, (∀ j, i ≤ j → j < i + n → p j = p' j) → fcN p n i = fcN p' n i
  | 0, _, _ => rfl
  | n + 1, i, h => by simp only [fcN, h i (by omega) (by omega), fcN_c (n := n) (i := i + 1) (fun j h1 h2 => h j (by omega) (by omega))]
theorem fcN_0 : ∀ {n i : Nat}, (∀ j, i ≤ j → j < i + n → p j = false) → fcN p n i = 0
  | 0, _, _ => rfl
  | n + 1, i, h => by simp only [fcN, h i (by omega) (by omega), fcN_0 (n := n) (i := i + 1) (fun j h1 h2 => h j (by omega) (by omega)), Bool.false_eq_true, if_false]
theorem fcN_a : ∀ {m n i : Nat}, fcN p (m + n) i = fcN p m i + fcN p n (i + m)
  | 0, n, i => by rw [Nat.zero_add, show fcN p 0 i = 0 from rfl, Nat.zero_add, Nat.add_zero]
  | m + 1, n, i => by
    have ih : fcN p (m + n) (i + 1) = fcN p m (i + 1) + fcN p n (i + 1 + m) := fcN_a
    rw [show m + 1 + n = (m + n) + 1 by omega]
    show (if p i = true then 1 else 0) + fcN p (m + n) (i + 1) = (if p i = true then 1 else 0) + fcN p m (i + 1) + fcN p n (i + (m + 1))
    rw [ih, show i + 1 + m = i + (m + 1) by omega]
    omega
theorem bc_cnt (h8 : N ≤ 8) : bcI (orB p N) = nI (fcN p N 0) := by
  rw [orB_eq h8, cnt_256 ⟨vB p N, vB_256 h8⟩]
  congr 1
  have hb : ∀ j, (vB p N).testBit j = (decide (j < N) && p j) := fun j => vB_bit N
  rw [show fcN (fun i => (vB p N).testBit i) 8 0 = fcN (fun i => (vB p N).testBit i) (N + (8 - N)) 0 by rw [show N + (8 - N) = 8 by omega], fcN_a]
  rw [fcN_0 (n := 8 - N) (fun j h1 h2 => by rw [hb, decide_eq_false (by omega), Bool.false_and]), Nat.add_zero]
  exact fcN_c fun j h1 h2 => by rw [hb, decide_eq_true (by omega), Bool.true_and]
theorem fcN_le : ∀ {n i : Nat}, fcN p n i ≤ n
  | 0, _ => Nat.le_refl 0
  | n + 1, i => by unfold fcN; have := fcN_le (n := n) (i := i + 1); split <;> omega
theorem fcS_a {g : Nat → Nat} : ∀ {n i : Nat}, fcS g (n + 1) i = fcS g n i + g (i + n)
  | 0, i => by show g i + 0 = 0 + g (i + 0); rw [Nat.zero_add, Nat.add_zero, Nat.add_zero]
  | n + 1, i => by
    rw [show fcS g (n + 1 + 1) i = g i + fcS g (n + 1) (i + 1) from rfl, fcS_a, show fcS g (n + 1) i = g i + fcS g n (i + 1) from rfl, show i + 1 + n = i + (n + 1) by omega]
    omega
theorem fcS_le {g : Nat → Nat} {B : Nat} (hg : ∀ n, g n ≤ B) : ∀ {n i : Nat}, fcS g n i ≤ B * n
  | 0, _ => Nat.le_refl _
  | n + 1, i => by
    unfold fcS
    have h1 := fcS_le hg (n := n) (i := i + 1)
    have h2 := hg i
    rw [Nat.mul_succ]
    omega
theorem two_eq : ∀ N : Fin 9, ((1 : Int32) <<< (nI N.val &&& 31)) - 1 = nI (2 ^ N.val - 1) := by decide +kernel
theorem sh1 : ∀ k : Fin 256, nI k.val <<< ((1 : Int32) &&& 31) = nI (2 * k.val) := by decide +kernel
theorem shr1 : ∀ k : Fin 256, nI k.val >>> ((1 : Int32) &&& 31) = nI (k.val / 2) := by decide +kernel
/-- beside: the nests by the sides too -/
def besN (N k : Nat) : Nat := ((k ||| 2 * k) ||| k / 2) &&& (2 ^ N - 1)
theorem ofN_or {a b : Nat} : nI a ||| nI b = nI (a ||| b) := bitsI fun i hi => by rw [Int32.toBitVec_or, BitVec.getLsbD_or, nI_bit hi, nI_bit hi, nI_bit hi, Nat.testBit_or]
theorem ofN_and {a b : Nat} : nI a &&& nI b = nI (a &&& b) := bitsI fun i hi => by rw [Int32.toBitVec_and, BitVec.getLsbD_and, nI_bit hi, nI_bit hi, nI_bit hi, Nat.testBit_and]
theorem wX1_beside (hC : CC N ru c μ) (hk : k < 256) : am_Wp d mX1_beside 0 [.ref 0, .int (nI k)] [] μ K ↔ K (some (.int (nI (besN N k)))) μ := by
  have hcu := hC.1.c
  have hN := hC.2.1
  have h8 := hC.2.2.1
  have e1 := two_eq ⟨N, by omega⟩
  have e2 := sh1 ⟨k, hk⟩
  have e3 := shr1 ⟨k, hk⟩
  simp only at e1 e2 e3
  simp only [gX1_beside_0, gX1_beside_1, gX1_beside_2, gX1_beside_3, gX1_beside_4, gX1_beside_5, gX1_beside_6, gX1_beside_7, gX1_beside_8, gX1_beside_9, gX1_beside_10, gX1_beside_11, gX1_beside_14, gX1_beside_15, gX1_beside_16, gX1_beside_17, gX1_beside_18, am_kill_int, am_kill_ref, am_kill_null, am_kill_F, am_kill_long, am_cat_n, am_cat_i, am_cat_r, am_cat_0, am_cat_l, am_nr_n, am_nr_i, am_nr_r, am_nr_0, am_nr_l, Option.toList_some, Option.toList_none, List.nil_append, List.cons_append, va_rf_s, va_rf_n, am_II, am_I_sR, am_I_sL, am_R_sI, am_RR, am_R_sL, am_L_sI, am_L_sR, am_LL, am_k_sI, am_k_sR, am_k_sL, am_n_sI, am_n_sR, am_n_sL, true_and, and_true, true_or, or_true, or_false, false_or, not_true_eq_false, not_false_eq_true, Nat.reduceLT, am_dS, am_dP, am_d1, Nat.reduceSub, Nat.reduceMul, ne_eq, Nat.reduceBEq, Nat.reduceAdd, Nat.reduceLeDiff, Nat.reduceEqDiff, and_self, and_false, false_and, if_true, if_false, am_nb, am_nb0, am_nb1, am_lc1, am_lc2, am_lc3, am_b0, am_b1, am_10, am_c8, am_c16, am_c24, am_c32, am_c40, am_c48, am_c56, am_c64, am_c72, Nat.add_zero, Bool.false_eq_true, Nat.zero_le, hcu, hN, e1, e2, e3, ofN_or, ofN_and, besN]
theorem bes_bit (hn : n < N) : (besN N k).testBit n = fcR (fun i => k.testBit i) n := by
  unfold besN fcR
  rw [Nat.testBit_and, Nat.testBit_or, Nat.testBit_or, Nat.testBit_two_pow_sub_one, decide_eq_true hn, Bool.and_true]
  have h1 : (2 * k).testBit n = (decide (0 < n) && k.testBit (n - 1)) := by
    cases n with
    | zero => simp
    | succ n => rw [Nat.testBit_succ, Nat.mul_div_cancel_left _ (by decide)]; simp
  have h2 : (k / 2).testBit n = k.testBit (n + 1) := (Nat.testBit_succ k n).symm
  rw [h1, h2]
theorem near_has (h8 : N ≤ 8) (hn : n < N) (hk : k < 256) : (((nI (besN N k) &&& (orB wo N ^^^ -1)) >>> (nI n &&& 31)) &&& 1 = 1) = ((fcR (fun i => k.testBit i) n && !wo n) = true) := by
  have hB : besN N k < 256 := by
    have : besN N k < 2 ^ 8 := by
      unfold besN
      refine Nat.lt_of_le_of_lt Nat.and_le_right ?_
      have : 2 ^ N ≤ 2 ^ 8 := Nat.pow_le_pow_right (by decide) h8
      have := Nat.two_pow_pos N
      omega
    exact this
  have e : nI (besN N k) &&& (orB wo N ^^^ -1) = nI (vB (fun i => fcR (fun i => k.testBit i) i && !wo i) N) := by
    rw [← orB_eq h8]
    refine bitsI fun i hi => ?_
    rw [orB_bit h8, Int32.toBitVec_and, BitVec.getLsbD_and, nI_bit hi, Int32.toBitVec_xor, BitVec.getLsbD_xor, orB_bit h8, m1_bit hi]
    by_cases q : i < N
    · rw [decide_eq_true q, bes_bit q]; simp
    · have : (besN N k).testBit i = false := by
        unfold besN
        rw [Nat.testBit_and, Nat.testBit_two_pow_sub_one, decide_eq_false q, Bool.and_false]
      rw [this, decide_eq_false q]; simp
  rw [e, has_bit ⟨n, by omega⟩ ⟨vB (fun i => fcR (fun i => k.testBit i) i && !wo i) N, by have := vB_256 (p := fun i => fcR (fun i => k.testBit i) i && !wo i) h8; omega⟩]
  simp only
  rw [vB_bit, decide_eq_true hn, Bool.true_and]
/-- the strengths, as numbers; none of one left out -/
def stF (N : Nat) (S : Nat → Int32) (wo : Nat → Bool) (n : Nat) : Nat := if n < N ∧ wo n = false then (S (8 + n)).toNatClampNeg else 0
theorem Sim.st (hs : Sim N S a) (hn : n < N) : (S (8 + n)).toNatClampNeg ≤ 9 ∧ S (8 + n) = nI (S (8 + n)).toNatClampNeg := by
  have := (hs.cg hn).2.2.2.2.2.2.1
  rw [col1] at this
  obtain ⟨k, hk, e⟩ := rngI (M := 9) (by decide) (Int32.le_trans (by decide) this.1) this.2
  rw [e, nI_clamp (by omega)]
  exact ⟨by omega, rfl⟩
theorem stF_le (hs : Sim N S a) : stF N S wo n ≤ 9 := by
  unfold stF
  split
  · rename_i e; exact (hs.st e.1).1
  · omega
def okF (Y k : Nat) : Bool := decide (nI k &&& (nI Y ^^^ -1) = 0)
def coF (V N : Nat) (y : Nat → Bool) (s : Nat → Nat) (k : Nat) : Nat := V * fcN (fun n => y n && !k.testBit n) N 0 + fcS (fun n => if fcR (fun n => k.testBit n) n = true then s n else 0) N 0
theorem okF_iff (h8 : N ≤ 8) (hk : k < 256) : okF (vB p N) k = true ↔ ∀ n, k.testBit n = true → (decide (n < N) && p n) = true := by
  unfold okF
  rw [decide_eq_true_eq]
  constructor
  · intro e n hn
    have hn8 : n < 8 := by
      rcases Nat.lt_or_ge n 8 with q | q
      · exact q
      · have : k < 2 ^ n := Nat.lt_of_lt_of_le hk (Nat.pow_le_pow_right (n := 2) (by decide) q)
        rw [Nat.testBit_lt_two_pow this] at hn; exact absurd hn (by decide)
    have h1 : (nI k &&& (nI (vB p N) ^^^ -1)).toBitVec.getLsbD n = false := by rw [e]; exact BitVec.getLsbD_zero
    rw [Int32.toBitVec_and, BitVec.getLsbD_and, nI_bit (by omega), Int32.toBitVec_xor, BitVec.getLsbD_xor, nI_bit (by omega), m1_bit (by omega), hn, vB_bit] at h1
    revert h1
    cases (decide (n < N) && p n) <;> simp
  · intro h1
    refine bitsI fun i hi => ?_
    rw [Int32.toBitVec_and, BitVec.getLsbD_and, nI_bit hi, Int32.toBitVec_xor, BitVec.getLsbD_xor, nI_bit hi, m1_bit hi, vB_bit]
    have z : (0 : Int32).toBitVec.getLsbD i = false := BitVec.getLsbD_zero
    rw [z]
    by_cases q : k.testBit i = true
    · rw [h1 i q, q]; rfl
    · rw [eq_false_of_ne_true q]; rfl
theorem coF_le (hV : V ≤ 30) (h8 : N ≤ 8) (hst : ∀ n, s n ≤ 9) : coF V N p s k ≤ 312 := by
  unfold coF
  have h1 := fcN_le (p := fun n => p n && !k.testBit n) (n := N) (i := 0)
  have h2 := fcS_le (g := fun n => if fcR (fun n => k.testBit n) n = true then s n else 0) (B := 9) (fun n => by
    split
    · exact hst n
    · omega) (n := N) (i := 0)
  have h3 : V * fcN (fun n => p n && !k.testBit n) N 0 ≤ 30 * 8 := Nat.mul_le_mul hV (by omega)
  omega
end FBV
