/-! feeding: the least that a cut lets through is what the greedy giving gives (plain law, no program in sight) -/
section FEED
variable {y σ : Nat → Bool} {v : Nat} {s : Nat → Nat}
/-- the least cut, nest by nest: p and q what the owners before and at nest i still ask -/
def fcC (y : Nat → Bool) (v : Nat) (s : Nat → Nat) : Nat → Nat → Nat → Nat → Nat
  | 0, _, _, _ => 0
  | m + 1, i, p, q => if y i = true then min (v + fcC y v s m (i + 1) q (s (i + 1))) (p + q + s (i + 1) + fcC y v s m (i + 1) 0 0) else fcC y v s m (i + 1) q (s (i + 1))
/-- giving, the lowest owners first -/
def fcG (y : Nat → Bool) (v : Nat) (s : Nat → Nat) : Nat → Nat → Nat → Nat → Nat
  | 0, _, _, _ => 0
  | m + 1, i, p, q => if y i = true then
      min v p + min (v - min v p) q + min (v - min v p - min (v - min v p) q) (s (i + 1)) + fcG y v s m (i + 1) (q - min (v - min v p) q) (s (i + 1) - min (v - min v p - min (v - min v p) q) (s (i + 1)))
    else fcG y v s m (i + 1) q (s (i + 1))
theorem fc_a : ∀ m i p q x, fcC y v s m i (p + x) q ≤ x + fcC y v s m i p q
  | 0, _, _, _, _ => Nat.zero_le _
  | m + 1, i, p, q, x => by unfold fcC; split <;> omega
theorem fc_b : ∀ m i p q x, fcC y v s m i p (q + x) ≤ x + fcC y v s m i p q
  | 0, _, _, _, _ => Nat.zero_le _
  | m + 1, i, p, q, x => by
    have h := fc_a (y := y) (v := v) (s := s) m (i + 1) q (s (i + 1)) x
    unfold fcC; split <;> omega
theorem fc_ma : ∀ m i p q x, fcC y v s m i p q ≤ fcC y v s m i (p + x) q
  | 0, _, _, _, _ => Nat.le_refl _
  | m + 1, i, p, q, x => by unfold fcC; split <;> omega
theorem fc_mb : ∀ m i p q x, fcC y v s m i p q ≤ fcC y v s m i p (q + x)
  | 0, _, _, _, _ => Nat.le_refl _
  | m + 1, i, p, q, x => by
    have h := fc_ma (y := y) (v := v) (s := s) m (i + 1) q (s (i + 1)) x
    unfold fcC; split <;> omega
theorem fc_0 (m i p q : Nat) : fcC y v s m i 0 0 ≤ fcC y v s m i p q := by
  have h1 := fc_ma (y := y) (v := v) (s := s) m i 0 0 p
  have h2 := fc_mb (y := y) (v := v) (s := s) m i (0 + p) 0 q
  simp only [Nat.zero_add] at h1 h2
  omega
theorem fc_s (m i p q : Nat) : fcC y v s m i p q ≤ p + q + fcC y v s m i 0 0 := by
  have h1 := fc_a (y := y) (v := v) (s := s) m i 0 q p
  have h2 := fc_b (y := y) (v := v) (s := s) m i 0 0 q
  simp only [Nat.zero_add] at h1 h2
  omega
theorem fc_2 : ∀ m i q' r q, q' ≤ q → min (fcC y v s m i q r) (q' + r + fcC y v s m i 0 0) ≤ fcC y v s m i q' r
  | 0, _, _, _, _, _ => by unfold fcC; omega
  | m + 1, i, q', r, q, h => by
    have h1 := fc_0 (y := y) (v := v) (s := s) m (i + 1) 0 (s (i + 1))
    have h2 := fc_s (y := y) (v := v) (s := s) m (i + 1) 0 (s (i + 1))
    unfold fcC; split <;> omega
theorem fc_3 : ∀ m i r' r q, r' ≤ r → min (fcC y v s m i q r) (r' + fcC y v s m i 0 0) ≤ fcC y v s m i 0 r'
  | 0, _, _, _, _, _ => by unfold fcC; omega
  | m + 1, i, r', r, q, h => by
    have h0 := fc_2 (y := y) (v := v) (s := s) m (i + 1) r' (s (i + 1)) r h
    have h1 := fc_0 (y := y) (v := v) (s := s) m (i + 1) 0 (s (i + 1))
    have h2 := fc_s (y := y) (v := v) (s := s) m (i + 1) 0 (s (i + 1))
    unfold fcC; split <;> omega
theorem fc_eq : ∀ m i p q, fcG y v s m i p q = fcC y v s m i p q
  | 0, _, _, _ => rfl
  | m + 1, i, p, q => by
    unfold fcG fcC
    split
    · rw [fc_eq m]
      generalize hr : s (i + 1) = r
      by_cases hv : p + q + r ≤ v
      · have e1 : min v p = p := by omega
        have e2 : min (v - p) q = q := by omega
        have e3 : min (v - p - q) r = r := by omega
        rw [e1, e2, e3, Nat.sub_self, Nat.sub_self]
        have h1 := fc_0 (y := y) (v := v) (s := s) m (i + 1) q r
        omega
      · by_cases hp : v ≤ p
        · have e1 : min v p = v := by omega
          have e2 : min (v - v) q = 0 := by omega
          have e3 : min (v - v - 0) r = 0 := by omega
          rw [e1, e2, e3, Nat.sub_zero, Nat.sub_zero]
          have h1 := fc_s (y := y) (v := v) (s := s) m (i + 1) q r
          omega
        · have e1 : min v p = p := by omega
          by_cases hq : v - p ≤ q
          · have e2 : min (v - p) q = v - p := by omega
            have e3 : min (v - p - (v - p)) r = 0 := by omega
            rw [e1, e2, e3, Nat.sub_zero]
            have h1 := fc_2 (y := y) (v := v) (s := s) m (i + 1) (q - (v - p)) r q (by omega)
            have h2 := fc_s (y := y) (v := v) (s := s) m (i + 1) (q - (v - p)) r
            have h3 := fc_ma (y := y) (v := v) (s := s) m (i + 1) (q - (v - p)) r (v - p)
            rw [show q - (v - p) + (v - p) = q by omega] at h3
            omega
          · have e2 : min (v - p) q = q := by omega
            have e3 : min (v - p - q) r = v - p - q := by omega
            rw [e1, e2, e3, Nat.sub_self]
            have h1 := fc_3 (y := y) (v := v) (s := s) m (i + 1) (r - (v - p - q)) r q (by omega)
            have h2 := fc_s (y := y) (v := v) (s := s) m (i + 1) 0 (r - (v - p - q))
            have h3 := fc_ma (y := y) (v := v) (s := s) m (i + 1) 0 (r - (v - p - q)) q
            have h4 := fc_mb (y := y) (v := v) (s := s) m (i + 1) (0 + q) (r - (v - p - q)) (v - p - q)
            rw [show r - (v - p - q) + (v - p - q) = r by omega, Nat.zero_add] at h4
            rw [Nat.zero_add] at h3
            omega
    · exact fc_eq m _ _ _
/-- the cut of one set -/
def fcK (y σ : Nat → Bool) (v : Nat) (s : Nat → Nat) : Nat → Nat → Nat → Nat → Nat
  | 0, _, _, _ => 0
  | m + 1, i, p, q => if y i = true then (if σ i = true then p + q + s (i + 1) + fcK y σ v s m (i + 1) 0 0 else v + fcK y σ v s m (i + 1) q (s (i + 1))) else fcK y σ v s m (i + 1) q (s (i + 1))
theorem fc_le : ∀ m i p q, fcC y v s m i p q ≤ fcK y σ v s m i p q
  | 0, _, _, _ => Nat.le_refl _
  | m + 1, i, p, q => by
    have h1 := fc_le m (i + 1) q (s (i + 1))
    have h2 := fc_le m (i + 1) 0 0
    unfold fcC fcK
    split
    · split <;> omega
    · exact h1
theorem fcK_c {τ : Nat → Bool} : ∀ m i p q, (∀ n, i ≤ n → σ n = τ n) → fcK y σ v s m i p q = fcK y τ v s m i p q
  | 0, _, _, _, _ => rfl
  | m + 1, i, p, q, h => by
    unfold fcK
    rw [h i (Nat.le_refl i), fcK_c m (i + 1) 0 0 (fun n hn => h n (by omega)), fcK_c m (i + 1) q _ (fun n hn => h n (by omega))]
theorem fc_ex : ∀ m i p q, ∃ σ : Nat → Bool, fcK y σ v s m i p q = fcC y v s m i p q
  | 0, _, _, _ => ⟨fun _ => false, rfl⟩
  | m + 1, i, p, q => by
    by_cases hy : y i = true
    · by_cases hc : v + fcC y v s m (i + 1) q (s (i + 1)) ≤ p + q + s (i + 1) + fcC y v s m (i + 1) 0 0
      · obtain ⟨σ, h⟩ := fc_ex m (i + 1) q (s (i + 1))
        refine ⟨fun n => if n = i then false else σ n, ?_⟩
        unfold fcK fcC
        rw [if_pos hy, if_pos hy, if_neg (by simp), fcK_c (τ := σ) m (i + 1) q _ (fun n hn => if_neg (by omega)), h]
        omega
      · obtain ⟨σ, h⟩ := fc_ex m (i + 1) 0 0
        refine ⟨fun n => if n = i then true else σ n, ?_⟩
        unfold fcK fcC
        rw [if_pos hy, if_pos hy, if_pos (by simp), fcK_c (τ := σ) m (i + 1) 0 0 (fun n hn => if_neg (by omega)), h]
        omega
    · obtain ⟨σ, h⟩ := fc_ex m (i + 1) q (s (i + 1))
      refine ⟨σ, ?_⟩
      unfold fcK fcC
      rw [if_neg hy, if_neg hy, h]
/-- how many from i on -/
def fcN (p : Nat → Bool) : Nat → Nat → Nat
  | 0, _ => 0
  | m + 1, i => (if p i = true then 1 else 0) + fcN p m (i + 1)
def fcS (g : Nat → Nat) : Nat → Nat → Nat
  | 0, _ => 0
  | m + 1, i => g i + fcS g m (i + 1)
def fcR (σ : Nat → Bool) (n : Nat) : Bool := σ n || (decide (0 < n) && σ (n - 1)) || σ (n + 1)
theorem fc_cost (hσ : ∀ n, σ n = true → y n = true) : ∀ m i p q, y (i + m) = false → y (i + m + 1) = false →
    fcK y σ v s m i p q = v * fcN (fun n => y n && !σ n) m i + (if σ i = true then p else 0) + (if σ i = true ∨ σ (i + 1) = true then q else 0) + fcS (fun n => if fcR σ n = true then s n else 0) m (i + 1)
  | 0, i, p, q, h1, h2 => by
    have e1 : ¬ σ i = true := fun h => by have := hσ _ h; rw [Nat.add_zero] at h1; rw [h1] at this; exact absurd this (by decide)
    have e2 : ¬ σ (i + 1) = true := fun h => by have := hσ _ h; rw [Nat.add_zero] at h2; rw [h2] at this; exact absurd this (by decide)
    simp [fcK, fcN, fcS, e1, e2]
  | m + 1, i, p, q, h1, h2 => by
    have h1' : y (i + 1 + m) = false := by rw [show i + 1 + m = i + (m + 1) by omega]; exact h1
    have h2' : y (i + 1 + m + 1) = false := by rw [show i + 1 + m + 1 = i + (m + 1) + 1 by omega]; exact h2
    have g1 := fc_cost hσ m (i + 1) 0 0 h1' h2'
    have g2 := fc_cost hσ m (i + 1) q (s (i + 1)) h1' h2'
    unfold fcK fcN fcS
    have hR : fcR σ (i + 1) = (σ (i + 1) || σ i || σ (i + 1 + 1)) := by
      unfold fcR; simp
    by_cases hy : y i = true
    · by_cases hs : σ i = true
      · rw [if_pos hy, if_pos hs, g1]
        simp only [hy, hs, hR, Bool.not_true, Bool.and_false, Bool.or_true, Bool.true_or, if_true, true_or, Bool.false_eq_true, if_false, Nat.zero_add, ite_self, Nat.add_zero]
        omega
      · rw [if_pos hy, if_neg hs, g2]
        simp only [hy, hs, hR, Bool.not_false, Bool.and_true, Bool.or_false, if_true, false_or, Bool.false_eq_true, if_false, Nat.zero_add, Nat.add_zero, Bool.or_eq_true, Nat.mul_add, Nat.mul_one]
        omega
    · have hs : ¬ σ i = true := fun h => hy (hσ i h)
      rw [if_neg hy, g2]
      simp only [hy, hs, hR, Bool.false_and, Bool.or_false, if_true, false_or, Bool.false_eq_true, if_false, Nat.zero_add, Nat.add_zero, Bool.or_eq_true, Nat.mul_add, Nat.mul_one]
      omega
/-- the least over all sets of young, gone through as bits -/
def fcL (ok : Nat → Bool) (cost : Nat → Nat) : Nat → Nat
  | 0 => 1000000
  | k + 1 => if ok k = true then min (fcL ok cost k) (cost k) else fcL ok cost k
theorem fcL_le {ok : Nat → Bool} {cost : Nat → Nat} : ∀ {n k : Nat}, k < n → ok k = true → fcL ok cost n ≤ cost k
  | 0, _, h, _ => absurd h (Nat.not_lt_zero _)
  | n + 1, k, h, hk => by
    unfold fcL
    by_cases e : k = n
    · subst e; rw [if_pos hk]; omega
    · have := fcL_le (ok := ok) (cost := cost) (n := n) (k := k) (by omega) hk
      split <;> omega
theorem fcL_ex {ok : Nat → Bool} {cost : Nat → Nat} : ∀ (n : Nat), fcL ok cost n = 1000000 ∨ ∃ k, k < n ∧ ok k = true ∧ fcL ok cost n = cost k
  | 0 => Or.inl rfl
  | n + 1 => by
    unfold fcL
    by_cases h : ok n = true
    · rw [if_pos h]
      rcases fcL_ex (ok := ok) (cost := cost) n with h1 | ⟨k, h1, h2, h3⟩
      · by_cases h4 : fcL ok cost n ≤ cost n
        · left; omega
        · right; exact ⟨n, by omega, h, by omega⟩
      · by_cases h4 : fcL ok cost n ≤ cost n
        · right; exact ⟨k, by omega, h2, by omega⟩
        · right; exact ⟨n, by omega, h, by omega⟩
    · rw [if_neg h]
      rcases fcL_ex (ok := ok) (cost := cost) n with h1 | ⟨k, h1, h2, h3⟩
      · exact Or.inl h1
      · exact Or.inr ⟨k, by omega, h2, h3⟩
theorem vB_le {p q : Nat → Bool} (h : ∀ n, p n = true → q n = true) : ∀ N, vB p N ≤ vB q N
  | 0 => Nat.le_refl _
  | n + 1 => by
    have h1 := vB_le h n
    have add : ∀ p : Nat → Bool, vB p n ||| 2 ^ n = vB p n + 2 ^ n := fun p => by
      rw [Nat.or_comm, Nat.add_comm]
      have := Nat.two_pow_add_eq_or_of_lt (vB_lt (p := p) n) 1
      rw [Nat.mul_one] at this
      exact this.symm
    unfold vB
    by_cases hp : p n = true
    · rw [if_pos hp, if_pos (h n hp), add, add]; omega
    · rw [if_neg hp, Nat.or_zero]
      split
      · rw [add]; exact Nat.le_trans h1 (Nat.le_add_right _ _)
      · rw [Nat.or_zero]; exact h1
/-- the law -/
theorem feed_law (N v : Nat) (y : Nat → Bool) (s : Nat → Nat) (ok : Nat → Bool) (cost : Nat → Nat) (hs : ∀ n, N ≤ n → s n = 0) (hyN : ∀ n, N ≤ n → y n = false)
    (hok : ∀ k, k ≤ vB y N → (ok k = true ↔ ∀ n, k.testBit n = true → y n = true))
    (hc : ∀ k, k ≤ vB y N → ok k = true → cost k = v * fcN (fun n => y n && !k.testBit n) N 0 + fcS (fun n => if fcR (fun n => k.testBit n) n = true then s n else 0) N 0)
    (hm : ∀ k, k ≤ vB y N → ok k = true → cost k ≤ 1000000) : fcL ok cost (vB y N + 1) = fcG y v s N 0 0 (s 0) := by
  have hcost : ∀ k, k ≤ vB y N → ok k = true → cost k = fcK y (fun n => k.testBit n) v s N 0 0 (s 0) := fun k h1 h2 => by
    rw [hc k h1 h2, fc_cost (fun n hn => (hok k h1).mp h2 n hn) N 0 0 (s 0) (hyN _ (by omega)) (hyN _ (by omega))]
    simp only [ite_self, Nat.add_zero]
    have e : ∀ (g : Nat → Nat) m i, g (i + m) = 0 → fcS g m i + g (i + m) = g i + fcS g m (i + 1) := fun g m => by
      induction m with
      | zero => intro i h; simp [fcS]
      | succ m ih => intro i h; have := ih (i + 1) (by rw [show i + 1 + m = i + (m + 1) by omega]; exact h); unfold fcS; rw [show i + (m + 1) = i + 1 + m by omega] at h ⊢; omega
    have e2 := e (fun n => if fcR (fun n => k.testBit n) n = true then s n else 0) N 0 (by simp [hs N (Nat.le_refl N)])
    simp only [Nat.zero_add, hs N (Nat.le_refl N), ite_self, Nat.add_zero] at e2
    rw [e2]
    have hR : (fcR (fun n => k.testBit n) 0 = true) = (k.testBit 0 = true ∨ k.testBit (0 + 1) = true) := by
      unfold fcR; simp
    simp only [hR]
    exact (Nat.add_assoc _ _ _).symm
  rw [fc_eq]
  apply Nat.le_antisymm
  · obtain ⟨σ, h⟩ := fc_ex (y := y) (v := v) (s := s) N 0 0 (s 0)
    have hb : ∀ n, (vB (fun n => σ n && y n) N).testBit n = (decide (n < N) && (σ n && y n)) := fun n => vB_bit N
    have h1 : vB (fun n => σ n && y n) N ≤ vB y N := vB_le (fun n hn => by simp at hn; exact hn.2) N
    have h2 : ok (vB (fun n => σ n && y n) N) = true := (hok _ h1).mpr (fun n hn => by rw [hb] at hn; simp at hn; exact hn.2.2)
    have h3 := fcL_le (cost := cost) (n := vB y N + 1) (by omega) h2
    rw [hcost _ h1 h2] at h3
    have h4 : ∀ m i p q, i + m = N → fcK y (fun n => (vB (fun n => σ n && y n) N).testBit n) v s m i p q = fcK y σ v s m i p q := fun m => by
      induction m with
      | zero => intro i p q _; rfl
      | succ m ih =>
        intro i p q hi
        unfold fcK
        rw [ih (i + 1) 0 0 (by omega), ih (i + 1) q _ (by omega)]
        by_cases hy : y i = true
        · rw [if_pos hy, if_pos hy]
          simp only [hb, decide_eq_true (show i < N by omega), Bool.true_and, hy, Bool.and_true]
        · rw [if_neg hy, if_neg hy]
    rw [h4 N 0 0 (s 0) (by omega), h] at h3
    exact h3
  · rcases fcL_ex (ok := ok) (cost := cost) (vB y N + 1) with h1 | ⟨k, h1, h2, h3⟩
    · have h0 : ok 0 = true := (hok 0 (Nat.zero_le _)).mpr (fun n hn => by simp at hn)
      have := hm 0 (Nat.zero_le _) h0
      rw [hcost 0 (Nat.zero_le _) h0] at this
      have := fc_le (y := y) (σ := fun n => (0 : Nat).testBit n) (v := v) (s := s) N 0 0 (s 0)
      omega
    · rw [h3, hcost k (by omega) h2]
      exact fc_le N 0 0 (s 0)
end FEED
