/-! sets of nests as bits -/
set_option maxRecDepth 100000
section BITV
variable {p : Nat → Bool} {n N : Nat}
def vB (p : Nat → Bool) : Nat → Nat
  | 0 => 0
  | n + 1 => vB p n ||| (if p n = true then 2 ^ n else 0)
theorem vB_lt : ∀ N, vB p N < 2 ^ N
  | 0 => by simp [vB]
  | n + 1 => by
    have h1 : vB p n < 2 ^ (n + 1) := Nat.lt_trans (vB_lt n) (Nat.pow_lt_pow_right (by decide) (Nat.lt_succ_self n))
    unfold vB
    refine Nat.or_lt_two_pow h1 ?_
    split
    · exact Nat.pow_lt_pow_right (by decide) (Nat.lt_succ_self n)
    · exact Nat.two_pow_pos _
theorem vB_bit : ∀ N, (vB p N).testBit n = (decide (n < N) && p n)
  | 0 => by simp [vB]
  | m + 1 => by
    unfold vB
    rw [Nat.testBit_or, vB_bit m]
    by_cases h : p m = true
    · rw [if_pos h, Nat.testBit_two_pow]
      by_cases h1 : n = m
      · subst h1; simp [h]
      · by_cases h2 : n < m
        · simp [h2, h1, Ne.symm h1, Nat.lt_succ_of_lt h2]
        · have : ¬ n < m + 1 := by omega
          simp [h2, this, Ne.symm h1]
    · rw [if_neg h]
      by_cases h1 : n = m
      · subst h1; simp [h]
      · by_cases h2 : n < m
        · simp [h2, Nat.lt_succ_of_lt h2]
        · have : ¬ n < m + 1 := by omega
          simp [h2, this]
theorem bt_or : ∀ a : Fin 256, ∀ n : Fin 8, nI a.val ||| 1 <<< (nI n.val &&& 31) = nI (a.val ||| 2 ^ n.val) := by decide +kernel
theorem bt_or0 : ∀ a : Fin 256, nI a.val ||| 0 = nI a.val := by decide +kernel
theorem bt_has : ∀ a : Fin 256, ∀ n : Fin 8, ((nI a.val >>> (nI n.val &&& 31)) &&& 1 = 1) = (a.val.testBit n.val = true) := by decide +kernel
theorem vB_256 (h : N ≤ 8) : vB p N < 256 := Nat.lt_of_lt_of_le (vB_lt N) (Nat.pow_le_pow_right (by decide) h)
theorem orB_eq : ∀ {N : Nat}, N ≤ 8 → orB p N = nI (vB p N)
  | 0, _ => by simp only [orB, vB, nI_0]
  | n + 1, h => by
    unfold orB vB
    rw [orB_eq (N := n) (by omega)]
    split
    · exact bt_or ⟨vB p n, vB_256 (by omega)⟩ ⟨n, by omega⟩
    · rw [Nat.or_zero]; exact bt_or0 ⟨vB p n, vB_256 (by omega)⟩
theorem orB_has (h8 : N ≤ 8) (hn : n < N) : ((orB p N >>> (nI n &&& 31)) &&& 1 = 1) = (p n = true) := by
  rw [orB_eq h8, bt_has ⟨vB p N, vB_256 h8⟩ ⟨n, by omega⟩]
  show ((vB p N).testBit n = true) = _
  rw [vB_bit, decide_eq_true hn, Bool.true_and]
end BITV
