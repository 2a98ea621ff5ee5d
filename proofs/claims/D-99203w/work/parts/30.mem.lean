/-! memory and number lemmas for the pure land -/
set_option maxRecDepth 100000
section MEM
variable {μ : am_M} {h k a b n : Nat} {v x y : Int32} {w : Int64} {r : Option Nat} {l : List Value}
theorem am_kill_int : am_kill (.int x) = .int x := rfl
theorem am_kill_ref : am_kill (.ref a) = .ref a := rfl
theorem am_kill_null : am_kill .null = .null := rfl
theorem am_kill_F : am_kill am_F = am_F := rfl
theorem am_kill_long : am_kill (.long w) = am_F := rfl
theorem am_cat_n : am_cat [] = 0 := rfl
theorem am_cat_i : am_cat (.int x :: l) = 1 + am_cat l := rfl
theorem am_cat_r : am_cat (.ref a :: l) = 1 + am_cat l := rfl
theorem am_cat_0 : am_cat (.null :: l) = 1 + am_cat l := rfl
theorem am_cat_l : am_cat (.long w :: l) = 2 + am_cat l := rfl
theorem am_nr_n : am_nr none = True := rfl
theorem am_nr_i : am_nr (some (.int x)) = True := rfl
theorem am_nr_r : am_nr (some (.ref a)) = True := rfl
theorem am_nr_0 : am_nr (some .null) = True := rfl
theorem am_nr_l : am_nr (some (.long w)) = True := rfl
theorem va_rf_s : va_rf (some a) = .ref a := rfl
theorem va_rf_n : va_rf none = .null := rfl
theorem am_I_sR : am_I (am_sR μ h k r) = am_I μ := id rfl
theorem am_I_sL : am_I (am_sL μ h k w) = am_I μ := id rfl
theorem am_R_sI : am_R (am_sI μ h k v) = am_R μ := id rfl
theorem am_R_sL : am_R (am_sL μ h k w) = am_R μ := id rfl
theorem am_L_sI : am_L (am_sI μ h k v) = am_L μ := id rfl
theorem am_L_sR : am_L (am_sR μ h k r) = am_L μ := id rfl
theorem am_k_sI : am_k (am_sI μ h k v) = am_k μ := id rfl
theorem am_k_sR : am_k (am_sR μ h k r) = am_k μ := id rfl
theorem am_k_sL : am_k (am_sL μ h k w) = am_k μ := id rfl
theorem am_n_sI : am_n (am_sI μ h k v) = am_n μ := id rfl
theorem am_n_sR : am_n (am_sR μ h k r) = am_n μ := id rfl
theorem am_n_sL : am_n (am_sL μ h k w) = am_n μ := id rfl
theorem am_nb {c : Prop} [Decidable c] : (narrow .boolean (.int (if c then (1 : Int32) else 0)) = .int (if c then (1 : Int32) else 0)) = True := by
  split <;> simp [narrow]
theorem am_nb1 : (narrow .boolean (.int 1) = .int 1) = True := by simp [narrow]
theorem am_nb0 : (narrow .boolean (.int 0) = .int 0) = True := by simp [narrow]
theorem am_b0 {c : Prop} [Decidable c] : ((if c then (1 : Int32) else 0) = 0) = ¬ c := by
  split <;> simp [*]
theorem am_b1 {c : Prop} [Decidable c] : ((if c then (1 : Int32) else 0) = 1) = c := by
  split <;> simp [*]
theorem am_lc1 {p q : Int64} : (lg_cmp p q < 0) = (p < q) := by
  have h1 : ¬ (1 : Int32) < 0 := by decide
  have h2 : ¬ (0 : Int32) < 0 := by decide
  have h3 : (-1 : Int32) < 0 := by decide
  unfold lg_cmp
  by_cases e : q < p
  · simp only [e, if_true, h1, eq_iff_iff, false_iff]
    exact fun q' => Int64.lt_irrefl (Int64.lt_trans e q')
  · by_cases e2 : p = q
    · subst e2; simp only [e, if_false, if_true, h2]
    · simp only [e, e2, if_false, h3, eq_iff_iff, true_iff]
      exact Int64.lt_of_le_of_ne (Int64.not_lt.mp e) e2
theorem am_lc2 {p q : Int64} : (0 < lg_cmp p q) = (q < p) := by
  have h1 : (0 : Int32) < 1 := by decide
  have h2 : ¬ (0 : Int32) < 0 := by decide
  have h3 : ¬ (0 : Int32) < -1 := by decide
  unfold lg_cmp
  by_cases e : q < p
  · simp only [e, if_true, h1]
  · by_cases e2 : p = q
    · subst e2; simp only [e, if_false, if_true, h2]
    · simp only [e, e2, if_false, h3]
theorem am_lc3 {p q : Int64} : (lg_cmp p q = 0) = (p = q) := by
  have h1 : ¬ (1 : Int32) = 0 := by decide
  have h3 : ¬ (-1 : Int32) = 0 := by decide
  unfold lg_cmp
  by_cases e2 : p = q
  · subst e2; simp only [Int64.lt_irrefl, if_false, if_true]
  · by_cases e : q < p
    · simp only [e, e2, if_true, h1]
    · simp only [e, e2, if_false, h3]
theorem am_10 : ((1 : Int32) = 0) = False := eq_false (by decide)
theorem am_c8 {j : Nat} : (8 : Int32) + nI j = nI (8 + j) := by
  rw [show (8 : Int32) = nI 8 by decide, nI_add]
theorem am_c16 {j : Nat} : (16 : Int32) + nI j = nI (16 + j) := by
  rw [show (16 : Int32) = nI 16 by decide, nI_add]
theorem am_c24 {j : Nat} : (24 : Int32) + nI j = nI (24 + j) := by
  rw [show (24 : Int32) = nI 24 by decide, nI_add]
theorem am_c32 {j : Nat} : (32 : Int32) + nI j = nI (32 + j) := by
  rw [show (32 : Int32) = nI 32 by decide, nI_add]
theorem am_c40 {j : Nat} : (40 : Int32) + nI j = nI (40 + j) := by
  rw [show (40 : Int32) = nI 40 by decide, nI_add]
theorem am_c48 {j : Nat} : (48 : Int32) + nI j = nI (48 + j) := by
  rw [show (48 : Int32) = nI 48 by decide, nI_add]
theorem am_c56 {j : Nat} : (56 : Int32) + nI j = nI (56 + j) := by
  rw [show (56 : Int32) = nI 56 by decide, nI_add]
theorem am_c64 {j : Nat} : (64 : Int32) + nI j = nI (64 + j) := by
  rw [show (64 : Int32) = nI 64 by decide, nI_add]
theorem am_c72 {j : Nat} : (72 : Int32) + nI j = nI (72 + j) := by
  rw [show (72 : Int32) = nI 72 by decide, nI_add]
theorem am_leL : (x.toInt64 ≤ y.toInt64) = (x ≤ y) := by
  rw [Int64.le_iff_toInt_le, Int32.le_iff_toInt_le, Int32.toInt_toInt64, Int32.toInt_toInt64]
theorem am_l0 : (0 : Int64) = (0 : Int32).toInt64 := by decide
theorem am_isn {N : Nat} (hN : N ≤ 1000) : (0 ≤ x ∧ x ≤ nI N - 1) = vp_in x N := by
  have h0 : (0 : Int32).toInt = 0 := by decide
  have h1 : (1 : Int32).toInt = 1 := by decide
  have h2 : (nI N - 1).toInt = (N : Int) - 1 := by
    rw [Int32.toInt_sub, nI_toInt (by omega), h1]
    exact Int.bmod_eq_of_le (by omega) (by omega)
  rw [vp_in_iff, Int32.le_iff_toInt_le, Int32.le_iff_toInt_le, h0, h2]
  exact propext ⟨fun ⟨q, r⟩ => ⟨q, by omega⟩, fun ⟨q, r⟩ => ⟨q, by omega⟩⟩
def isN (x : Int32) (N : Nat) : Bool := decide (0 ≤ x ∧ x ≤ nI N - 1)
theorem am_isb {N : Nat} : (0 ≤ x ∧ x ≤ nI N - 1) = (isN x N = true) := by
  unfold isN; rw [decide_eq_true_eq]
theorem isN_of {N : Nat} (hN : N ≤ 1000) (hx : isN x N = true) : ∃ j : Nat, j < N ∧ x = nI j := by
  rw [← am_isb, am_isn hN] at hx
  exact vp_in_of hx (by omega)
theorem isN_nI {j N : Nat} (hN : N ≤ 1000) (hj : j < N) : isN (nI j) N = true := by
  rw [← am_isb, am_isn hN]
  exact vp_in_nI hj (by omega)
theorem am_dS {d k : Nat} : d + (k + 1) - 1 = d + k := rfl
theorem am_dP {d k : Nat} : (0 < d + (k + 1)) = True := eq_true (Nat.succ_pos _)
theorem am_d1 {d k : Nat} : (1 ≤ d + (k + 1)) = True := eq_true (Nat.succ_pos _)
theorem am_Wp.det {d : Nat} {mi : am_MI} {pc : Nat} {ls st : List Value} {μ : am_M} {K : Option Value → am_M → Prop} {r0 : Option Value} {ν0 : am_M} (h : am_Wp d mi pc ls st μ (fun r ν => r = r0 ∧ ν = ν0)) : am_Wp d mi pc ls st μ K ↔ K r0 ν0 := by
  obtain ⟨f, r, ν, h1, rfl, rfl⟩ := h
  constructor
  · rintro ⟨f2, r2, ν2, h2, hk⟩
    have e1 := am_run_le (Nat.le_max_left f f2) h1
    have e2 := am_run_le (Nat.le_max_right f f2) h2
    rw [e1] at e2
    cases e2
    exact hk
  · intro hk
    exact ⟨f, _, _, h1, hk⟩
theorem am_II {a b : Nat} : am_I (am_sI μ h k v) a b = if a = h ∧ b = k then v else am_I μ a b := id rfl
theorem am_RR {a b : Nat} : am_R (am_sR μ h k r) a b = if a = h ∧ b = k then r else am_R μ a b := id rfl
theorem am_LL {a b : Nat} : am_L (am_sL μ h k w) a b = if a = h ∧ b = k then w else am_L μ a b := id rfl
/-- a loop that counts up -/
theorem am_for {d : Nat} {mi : am_MI} {pc : Nat} {K : Option Value → am_M → Prop} {N : Nat} (P : Nat → List Value → am_M → Prop)
    (hs : ∀ j ls μ, j < N → P j ls μ → (∀ ls' μ', P (j + 1) ls' μ' → am_Wp d mi pc ls' [] μ' K) → am_Wp d mi pc ls [] μ K)
    (he : ∀ ls μ, P N ls μ → am_Wp d mi pc ls [] μ K) : ∀ k j ls μ, j + k = N → P j ls μ → am_Wp d mi pc ls [] μ K := by
  intro k
  induction k with
  | zero => intro j ls μ e hp; exact he ls μ (by rw [← e]; exact hp)
  | succ k ih => intro j ls μ e hp; exact hs j ls μ (by omega) hp (fun ls' μ' hp' => ih (j + 1) ls' μ' (by omega) hp')
end MEM
