/-! component's spring and model's row: what one is to the other (plain law) -/
set_option maxRecDepth 100000
section SIM
variable {N j n r : Nat} {S a T : Nat → Int32} {c m : Nat → Int32} {v x : Int32} {ru : Option PF} {f : PF}
theorem spU_e {k : Nat} : spU S k v k = v := if_pos rfl
theorem spU_n {i k : Nat} (h : i ≠ k) : spU S k v i = S i := if_neg h
/-- a nest's column -/
def col (T : Nat → Int32) (j : Nat) : Nat → Int32 := fun r => if r < 10 then T (8 * r + j) else 0
theorem col_r (h : r < 10) : col T j r = T (8 * r + j) := if_pos h
theorem col0 : col T j 0 = T j := by rw [col_r (by decide), Nat.mul_zero, Nat.zero_add]
theorem col1 : col T j 1 = T (8 + j) := col_r (by decide)
theorem col2 : col T j 2 = T (16 + j) := col_r (by decide)
theorem col3 : col T j 3 = T (24 + j) := col_r (by decide)
theorem col4 : col T j 4 = T (32 + j) := col_r (by decide)
theorem col5 : col T j 5 = T (40 + j) := col_r (by decide)
theorem col6 : col T j 6 = T (48 + j) := col_r (by decide)
theorem col7 : col T j 7 = T (56 + j) := col_r (by decide)
theorem col8 : col T j 8 = T (64 + j) := col_r (by decide)
theorem col9 : col T j 9 = T (72 + j) := col_r (by decide)
theorem col_u (hj : j < 8) (hr : r < 10) : col (spU T (8 * r + j) v) j = spU (col T j) r v := by
  funext i
  unfold col spU
  by_cases h : i < 10
  · simp only [if_pos h]
    by_cases e : i = r
    · rw [if_pos (by omega), if_pos e]
    · rw [if_neg (by omega), if_neg e]
  · simp only [if_neg h]
    rw [if_neg (by omega)]
theorem col_o (hj : j < 8) (hn : n < 8) (h : j ≠ n) : col (spU T (8 * r + n) v) j = col T j := by
  funext i
  unfold col spU
  by_cases h1 : i < 10
  · simp only [if_pos h1]
    rw [if_neg (by omega)]
  · simp only [if_neg h1]
theorem col_c {k : Nat} (hj : j < 8) (h : 80 ≤ k) : col (spU T k v) j = col T j := by
  funext i
  unfold col spU
  by_cases h1 : i < 10
  · simp only [if_pos h1]
    rw [if_neg (by omega)]
  · simp only [if_neg h1]
/-- a step that works on one column alone -/
def locS (g : Nat → (Nat → Int32) → (Nat → Int32)) (gc : Nat → (Nat → Int32) → (Nat → Int32)) : Prop :=
  ∀ n T, n < 8 → col (g n T) n = gc n (col T n) ∧ ∀ j, j < 8 → j ≠ n → col (g n T) j = col T j
theorem fo_col {g gc} (h : locS g gc) (hj : j < 8) : ∀ N, N ≤ 8 → col (foS g N T) j = if j < N then gc j (col T j) else col T j
  | 0, _ => by rw [if_neg (by omega)]; rfl
  | n + 1, hN => by
    have ih := fo_col h hj n (by omega)
    unfold foS
    by_cases e : j = n
    · subst e
      rw [(h j _ hj).1, ih, if_neg (by omega), if_pos (by omega)]
    · rw [(h n _ (by omega)).2 j hj e, ih]
      by_cases e2 : j < n
      · rw [if_pos e2, if_pos (by omega)]
      · rw [if_neg e2, if_neg (by omega)]
theorem cu0 (hj : j < 8) : col (spU T j v) j = spU (col T j) 0 v := by have := col_u (T := T) (v := v) hj (r := 0) (by decide); rwa [Nat.mul_zero, Nat.zero_add] at this
theorem cu1 (hj : j < 8) : col (spU T (8 + j) v) j = spU (col T j) 1 v := col_u (r := 1) hj (by decide)
theorem cu2 (hj : j < 8) : col (spU T (16 + j) v) j = spU (col T j) 2 v := col_u (r := 2) hj (by decide)
theorem cu3 (hj : j < 8) : col (spU T (24 + j) v) j = spU (col T j) 3 v := col_u (r := 3) hj (by decide)
theorem cu4 (hj : j < 8) : col (spU T (32 + j) v) j = spU (col T j) 4 v := col_u (r := 4) hj (by decide)
theorem cu5 (hj : j < 8) : col (spU T (40 + j) v) j = spU (col T j) 5 v := col_u (r := 5) hj (by decide)
theorem cu6 (hj : j < 8) : col (spU T (48 + j) v) j = spU (col T j) 6 v := col_u (r := 6) hj (by decide)
theorem cu7 (hj : j < 8) : col (spU T (56 + j) v) j = spU (col T j) 7 v := col_u (r := 7) hj (by decide)
theorem cu8 (hj : j < 8) : col (spU T (64 + j) v) j = spU (col T j) 8 v := col_u (r := 8) hj (by decide)
theorem cu9 (hj : j < 8) : col (spU T (72 + j) v) j = spU (col T j) 9 v := col_u (r := 9) hj (by decide)
theorem co0 (hj : j < 8) (hn : n < 8) (h : j ≠ n) : col (spU T n v) j = col T j := by have := col_o (T := T) (v := v) hj hn h (r := 0); rwa [Nat.mul_zero, Nat.zero_add] at this
theorem co1 (hj : j < 8) (hn : n < 8) (h : j ≠ n) : col (spU T (8 + n) v) j = col T j := col_o (r := 1) hj hn h
theorem co2 (hj : j < 8) (hn : n < 8) (h : j ≠ n) : col (spU T (16 + n) v) j = col T j := col_o (r := 2) hj hn h
theorem co3 (hj : j < 8) (hn : n < 8) (h : j ≠ n) : col (spU T (24 + n) v) j = col T j := col_o (r := 3) hj hn h
theorem co4 (hj : j < 8) (hn : n < 8) (h : j ≠ n) : col (spU T (32 + n) v) j = col T j := col_o (r := 4) hj hn h
theorem co5 (hj : j < 8) (hn : n < 8) (h : j ≠ n) : col (spU T (40 + n) v) j = col T j := col_o (r := 5) hj hn h
theorem co6 (hj : j < 8) (hn : n < 8) (h : j ≠ n) : col (spU T (48 + n) v) j = col T j := col_o (r := 6) hj hn h
theorem co7 (hj : j < 8) (hn : n < 8) (h : j ≠ n) : col (spU T (56 + n) v) j = col T j := col_o (r := 7) hj hn h
theorem co8 (hj : j < 8) (hn : n < 8) (h : j ≠ n) : col (spU T (64 + n) v) j = col T j := col_o (r := 8) hj hn h
theorem co9 (hj : j < 8) (hn : n < 8) (h : j ≠ n) : col (spU T (72 + n) v) j = col T j := col_o (r := 9) hj hn h
def lvC (c : Nat → Int32) : Nat → Int32 := spU (spU (spU (spU c 6 0) 7 0) 8 0) 9 0
def eggC (o : Bool) (c : Nat → Int32) : Nat → Int32 :=
  if c 6 = 1 then (if o = true then lvC c else if miI 99 (c 8 + 1) < 3 then spU c 8 (miI 99 (c 8 + 1)) else spU (spU (spU c 8 (miI 99 (c 8 + 1))) 6 2) 3 0) else c
def yngC (y : Bool) (c : Nat → Int32) : Nat → Int32 :=
  if y = true then (if miI 99 (c 9 + c 1) < 30 then spU c 9 (miI 99 (c 9 + c 1)) else lvC (spU c 9 (miI 99 (c 9 + c 1)))) else c
def notC (c : Nat → Int32) : Nat → Int32 := spU c 4 (if 0 ≤ c 4 then miI 99 (c 4 + 1) else -1)
theorem egg_l {o : Nat → Bool} : locS (eggS o) (fun n => eggC (o n)) := fun n T hn => by
  have e82 : ∀ (T : Nat → Int32) v j, j < 8 → col (spU T 82 v) j = col T j := fun T v j q => col_c q (by decide)
  show col (eggS o n T) n = eggC (o n) (col T n) ∧ ∀ j, j < 8 → j ≠ n → col (eggS o n T) j = col T j
  unfold eggS eggC
  rw [← col6 (T := T) (j := n), ← col8 (T := T) (j := n)]
  constructor
  · split
    · split
      · rw [e82 _ _ _ hn]; unfold lvT lvC; rw [cu9 hn, cu8 hn, cu7 hn, cu6 hn]
      · split
        · unfold eggT; rw [cu8 hn, ← col8 (T := T) (j := n)]
        · unfold eggT; rw [cu3 hn, cu6 hn, cu8 hn, ← col8 (T := T) (j := n)]
    · rfl
  · intro j hj hne
    split
    · split
      · rw [e82 _ _ _ hj]; unfold lvT; rw [co9 hj hn hne, co8 hj hn hne, co7 hj hn hne, co6 hj hn hne]
      · split
        · unfold eggT; rw [co8 hj hn hne]
        · unfold eggT; rw [co3 hj hn hne, co6 hj hn hne, co8 hj hn hne]
    · rfl
theorem yng_l {y : Nat → Bool} : locS (yngS y) (fun n => yngC (y n)) := fun n T hn => by
  have e81 : ∀ (T : Nat → Int32) v j, j < 8 → col (spU T 81 v) j = col T j := fun T v j q => col_c q (by decide)
  show col (yngS y n T) n = yngC (y n) (col T n) ∧ ∀ j, j < 8 → j ≠ n → col (yngS y n T) j = col T j
  unfold yngS yngC
  rw [← col9 (T := T) (j := n), ← col1 (T := T) (j := n)]
  constructor
  · split
    · split
      · unfold fedT; rw [cu9 hn, ← col9 (T := T) (j := n), ← col1 (T := T) (j := n)]
      · rw [e81 _ _ _ hn]; unfold lvT lvC fedT; rw [cu9 hn, cu8 hn, cu7 hn, cu6 hn, cu9 hn, ← col9 (T := T) (j := n), ← col1 (T := T) (j := n)]
    · rfl
  · intro j hj hne
    split
    · split
      · unfold fedT; rw [co9 hj hn hne]
      · rw [e81 _ _ _ hj]; unfold lvT fedT; rw [co9 hj hn hne, co8 hj hn hne, co7 hj hn hne, co6 hj hn hne, co9 hj hn hne]
    · rfl
theorem not_l : locS notS (fun _ => notC) := fun n T hn => by
  show col (notS n T) n = notC (col T n) ∧ ∀ j, j < 8 → j ≠ n → col (notS n T) j = col T j
  unfold notS notC
  rw [← col4 (T := T) (j := n)]
  exact ⟨by rw [cu4 hn], fun j hj hne => by rw [co4 hj hn hne]⟩
/-- a count that goes up where a sign stands -/
def cnI (p : Nat → Bool) : Nat → Int32 → Int32
  | 0, x => x
  | n + 1, x => if p n = true then cnI p n x + 1 else cnI p n x
theorem cnI_c {p q : Nat → Bool} : ∀ {n : Nat}, (∀ j, j < n → p j = q j) → cnI p n x = cnI q n x
  | 0, _ => rfl
  | n + 1, h => by simp only [cnI, cnI_c (n := n) (fun j hj => h j (by omega)), h n (by omega)]
theorem egg_82 {o : Nat → Bool} : ∀ n, n ≤ 8 → foS (eggS o) n S 82 = cnI (fun j => decide (S (48 + j) = 1) && o j) n (S 82)
  | 0, _ => rfl
  | n + 1, h => by
    have ih := egg_82 (o := o) n (by omega)
    have e : foS (eggS o) n S (48 + n) = S (48 + n) := by
      have := fo_col (T := S) (egg_l (o := o)) (j := n) (by omega) n (by omega)
      rw [if_neg (by omega)] at this
      rw [← col6 (T := foS (eggS o) n S) (j := n), this, col6]
    unfold foS cnI
    rw [← ih]
    generalize foS (eggS o) n S = T at e ⊢
    unfold eggS
    rw [e]
    by_cases h1 : S (48 + n) = 1
    · by_cases h2 : o n = true
      · simp only [h1, h2, if_true, decide_true, Bool.and_self, spU_e]
      · simp only [h1, h2, if_true, decide_true, Bool.and_self, Bool.true_and, if_false, Bool.false_eq_true]
        unfold eggT
        split
        · rw [spU_n (by omega)]
        · rw [spU_n (by omega), spU_n (by omega), spU_n (by omega)]
    · simp only [h1, if_false, decide_false, Bool.false_and, Bool.false_eq_true]
theorem egg_k {o : Nat → Bool} {k : Nat} (hk : k = 80 ∨ k = 81) : ∀ n, n ≤ 8 → foS (eggS o) n S k = S k
  | 0, _ => rfl
  | n + 1, h => by
    have ih := egg_k (o := o) hk n (by omega)
    unfold foS
    rw [← ih]
    generalize foS (eggS o) n S = T
    unfold eggS lvT eggT
    split
    · split
      · rw [spU_n (by omega), spU_n (by omega), spU_n (by omega), spU_n (by omega), spU_n (by omega)]
      · split
        · rw [spU_n (by omega)]
        · rw [spU_n (by omega), spU_n (by omega), spU_n (by omega)]
    · rfl
theorem yng_81 {y : Nat → Bool} : ∀ n, n ≤ 8 → foS (yngS y) n S 81 = cnI (fun j => y j && !decide (miI 99 (S (72 + j) + S (8 + j)) < 30)) n (S 81)
  | 0, _ => rfl
  | n + 1, h => by
    have ih := yng_81 (y := y) n (by omega)
    have e := fo_col (T := S) (yng_l (y := y)) (j := n) (by omega) n (by omega)
    rw [if_neg (by omega)] at e
    have e9 : foS (yngS y) n S (72 + n) = S (72 + n) := by rw [← col9 (T := foS (yngS y) n S) (j := n), e, col9]
    have e1 : foS (yngS y) n S (8 + n) = S (8 + n) := by rw [← col1 (T := foS (yngS y) n S) (j := n), e, col1]
    unfold foS cnI
    rw [← ih]
    clear e
    generalize foS (yngS y) n S = T at e9 e1 ⊢
    unfold yngS
    rw [e9, e1]
    by_cases h1 : y n = true
    · by_cases h2 : miI 99 (S (72 + n) + S (8 + n)) < 30
      · simp only [h1, h2, if_true, decide_true, Bool.not_true, Bool.and_false, Bool.false_eq_true, if_false]
        unfold fedT
        rw [spU_n (by omega)]
      · simp only [h1, h2, if_true, decide_false, Bool.not_false, Bool.and_self, if_false, spU_e]
    · simp only [h1, if_false, Bool.false_and, Bool.false_eq_true]
theorem yng_k {y : Nat → Bool} {k : Nat} (hk : k = 80 ∨ k = 82) : ∀ n, n ≤ 8 → foS (yngS y) n S k = S k
  | 0, _ => rfl
  | n + 1, h => by
    have ih := yng_k (y := y) hk n (by omega)
    unfold foS
    rw [← ih]
    generalize foS (yngS y) n S = T
    unfold yngS lvT fedT
    split
    · split
      · rw [spU_n (by omega)]
      · rw [spU_n (by omega), spU_n (by omega), spU_n (by omega), spU_n (by omega), spU_n (by omega), spU_n (by omega)]
    · rfl
theorem not_k {k : Nat} (hk : 80 ≤ k) : ∀ n, n ≤ 8 → foS notS n S k = S k
  | 0, _ => rfl
  | n + 1, h => by
    have ih := not_k hk n (by omega)
    unfold foS
    rw [← ih]
    generalize foS notS n S = T
    unfold notS
    rw [spU_n (by omega)]
/-- the component's day, by columns -/
theorem dayC_col (h8 : N ≤ 8) (hj : j < N) : col (dayC N ru S) j = notC (yngC (gF 2 S j) (eggC (outB N ru S j) (col S j))) := by
  unfold dayC dayT
  rw [col_c (by omega) (by decide), fo_col not_l (by omega) N h8, if_pos hj, fo_col yng_l (by omega) N h8, if_pos hj, fo_col egg_l (by omega) N h8, if_pos hj]
theorem dayC_80 (h8 : N ≤ 8) : dayC N ru S 80 = S 80 + 1 := by
  unfold dayC dayT
  rw [spU_e, not_k (by decide) N h8, yng_k (Or.inl rfl) N h8, egg_k (Or.inl rfl) N h8]
theorem dayC_82 (h8 : N ≤ 8) : dayC N ru S 82 = cnI (outB N ru S) N (S 82) := by
  unfold dayC dayT
  rw [spU_n (by decide), not_k (by decide) N h8, yng_k (Or.inr rfl) N h8, egg_82 N h8]
  refine cnI_c fun j _ => ?_
  unfold outB
  by_cases h : S (48 + j) = 1 <;> simp [h]
theorem dayC_81 (h8 : N ≤ 8) : dayC N ru S 81 = cnI (fun j => gF 2 S j && !decide (miI 99 (S (72 + j) + S (8 + j)) < 30)) N (S 81) := by
  unfold dayC dayT
  rw [spU_n (by decide), not_k (by decide) N h8, yng_81 N h8, egg_k (Or.inr rfl) N h8]
  refine cnI_c fun j hj => ?_
  by_cases h : gF 2 S j = true
  · have e := fo_col (T := S) (egg_l (o := outB N ru S)) (j := j) (by omega) N h8
    rw [if_pos hj] at e
    have h1 : ¬ col S j 6 = 1 := by
      intro q
      unfold gF at h
      rw [← col6 (T := S) (j := j), q] at h
      exact absurd h (by decide)
    have e2 : eggC (outB N ru S j) (col S j) = col S j := by unfold eggC; rw [if_neg h1]
    rw [e2] at e
    rw [h, ← col9 (T := foS (eggS (outB N ru S)) N S) (j := j), ← col1 (T := foS (eggS (outB N ru S)) N S) (j := j), e, col9, col1]
  · simp only [h, Bool.false_and]
end SIM
