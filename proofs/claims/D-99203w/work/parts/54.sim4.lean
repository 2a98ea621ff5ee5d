/-! sameness kept by laying, announcing, replying, tinting, exchanging; when a guest flies -/
set_option maxRecDepth 100000
section SIM4
variable {N j n r i : Nat} {S a T : Nat → Int32} {c m : Nat → Int32} {v x y cl : Int32} {ru : Option PF} {f : PF}
/-- a change of one column -/
theorem Sim.one {S' a' : Nat → Int32} (h : Sim N S a) (h8 : N ≤ 8) (hj : j < N) (hc : cSim (col S' j) (col a' j) ∧ cG (col S' j)) (ho : ∀ i, i < 8 → i ≠ j → col S' i = col S i ∧ col a' i = col a i)
    (hk : ∀ k, 80 ≤ k → S' k = S k ∧ a' k = a k) : Sim N S' a' := by
  refine ⟨fun i hi => ?_, ?_, ?_, ?_⟩
  · by_cases e : i = j
    · subst e; exact hc
    · rw [(ho i (by omega) e).1, (ho i (by omega) e).2]; exact h.1 i hi
  · rw [(hk 80 (by decide)).1, (hk 80 (by decide)).2]; exact h.2.1
  · rw [(hk 81 (by decide)).1, (hk 81 (by decide)).2]; exact h.2.2.1
  · rw [(hk 82 (by decide)).1, (hk 82 (by decide)).2]; exact h.2.2.2
def layM (a : Nat → Int32) (j : Nat) (x : Int32) : Nat → Int32 := spU (spU (spU (spU (spU a (48 + j) 1) (56 + j) x) (64 + j) 0) (72 + j) 0) (24 + j) (maI 0 (a (24 + j) - 1))
theorem Sim.lie (h : Sim N S a) (h8 : N ≤ 8) (hj : j < N) (hx : 0 ≤ x ∧ x ≤ 9) : Sim N (lieT S j x) (layM a j x) := by
  have hj8 : j < 8 := by omega
  have hg := h.cg hj
  refine h.one h8 hj ⟨?_, ?_⟩ (fun i hi e => ⟨?_, ?_⟩) (fun k hk => ⟨?_, ?_⟩)
  · unfold lieT layM
    rw [cu3 hj8, cu7 hj8, cu6 hj8, cu9 hj8, cu8 hj8, cu7 hj8, cu6 hj8, cu3 hj8, cu9 hj8, cu8 hj8, cu7 hj8, cu6 hj8, h.r3 hj]
    have hs := (h.1 j hj).1.1
    have e : ∀ i, i < 10 → spU (spU (spU (spU (spU (spU (spU (col S j) 6 0) 7 0) 8 0) 9 0) 6 1) 7 x) 3 (maI 0 (a (24 + j) - 1)) i = spU (spU (spU (spU (spU (col a j) 6 1) 7 x) 8 0) 9 0) 3 (maI 0 (a (24 + j) - 1)) i := fun i hi => by
      rcases (by omega : i = 0 ∨ i = 1 ∨ i = 2 ∨ i = 3 ∨ i = 4 ∨ i = 5 ∨ i = 6 ∨ i = 7 ∨ i = 8 ∨ i = 9) with q | q | q | q | q | q | q | q | q | q <;> subst q <;> simp (decide := true) only [spU, if_true, if_false]
      all_goals exact hs _ (by decide)
    exact ⟨fun i hi => e i (by omega), fun _ i hi => e i hi⟩
  · unfold lieT
    rw [cu3 hj8, cu7 hj8, cu6 hj8, cu9 hj8, cu8 hj8, cu7 hj8, cu6 hj8, ← col3 (T := S) (j := j)]
    obtain ⟨g1, g2, g3, g4, g5, g6, g7, g8, g9, g10⟩ := hg
    have := rgO g3
    unfold cG
    simp (decide := true) only [spU, if_true, if_false, true_and, true_or, false_or, or_true, g2, g4, g7, g9, g10, this, hx]
  · unfold lieT
    rw [co3 hi hj8 e, co7 hi hj8 e, co6 hi hj8 e, co9 hi hj8 e, co8 hi hj8 e, co7 hi hj8 e, co6 hi hj8 e]
  · unfold layM
    rw [co3 hi hj8 e, co9 hi hj8 e, co8 hi hj8 e, co7 hi hj8 e, co6 hi hj8 e]
  · unfold lieT
    rw [spU_n (by omega), spU_n (by omega), spU_n (by omega), spU_n (by omega), spU_n (by omega), spU_n (by omega), spU_n (by omega)]
  · unfold layM
    rw [spU_n (by omega), spU_n (by omega), spU_n (by omega), spU_n (by omega), spU_n (by omega)]
theorem Sim.ann (h : Sim N S a) (h8 : N ≤ 8) (hj : j < N) : Sim N (annT S j) (annT a j) := by
  have hj8 : j < 8 := by omega
  have hg := h.cg hj
  refine h.one h8 hj ⟨?_, ?_⟩ (fun i hi e => ⟨?_, ?_⟩) (fun k hk => ⟨?_, ?_⟩)
  · unfold annT
    rw [cu5 hj8, cu4 hj8, cu5 hj8, cu4 hj8]
    exact ((h.1 j hj).1.u (by decide)).u (by decide)
  · unfold annT
    rw [cu5 hj8, cu4 hj8]
    obtain ⟨g1, g2, g3, g4, g5, g6, g7, g8, g9, g10⟩ := hg
    unfold cG
    simp (decide := true) only [spU, if_true, if_false, true_and, true_or, false_or, or_true, g1, g3, g4, g5, g6, g7, g8, g9, g10]
  · unfold annT; rw [co5 hi hj8 e, co4 hi hj8 e]
  · unfold annT; rw [co5 hi hj8 e, co4 hi hj8 e]
  · unfold annT; rw [spU_n (by omega), spU_n (by omega)]
  · unfold annT; rw [spU_n (by omega), spU_n (by omega)]
theorem Sim.rep (h : Sim N S a) (h8 : N ≤ 8) (hj : j < N) (h4 : 0 ≤ S (32 + j)) (h5 : ¬ S (40 + j) = 3) : Sim N (repT S j) (repT a j) := by
  have hj8 : j < 8 := by omega
  have hg := h.cg hj
  refine h.one h8 hj ⟨?_, ?_⟩ (fun i hi e => ⟨?_, ?_⟩) (fun k hk => ⟨?_, ?_⟩)
  · unfold repT
    rw [cu5 hj8, cu4 hj8, cu5 hj8, cu4 hj8, h.r4 hj, h.r5 hj]
    exact ((h.1 j hj).1.u (by decide)).u (by decide)
  · unfold repT
    rw [cu5 hj8, cu4 hj8, ← col4 (T := S) (j := j), ← col5 (T := S) (j := j)]
    rw [← col4 (T := S) (j := j)] at h4
    rw [← col5 (T := S) (j := j)] at h5
    obtain ⟨g1, g2, g3, g4, g5, g6, g7, g8, g9, g10⟩ := hg
    have e1 : 0 ≤ maI 0 (col S j 4 - 2) ∧ maI 0 (col S j 4 - 2) ≤ 99 := by
      rcases g2 with q | q
      · rw [q] at h4; exact absurd h4 (by decide)
      · exact rgL q
    have e2 := rgR g4 h5
    unfold cG
    simp (decide := true) only [spU, if_true, if_false, true_and, and_self, true_or, false_or, or_true, g1, g3, g5, g6, g7, g8, g9, g10, e1, e2]
  · unfold repT; rw [co5 hi hj8 e, co4 hi hj8 e]
  · unfold repT; rw [co5 hi hj8 e, co4 hi hj8 e]
  · unfold repT; rw [spU_n (by omega), spU_n (by omega)]
  · unfold repT; rw [spU_n (by omega), spU_n (by omega)]
theorem Sim.tint (h : Sim N S a) (h8 : N ≤ 8) (hj : j < N) (h6 : S (48 + j) ≠ 0) (hx : 0 ≤ x ∧ x ≤ 9) : Sim N (spU S (56 + j) x) (spU a (56 + j) x) := by
  have hj8 : j < 8 := by omega
  have hg := h.cg hj
  refine h.one h8 hj ⟨?_, ?_⟩ (fun i hi e => ⟨?_, ?_⟩) (fun k hk => ⟨?_, ?_⟩)
  · rw [cu7 hj8, cu7 hj8]
    exact (h.1 j hj).1.u (by decide)
  · rw [cu7 hj8]
    obtain ⟨g1, g2, g3, g4, g5, g6, g7, g8, g9, g10⟩ := hg
    have g1' : col S j 6 = 1 ∨ col S j 6 = 2 := by
      rcases g1 with ⟨q, _⟩ | q
      · rw [col6] at q; exact absurd q h6
      · exact q
    unfold cG
    simp (decide := true) only [spU, if_true, if_false, true_and, and_self, true_or, false_or, or_true, g1', g2, g3, g4, g5, g6, g7, g8, g9, g10, hx]
  · rw [co7 hi hj8 e]
  · rw [co7 hi hj8 e]
  · rw [spU_n (by omega)]
  · rw [spU_n (by omega)]
theorem exc_col (hi : i < 8) (hj : j < 8) (hn : n < 8) (hr : r < 10) (hij : i ≠ j) : col (excT S i j) n r = if r < 4 then (if n = i then S (8 * r + j) else if n = j then S (8 * r + i) else S (8 * r + n)) else S (8 * r + n) := by
  rw [col_r hr]
  unfold excT swT
  simp only [spU]
  by_cases h4 : r < 4
  · rw [if_pos h4]
    rcases (by omega : r = 0 ∨ r = 1 ∨ r = 2 ∨ r = 3) with q | q | q | q <;> subst q
    all_goals
      by_cases e1 : n = i
      · subst e1
        simp (disch := omega) only [if_pos, if_neg, Nat.mul_zero, Nat.zero_add, Nat.reduceMul, if_true]
      · rw [if_neg e1]
        by_cases e2 : n = j
        · subst e2
          simp (disch := omega) only [if_pos, if_neg, Nat.mul_zero, Nat.zero_add, Nat.reduceMul, if_true]
        · simp (disch := omega) only [if_pos, if_neg, Nat.mul_zero, Nat.zero_add, Nat.reduceMul, if_true]
  · rw [if_neg h4]
    simp (disch := omega) only [if_neg]
theorem exc_k {k : Nat} (hi : i < 8) (hj : j < 8) (hk : 80 ≤ k) : excT S i j k = S k := by
  unfold excT swT
  simp only [spU]
  simp (disch := omega) only [if_neg]
theorem Sim.exc (h : Sim N S a) (h8 : N ≤ 8) (hi : i < N) (hj : j < N) (hij : i ≠ j) : Sim N (excT S i j) (excT a i j) := by
  refine ⟨fun n hn => ⟨⟨fun r hr => ?_, fun h6 r hr => ?_⟩, ?_⟩, ?_, ?_, ?_⟩
  · rw [exc_col (by omega) (by omega) (by omega) (by omega) hij, exc_col (by omega) (by omega) (by omega) (by omega) hij, h.rr hj hr, h.rr hi hr, h.rr hn hr]
  · rw [exc_col (by omega) (by omega) (by omega) (by omega) hij] at h6
    have h6' : S (48 + n) ≠ 0 := h6
    rw [exc_col (by omega) (by omega) (by omega) (by omega) hij, exc_col (by omega) (by omega) (by omega) (by omega) hij, h.g hn h6' hr]
    by_cases h4 : r < 4
    · rw [if_pos h4, if_pos h4, h.rr hj (by omega), h.rr hi (by omega)]
    · rw [if_neg h4, if_neg h4]
  · have e : ∀ r, r < 10 → col (excT S i j) n r = if r < 4 then (if n = i then col S j r else if n = j then col S i r else col S n r) else col S n r := fun r hr => by
      rw [exc_col (by omega) (by omega) (by omega) hr hij, col_r hr, col_r hr, col_r hr]
    have hg := h.cg hn
    have hgi := h.cg hi
    have hgj := h.cg hj
    unfold cG at hg hgi hgj ⊢
    rw [e 0 (by decide), e 1 (by decide), e 2 (by decide), e 3 (by decide), e 4 (by decide), e 5 (by decide), e 6 (by decide), e 7 (by decide), e 8 (by decide), e 9 (by decide)]
    simp (decide := true) only [if_true, if_false]
    by_cases e1 : n = i
    · simp only [e1, if_true]; subst e1
      simp only [hg, hgj, and_self]
    · by_cases e2 : n = j
      · simp only [e1, e2, if_true, if_false]; subst e2
        simp only [hg, hgi, and_self, e1, if_false]
      · simp only [e1, e2, if_false]; exact hg
  · rw [exc_k (by omega) (by omega) (by decide), exc_k (by omega) (by omega) (by decide)]; exact h.2.1
  · rw [exc_k (by omega) (by omega) (by decide), exc_k (by omega) (by omega) (by decide)]; exact h.2.2.1
  · rw [exc_k (by omega) (by omega) (by decide), exc_k (by omega) (by omega) (by decide)]; exact h.2.2.2
/-- in how many days, in the model -/
def fliM (N : Nat) (ru : Option PF) (n : Nat) : Nat → Nat → (Nat → Int32) → Int32 × (Nat → Int32)
  | 0, _, T => (-2, T)
  | m + 1, k, T => if dayM N ru T (48 + n) = 0 then (if T (48 + n) = 2 then nI k else -2, dayM N ru T) else fliM N ru n m (k + 1) (dayM N ru T)
theorem Sim.fli (hf : ru8 ru) (h8 : N ≤ 8) (hn : n < N) : ∀ m k (S a : Nat → Int32), Sim N S a → Sim N (fliC N ru n m k S).2 (fliM N ru n m k a).2 ∧ ((fliC N ru n m k S).1 = (fliM N ru n m k a).1 ∧ (∃ q, (fliC N ru n m k S).1 = nI q ∧ k ≤ q ∧ q < k + m) ∨ (fliC N ru n m k S).1 = -1 ∧ (fliM N ru n m k a).1 = -2)
  | 0, _, S, a, h => ⟨h, Or.inr ⟨rfl, rfl⟩⟩
  | m + 1, k, S, a, h => by
    have hd := h.day hf h8
    unfold fliC fliM
    rw [← hd.r6 hn, ← h.r6 hn]
    by_cases q : dayC N ru S (48 + n) = 0
    · rw [if_pos q, if_pos q]
      refine ⟨hd, ?_⟩
      by_cases q2 : S (48 + n) = 2
      · simp only [if_pos q2]; exact Or.inl ⟨trivial, k, rfl, by omega, by omega⟩
      · simp only [if_neg q2]; exact Or.inr ⟨trivial, trivial⟩
    · rw [if_neg q, if_neg q]
      obtain ⟨h1, h2⟩ := Sim.fli hf h8 hn m (k + 1) _ _ hd
      refine ⟨h1, h2.imp (fun ⟨e, q, e2, e3, e4⟩ => ⟨e, q, e2, by omega, by omega⟩) id⟩
/-- how odd one would be, were it laid now -/
def oddL (N : Nat) (ru : Option PF) (a : Nat → Int32) (i : Nat) (co : Int32) : Int32 := oddM ru a i co 0 (maI 0 (a (24 + i) - 1)) (bcI (orB (gM a) N ||| 1 <<< (nI i &&& 31)))
theorem lie_e {k : Nat} (hj : j < 8) : lieT S j x k = if k = 24 + j then maI 0 (S (24 + j) - 1) else if k = 56 + j then x else if k = 48 + j then 1 else if k = 64 + j then 0 else if k = 72 + j then 0 else S k := by
  unfold lieT
  simp only [spU]
  repeat' split
  all_goals first | rfl | omega
theorem gF_lie (h8 : N ≤ 8) (hj : j < N) (h : Sim N S a) : orB (gF 1 (lieT S j x)) N = orB (gM a) N ||| 1 <<< (nI j &&& 31) := by
  have e : ∀ n, n < N → gF 1 (lieT S j x) n = (gM a n || decide (n = j)) := fun n hn => by
    unfold gF gM
    rw [lie_e (by omega), if_neg (by omega), if_neg (by omega)]
    by_cases q : n = j
    · subst q
      rw [if_pos rfl, decide_eq_true (rfl : n = n), Bool.or_true]; decide
    · rw [if_neg (by omega), if_neg (by omega), if_neg (by omega), decide_eq_false q, Bool.or_false, ← h.r6 hn]
      rcases h.gu hn with w | w | w <;> rw [w] <;> decide
  rw [orB_congr e, orB_eq h8, orB_eq h8, bt_or ⟨vB (gM a) N, vB_256 h8⟩ ⟨j, by omega⟩]
  congr 1
  apply Nat.eq_of_testBit_eq
  intro i
  rw [Nat.testBit_or, vB_bit, vB_bit, Nat.testBit_two_pow]
  by_cases hi : i < N
  · rw [decide_eq_true hi, Bool.true_and, Bool.true_and]
    by_cases q : i = j
    · subst q; simp
    · rw [decide_eq_false q, decide_eq_false (fun z => q z.symm)]
  · rw [decide_eq_false hi, Bool.false_and, Bool.false_and, decide_eq_false (by omega : ¬ j = i)]; rfl
theorem odd_L (hf : ru8 ru) (h8 : N ≤ 8) (h : Sim N S a) (hj : j < N) : oddS N ru (lieT S j x) j = oddL N ru a j x := by
  have e := oddM_c (co := x) (ag := 0) (ow := maI 0 (a (24 + j) - 1)) (mn := bcI (orB (gM a) N ||| 1 <<< (nI j &&& 31))) hf h hj
  unfold oddL
  rw [← e]
  have hj8 : j < 8 := by omega
  cases ru with
  | none =>
    show 3 * abI (lieT S j x (56 + j) - lieT S j x (16 + j)) - maI 0 (lieT S j x (32 + j)) - lieT S j x j = 3 * abI (x - S (16 + j)) - maI 0 (S (32 + j)) - S j
    simp (disch := omega) only [lie_e hj8, if_neg, if_true]
  | some f =>
    show f _ = f _
    rw [envS_A, gF_lie h8 hj h]
    congr 1
    funext i
    unfold envA
    simp (disch := omega) only [lie_e hj8, if_neg, if_true, h.r3 hj]
/-- how odd a guest would be, tinted -/
def oddT (N : Nat) (ru : Option PF) (a : Nat → Int32) (i : Nat) (co : Int32) : Int32 := oddM ru a i co (a (64 + i)) (a (24 + i)) (bcI (orB (gM a) N))
theorem odd_T (hf : ru8 ru) (h8 : N ≤ 8) (h : Sim N S a) (hj : j < N) (h6 : S (48 + j) ≠ 0) : oddS N ru (spU S (56 + j) x) j = oddT N ru a j x := by
  have e := oddM_c (co := x) (ag := a (64 + j)) (ow := a (24 + j)) (mn := bcI (orB (gM a) N)) hf h hj
  unfold oddT
  rw [← e]
  have hg : orB (gF 1 (spU S (56 + j) x)) N = orB (gM a) N := by
    rw [← h.gFM]
    refine orB_congr fun n hn => ?_
    unfold gF
    rw [spU_n (by omega)]
  cases ru with
  | none =>
    show 3 * abI (spU S (56 + j) x (56 + j) - spU S (56 + j) x (16 + j)) - maI 0 (spU S (56 + j) x (32 + j)) - spU S (56 + j) x j = 3 * abI (x - S (16 + j)) - maI 0 (S (32 + j)) - S j
    rw [spU_e, spU_n (by omega), spU_n (by omega), spU_n (by omega)]
  | some f =>
    show f _ = f _
    rw [envS_A, hg]
    congr 1
    funext i
    unfold envA
    simp (disch := omega) only [spU, if_neg, if_true, h.r3 hj, h.r8 hj h6]
/-- free for an egg -/
theorem Sim.inTm (h : Sim N S a) (hj : j < N) : inT cl S j = decide (¬ a (32 + j) = -1 ∧ cl ≤ a (32 + j)) := by
  have := (h.cg hj).no
  rw [col4, h.r4 hj] at this
  unfold inT
  rw [h.r4 hj, Bool.decide_and]
  simp only [this]
end SIM4
