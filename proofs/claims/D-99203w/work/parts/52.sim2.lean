/-! the model's day by columns; sameness kept -/
set_option maxRecDepth 100000
section SIM2
variable {N j n r : Nat} {S a T : Nat → Int32} {c m : Nat → Int32} {v x : Int32} {ru : Option PF} {f : PF}
def envA (a : Nat → Int32) (i : Nat) (co ag ow mn : Int32) (k : Nat) : Int32 := if k = 0 then abI (a (16 + i) - co) else if k = 1 then maI 0 (a (32 + i)) else if k = 2 then a i else if k = 3 then ow else if k = 4 then a (8 + i) else if k = 5 then ag else if k = 6 then mn else a 80 - a 80 / 8 * 8
def oddM (ru : Option PF) (a : Nat → Int32) (i : Nat) (co ag ow mn : Int32) : Int32 := match ru with
  | none => abI (a (16 + i) - co) * 3 - maI 0 (a (32 + i)) - a i
  | some f => f (envA a i co ag ow mn)
def oddW (N : Nat) (ru : Option PF) (a : Nat → Int32) (i : Nat) : Int32 := oddM ru a i (a (56 + i)) (a (64 + i)) (a (24 + i)) (bcI (orB (gM a) N))
def ouM (N : Nat) (ru : Option PF) (a : Nat → Int32) (i : Nat) : Bool := decide (a (48 + i) = 1) && decide (5 < oddW N ru a i)
def fedM (T : Nat → Int32) (n : Nat) : Nat → Int32 := if 30 ≤ miI 99 (T (72 + n) + T (8 + n)) then spU (spU (spU T (72 + n) (miI 99 (T (72 + n) + T (8 + n)))) (48 + n) 0) 81 (T 81 + 1) else spU T (72 + n) (miI 99 (T (72 + n) + T (8 + n)))
def agM (T : Nat → Int32) (n : Nat) : Nat → Int32 := if 3 ≤ miI 99 (T (64 + n) + 1) then spU (spU (spU T (64 + n) (miI 99 (T (64 + n) + 1))) (48 + n) 2) (24 + n) 0 else spU T (64 + n) (miI 99 (T (64 + n) + 1))
def guM (o : Nat → Bool) (n : Nat) (T : Nat → Int32) : Nat → Int32 := if T (48 + n) = 2 then fedM T n else if o n = true then spU (spU T (48 + n) 0) 82 (T 82 + 1) else if T (48 + n) = 1 then agM T n else T
def noM (T : Nat → Int32) (n : Nat) : Nat → Int32 := if T (32 + n) = -1 then T else spU T (32 + n) (miI 99 (T (32 + n) + 1))
def steM (o : Nat → Bool) (n : Nat) (T : Nat → Int32) : Nat → Int32 := noM (guM o n T) n
def dayM (N : Nat) (ru : Option PF) (a : Nat → Int32) : Nat → Int32 := spU (foS (steM (ouM N ru a)) N a) 80 (foS (steM (ouM N ru a)) N a 80 + 1)
def fedD (c : Nat → Int32) : Nat → Int32 := if 30 ≤ miI 99 (c 9 + c 1) then spU (spU c 9 (miI 99 (c 9 + c 1))) 6 0 else spU c 9 (miI 99 (c 9 + c 1))
def agD (c : Nat → Int32) : Nat → Int32 := if 3 ≤ miI 99 (c 8 + 1) then spU (spU (spU c 8 (miI 99 (c 8 + 1))) 6 2) 3 0 else spU c 8 (miI 99 (c 8 + 1))
def guD (o : Bool) (c : Nat → Int32) : Nat → Int32 := if c 6 = 2 then fedD c else if o = true then spU c 6 0 else if c 6 = 1 then agD c else c
def noD (c : Nat → Int32) : Nat → Int32 := if c 4 = -1 then c else spU c 4 (miI 99 (c 4 + 1))
theorem st_l {o : Nat → Bool} : locS (steM o) (fun n c => noD (guD (o n) c)) := fun n T hn => by
  have e81 : ∀ (T : Nat → Int32) v j, j < 8 → col (spU T 81 v) j = col T j := fun T v j q => col_c q (by decide)
  have e82 : ∀ (T : Nat → Int32) v j, j < 8 → col (spU T 82 v) j = col T j := fun T v j q => col_c q (by decide)
  have hg : col (guM o n T) n = guD (o n) (col T n) ∧ ∀ j, j < 8 → j ≠ n → col (guM o n T) j = col T j := by
    unfold guM guD fedM agM fedD agD
    simp only [← col6 (T := T) (j := n), ← col8 (T := T) (j := n), ← col9 (T := T) (j := n), ← col1 (T := T) (j := n)]
    constructor
    · repeat' split
      · rw [e81 _ _ _ hn, cu6 hn, cu9 hn]
      · rw [cu9 hn]
      · rw [e82 _ _ _ hn, cu6 hn]
      · rw [cu3 hn, cu6 hn, cu8 hn]
      · rw [cu8 hn]
      · rfl
    · intro j hj hne
      repeat' split
      · rw [e81 _ _ _ hj, co6 hj hn hne, co9 hj hn hne]
      · rw [co9 hj hn hne]
      · rw [e82 _ _ _ hj, co6 hj hn hne]
      · rw [co3 hj hn hne, co6 hj hn hne, co8 hj hn hne]
      · rw [co8 hj hn hne]
      · rfl
  have hno : ∀ T : Nat → Int32, col (noM T n) n = noD (col T n) ∧ ∀ j, j < 8 → j ≠ n → col (noM T n) j = col T j := fun T => by
    unfold noM noD
    simp only [← col4 (T := T) (j := n)]
    constructor
    · split
      · rfl
      · rw [cu4 hn]
    · intro j hj hne
      split
      · rfl
      · rw [co4 hj hn hne]
  show col (steM o n T) n = noD (guD (o n) (col T n)) ∧ ∀ j, j < 8 → j ≠ n → col (steM o n T) j = col T j
  unfold steM
  exact ⟨by rw [(hno _).1, hg.1], fun j hj hne => by rw [(hno _).2 j hj hne, hg.2 j hj hne]⟩
theorem noM_k {k : Nat} (hk : 80 ≤ k) (hn : n < 8) : noM T n k = T k := by
  unfold noM; split
  · rfl
  · rw [spU_n (by omega)]
theorem st_80 {o : Nat → Bool} : ∀ n, n ≤ 8 → foS (steM o) n S 80 = S 80
  | 0, _ => rfl
  | n + 1, h => by
    have ih := st_80 (o := o) n (by omega)
    unfold foS
    rw [← ih]
    generalize foS (steM o) n S = T
    unfold steM
    rw [noM_k (by decide) (by omega)]
    unfold guM fedM agM
    repeat' split
    · rw [spU_n (by omega), spU_n (by omega), spU_n (by omega)]
    · rw [spU_n (by omega)]
    · rw [spU_n (by omega), spU_n (by omega)]
    · rw [spU_n (by omega), spU_n (by omega), spU_n (by omega)]
    · rw [spU_n (by omega)]
    · rfl
theorem st_c {o : Nat → Bool} (ho : ∀ j, o j = true → S (48 + j) = 1) : ∀ n, n ≤ 8 → foS (steM o) n S 81 = cnI (fun j => decide (S (48 + j) = 2) && decide (30 ≤ miI 99 (S (72 + j) + S (8 + j)))) n (S 81) ∧ foS (steM o) n S 82 = cnI o n (S 82)
  | 0, _ => ⟨rfl, rfl⟩
  | n + 1, h => by
    have ih := st_c ho n (by omega)
    have e := fo_col (T := S) (st_l (o := o)) (j := n) (by omega) n (by omega)
    rw [if_neg (by omega)] at e
    have e9 : foS (steM o) n S (72 + n) = S (72 + n) := by rw [← col9 (T := foS (steM o) n S) (j := n), e, col9]
    have e1 : foS (steM o) n S (8 + n) = S (8 + n) := by rw [← col1 (T := foS (steM o) n S) (j := n), e, col1]
    have e6 : foS (steM o) n S (48 + n) = S (48 + n) := by rw [← col6 (T := foS (steM o) n S) (j := n), e, col6]
    unfold foS cnI
    rw [← ih.1, ← ih.2]
    clear ih e
    generalize foS (steM o) n S = T at e9 e1 e6 ⊢
    unfold steM
    rw [noM_k (by decide) (by omega), noM_k (by decide) (by omega)]
    unfold guM fedM agM
    rw [e9, e1, e6]
    by_cases h2 : S (48 + n) = 2
    · have h0 : ¬ o n = true := fun q => by have := ho n q; rw [h2] at this; exact absurd this (by decide)
      by_cases h3 : 30 ≤ miI 99 (S (72 + n) + S (8 + n))
      · simp only [h2, h3, h0, if_true, decide_true, Bool.and_self, if_false, Bool.false_eq_true]
        exact ⟨spU_e, by rw [spU_n (by omega), spU_n (by omega), spU_n (by omega)]⟩
      · simp only [h2, h3, h0, if_true, decide_true, decide_false, Bool.and_false, Bool.false_eq_true, if_false]
        exact ⟨by rw [spU_n (by omega)], by rw [spU_n (by omega)]⟩
    · by_cases h0 : o n = true
      · simp only [h2, h0, if_true, decide_false, Bool.false_and, Bool.false_eq_true, if_false]
        exact ⟨by rw [spU_n (by omega), spU_n (by omega)], spU_e⟩
      · simp only [h2, h0, if_true, decide_false, Bool.false_and, Bool.false_eq_true, if_false]
        repeat' split
        · exact ⟨by rw [spU_n (by omega), spU_n (by omega), spU_n (by omega)], by rw [spU_n (by omega), spU_n (by omega), spU_n (by omega)]⟩
        · exact ⟨by rw [spU_n (by omega)], by rw [spU_n (by omega)]⟩
        · exact ⟨rfl, rfl⟩
theorem ouM_1 (h : ouM N ru a j = true) : a (48 + j) = 1 := by
  unfold ouM at h
  rw [Bool.and_eq_true, decide_eq_true_eq] at h
  exact h.1
theorem dayM_col (h8 : N ≤ 8) (hj : j < N) : col (dayM N ru a) j = noD (guD (ouM N ru a j) (col a j)) := by
  unfold dayM
  rw [col_c (by omega) (by decide), fo_col st_l (by omega) N h8, if_pos hj]
theorem dayM_80 (h8 : N ≤ 8) : dayM N ru a 80 = a 80 + 1 := by
  unfold dayM
  rw [spU_e, st_80 N h8]
theorem dayM_81 (h8 : N ≤ 8) : dayM N ru a 81 = cnI (fun j => decide (a (48 + j) = 2) && decide (30 ≤ miI 99 (a (72 + j) + a (8 + j)))) N (a 81) := by
  unfold dayM
  rw [spU_n (by decide), (st_c (fun j q => ouM_1 q) N h8).1]
theorem dayM_82 (h8 : N ≤ 8) : dayM N ru a 82 = cnI (ouM N ru a) N (a 82) := by
  unfold dayM
  rw [spU_n (by decide), (st_c (fun j q => ouM_1 q) N h8).2]
/-- same columns: rows 0 to 6, and the guest's own where there is one -/
def cSim (c m : Nat → Int32) : Prop := (∀ r, r < 7 → c r = m r) ∧ (c 6 ≠ 0 → ∀ r, r < 10 → c r = m r)
/-- what every column keeps -/
def cG (c : Nat → Int32) : Prop := (c 6 = 0 ∧ c 7 = 0 ∧ c 8 = 0 ∧ c 9 = 0 ∨ c 6 = 1 ∨ c 6 = 2) ∧ (c 4 = -1 ∨ 0 ≤ c 4 ∧ c 4 ≤ 99) ∧ (0 ≤ c 3 ∧ c 3 ≤ 5) ∧ (0 ≤ c 5 ∧ c 5 ≤ 3) ∧ (0 ≤ c 7 ∧ c 7 ≤ 9) ∧ (0 ≤ c 8 ∧ c 8 ≤ 99) ∧ (1 ≤ c 1 ∧ c 1 ≤ 9) ∧ (0 ≤ c 9 ∧ c 9 ≤ 99) ∧ (0 ≤ c 0 ∧ c 0 ≤ 3) ∧ (0 ≤ c 2 ∧ c 2 ≤ 9)
def Sim (N : Nat) (S a : Nat → Int32) : Prop := (∀ j, j < N → cSim (col S j) (col a j) ∧ cG (col S j)) ∧ S 80 = a 80 ∧ S 81 = a 81 ∧ S 82 = a 82
theorem cSim.u (h : cSim c m) (hr : r ≠ 6) : cSim (spU c r v) (spU m r v) := by
  have e : ∀ i, c i = m i → spU c r v i = spU m r v i := fun i q => by unfold spU; split; rfl; exact q
  refine ⟨fun i hi => e i (h.1 i hi), fun h6 i hi => e i (h.2 ?_ i hi)⟩
  rwa [spU_n (Ne.symm hr)] at h6
theorem cSim.u6 (h : cSim c m) (h0 : c 6 ≠ 0) : cSim (spU c 6 v) (spU m 6 v) := by
  have e : ∀ i, c i = m i → spU c 6 v i = spU m 6 v i := fun i q => by unfold spU; split; rfl; exact q
  exact ⟨fun i hi => e i (h.1 i hi), fun _ i hi => e i (h.2 h0 i hi)⟩
theorem cSim.lv (h : ∀ r, r < 6 → c r = m r) : cSim (lvC c) (spU m 6 0) := by
  unfold lvC
  refine ⟨fun i hi => ?_, fun h6 => absurd ?_ h6⟩
  · rw [spU_n (by omega), spU_n (by omega), spU_n (by omega)]
    by_cases e : i = 6
    · subst e; rw [spU_e, spU_e]
    · rw [spU_n e, spU_n e]; exact h i (by omega)
  · rw [spU_n (by omega), spU_n (by omega), spU_n (by omega), spU_e]
theorem gF_2 (h : cG c) : (2 ≤ c 6) = (c 6 = 2) := by
  rcases h.1 with ⟨q, _⟩ | q | q <;> rw [q] <;> decide
theorem cG.no (h : cG c) : (0 ≤ c 4) = ¬ (c 4 = -1) := by
  rcases h.2.1 with q | ⟨q, _⟩
  · rw [q]; decide
  · refine propext ⟨fun _ e => ?_, fun _ => q⟩
    rw [e] at q
    exact absurd q (by decide)
theorem not_no (h : cSim c m) (hg : c 4 = -1 ∨ 0 ≤ c 4) : cSim (notC c) (noD m) := by
  have e4 := h.1 4 (by decide)
  unfold notC noD
  rw [← e4]
  rcases hg with q | q
  · rw [if_neg (by rw [q]; decide), if_pos q]
    have e : spU c 4 (-1) = c := funext fun i => by
      unfold spU
      split
      · rename_i e; rw [e, q]
      · rfl
    rw [e]
    exact h
  · rw [if_pos q, if_neg (fun e => by rw [e] at q; exact absurd q (by decide))]
    exact h.u (by decide)
theorem day_cSim {o : Bool} (h : cSim c m) (hg : cG c) (ho : o = true → c 6 = 1) : cSim (notC (yngC (decide (2 ≤ c 6)) (eggC o c))) (noD (guD o m)) := by
  have e6 := h.1 6 (by decide)
  have key : cSim (yngC (decide (2 ≤ c 6)) (eggC o c)) (guD o m) ∧ yngC (decide (2 ≤ c 6)) (eggC o c) 4 = c 4 := by
    rcases hg.1 with ⟨q, _⟩ | q | q
    · have h2 : ¬ (2 : Int32) ≤ c 6 := by rw [q]; decide
      have h1 : ¬ c 6 = 1 := by rw [q]; decide
      have h3 : ¬ c 6 = 2 := by rw [q]; decide
      have h0 : ¬ o = true := fun z => h1 (ho z)
      unfold yngC eggC guD
      rw [← e6]
      simp only [decide_eq_false h2, h1, h3, h0, if_false, Bool.false_eq_true, and_true]
      exact h
    · have h2 : ¬ (2 : Int32) ≤ c 6 := by rw [q]; decide
      have h3 : ¬ c 6 = 2 := by rw [q]; decide
      have e8 := h.2 (by rw [q]; decide) 8 (by decide)
      have d21 : decide ((2 : Int32) ≤ 1) = false := by decide
      have o12 : ¬ (1 : Int32) = 2 := by decide
      unfold yngC eggC guD agD
      rw [← e6, ← e8]
      by_cases h0 : o = true
      · simp only [d21, o12, q, h0, h3, if_true, if_false, Bool.false_eq_true]
        refine ⟨?_, ?_⟩
        · exact cSim.lv (fun r hr => h.1 r (by omega))
        · unfold lvC
          rw [spU_n (by omega), spU_n (by omega), spU_n (by omega), spU_n (by omega)]
      · by_cases h4 : miI 99 (c 8 + 1) < 3
        · simp only [d21, q, h0, h4, Int32.not_le.mpr h4, o12, if_true, if_false, Bool.false_eq_true]
          exact ⟨h.u (by decide), spU_n (by decide)⟩
        · simp only [d21, q, h0, h4, Int32.not_lt.mp h4, o12, if_true, if_false, Bool.false_eq_true]
          refine ⟨((h.u (by decide)).u6 ?_).u (by decide), by rw [spU_n (by omega), spU_n (by omega), spU_n (by omega)]⟩
          rw [spU_n (by decide), q]; decide
    · have h2 : (2 : Int32) ≤ c 6 := by rw [q]; decide
      have h1 : ¬ c 6 = 1 := by rw [q]; decide
      have e9 := h.2 (by rw [q]; decide) 9 (by decide)
      have e1 := h.1 1 (by decide)
      unfold yngC eggC guD fedD
      rw [← e6, ← e9, ← e1]
      simp only [decide_eq_true h2, h1, if_true, if_false]
      simp only [q, if_true]
      by_cases h4 : miI 99 (c 9 + c 1) < 30
      · simp only [h4, Int32.not_le.mpr h4, if_true, if_false]
        exact ⟨h.u (by decide), spU_n (by decide)⟩
      · simp only [h4, Int32.not_lt.mp h4, if_true, if_false]
        refine ⟨cSim.lv fun r hr => ?_, ?_⟩
        · rw [spU_n (by omega), spU_n (by omega)]; exact h.1 r (by omega)
        · unfold lvC
          rw [spU_n (by omega), spU_n (by omega), spU_n (by omega), spU_n (by omega), spU_n (by omega)]
  exact not_no key.1 (by rw [key.2]; exact hg.2.1.imp id And.left)
end SIM2
