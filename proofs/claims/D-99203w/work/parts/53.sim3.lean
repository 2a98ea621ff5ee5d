/-! sameness kept by days, eggs, notices, exchanges -/
set_option maxRecDepth 100000
section SIM3
variable {N j n r : Nat} {S a T : Nat → Int32} {c m : Nat → Int32} {v x : Int32} {ru : Option PF} {f : PF}
theorem rngI {M : Nat} {x : Int32} (hM : M < 2147483648) (h0 : 0 ≤ x) (h1 : x ≤ nI M) : ∃ k, k < M + 1 ∧ x = nI k := by
  rw [Int32.le_iff_toInt_le] at h0 h1
  have e0 : (0 : Int32).toInt = 0 := by decide
  have e1 : (nI M).toInt = M := Int32.toInt_ofNat_of_lt (by omega)
  rw [e0] at h0
  rw [e1] at h1
  refine ⟨x.toInt.toNat, by omega, ?_⟩
  rw [← Int32.toInt_inj]
  have := Int32.toInt_ofNat_of_lt (n := x.toInt.toNat) (by omega)
  show _ = (Int32.ofNat x.toInt.toNat).toInt
  rw [this]; omega
theorem rg_99 : ∀ k : Fin 100, 0 ≤ miI 99 (nI k.val + 1) ∧ miI 99 (nI k.val + 1) ≤ 99 := by decide +kernel
theorem rg_fed : ∀ k : Fin 100, ∀ s : Fin 10, 0 ≤ miI 99 (nI k.val + nI s.val) ∧ miI 99 (nI k.val + nI s.val) ≤ 99 := by decide +kernel
theorem rg_late : ∀ k : Fin 100, 0 ≤ maI 0 (nI k.val - 2) ∧ maI 0 (nI k.val - 2) ≤ 99 := by decide +kernel
theorem rg_own : ∀ k : Fin 6, 0 ≤ maI 0 (nI k.val - 1) ∧ maI 0 (nI k.val - 1) ≤ 5 := by decide +kernel
theorem rg_rep : ∀ k : Fin 4, ¬ nI k.val = 3 → 0 ≤ nI k.val + 1 ∧ nI k.val + 1 ≤ 3 := by decide +kernel
theorem rgA {x : Int32} (h : 0 ≤ x ∧ x ≤ 99) : 0 ≤ miI 99 (x + 1) ∧ miI 99 (x + 1) ≤ 99 := by
  obtain ⟨k, hk, rfl⟩ := rngI (M := 99) (by decide) h.1 h.2
  exact rg_99 ⟨k, hk⟩
theorem rgF {x y : Int32} (h : 0 ≤ x ∧ x ≤ 99) (h2 : 1 ≤ y ∧ y ≤ 9) : 0 ≤ miI 99 (x + y) ∧ miI 99 (x + y) ≤ 99 := by
  obtain ⟨k, hk, rfl⟩ := rngI (M := 99) (by decide) h.1 h.2
  obtain ⟨s, hs, rfl⟩ := rngI (M := 9) (by decide) (Int32.le_trans (by decide) h2.1) h2.2
  exact rg_fed ⟨k, hk⟩ ⟨s, hs⟩
theorem rgL {x : Int32} (h : 0 ≤ x ∧ x ≤ 99) : 0 ≤ maI 0 (x - 2) ∧ maI 0 (x - 2) ≤ 99 := by
  obtain ⟨k, hk, rfl⟩ := rngI (M := 99) (by decide) h.1 h.2
  exact rg_late ⟨k, hk⟩
theorem rgO {x : Int32} (h : 0 ≤ x ∧ x ≤ 5) : 0 ≤ maI 0 (x - 1) ∧ maI 0 (x - 1) ≤ 5 := by
  obtain ⟨k, hk, rfl⟩ := rngI (M := 5) (by decide) h.1 h.2
  exact rg_own ⟨k, hk⟩
theorem rgR {x : Int32} (h : 0 ≤ x ∧ x ≤ 3) (h3 : ¬ x = 3) : 0 ≤ x + 1 ∧ x + 1 ≤ 3 := by
  obtain ⟨k, hk, rfl⟩ := rngI (M := 3) (by decide) h.1 h.2
  exact rg_rep ⟨k, hk⟩ h3
theorem cG.lv (h : cG c) (h9 : c 1 = m 1 ∧ c 4 = m 4 ∧ c 3 = m 3 ∧ c 5 = m 5 ∧ c 0 = m 0 ∧ c 2 = m 2) : cG (lvC m) := by
  obtain ⟨g1, g2, g3, g4, g5, g6, g7, g8, g9, g10⟩ := h
  unfold cG lvC
  simp (decide := true) only [spU, if_true, if_false, ← h9.1, ← h9.2.1, ← h9.2.2.1, ← h9.2.2.2.1, ← h9.2.2.2.2.1, ← h9.2.2.2.2.2, true_and, true_or, g2, g3, g4, g7, g9, g10]
theorem cG.egg {o : Bool} (h : cG c) : cG (eggC o c) := by
  unfold eggC
  split
  · split
    · exact h.lv ⟨rfl, rfl, rfl, rfl, rfl, rfl⟩
    · obtain ⟨g1, g2, g3, g4, g5, g6, g7, g8, g9, g10⟩ := h
      rename_i h6 _
      have := rgA g6
      split
      · unfold cG
        simp (decide := true) only [spU, if_true, if_false, h6, true_and, true_or, false_or, or_true, g2, g3, g4, g5, g7, g8, g9, g10, this]
      · unfold cG
        simp (decide := true) only [spU, if_true, if_false, h6, true_and, true_or, false_or, or_true, g2, g3, g4, g5, g7, g8, g9, g10, this]
  · exact h
theorem cG.yng {y : Bool} (h : cG c) (hy : y = true → c 6 = 2) : cG (yngC y c) := by
  unfold yngC
  split
  · rename_i h0
    split
    · obtain ⟨g1, g2, g3, g4, g5, g6, g7, g8, g9, g10⟩ := h
      have := rgF g8 g7
      have h6 := hy h0
      unfold cG
      simp (decide := true) only [spU, if_true, if_false, h6, true_and, true_or, false_or, or_true, g2, g3, g4, g5, g6, g7, g8, g9, g10, this]
    · exact h.lv ⟨rfl, rfl, rfl, rfl, rfl, rfl⟩
  · exact h
theorem cG.not (h : cG c) : cG (notC c) := by
  obtain ⟨g1, g2, g3, g4, g5, g6, g7, g8, g9, g10⟩ := h
  unfold notC
  have : (if 0 ≤ c 4 then miI 99 (c 4 + 1) else -1) = -1 ∨ (0 ≤ (if 0 ≤ c 4 then miI 99 (c 4 + 1) else -1) ∧ (if 0 ≤ c 4 then miI 99 (c 4 + 1) else -1) ≤ 99) := by
    rcases g2 with q | q
    · rw [if_neg (by rw [q]; decide)]; exact Or.inl rfl
    · rw [if_pos q.1]; exact Or.inr (rgA q)
  generalize (if 0 ≤ c 4 then miI 99 (c 4 + 1) else -1) = w at this ⊢
  unfold cG
  simp (decide := true) only [spU, if_true, if_false, g1, g3, g4, g5, g6, g7, g8, g9, g10, this, and_true, and_self]
def f8 (f : PF) : Prop := ∀ e e' : Nat → Int32, (∀ i, i < 8 → e i = e' i) → f e = f e'
def ru8 (ru : Option PF) : Prop := match ru with
  | none => True
  | some f => f8 f
theorem abI_sym (x y : Int32) : abI (x - y) = abI (y - x) := by
  have key : ∀ d : Int32, abI (-d) = abI d := by
    intro d
    have hm : d.toInt = -2147483648 ∨ -2147483648 < d.toInt := by have := d.le_toInt; omega
    have hl := d.toInt_lt
    have e0 : (0 : Int32).toInt = 0 := by decide
    rcases hm with hm | hm
    · have : d = -2147483648 := by rw [← Int32.toInt_inj, hm]; decide
      subst this
      decide
    · have hn : (-d).toInt = -d.toInt := by
        rw [Int32.toInt_neg]
        exact Int.bmod_eq_of_le (by omega) (by omega)
      have z : (0 : Int32) - -d = d := by rw [Int32.sub_eq_add_neg, Int32.neg_neg, Int32.zero_add]
      have z2 : (0 : Int32) - d = -d := by rw [Int32.sub_eq_add_neg, Int32.zero_add]
      unfold abI
      simp only [Int32.le_iff_toInt_le, e0, hn, z, z2]
      by_cases h : 0 ≤ d.toInt
      · by_cases h2 : d.toInt = 0
        · have : d = 0 := by rw [← Int32.toInt_inj, h2]; decide
          subst this; decide
        · rw [if_neg (by omega), if_pos h]
      · rw [if_pos (by omega), if_neg h]
  rw [← key (y - x), Int32.neg_sub]
theorem Sim.rr (h : Sim N S a) (hj : j < N) (hr : r < 7) : S (8 * r + j) = a (8 * r + j) := by
  have := (h.1 j hj).1.1 r hr
  rwa [col_r (by omega), col_r (by omega)] at this
theorem Sim.g (h : Sim N S a) (hj : j < N) (h6 : S (48 + j) ≠ 0) (hr : r < 10) : S (8 * r + j) = a (8 * r + j) := by
  have := (h.1 j hj).1.2 (by rw [col6]; exact h6) r hr
  rwa [col_r (by omega), col_r (by omega)] at this
theorem Sim.r0 (h : Sim N S a) (hj : j < N) : S j = a j := by have := h.rr (r := 0) hj (by decide); rwa [Nat.mul_zero, Nat.zero_add] at this
theorem Sim.r1 (h : Sim N S a) (hj : j < N) : S (8 + j) = a (8 + j) := h.rr (r := 1) hj (by decide)
theorem Sim.r2 (h : Sim N S a) (hj : j < N) : S (16 + j) = a (16 + j) := h.rr (r := 2) hj (by decide)
theorem Sim.r3 (h : Sim N S a) (hj : j < N) : S (24 + j) = a (24 + j) := h.rr (r := 3) hj (by decide)
theorem Sim.r4 (h : Sim N S a) (hj : j < N) : S (32 + j) = a (32 + j) := h.rr (r := 4) hj (by decide)
theorem Sim.r5 (h : Sim N S a) (hj : j < N) : S (40 + j) = a (40 + j) := h.rr (r := 5) hj (by decide)
theorem Sim.r6 (h : Sim N S a) (hj : j < N) : S (48 + j) = a (48 + j) := h.rr (r := 6) hj (by decide)
theorem Sim.r7 (h : Sim N S a) (hj : j < N) (h6 : S (48 + j) ≠ 0) : S (56 + j) = a (56 + j) := h.g (r := 7) hj h6 (by decide)
theorem Sim.r8 (h : Sim N S a) (hj : j < N) (h6 : S (48 + j) ≠ 0) : S (64 + j) = a (64 + j) := h.g (r := 8) hj h6 (by decide)
theorem Sim.r9 (h : Sim N S a) (hj : j < N) (h6 : S (48 + j) ≠ 0) : S (72 + j) = a (72 + j) := h.g (r := 9) hj h6 (by decide)
theorem Sim.cg (h : Sim N S a) (hj : j < N) : cG (col S j) := (h.1 j hj).2
theorem Sim.gu (h : Sim N S a) (hj : j < N) : S (48 + j) = 0 ∨ S (48 + j) = 1 ∨ S (48 + j) = 2 := by
  have := (h.cg hj).1
  rw [col6] at this
  rcases this with ⟨q, _⟩ | q | q
  · exact Or.inl q
  · exact Or.inr (Or.inl q)
  · exact Or.inr (Or.inr q)
theorem Sim.gFM (h : Sim N S a) : orB (gF 1 S) N = orB (gM a) N := orB_congr fun j hj => by
  unfold gF gM
  rw [← h.r6 hj]
  rcases h.gu hj with q | q | q <;> rw [q] <;> decide
theorem Sim.gFY (h : Sim N S a) : orB (gF 2 S) N = orB (yM a) N := orB_congr fun j hj => by
  unfold gF yM
  rw [← h.r6 hj]
  rcases h.gu hj with q | q | q <;> rw [q] <;> decide
theorem Sim.nFM (h : Sim N S a) : orB (nF S) N = orB (nM a) N := orB_congr fun j hj => by
  have := (h.cg hj).no
  rw [col4] at this
  unfold nF nM
  rw [← h.r4 hj]
  by_cases q : S (32 + j) = -1
  · rw [q]; decide
  · rw [decide_eq_false q, decide_eq_true (by rw [this]; exact q)]; rfl
theorem oddM_c {co ag ow mn : Int32} (hf : ru8 ru) (h : Sim N S a) (hj : j < N) : (match ru with
  | none => 3 * abI (co - S (16 + j)) - maI 0 (S (32 + j)) - S j
  | some f => f (envA S j co ag ow mn)) = oddM ru a j co ag ow mn := by
  cases ru with
  | none =>
    show 3 * abI (co - S (16 + j)) - maI 0 (S (32 + j)) - S j = abI (a (16 + j) - co) * 3 - maI 0 (a (32 + j)) - a j
    rw [h.r2 hj, h.r4 hj, h.r0 hj, abI_sym, Int32.mul_comm]
  | some f =>
    refine hf _ _ fun i _ => ?_
    unfold envA
    rw [h.r2 hj, h.r4 hj, h.r0 hj, h.r1 hj, h.2.1]
theorem envS_A : envS N S j = envA S j (S (56 + j)) (S (64 + j)) (S (24 + j)) (bcI (orB (gF 1 S) N)) := by
  funext i
  unfold envS envA
  rw [abI_sym]
theorem odd_W (hf : ru8 ru) (h : Sim N S a) (hj : j < N) (h6 : S (48 + j) ≠ 0) : oddS N ru S j = oddW N ru a j := by
  have e := oddM_c (co := S (56 + j)) (ag := S (64 + j)) (ow := S (24 + j)) (mn := bcI (orB (gF 1 S) N)) hf h hj
  unfold oddW
  rw [← h.r7 hj h6, ← h.r8 hj h6, ← h.r3 hj, ← h.gFM, ← e]
  cases ru with
  | none => rfl
  | some f => show f _ = f _; rw [envS_A]
theorem out_W (hf : ru8 ru) (h : Sim N S a) (hj : j < N) : outB N ru S j = ouM N ru a j := by
  unfold outB ouM
  by_cases q : S (48 + j) = 1
  · rw [odd_W hf h hj (by rw [q]; decide), h.r6 hj]
  · rw [decide_eq_false q, ← h.r6 hj, decide_eq_false q, Bool.false_and, Bool.false_and]
theorem Sim.day (hf : ru8 ru) (h8 : N ≤ 8) (h : Sim N S a) : Sim N (dayC N ru S) (dayM N ru a) := by
  refine ⟨fun j hj => ?_, ?_, ?_, ?_⟩
  · rw [dayC_col h8 hj, dayM_col h8 hj]
    have hy : gF 2 S j = decide (2 ≤ col S j 6) := by unfold gF; rw [col6]
    have ho : outB N ru S j = true → col S j 6 = 1 := fun q => by
      unfold outB at q
      rw [Bool.and_eq_true, decide_eq_true_eq] at q
      rw [col6]; exact q.1
    rw [hy, ← out_W hf h hj]
    refine ⟨day_cSim (h.1 j hj).1 (h.cg hj) ho, ?_⟩
    refine ((h.cg hj).egg.yng fun q => ?_).not
    rw [decide_eq_true_eq, gF_2 (h.cg hj)] at q
    unfold eggC
    rw [if_neg (by rw [q]; decide)]
    exact q
  · rw [dayC_80 h8, dayM_80 h8, h.2.1]
  · rw [dayC_81 h8, dayM_81 h8, h.2.2.1]
    refine cnI_c fun j hj => ?_
    unfold gF
    rw [← h.r6 hj, ← h.r1 hj]
    rcases h.gu hj with q | q | q
    · rw [q]; rfl
    · rw [q]; rfl
    · rw [← h.r9 hj (by rw [q]; decide), q]
      by_cases w : miI 99 (S (72 + j) + S (8 + j)) < 30
      · rw [decide_eq_true w, decide_eq_false (Int32.not_le.mpr w)]; rfl
      · rw [decide_eq_false w, decide_eq_true (Int32.not_lt.mp w)]; rfl
  · rw [dayC_82 h8, dayM_82 h8, h.2.2.2]
    exact cnI_c fun j hj => out_W hf h hj
theorem Sim.days (hf : ru8 ru) (h8 : N ≤ 8) (h : Sim N S a) : ∀ n, Sim N (itS (dayC N ru) n S) (itS (dayM N ru) n a)
  | 0 => h
  | n + 1 => (Sim.days hf h8 h n).day hf h8
end SIM3
