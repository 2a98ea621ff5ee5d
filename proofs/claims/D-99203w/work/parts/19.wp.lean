/-! AM, part 10: more fuel does no harm; the weakest precondition of a run -/
set_option maxRecDepth 100000
section WPDEF
variable {d : Nat} {mi : am_MI} {pc len : Nat} {ls st : List Value} {μ μ' : am_M} {r : Option Value}
variable {k k' : Nat → List Value → List Value → am_M → am_Res} {call call2 call' call2' : am_MI → List Value → am_M → am_Res} {x : Option Value × am_M}
theorem am_jmp_mono {K K' : Nat → am_Res} {off : Int} (hk : ∀ q x, K q = some x → K' q = some x) (h : am_jmp K pc off = some x) : am_jmp K' pc off = some x := by
  unfold am_jmp at h ⊢
  obtain ⟨c, h⟩ := am_ifs h
  rw [if_pos c]
  exact hk _ _ h
theorem am_if_mono {c : Jvm.ClassFile.Cond} {a b : Int32} {A B A' B' : am_Res} (hA : A = some x → A' = some x) (hB : B = some x → B' = some x) (h : am_if c a b A B = some x) : am_if c a b A' B' = some x := by
  cases c <;> simp only [am_if] at h ⊢ <;> split at h <;> rename_i hc <;> first | (rw [if_pos hc]; first | exact hA h | exact hB h) | (rw [if_neg hc]; first | exact hA h | exact hB h)
theorem am_swK_mono {K K' : Int → am_Res} {a : Int32} {dflt : Int} (hk : ∀ q x, K q = some x → K' q = some x) : ∀ (os : List Int) (lo : Int), am_swK K a lo os dflt = some x → am_swK K' a lo os dflt = some x := by
  intro os
  induction os with
  | nil => intro lo h; exact hk _ _ h
  | cons o os ih =>
    intro lo h
    unfold am_swK at h ⊢
    split at h <;> rename_i hc
    · rw [if_pos hc]; exact hk _ _ h
    · rw [if_neg hc]; exact ih _ h
theorem am_lkK_mono {K K' : Int → am_Res} {a : Int32} {dflt : Int} (hk : ∀ q x, K q = some x → K' q = some x) : ∀ (os : List (Int × Int)), am_lkK K a os dflt = some x → am_lkK K' a os dflt = some x := by
  intro os
  induction os with
  | nil => intro h; exact hk _ _ h
  | cons o os ih =>
    obtain ⟨b, o⟩ := o
    intro h
    unfold am_lkK at h ⊢
    split at h <;> rename_i hc
    · rw [if_pos hc]; exact hk _ _ h
    · rw [if_neg hc]; exact ih h
theorem am_put_mono {ci kk q : Nat} (hk : ∀ q ls st μ x, k q ls st μ = some x → k' q ls st μ = some x) (h : am_put k q ls st μ ci kk = some x) : am_put k' q ls st μ ci kk = some x := by
  unfold am_put at h ⊢
  generalize am_fk ci kk = z at h ⊢
  split at h <;> first | (obtain ⟨c, h⟩ := am_ifs h; simp only [if_pos c]; exact hk _ _ _ _ _ h) | cases h
theorem am_kr_mono {q : Nat} {rest : List Value} {res res' : am_Res} (hk : ∀ q ls st μ x, k q ls st μ = some x → k' q ls st μ = some x) (hr : ∀ y, res = some y → res' = some y) (h : am_kr k q ls rest res = some x) : am_kr k' q ls rest res' = some x := by
  cases hres : res with
  | none => rw [hres] at h; cases h
  | some y =>
    rw [hr y hres]
    rw [hres] at h
    unfold am_kr at h ⊢
    split at h
    · cases h
    · rename_i v μ1 hv e
      cases e
      exact hk _ _ _ _ _ h
    · rename_i e
      cases e
      exact hk _ _ _ _ _ h
    · cases h
theorem am_kx_mono {q o : Nat} {rest : List Value} {res res' : am_Res} (hk : ∀ q ls st μ x, k q ls st μ = some x → k' q ls st μ = some x) (hr : ∀ y, res = some y → res' = some y) (h : am_kx k q ls rest o res = some x) : am_kx k' q ls rest o res' = some x := by
  cases hres : res with
  | none => rw [hres] at h; cases h
  | some y =>
    rw [hr y hres]
    rw [hres] at h
    unfold am_kx at h ⊢
    split at h <;> first | (rename_i e; cases e; exact hk _ _ _ _ _ h) | (rename_i e; cases e; obtain ⟨c, h⟩ := am_ifs h; simp only [if_pos c]; exact hk _ _ _ _ _ h) | cases h
theorem am_stp_mono {i : Instr} (hk : ∀ q ls st μ x, k q ls st μ = some x → k' q ls st μ = some x) (hc : ∀ m As μ x, call m As μ = some x → call' m As μ = some x) (hc2 : ∀ m As μ x, call2 m As μ = some x → call2' m As μ = some x) (h : am_stp k call call2 d mi pc len ls st μ i = some x) : am_stp k' call' call2' d mi pc len ls st μ i = some x := by
  have hj : ∀ {ls st μ off} {y : Option Value × am_M}, am_jmp (fun q => k q ls st μ) pc off = some y → am_jmp (fun q => k' q ls st μ) pc off = some y := fun {ls st μ off y} q => am_jmp_mono (fun a b e => hk _ _ _ _ _ e) q
  cases i <;> simp only [am_stp, am_ldI, am_ldL, am_ldA, am_toI, am_toA, am_toL, am_b2, am_u1, am_l2] at h ⊢
  all_goals first
    | exact hk _ _ _ _ _ h
    | exact h
    | exact hj h
    | (cases h; done)
    | (generalize am_KI _ _ = z at h ⊢; generalize am_KS _ _ = z2 at h ⊢)
    | (generalize am_KI _ _ = z at h ⊢)
    | (generalize am_KL _ _ = z at h ⊢)
    | (generalize am_FT _ _ = z at h ⊢)
    | (generalize am_CT _ _ = z at h ⊢)
    | (generalize am_AT _ = z at h ⊢)
    | (generalize am_NT _ _ = z at h ⊢)
    | (generalize am_ret _ = z at h ⊢)
    | (generalize hz : ls[_]? = z at h ⊢)
    | skip
  all_goals (repeat' split at h)
  all_goals first
    | exact hk _ _ _ _ _ h
    | exact h
    | exact hj h
    | (cases h; done)
    | (rename_i c; simp only [if_pos c]; first | exact hk _ _ _ _ _ h | exact h | exact am_if_mono (fun q => hj q) (fun q => hk _ _ _ _ _ q) h | exact am_kr_mono hk (fun y q => hc _ _ _ _ q) h | exact am_kx_mono hk (fun y q => hc2 _ _ _ _ q) h | exact am_swK_mono (fun a b e => hj e) _ _ h | exact am_lkK_mono (fun a b e => hj e) _ h)
    | (rename_i c; simp only [if_neg c]; first | exact hk _ _ _ _ _ h | exact h)
    | (rename_i c1 c2; simp only [if_pos c1, if_pos c2]; first | exact hk _ _ _ _ _ h | exact am_kr_mono hk (fun y q => hc _ _ _ _ q) h)
    | (rename_i c1 c2; simp only [if_pos c1, if_neg c2]; exact hk _ _ _ _ _ h)
    | (rename_i c1 c2; simp only [if_neg c1, if_pos c2]; first | exact hk _ _ _ _ _ h | exact am_put_mono hk h)
    | (rename_i c1 e1 c2; simp only [if_pos c1, if_pos c2]; first | exact hk _ _ _ _ _ h | exact am_kr_mono hk (fun y q => hc _ _ _ _ q) h)
    | (rename_i c1 e1 e2 e3 c2; simp only [if_pos c1, if_pos c2]; first | exact hk _ _ _ _ _ h | exact am_kr_mono hk (fun y q => hc _ _ _ _ q) h)
    | (rename_i c1 e1 e2 e3 e4 c2; simp only [if_pos c1, if_pos c2]; first | exact hk _ _ _ _ _ h | exact am_kr_mono hk (fun y q => hc _ _ _ _ q) h)
    | (rename_i c1 e1 e2 e3 e4 e5 c2; simp only [if_pos c1, if_pos c2]; first | exact hk _ _ _ _ _ h | exact am_kr_mono hk (fun y q => hc _ _ _ _ q) h)
    | (rename_i c1 e1 e2 e3 e4 e5 e6 c2; simp only [if_pos c1, if_pos c2]; first | exact hk _ _ _ _ _ h | exact am_kr_mono hk (fun y q => hc _ _ _ _ q) h)
    | skip
theorem am_run_succ : ∀ (f d : Nat) (mi : am_MI) (pc : Nat) (ls st : List Value) (μ : am_M) (x : Option Value × am_M), am_run f d mi pc ls st μ = some x → am_run (f + 1) d mi pc ls st μ = some x := by
  intro f
  induction f with
  | zero => intro d mi pc ls st μ x h; cases h
  | succ f ih =>
    intro d mi pc ls st μ x h
    unfold am_run at h ⊢
    generalize decode (am_code mi) pc = z at h ⊢
    split at h
    · rename_i i len
      obtain ⟨c, h⟩ := am_ifs h
      simp only [if_pos c]
      refine am_stp_mono (fun q ls st μ x e => ih _ _ _ _ _ _ _ e) ?_ ?_ h
      · intro m As μ x e
        cases d with
        | zero => cases e
        | succ d1 =>
          obtain ⟨c1, e⟩ := am_ifs e
          simp only [if_pos c1]
          exact ih _ _ _ _ _ _ _ e
      · intro m As μ x e
        match d, e with
        | 0, e => cases e
        | 1, e => cases e
        | d1 + 2, e =>
          obtain ⟨c1, e⟩ := am_ifs e
          simp only [if_pos c1]
          exact ih _ _ _ _ _ _ _ e
    · cases h
theorem am_run_le {f g : Nat} (hfg : f ≤ g) {x : Option Value × am_M} (h : am_run f d mi pc ls st μ = some x) : am_run g d mi pc ls st μ = some x := by
  induction hfg with
  | refl => exact h
  | step _ ih => exact am_run_succ _ _ _ _ _ _ _ _ ih
/-- there is a run to an end of which K holds -/
def am_Wp (d : Nat) (mi : am_MI) (pc : Nat) (ls st : List Value) (μ : am_M) (K : Option Value → am_M → Prop) : Prop := ∃ (f : Nat) (r : Option Value) (μ' : am_M), am_run f d mi pc ls st μ = some (r, μ') ∧ K r μ'
variable {K K2 : Option Value → am_M → Prop}
theorem am_Wp.mono (h : am_Wp d mi pc ls st μ K) (hk : ∀ r μ', K r μ' → K2 r μ') : am_Wp d mi pc ls st μ K2 := by
  obtain ⟨f, r, μ', h1, h2⟩ := h
  exact ⟨f, r, μ', h1, hk _ _ h2⟩
theorem am_run_i {f : Nat} {i : Instr} {n : Nat} (hd : decode (am_code mi) pc = .ok (i, n)) (hl : am_lnok i n = true) : am_run (f + 1) d mi pc ls st μ = am_stp (am_run f d mi) (fun mi' As μ1 => match d with
        | 0 => none
        | d' + 1 => if (am_exp As).length ≤ am_mL mi' then am_run f d' mi' 0 (am_ent (am_mL mi') As) [] μ1 else none)
        (fun mi' As μ1 => match d with
        | d' + 2 => if (am_exp As).length ≤ am_mL mi' then am_run f d' mi' 0 (am_ent (am_mL mi') As) [] μ1 else none
        | _ => none) d mi pc n ls st μ i := by
  conv => lhs; unfold am_run
  rw [hd]
  exact if_pos hl
/-- one step -/
theorem wp_step {i : Instr} {n pc1 : Nat} {ls1 st1 : List Value} {μ1 : am_M} (hd : decode (am_code mi) pc = .ok (i, n)) (hl : am_lnok i n = true) (hs : ∀ (k : Nat → List Value → List Value → am_M → am_Res) (call call2 : am_MI → List Value → am_M → am_Res), am_stp k call call2 d mi pc n ls st μ i = k pc1 ls1 st1 μ1) : am_Wp d mi pc ls st μ K ↔ am_Wp d mi pc1 ls1 st1 μ1 K := by
  constructor
  · rintro ⟨f, r, μ', h1, h2⟩
    cases f with
    | zero => cases h1
    | succ f =>
      rw [am_run_i hd hl, hs] at h1
      exact ⟨f, r, μ', h1, h2⟩
  · rintro ⟨f, r, μ', h1, h2⟩
    exact ⟨f + 1, r, μ', by rw [am_run_i hd hl, hs]; exact h1, h2⟩
theorem wp_stepc {i : Instr} {n pc1 : Nat} {ls1 st1 : List Value} {μ1 : am_M} {c : Prop} [Decidable c] (hd : decode (am_code mi) pc = .ok (i, n)) (hl : am_lnok i n = true) (hs : ∀ (k : Nat → List Value → List Value → am_M → am_Res) (call call2 : am_MI → List Value → am_M → am_Res), am_stp k call call2 d mi pc n ls st μ i = if c then k pc1 ls1 st1 μ1 else none) : am_Wp d mi pc ls st μ K ↔ c ∧ am_Wp d mi pc1 ls1 st1 μ1 K := by
  constructor
  · rintro ⟨f, r, μ', h1, h2⟩
    cases f with
    | zero => cases h1
    | succ f =>
      rw [am_run_i hd hl, hs] at h1
      obtain ⟨h3, h1⟩ := am_ifs h1
      exact ⟨h3, f, r, μ', h1, h2⟩
  · rintro ⟨h3, f, r, μ', h1, h2⟩
    exact ⟨f + 1, r, μ', by rw [am_run_i hd hl, hs, if_pos h3]; exact h1, h2⟩
theorem wp_stepn {i : Instr} {n pc1 : Nat} {ls1 st1 : List Value} {μ1 : am_M} {c : Prop} [Decidable c] (hd : decode (am_code mi) pc = .ok (i, n)) (hl : am_lnok i n = true) (hs : ∀ (k : Nat → List Value → List Value → am_M → am_Res) (call call2 : am_MI → List Value → am_M → am_Res), am_stp k call call2 d mi pc n ls st μ i = if c then none else k pc1 ls1 st1 μ1) : am_Wp d mi pc ls st μ K ↔ ¬ c ∧ am_Wp d mi pc1 ls1 st1 μ1 K := by
  constructor
  · rintro ⟨f, r, μ', h1, h2⟩
    cases f with
    | zero => cases h1
    | succ f =>
      rw [am_run_i hd hl, hs] at h1
      obtain ⟨h3, h1⟩ := am_ifn h1
      exact ⟨h3, f, r, μ', h1, h2⟩
  · rintro ⟨h3, f, r, μ', h1, h2⟩
    exact ⟨f + 1, r, μ', by rw [am_run_i hd hl, hs, if_neg h3]; exact h1, h2⟩
theorem wp_br {i : Instr} {n pcA pcB : Nat} {st1 : List Value} {c : Prop} [Decidable c] (hd : decode (am_code mi) pc = .ok (i, n)) (hl : am_lnok i n = true) (hs : ∀ (k : Nat → List Value → List Value → am_M → am_Res) (call call2 : am_MI → List Value → am_M → am_Res), am_stp k call call2 d mi pc n ls st μ i = if c then k pcA ls st1 μ else k pcB ls st1 μ) : am_Wp d mi pc ls st μ K ↔ if c then am_Wp d mi pcA ls st1 μ K else am_Wp d mi pcB ls st1 μ K := by
  have e : ∀ f, am_run (f + 1) d mi pc ls st μ = if c then am_run f d mi pcA ls st1 μ else am_run f d mi pcB ls st1 μ := fun f => by rw [am_run_i hd hl, hs]
  by_cases hc : c
  · rw [if_pos hc]
    constructor
    · rintro ⟨f, r, μ', h1, h2⟩
      cases f with
      | zero => cases h1
      | succ f => rw [e, if_pos hc] at h1; exact ⟨f, r, μ', h1, h2⟩
    · rintro ⟨f, r, μ', h1, h2⟩
      exact ⟨f + 1, r, μ', by rw [e, if_pos hc]; exact h1, h2⟩
  · rw [if_neg hc]
    constructor
    · rintro ⟨f, r, μ', h1, h2⟩
      cases f with
      | zero => cases h1
      | succ f => rw [e, if_neg hc] at h1; exact ⟨f, r, μ', h1, h2⟩
    · rintro ⟨f, r, μ', h1, h2⟩
      exact ⟨f + 1, r, μ', by rw [e, if_neg hc]; exact h1, h2⟩
theorem wp_ret {i : Instr} {n : Nat} {r0 : Option Value} (hd : decode (am_code mi) pc = .ok (i, n)) (hl : am_lnok i n = true) (hs : ∀ (k : Nat → List Value → List Value → am_M → am_Res) (call call2 : am_MI → List Value → am_M → am_Res), am_stp k call call2 d mi pc n ls st μ i = some (r0, μ)) : am_Wp d mi pc ls st μ K ↔ K r0 μ := by
  constructor
  · rintro ⟨f, r, μ', h1, h2⟩
    cases f with
    | zero => cases h1
    | succ f =>
      rw [am_run_i hd hl, hs] at h1
      cases h1
      exact h2
  · intro h
    exact ⟨1, r0, μ, by rw [am_run_i hd hl, hs], h⟩
theorem wp_retc {i : Instr} {n : Nat} {r0 : Option Value} {c : Prop} [Decidable c] (hd : decode (am_code mi) pc = .ok (i, n)) (hl : am_lnok i n = true) (hs : ∀ (k : Nat → List Value → List Value → am_M → am_Res) (call call2 : am_MI → List Value → am_M → am_Res), am_stp k call call2 d mi pc n ls st μ i = if c then some (r0, μ) else none) : am_Wp d mi pc ls st μ K ↔ c ∧ K r0 μ := by
  constructor
  · rintro ⟨f, r, μ', h1, h2⟩
    cases f with
    | zero => cases h1
    | succ f =>
      rw [am_run_i hd hl, hs] at h1
      obtain ⟨h3, h1⟩ := am_ifs h1
      cases h1
      exact ⟨h3, h2⟩
  · rintro ⟨h3, h⟩
    exact ⟨1, r0, μ, by rw [am_run_i hd hl, hs, if_pos h3], h⟩
/-- not a throw -/
def am_nr (r : Option Value) : Prop := match r with
  | some (.retAddr _) => False
  | _ => True
theorem am_kr_get {k : Nat → List Value → List Value → am_M → am_Res} {q : Nat} {rest : List Value} {r1 : Option Value} {μ1 : am_M} (h : am_nr r1) : am_kr k q ls rest (some (r1, μ1)) = k q ls (r1.toList ++ rest) μ1 := by
  cases r1 with
  | none => rfl
  | some v => cases v <;> first | rfl | exact h.elim
theorem wp_call {i : Instr} {n pc1 : Nat} {As rest : List Value} {mi1 : am_MI} {c : Prop} [Decidable c] (hd : decode (am_code mi) pc = .ok (i, n)) (hl : am_lnok i n = true) (hs : ∀ (k : Nat → List Value → List Value → am_M → am_Res) (call call2 : am_MI → List Value → am_M → am_Res), am_stp k call call2 d mi pc n ls st μ i = if c then am_kr k pc1 ls rest (call mi1 As μ) else none) (hlen : (am_exp As).length ≤ am_mL mi1) :
    am_Wp d mi pc ls st μ K ↔ c ∧ 0 < d ∧ am_Wp (d - 1) mi1 0 (am_ent (am_mL mi1) As) [] μ (fun r1 μ1 => am_nr r1 ∧ am_Wp d mi pc1 ls (r1.toList ++ rest) μ1 K) := by
  constructor
  · rintro ⟨f, r, μ', h1, h2⟩
    cases f with
    | zero => cases h1
    | succ f =>
      rw [am_run_i hd hl, hs] at h1
      obtain ⟨h3, h1⟩ := am_ifs h1
      obtain ⟨r1, μ1, g1, g2, g3⟩ := am_kr_spec h1
      cases d with
      | zero => cases g1
      | succ d1 =>
        simp only [if_pos hlen] at g1
        refine ⟨h3, Nat.succ_pos _, f, r1, μ1, g1, ?_, f, r, μ', g3, h2⟩
        unfold am_nr
        split
        · rename_i z; exact g2 z rfl
        · trivial
  · rintro ⟨h3, h0, f1, r1, μ1, g1, g2, f2, r, μ', g3, g4⟩
    cases d with
    | zero => cases h0
    | succ d1 =>
      refine ⟨f1 + f2 + 1, r, μ', ?_, g4⟩
      rw [am_run_i hd hl, hs, if_pos h3]
      simp only [if_pos hlen]
      rw [show d1 + 1 - 1 = d1 from rfl] at g1
      rw [am_run_le (Nat.le_add_right f1 f2) g1, am_kr_get g2]
      exact am_run_le (Nat.le_add_left f2 f1) g3
/-- a call of one of the three methods that may throw, through the law's catching ones -/
theorem wp_callx {i : Instr} {n pc1 o : Nat} {As rest : List Value} {mi1 : am_MI} {c : Prop} [Decidable c] (hd : decode (am_code mi) pc = .ok (i, n)) (hl : am_lnok i n = true) (hs : ∀ (k : Nat → List Value → List Value → am_M → am_Res) (call call2 : am_MI → List Value → am_M → am_Res), am_stp k call call2 d mi pc n ls st μ i = if c then am_kx k pc1 ls rest o (call2 mi1 As μ) else none) (hlen : (am_exp As).length ≤ am_mL mi1) (h1 : c) (h0 : 2 ≤ d)
    (hw : am_Wp (d - 2) mi1 0 (am_ent (am_mL mi1) As) [] μ (fun r1 μ1 => (∃ v, r1 = some (.retAddr v) ∧ am_Wp d mi pc1 ls (.int 1 :: rest) μ1 K) ∨ (∃ v : Int32, r1 = some (.int v) ∧ ((am_k μ1 o).1 = 12 ∧ 1 ≤ (am_k μ1 o).2) ∧ am_Wp d mi pc1 ls (.int 0 :: rest) (am_sL μ1 o 0 v.toInt64) K) ∨ (∃ v : Int64, r1 = some (.long v) ∧ ((am_k μ1 o).1 = 12 ∧ 1 ≤ (am_k μ1 o).2) ∧ am_Wp d mi pc1 ls (.int 0 :: rest) (am_sL μ1 o 0 v) K))) : am_Wp d mi pc ls st μ K := by
  obtain ⟨f1, r1, μ1, g1, g2⟩ := hw
  match d, h0 with
  | d1 + 2, _ =>
    rw [show d1 + 2 - 2 = d1 from rfl] at g1
    rcases g2 with ⟨v, rfl, f2, r, μ', g3, g4⟩ | ⟨v, rfl, hk, f2, r, μ', g3, g4⟩ | ⟨v, rfl, hk, f2, r, μ', g3, g4⟩
    all_goals
      refine ⟨f1 + f2 + 1, r, μ', ?_, g4⟩
      rw [am_run_i hd hl, hs, if_pos h1]
      simp only [if_pos hlen]
      rw [am_run_le (Nat.le_add_right f1 f2) g1]
      unfold am_kx
      first
        | exact am_run_le (Nat.le_add_left f2 f1) g3
        | (simp only [if_pos hk]; exact am_run_le (Nat.le_add_left f2 f1) g3)
theorem am_jmp_eq {K : Nat → am_Res} {off : Int} {tgt : Nat} (h : (pc : Int) + off = (tgt : Int)) : am_jmp K pc off = K tgt := by
  unfold am_jmp
  rw [if_pos (by omega)]
  congr 1
  omega
end WPDEF
