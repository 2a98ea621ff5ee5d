/-! AM, part 8: a run of the abstract machine is sound -/
set_option maxRecDepth 100000
section SOUND
variable {l : Launch} {D : va_G} {z0 L : Nat} {xs : Nat → Int32} {adS : Nat → Nat} {d : Nat} {mi : am_MI} {pc len : Nat} {ls st : List Value} {μ μ' : am_M} {r : Option Value}
theorem am_jmp_spec {K : Nat → am_Res} {off : Int} {x : Option Value × am_M} (h : am_jmp K pc off = some x) : ∃ tgt : Nat, (pc : Int) + off = (tgt : Int) ∧ K tgt = some x := by
  unfold am_jmp at h
  split at h
  · rename_i q
    exact ⟨_, (Int.toNat_of_nonneg q).symm, h⟩
  · cases h
theorem am_ifs {c : Prop} [Decidable c] {α : Type} {x : Option α} {y : α} (h : (if c then x else none) = some y) : c ∧ x = some y := by
  split at h
  · exact ⟨by assumption, h⟩
  · cases h
theorem am_ifn {c : Prop} [Decidable c] {α : Type} {x : Option α} {y : α} (h : (if c then none else x) = some y) : ¬ c ∧ x = some y := by
  split at h
  · cases h
  · exact ⟨by assumption, h⟩
theorem am_len1 {i : Instr} {n : Nat} (h : am_lnok i len = true) (hn : am_ln i = n) (h1 : ∀ a b c d, i ≠ .tableswitch a b c d) (h2 : ∀ a b, i ≠ .lookupswitch a b) : len = n := by
  unfold am_lnok at h
  split at h
  · exact absurd rfl (h1 _ _ _ _)
  · exact absurd rfl (h2 _ _)
  · rw [← hn]
    exact eq_of_beq h
theorem am_kr_spec {k : Nat → List Value → List Value → am_M → am_Res} {q : Nat} {rest : List Value} {res : am_Res} {x : Option Value × am_M} (h : am_kr k q ls rest res = some x) : ∃ (r1 : Option Value) (μ1 : am_M), res = some (r1, μ1) ∧ (∀ z, r1 ≠ some (.retAddr z)) ∧ k q ls (r1.toList ++ rest) μ1 = some x := by
  unfold am_kr at h
  split at h
  · cases h
  · rename_i v μ1 hv
    exact ⟨some v, μ1, rfl, (fun z e => hv z (Option.some.inj e)), h⟩
  · rename_i μ1
    exact ⟨none, μ1, rfl, (fun z e => by cases e), h⟩
  · cases h
variable {k : Nat → List Value → List Value → am_M → am_Res} {call call2 : am_MI → List Value → am_M → am_Res}

theorem am_if_sound {c : Jvm.ClassFile.Cond} {x : Int32} {off : Int} (hd : decode (am_code mi) pc = .ok (.ifCond c off, 3)) (hk : ∀ pc1 r μ', k pc1 ls st μ = some (r, μ') → am_Sem l D z0 L xs adS d mi pc1 ls st μ r μ') (h : am_if c x 0 (am_jmp (fun q => k q ls st μ) pc off) (k (pc + 3) ls st μ) = some (r, μ')) (h9 : ∃ tgt : Nat, (pc : Int) + off = (tgt : Int)) : am_Sem l D z0 L xs adS d mi pc ls (.int x :: st) μ r μ' := by
  have J : ∀ {P : Prop}, am_jmp (fun q => k q ls st μ) pc off = some (r, μ') → (∀ tgt : Nat, (pc : Int) + off = (tgt : Int) → am_Sem l D z0 L xs adS d mi tgt ls st μ r μ' → P) → P := by
    intro P hj hp
    obtain ⟨tgt, h1, h2⟩ := am_jmp_spec hj
    exact hp tgt h1 (hk _ _ _ h2)
  obtain ⟨t9, h9⟩ := h9
  cases c <;> simp only [am_if] at h <;> split at h <;> rename_i hc
  · exact J h (fun tgt ht hs => sm_if_eq_t ht hc hd hs)
  · exact sm_if_eq_f h9 hc hd (hk _ _ _ h)
  · exact sm_if_ne_f h9 (fun q => q hc) hd (hk _ _ _ h)
  · exact J h (fun tgt ht hs => sm_if_ne_t ht hc hd hs)
  · exact J h (fun tgt ht hs => sm_if_lt_t ht hc hd hs)
  · exact sm_if_lt_f h9 hc hd (hk _ _ _ h)
  · exact J h (fun tgt ht hs => sm_if_ge_t ht hc hd hs)
  · exact sm_if_ge_f h9 hc hd (hk _ _ _ h)
  · exact J h (fun tgt ht hs => sm_if_gt_t ht hc hd hs)
  · exact sm_if_gt_f h9 hc hd (hk _ _ _ h)
  · exact J h (fun tgt ht hs => sm_if_le_t ht hc hd hs)
  · exact sm_if_le_f h9 hc hd (hk _ _ _ h)
theorem am_icmp_sound {c : Jvm.ClassFile.Cond} {x y : Int32} {off : Int} (hd : decode (am_code mi) pc = .ok (.if_icmp c off, 3)) (hk : ∀ pc1 r μ', k pc1 ls st μ = some (r, μ') → am_Sem l D z0 L xs adS d mi pc1 ls st μ r μ') (h : am_if c x y (am_jmp (fun q => k q ls st μ) pc off) (k (pc + 3) ls st μ) = some (r, μ')) (h9 : ∃ tgt : Nat, (pc : Int) + off = (tgt : Int)) : am_Sem l D z0 L xs adS d mi pc ls (.int y :: .int x :: st) μ r μ' := by
  have J : ∀ {P : Prop}, am_jmp (fun q => k q ls st μ) pc off = some (r, μ') → (∀ tgt : Nat, (pc : Int) + off = (tgt : Int) → am_Sem l D z0 L xs adS d mi tgt ls st μ r μ' → P) → P := by
    intro P hj hp
    obtain ⟨tgt, h1, h2⟩ := am_jmp_spec hj
    exact hp tgt h1 (hk _ _ _ h2)
  obtain ⟨t9, h9⟩ := h9
  cases c <;> simp only [am_if] at h <;> split at h <;> rename_i hc
  · exact J h (fun tgt ht hs => sm_icmp_eq_t ht hc hd hs)
  · exact sm_icmp_eq_f h9 hc hd (hk _ _ _ h)
  · exact sm_icmp_ne_f h9 (fun q => q hc) hd (hk _ _ _ h)
  · exact J h (fun tgt ht hs => sm_icmp_ne_t ht hc hd hs)
  · exact J h (fun tgt ht hs => sm_icmp_lt_t ht hc hd hs)
  · exact sm_icmp_lt_f h9 hc hd (hk _ _ _ h)
  · exact J h (fun tgt ht hs => sm_icmp_ge_t ht hc hd hs)
  · exact sm_icmp_ge_f h9 hc hd (hk _ _ _ h)
  · exact J h (fun tgt ht hs => sm_icmp_gt_t ht hc hd hs)
  · exact sm_icmp_gt_f h9 hc hd (hk _ _ _ h)
  · exact J h (fun tgt ht hs => sm_icmp_le_t ht hc hd hs)
  · exact sm_icmp_le_f h9 hc hd (hk _ _ _ h)
theorem am_put_sound {idx acc ci kk : Nat} (hf : am_FT (am_own mi) idx = some (acc, ci, kk)) (ha : acc = 0 ∨ acc = 4 ∨ (acc = 2 ∧ am_flg mi = 1)) (hd : decode (am_code mi) pc = .ok (.putfield idx, 3)) (hk : ∀ pc1 ls1 st1 μ1 r μ', k pc1 ls1 st1 μ1 = some (r, μ') → am_Sem l D z0 L xs adS d mi pc1 ls1 st1 μ1 r μ') (h : am_put k (pc + 3) ls st μ ci kk = some (r, μ')) : am_Sem l D z0 L xs adS d mi pc ls st μ r μ' := by
  obtain ⟨hci, hk1, h4, hw, htw⟩ := am_FT_WOK hf ha
  unfold am_put at h
  split at h
  · rename_i x h1 st1 e1
    obtain ⟨c1, h⟩ := am_ifs h
    exact sm_putI hf ha (by omega) (fun ty ht => by rw [e1] at ht; rw [am_tk0_0 ht]; exact ⟨rfl, rfl⟩) c1 hd (hk _ _ _ _ _ _ h)
  · rename_i x h1 st1 e1
    obtain ⟨⟨c1, c2, c3⟩, h⟩ := am_ifs h
    exact sm_putI hf ha (by omega) (fun ty ht => by rw [e1] at ht; rw [am_tk0_1 ht]; exact ⟨c2, c3⟩) c1 hd (hk _ _ _ _ _ _ h)
  · rename_i x h1 st1 e1
    obtain ⟨⟨c1, c2, c3⟩, h⟩ := am_ifs h
    exact sm_putI hf ha (by omega) (fun ty ht => by rw [e1] at ht; rw [am_tk0_2 ht]; exact ⟨c2, c3⟩) c1 hd (hk _ _ _ _ _ _ h)
  · rename_i v h1 st1 e1
    obtain ⟨⟨c1, c2⟩, h⟩ := am_ifs h
    exact sm_putR hf ha e1 c2 c1 hd (hk _ _ _ _ _ _ h)
  · rename_i h1 st1 e1
    obtain ⟨⟨c1, c2⟩, h⟩ := am_ifs h
    refine sm_putN hf ha e1 ?_ c1 hd (hk _ _ _ _ _ _ h)
    unfold am_tw
    rw [decide_eq_false (by omega)]
    rfl
  · cases h
end SOUND
