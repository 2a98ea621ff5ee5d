/-! AM, part 9: soundness -/
set_option maxRecDepth 100000
section SOUND2
variable {l : Launch} {D : va_G} {z0 L : Nat} {xs : Nat → Int32} {adS : Nat → Nat} {d : Nat} {mi : am_MI} {pc len : Nat} {ls st : List Value} {μ μ' : am_M} {r : Option Value}
variable {k : Nat → List Value → List Value → am_M → am_Res} {call call2 : am_MI → List Value → am_M → am_Res}
theorem sm_prim {idx tag n d2 : Nat} {mi1 : am_MI} {r1 : Option Value} {μ1 : am_M} {o x p q : Nat} {As rest : List Value} (hdd : d = d2 + 2) (h14 : 14 ≤ d) (ht : am_CT (am_own mi) idx = some (8, tag, n, mi1)) (hcat : am_cat rest ≤ 8) (hx : (am_k μ x).1 = 0) (hlen : (am_exp As).length ≤ am_mL mi1)
    (hst : (tag = 2 ∧ ∃ p : Int32, st = .ref o :: .int p :: .ref x :: rest ∧ As = [.ref x, .int p]) ∨ (tag ≠ 2 ∧ ∃ p q : Int32, st = .ref o :: .int q :: .int p :: .ref x :: rest ∧ As = [.ref x, .int p, .int q]))
    (S1 : am_Sem l D z0 L xs adS d2 mi1 0 (am_ent (am_mL mi1) As) [] μ r1 μ1) (hd : decode (am_code mi) pc = .ok (.invokestatic idx, 3))
    (hk : ∀ pc1 ls1 st1 μ1 r μ', k pc1 ls1 st1 μ1 = some (r, μ') → am_Sem l D z0 L xs adS d mi pc1 ls1 st1 μ1 r μ') (h : am_kx k (pc + 3) ls rest o (some (r1, μ1)) = some (r, μ')) : am_Sem l D z0 L xs adS d mi pc ls st μ r μ' := by
  sorry
theorem am_stS_sound {idx : Nat} (hd : decode (am_code mi) pc = .ok (.invokestatic idx, 3)) (hk : ∀ pc1 ls1 st1 μ1 r μ', k pc1 ls1 st1 μ1 = some (r, μ') → am_Sem l D z0 L xs adS d mi pc1 ls1 st1 μ1 r μ')
    (hcall : ∀ mi1 As μ1 r μ', am_GM mi1 → call mi1 As μ1 = some (r, μ') → ∃ d1, d = d1 + 1 ∧ (am_exp As).length ≤ am_mL mi1 ∧ am_Sem l D z0 L xs adS d1 mi1 0 (am_ent (am_mL mi1) As) [] μ1 r μ')
    (hcall2 : ∀ mi1 As μ1 r μ', am_GM mi1 → call2 mi1 As μ1 = some (r, μ') → ∃ d1, d = d1 + 2 ∧ (am_exp As).length ≤ am_mL mi1 ∧ am_Sem l D z0 L xs adS d1 mi1 0 (am_ent (am_mL mi1) As) [] μ1 r μ')
    (h : am_stp k call call2 d mi pc 3 ls st μ (.invokestatic idx) = some (r, μ')) : am_Sem l D z0 L xs adS d mi pc ls st μ r μ' := by
  have kx : ∀ {q : Nat} {rest : List Value} {o : Nat} {res : am_Res} {y : Option Value × am_M}, am_kx k q ls rest o res = some y → ∃ r1 μ1, res = some (r1, μ1) := by
    intro q rest o res y h
    cases res with
    | none => cases h
    | some x => exact ⟨x.1, x.2, rfl⟩
  simp only [am_stp] at h
  cases hct : am_CT (am_own mi) idx with
  | none => rw [hct] at h; cases h
  | some e =>
    obtain ⟨kind, tag, n, mi1⟩ := e
    have hok := am_CT_ok hct
    rw [hct] at h
    split at h
    · rename_i tg n1 mi2 e1
      cases e1
      split at h
      · rename_i As rest e2
        obtain ⟨c1, h⟩ := am_ifs h
        obtain ⟨r1, μ1, h1, h2, h3⟩ := am_kr_spec h
        obtain ⟨B, b1, b2, b3⟩ := am_tk_spec _ _ _ _ _ e2
        rw [List.append_nil] at b1
        subst b1
        rcases hok with q | q | q | q | q | q | q | q | q | q <;> first | exact absurd q.1 (by decide) | skip
        obtain ⟨-, q1, q2, q3⟩ := q
        obtain ⟨d1, g1, g2, g3⟩ := hcall _ _ _ _ _ q1 h1
        exact sm_callS g1 q1 q2 q3 b3 b2 c1 g2 hd g3 h2 (hk _ _ _ _ _ _ h3)
      · cases h
    · rename_i e1
      cases e1
      split at h
      · obtain ⟨⟨c1, c2, c3, c4, c5, c6, c7, c8, c9⟩, h⟩ := am_ifs h
        rcases hok with q | q | q | q | q | q | q | q | q | q <;> first | exact absurd q.1 (by decide) | skip
        exact sm_copy q.2 c1 c2 c3 c4 c5 c6 c7 c8 c9 hd (hk _ _ _ _ _ _ h)
      · cases h
    · rename_i n1 mi2 e1
      cases e1
      split at h
      · obtain ⟨⟨c1, c2, c3⟩, h⟩ := am_ifs h
        obtain ⟨r1, μ1, e2⟩ := kx h
        rw [e2] at h
        rcases hok with q | q | q | q | q | q | q | q | q | q <;> first | exact absurd q.1 (by decide) | skip
        obtain ⟨d1, g1, g2, g3⟩ := hcall2 _ _ _ _ _ q.2.2.1 e2
        exact sm_prim (p := 0) (q := 0) g1 c2 hct c1 c3 g2 (Or.inl ⟨rfl, _, rfl, rfl⟩) g3 hd hk h
      · cases h
    · rename_i tg n1 mi2 hne e1
      cases e1
      split at h
      · obtain ⟨⟨c1, c2, c3⟩, h⟩ := am_ifs h
        obtain ⟨r1, μ1, e2⟩ := kx h
        rw [e2] at h
        rcases hok with q | q | q | q | q | q | q | q | q | q <;> first | exact absurd q.1 (by decide) | skip
        obtain ⟨d1, g1, g2, g3⟩ := hcall2 _ _ _ _ _ q.2.2.1 e2
        exact sm_prim (p := 0) (q := 0) g1 c2 hct c1 c3 g2 (Or.inr ⟨fun z => hne z, _, _, rfl, rfl⟩) g3 hd hk h
      · cases h
    · rename_i n1 mi2 e1
      cases e1
      split at h
      · obtain ⟨⟨c1, c2⟩, h⟩ := am_ifs h
        rcases hok with q | q | q | q | q | q | q | q | q | q <;> first | exact absurd q.1 (by decide) | skip
        rcases q.2 with z | z | z <;> first | exact absurd z.1 (by decide) | skip
        exact sm_max z.2 c1 c2 hd (hk _ _ _ _ _ _ h)
      · cases h
    · rename_i n1 mi2 e1
      cases e1
      split at h
      · obtain ⟨⟨c1, c2⟩, h⟩ := am_ifs h
        rcases hok with q | q | q | q | q | q | q | q | q | q <;> first | exact absurd q.1 (by decide) | skip
        rcases q.2 with z | z | z <;> first | exact absurd z.1 (by decide) | skip
        exact sm_min z.2 c1 c2 hd (hk _ _ _ _ _ _ h)
      · cases h
    · rename_i tg n1 mi2 hne0 hne1 e1
      cases e1
      split at h
      · obtain ⟨⟨c1, c2⟩, h⟩ := am_ifs h
        rcases hok with q | q | q | q | q | q | q | q | q | q <;> first | exact absurd q.1 (by decide) | skip
        rcases q.2 with z | z | z
        · exact absurd z.1 (fun w => hne0 w)
        · exact absurd z.1 (fun w => hne1 w)
        · exact sm_abs z.2 c1 c2 hd (hk _ _ _ _ _ _ h)
      · cases h
    · cases h
theorem am_stV_sound {idx : Nat} (hd : decode (am_code mi) pc = .ok (.invokevirtual idx, 3)) (hk : ∀ pc1 ls1 st1 μ1 r μ', k pc1 ls1 st1 μ1 = some (r, μ') → am_Sem l D z0 L xs adS d mi pc1 ls1 st1 μ1 r μ')
    (hcall : ∀ mi1 As μ1 r μ', am_GM mi1 → call mi1 As μ1 = some (r, μ') → ∃ d1, d = d1 + 1 ∧ (am_exp As).length ≤ am_mL mi1 ∧ am_Sem l D z0 L xs adS d1 mi1 0 (am_ent (am_mL mi1) As) [] μ1 r μ')
    (h : am_stp k call call2 d mi pc 3 ls st μ (.invokevirtual idx) = some (r, μ')) : am_Sem l D z0 L xs adS d mi pc ls st μ r μ' := by
  simp only [am_stp] at h
  cases hct : am_CT (am_own mi) idx with
  | none => rw [hct] at h; cases h
  | some e =>
    obtain ⟨kind, tag, n, mi1⟩ := e
    have hok := am_CT_ok hct
    rw [hct] at h
    split at h
    · rename_i e1
      cases e1
      split at h
      · rename_i b rest
        obtain ⟨⟨c1, c2, c3⟩, h⟩ := am_ifs h
        obtain ⟨r1, μ1, h1, h2, h3⟩ := am_kr_spec h
        rcases hok with q | q | q | q | q | q | q | q | q | q <;> first | exact absurd q.1 (by decide) | skip
        obtain ⟨q1, q2⟩ := q.2.2 _ c2 c3
        obtain ⟨d1, g1, g2, g3⟩ := hcall _ _ _ _ _ q1 h1
        exact sm_callA g1 q1 c3 q2 rfl rfl c1 g2 hd g3 h2 (hk _ _ _ _ _ _ h3)
      · cases h
    · rename_i kd tg n1 mi2 hne e1
      cases e1
      obtain ⟨c0, h⟩ := am_ifs h
      split at h
      · rename_i As b rest e2
        obtain ⟨⟨c1, c2⟩, h⟩ := am_ifs h
        obtain ⟨r1, μ1, h1, h2, h3⟩ := am_kr_spec h
        obtain ⟨B, b1, b2, b3⟩ := am_tk_spec _ _ _ _ _ e2
        rw [List.append_nil] at b1
        subst b1
        rcases hok with q | q | q | q | q | q | q | q | q | q <;> first | (exact absurd q.1 (by omega)) | skip
        · obtain ⟨-, q1, q2, q3, q4⟩ := q
          obtain ⟨d1, g1, g2, g3⟩ := hcall _ _ _ _ _ q1 h1
          exact sm_callV g1 q1 q2 q3 q4 b3 c2 b2 c1 g2 hd g3 h2 (hk _ _ _ _ _ _ h3)
        · obtain ⟨-, q1, q2, q3, q4, q5, q6, q7, q8, q9⟩ := q
          obtain ⟨d1, g1, g2, g3⟩ := hcall _ _ _ _ _ q1 h1
          exact sm_callVN g1 q1 q2 q3 q4 q5 q6 q7 q8 q9 b3 c2 b2 c1 g2 hd g3 h2 (hk _ _ _ _ _ _ h3)
      · cases h
    · cases h
theorem am_stI_sound {idx : Nat} (hd : decode (am_code mi) pc = .ok (.invokespecial idx, 3)) (hk : ∀ pc1 ls1 st1 μ1 r μ', k pc1 ls1 st1 μ1 = some (r, μ') → am_Sem l D z0 L xs adS d mi pc1 ls1 st1 μ1 r μ')
    (hcall : ∀ mi1 As μ1 r μ', am_GM mi1 → call mi1 As μ1 = some (r, μ') → ∃ d1, d = d1 + 1 ∧ (am_exp As).length ≤ am_mL mi1 ∧ am_Sem l D z0 L xs adS d1 mi1 0 (am_ent (am_mL mi1) As) [] μ1 r μ')
    (h : am_stp k call call2 d mi pc 3 ls st μ (.invokespecial idx) = some (r, μ')) : am_Sem l D z0 L xs adS d mi pc ls st μ r μ' := by
  simp only [am_stp] at h
  cases hct : am_CT (am_own mi) idx with
  | none => rw [hct] at h; cases h
  | some e =>
    obtain ⟨kind, tag, n, mi1⟩ := e
    have hok := am_CT_ok hct
    rw [hct] at h
    split at h
    · rename_i e1
      cases e1
      split at h
      · obtain ⟨⟨c1, c2⟩, h⟩ := am_ifs h
        rcases hok with q | q | q | q | q | q | q | q | q | q <;> first | exact absurd q.1 (by decide) | skip
        exact sm_obj q.2 c1 c2 hd (hk _ _ _ _ _ _ h)
      · cases h
    · rename_i kd tg n1 mi2 hne e1
      cases e1
      obtain ⟨c0, h⟩ := am_ifs h
      split at h
      · rename_i As b rest e2
        obtain ⟨c1, h⟩ := am_ifs h
        obtain ⟨r1, μ1, h1, h2, h3⟩ := am_kr_spec h
        obtain ⟨B, b1, b2, b3⟩ := am_tk_spec _ _ _ _ _ e2
        rw [List.append_nil] at b1
        subst b1
        rcases hok with q | q | q | q | q | q | q | q | q | q <;> first | (exact absurd q.1 (by omega)) | skip
        · obtain ⟨-, q1, q2, q3, q4, q5, q6, q7, q8⟩ := q
          obtain ⟨d1, g1, g2, g3⟩ := hcall _ _ _ _ _ q1 h1
          exact sm_callI g1 q1 q2 q3 q4 q5 q6 q7 q8 b3 b2 c1 g2 hd g3 h2 (hk _ _ _ _ _ _ h3)
        · obtain ⟨-, q1, q2, q3, q4, q5, q6, q7, q8⟩ := q
          obtain ⟨d1, g1, g2, g3⟩ := hcall _ _ _ _ _ q1 h1
          exact sm_callIN g1 q1 q2 q3 q4 q5 q6 q7 q8 b3 b2 c1 g2 hd g3 h2 (hk _ _ _ _ _ _ h3)
      · cases h
    · cases h
/-- new NoSuchElementException(), thrown -/
theorem sm_thr (hown : am_own mi = 1) (h12 : 12 ≤ d) (hcat : am_cat st ≤ 8) (h0 : decode (am_code mi) pc = .ok (.new 279, 3)) (h3 : decode (am_code mi) (pc + 3) = .ok (.dup, 1)) (h4 : decode (am_code mi) (pc + 4) = .ok (.invokespecial 281, 3)) (h7 : decode (am_code mi) (pc + 7) = .ok (.athrow, 1)) : am_Sem l D z0 L xs adS d mi pc ls st μ (some (.retAddr 1)) (am_bump μ) := by
  refine ⟨⟨Nat.le_succ _, Nat.le_add_right _ 6, Nat.le_refl _⟩, fun R p e s m args below meth c H locs cells slots Q ρ Ch lsA X F => ?_⟩
  have c1 : am_c (am_bump μ) - am_c μ = 1 := by
    show am_c μ + 1 - am_c μ = 1
    omega
  have c2 : am_s (am_bump μ) - am_s μ = 6 := by
    show am_s μ + 6 - am_s μ = 6
    omega
  rw [c1, c2] at F
  exact F.2 rfl H locs ρ Ch pc lsA _ cells slots h0 h3 h4 h7 hown h12 (by rw [am_cat_map]; exact hcat) X.2.2.2.2.2.1.1 X.2.2.2.1 am_agr.rf X.2.2.2.2.1 rfl rfl
theorem am_stp_sound {i : Instr} (hlen : am_lnok i len = true) (hd : decode (am_code mi) pc = .ok (i, len)) (hk : ∀ pc1 ls1 st1 μ1 r μ', k pc1 ls1 st1 μ1 = some (r, μ') → am_Sem l D z0 L xs adS d mi pc1 ls1 st1 μ1 r μ')
    (hcall : ∀ mi1 As μ1 r μ', am_GM mi1 → call mi1 As μ1 = some (r, μ') → ∃ d1, d = d1 + 1 ∧ (am_exp As).length ≤ am_mL mi1 ∧ am_Sem l D z0 L xs adS d1 mi1 0 (am_ent (am_mL mi1) As) [] μ1 r μ')
    (hcall2 : ∀ mi1 As μ1 r μ', am_GM mi1 → call2 mi1 As μ1 = some (r, μ') → ∃ d1, d = d1 + 2 ∧ (am_exp As).length ≤ am_mL mi1 ∧ am_Sem l D z0 L xs adS d1 mi1 0 (am_ent (am_mL mi1) As) [] μ1 r μ')
    (h : am_stp k call call2 d mi pc len ls st μ i = some (r, μ')) : am_Sem l D z0 L xs adS d mi pc ls st μ r μ' := by
  cases i with
  | iconst n =>
    obtain rfl := am_len1 (n := 1) hlen rfl (fun _ _ _ _ q => by cases q) (fun _ _ q => by cases q)
    exact sm_iconst hd (hk _ _ _ _ _ _ h)
  | bipush n =>
    obtain rfl := am_len1 (n := 2) hlen rfl (fun _ _ _ _ q => by cases q) (fun _ _ q => by cases q)
    exact sm_bipush hd (hk _ _ _ _ _ _ h)
  | sipush n =>
    obtain rfl := am_len1 (n := 3) hlen rfl (fun _ _ _ _ q => by cases q) (fun _ _ q => by cases q)
    exact sm_sipush hd (hk _ _ _ _ _ _ h)
  | lconst n =>
    obtain rfl := am_len1 (n := 1) hlen rfl (fun _ _ _ _ q => by cases q) (fun _ _ q => by cases q)
    exact sm_lconst hd (hk _ _ _ _ _ _ h)
  | aconst_null =>
    obtain rfl := am_len1 (n := 1) hlen rfl (fun _ _ _ _ q => by cases q) (fun _ _ q => by cases q)
    exact sm_null hd (hk _ _ _ _ _ _ h)
  | ldc idx =>
    obtain rfl := am_len1 (n := 2) hlen rfl (fun _ _ _ _ q => by cases q) (fun _ _ q => by cases q)
    simp only [am_stp] at h
    split at h
    · rename_i v hv
      exact sm_ldc hv hd (hk _ _ _ _ _ _ h)
    · split at h
      · rename_i j hj
        exact sm_ldcS hj hd (hk _ _ _ _ _ _ h)
      · cases h
  | ldc_w idx =>
    obtain rfl := am_len1 (n := 3) hlen rfl (fun _ _ _ _ q => by cases q) (fun _ _ q => by cases q)
    simp only [am_stp] at h
    split at h
    · rename_i v hv
      exact sm_ldcw hv hd (hk _ _ _ _ _ _ h)
    · split at h
      · rename_i j hj
        exact sm_ldcwS hj hd (hk _ _ _ _ _ _ h)
      · cases h
  | ldc2_w idx =>
    obtain rfl := am_len1 (n := 3) hlen rfl (fun _ _ _ _ q => by cases q) (fun _ _ q => by cases q)
    simp only [am_stp] at h
    split at h
    · rename_i v hv
      exact sm_ldc2 hv hd (hk _ _ _ _ _ _ h)
    · cases h
  | iload_n j =>
    obtain rfl := am_len1 (n := 1) hlen rfl (fun _ _ _ _ q => by cases q) (fun _ _ q => by cases q)
    simp only [am_stp, am_ldI] at h
    split at h
    · rename_i x hx
      exact sm_iload_n hx hd (hk _ _ _ _ _ _ h)
    · cases h
  | iload j =>
    obtain rfl := am_len1 (n := 2) hlen rfl (fun _ _ _ _ q => by cases q) (fun _ _ q => by cases q)
    simp only [am_stp, am_ldI] at h
    split at h
    · rename_i x hx
      exact sm_iload hx hd (hk _ _ _ _ _ _ h)
    · cases h
  | lload_n j =>
    obtain rfl := am_len1 (n := 1) hlen rfl (fun _ _ _ _ q => by cases q) (fun _ _ q => by cases q)
    simp only [am_stp, am_ldL] at h
    split at h
    · rename_i x hx
      exact sm_lload_n hx hd (hk _ _ _ _ _ _ h)
    · cases h
  | lload j =>
    obtain rfl := am_len1 (n := 2) hlen rfl (fun _ _ _ _ q => by cases q) (fun _ _ q => by cases q)
    simp only [am_stp, am_ldL] at h
    split at h
    · rename_i x hx
      exact sm_lload hx hd (hk _ _ _ _ _ _ h)
    · cases h
  | aload_n j =>
    obtain rfl := am_len1 (n := 1) hlen rfl (fun _ _ _ _ q => by cases q) (fun _ _ q => by cases q)
    simp only [am_stp, am_ldA] at h
    split at h
    · rename_i x hx
      exact sm_aload_n hx hd (hk _ _ _ _ _ _ h)
    · rename_i hx
      exact sm_aload_nN hx hd (hk _ _ _ _ _ _ h)
    · cases h
  | istore_n j =>
    obtain rfl := am_len1 (n := 1) hlen rfl (fun _ _ _ _ q => by cases q) (fun _ _ q => by cases q)
    simp only [am_stp, am_toI] at h
    split at h
    · obtain ⟨c, h⟩ := am_ifs h
      exact sm_istore_n c hd (hk _ _ _ _ _ _ h)
    · cases h
  | astore_n j =>
    obtain rfl := am_len1 (n := 1) hlen rfl (fun _ _ _ _ q => by cases q) (fun _ _ q => by cases q)
    simp only [am_stp, am_toA] at h
    split at h
    · obtain ⟨c, h⟩ := am_ifs h
      exact sm_astore_n c hd (hk _ _ _ _ _ _ h)
    · obtain ⟨c, h⟩ := am_ifs h
      exact sm_astore_nN c hd (hk _ _ _ _ _ _ h)
    · cases h
  | lstore_n j =>
    obtain rfl := am_len1 (n := 1) hlen rfl (fun _ _ _ _ q => by cases q) (fun _ _ q => by cases q)
    simp only [am_stp, am_toL] at h
    split at h
    · obtain ⟨c, h⟩ := am_ifs h
      exact sm_lstore_n c hd (hk _ _ _ _ _ _ h)
    · cases h
  | aload j =>
    obtain rfl := am_len1 (n := 2) hlen rfl (fun _ _ _ _ q => by cases q) (fun _ _ q => by cases q)
    simp only [am_stp, am_ldA] at h
    split at h
    · rename_i x hx
      exact sm_aload hx hd (hk _ _ _ _ _ _ h)
    · rename_i hx
      exact sm_aloadN hx hd (hk _ _ _ _ _ _ h)
    · cases h
  | istore j =>
    obtain rfl := am_len1 (n := 2) hlen rfl (fun _ _ _ _ q => by cases q) (fun _ _ q => by cases q)
    simp only [am_stp, am_toI] at h
    split at h
    · obtain ⟨c, h⟩ := am_ifs h
      exact sm_istore c hd (hk _ _ _ _ _ _ h)
    · cases h
  | astore j =>
    obtain rfl := am_len1 (n := 2) hlen rfl (fun _ _ _ _ q => by cases q) (fun _ _ q => by cases q)
    simp only [am_stp, am_toA] at h
    split at h
    · obtain ⟨c, h⟩ := am_ifs h
      exact sm_astore c hd (hk _ _ _ _ _ _ h)
    · obtain ⟨c, h⟩ := am_ifs h
      exact sm_astoreN c hd (hk _ _ _ _ _ _ h)
    · cases h
  | lstore j =>
    obtain rfl := am_len1 (n := 2) hlen rfl (fun _ _ _ _ q => by cases q) (fun _ _ q => by cases q)
    simp only [am_stp, am_toL] at h
    split at h
    · obtain ⟨c, h⟩ := am_ifs h
      exact sm_lstore c hd (hk _ _ _ _ _ _ h)
    · cases h
  | iinc j n =>
    obtain rfl := am_len1 (n := 3) hlen rfl (fun _ _ _ _ q => by cases q) (fun _ _ q => by cases q)
    simp only [am_stp] at h
    split at h
    · rename_i x hx
      exact sm_iinc hx hd (hk _ _ _ _ _ _ h)
    · cases h
  | iadd =>
    obtain rfl := am_len1 (n := 1) hlen rfl (fun _ _ _ _ q => by cases q) (fun _ _ q => by cases q)
    simp only [am_stp, am_b2] at h
    split at h
    · exact sm_iadd hd (hk _ _ _ _ _ _ h)
    · cases h
  | isub =>
    obtain rfl := am_len1 (n := 1) hlen rfl (fun _ _ _ _ q => by cases q) (fun _ _ q => by cases q)
    simp only [am_stp, am_b2] at h
    split at h
    · exact sm_isub hd (hk _ _ _ _ _ _ h)
    · cases h
  | imul =>
    obtain rfl := am_len1 (n := 1) hlen rfl (fun _ _ _ _ q => by cases q) (fun _ _ q => by cases q)
    simp only [am_stp, am_b2] at h
    split at h
    · exact sm_imul hd (hk _ _ _ _ _ _ h)
    · cases h
  | iand =>
    obtain rfl := am_len1 (n := 1) hlen rfl (fun _ _ _ _ q => by cases q) (fun _ _ q => by cases q)
    simp only [am_stp, am_b2] at h
    split at h
    · exact sm_iand hd (hk _ _ _ _ _ _ h)
    · cases h
  | ior =>
    obtain rfl := am_len1 (n := 1) hlen rfl (fun _ _ _ _ q => by cases q) (fun _ _ q => by cases q)
    simp only [am_stp, am_b2] at h
    split at h
    · exact sm_ior hd (hk _ _ _ _ _ _ h)
    · cases h
  | ixor =>
    obtain rfl := am_len1 (n := 1) hlen rfl (fun _ _ _ _ q => by cases q) (fun _ _ q => by cases q)
    simp only [am_stp, am_b2] at h
    split at h
    · exact sm_ixor hd (hk _ _ _ _ _ _ h)
    · cases h
  | ishl =>
    obtain rfl := am_len1 (n := 1) hlen rfl (fun _ _ _ _ q => by cases q) (fun _ _ q => by cases q)
    simp only [am_stp, am_b2] at h
    split at h
    · exact sm_ishl hd (hk _ _ _ _ _ _ h)
    · cases h
  | ishr =>
    obtain rfl := am_len1 (n := 1) hlen rfl (fun _ _ _ _ q => by cases q) (fun _ _ q => by cases q)
    simp only [am_stp, am_b2] at h
    split at h
    · exact sm_ishr hd (hk _ _ _ _ _ _ h)
    · cases h
  | iushr =>
    obtain rfl := am_len1 (n := 1) hlen rfl (fun _ _ _ _ q => by cases q) (fun _ _ q => by cases q)
    simp only [am_stp, am_b2] at h
    split at h
    · exact sm_iushr hd (hk _ _ _ _ _ _ h)
    · cases h
  | ineg =>
    obtain rfl := am_len1 (n := 1) hlen rfl (fun _ _ _ _ q => by cases q) (fun _ _ q => by cases q)
    simp only [am_stp, am_u1] at h
    split at h
    · exact sm_ineg hd (hk _ _ _ _ _ _ h)
    · cases h
  | i2l =>
    obtain rfl := am_len1 (n := 1) hlen rfl (fun _ _ _ _ q => by cases q) (fun _ _ q => by cases q)
    simp only [am_stp, am_u1] at h
    split at h
    · exact sm_i2l hd (hk _ _ _ _ _ _ h)
    · cases h
  | i2b =>
    obtain rfl := am_len1 (n := 1) hlen rfl (fun _ _ _ _ q => by cases q) (fun _ _ q => by cases q)
    simp only [am_stp, am_u1] at h
    split at h
    · exact sm_i2b hd (hk _ _ _ _ _ _ h)
    · cases h
  | i2s =>
    obtain rfl := am_len1 (n := 1) hlen rfl (fun _ _ _ _ q => by cases q) (fun _ _ q => by cases q)
    simp only [am_stp, am_u1] at h
    split at h
    · exact sm_i2s hd (hk _ _ _ _ _ _ h)
    · cases h
  | i2c =>
    obtain rfl := am_len1 (n := 1) hlen rfl (fun _ _ _ _ q => by cases q) (fun _ _ q => by cases q)
    simp only [am_stp, am_u1] at h
    split at h
    · exact sm_i2c hd (hk _ _ _ _ _ _ h)
    · cases h
  | ladd =>
    obtain rfl := am_len1 (n := 1) hlen rfl (fun _ _ _ _ q => by cases q) (fun _ _ q => by cases q)
    simp only [am_stp, am_l2] at h
    split at h
    · exact sm_ladd hd (hk _ _ _ _ _ _ h)
    · cases h
  | lmul =>
    obtain rfl := am_len1 (n := 1) hlen rfl (fun _ _ _ _ q => by cases q) (fun _ _ q => by cases q)
    simp only [am_stp, am_l2] at h
    split at h
    · exact sm_lmul hd (hk _ _ _ _ _ _ h)
    · cases h
  | lcmp =>
    obtain rfl := am_len1 (n := 1) hlen rfl (fun _ _ _ _ q => by cases q) (fun _ _ q => by cases q)
    simp only [am_stp, am_l2] at h
    split at h
    · exact sm_lcmp hd (hk _ _ _ _ _ _ h)
    · cases h
  | idiv =>
    obtain rfl := am_len1 (n := 1) hlen rfl (fun _ _ _ _ q => by cases q) (fun _ _ q => by cases q)
    simp only [am_stp] at h
    split at h
    · obtain ⟨c, h⟩ := am_ifn h
      exact sm_idiv c hd (hk _ _ _ _ _ _ h)
    · cases h
  | irem =>
    obtain rfl := am_len1 (n := 1) hlen rfl (fun _ _ _ _ q => by cases q) (fun _ _ q => by cases q)
    simp only [am_stp] at h
    split at h
    · obtain ⟨c, h⟩ := am_ifn h
      exact sm_irem c hd (hk _ _ _ _ _ _ h)
    · cases h
  | ldiv =>
    obtain rfl := am_len1 (n := 1) hlen rfl (fun _ _ _ _ q => by cases q) (fun _ _ q => by cases q)
    simp only [am_stp] at h
    split at h
    · obtain ⟨c, h⟩ := am_ifn h
      exact sm_ldiv c hd (hk _ _ _ _ _ _ h)
    · cases h
  | lrem =>
    obtain rfl := am_len1 (n := 1) hlen rfl (fun _ _ _ _ q => by cases q) (fun _ _ q => by cases q)
    simp only [am_stp] at h
    split at h
    · obtain ⟨c, h⟩ := am_ifn h
      exact sm_lrem c hd (hk _ _ _ _ _ _ h)
    · cases h
  | dup =>
    obtain rfl := am_len1 (n := 1) hlen rfl (fun _ _ _ _ q => by cases q) (fun _ _ q => by cases q)
    simp only [am_stp] at h
    split at h
    · obtain ⟨c, h⟩ := am_ifs h
      exact sm_dup c hd (hk _ _ _ _ _ _ h)
    · cases h
  | pop =>
    obtain rfl := am_len1 (n := 1) hlen rfl (fun _ _ _ _ q => by cases q) (fun _ _ q => by cases q)
    simp only [am_stp] at h
    split at h
    · obtain ⟨c, h⟩ := am_ifs h
      exact sm_pop c hd (hk _ _ _ _ _ _ h)
    · cases h
  | dup_x1 =>
    obtain rfl := am_len1 (n := 1) hlen rfl (fun _ _ _ _ q => by cases q) (fun _ _ q => by cases q)
    simp only [am_stp] at h
    split at h
    · obtain ⟨c, h⟩ := am_ifs h
      exact sm_dup_x1 c.1 c.2 hd (hk _ _ _ _ _ _ h)
    · cases h
  | dup2 =>
    obtain rfl := am_len1 (n := 1) hlen rfl (fun _ _ _ _ q => by cases q) (fun _ _ q => by cases q)
    simp only [am_stp] at h
    split at h
    · obtain ⟨c, h⟩ := am_ifs h
      exact sm_dup2 c.1 c.2 hd (hk _ _ _ _ _ _ h)
    · cases h
  | goto off =>
    obtain rfl := am_len1 (n := 3) hlen rfl (fun _ _ _ _ q => by cases q) (fun _ _ q => by cases q)
    simp only [am_stp] at h
    obtain ⟨tgt, h1, h2⟩ := am_jmp_spec h
    exact sm_goto h1 hd (hk _ _ _ _ _ _ h2)
  | ifCond c off =>
    obtain rfl := am_len1 (n := 3) hlen rfl (fun _ _ _ _ q => by cases q) (fun _ _ q => by cases q)
    simp only [am_stp] at h
    split at h
    · obtain ⟨c0, h⟩ := am_ifs h
      exact am_if_sound hd (fun pc1 r μ2 q => hk _ _ _ _ _ _ q) h ⟨_, (Int.toNat_of_nonneg c0).symm⟩
    · cases h
  | if_icmp c off =>
    obtain rfl := am_len1 (n := 3) hlen rfl (fun _ _ _ _ q => by cases q) (fun _ _ q => by cases q)
    simp only [am_stp] at h
    split at h
    · obtain ⟨c0, h⟩ := am_ifs h
      exact am_icmp_sound hd (fun pc1 r μ2 q => hk _ _ _ _ _ _ q) h ⟨_, (Int.toNat_of_nonneg c0).symm⟩
    · cases h
  | ifnull off =>
    obtain rfl := am_len1 (n := 3) hlen rfl (fun _ _ _ _ q => by cases q) (fun _ _ q => by cases q)
    simp only [am_stp] at h
    split at h
    · obtain ⟨tgt, h1, h2⟩ := am_jmp_spec h
      exact sm_ifnullN h1 hd (hk _ _ _ _ _ _ h2)
    · exact sm_ifnull hd (hk _ _ _ _ _ _ h)
    · cases h
  | ifnonnull off =>
    obtain rfl := am_len1 (n := 3) hlen rfl (fun _ _ _ _ q => by cases q) (fun _ _ q => by cases q)
    simp only [am_stp] at h
    split at h
    · exact sm_ifnonnullN hd (hk _ _ _ _ _ _ h)
    · obtain ⟨tgt, h1, h2⟩ := am_jmp_spec h
      exact sm_ifnonnull h1 hd (hk _ _ _ _ _ _ h2)
    · cases h
  | tableswitch dflt lo hi offs =>
    simp only [am_stp] at h
    split at h
    · obtain ⟨⟨c1, c2, c3⟩, h⟩ := am_ifs h
      rcases am_swK_go (K := fun o => am_jmp (fun q => k q ls _ μ) pc o) (dflt := dflt) offs.toList lo with ⟨j, o, g1, g2, g3⟩ | ⟨g1, g2⟩
      · rw [g3] at h
        obtain ⟨tgt, h1, h2⟩ := am_jmp_spec h
        exact sm_tsw c1 c2 c3 (Or.inl ⟨j, g1, g2⟩) h1 hd (hk _ _ _ _ _ _ h2)
      · rw [g2] at h
        obtain ⟨tgt, h1, h2⟩ := am_jmp_spec h
        exact sm_tsw c1 c2 c3 (Or.inr ⟨g1, rfl⟩) h1 hd (hk _ _ _ _ _ _ h2)
    · cases h
  | lookupswitch dflt ps =>
    simp only [am_stp] at h
    split at h
    · obtain ⟨⟨c1, c2⟩, h⟩ := am_ifs h
      rw [am_lkK_go _ c2] at h
      obtain ⟨tgt, h1, h2⟩ := am_jmp_spec h
      exact sm_lsw c1 h1 hd (hk _ _ _ _ _ _ h2)
    · cases h
  | getfield idx =>
    obtain rfl := am_len1 (n := 3) hlen rfl (fun _ _ _ _ q => by cases q) (fun _ _ q => by cases q)
    simp only [am_stp] at h
    split at h
    · rename_i acc ci kk h1 st1 hf
      obtain ⟨⟨c1, c2⟩, h⟩ := am_ifs h
      exact sm_getf hf c2 c1 hd (hk _ _ _ _ _ _ h)
    · cases h
  | getstatic idx =>
    obtain rfl := am_len1 (n := 3) hlen rfl (fun _ _ _ _ q => by cases q) (fun _ _ q => by cases q)
    simp only [am_stp] at h
    split at h
    · rename_i acc a b hf
      obtain ⟨c1, h⟩ := am_ifs h
      subst c1
      exact sm_getstatic hf hd (hk _ _ _ _ _ _ h)
    · cases h
  | putfield idx =>
    obtain rfl := am_len1 (n := 3) hlen rfl (fun _ _ _ _ q => by cases q) (fun _ _ q => by cases q)
    simp only [am_stp] at h
    split at h
    · rename_i acc ci kk hf
      split at h
      · rename_i h3
        subst h3
        split at h
        · obtain ⟨⟨c1, c2, c3, c4⟩, h⟩ := am_ifs h
          exact sm_putNode hf c1 c2 c3 c4 hd (hk _ _ _ _ _ _ h)
        · cases h
      · obtain ⟨c1, h⟩ := am_ifs h
        exact am_put_sound hf c1 hd hk h
    · cases h
  | iaload =>
    obtain rfl := am_len1 (n := 1) hlen rfl (fun _ _ _ _ q => by cases q) (fun _ _ q => by cases q)
    simp only [am_stp] at h
    split at h
    · obtain ⟨⟨c1, c2⟩, h⟩ := am_ifs h
      exact sm_iald c1 c2 hd (hk _ _ _ _ _ _ h)
    · cases h
  | baload =>
    obtain rfl := am_len1 (n := 1) hlen rfl (fun _ _ _ _ q => by cases q) (fun _ _ q => by cases q)
    simp only [am_stp] at h
    split at h
    · obtain ⟨⟨c1, c2⟩, h⟩ := am_ifs h
      exact sm_bald c1 c2 hd (hk _ _ _ _ _ _ h)
    · cases h
  | laload =>
    obtain rfl := am_len1 (n := 1) hlen rfl (fun _ _ _ _ q => by cases q) (fun _ _ q => by cases q)
    simp only [am_stp] at h
    split at h
    · obtain ⟨⟨c1, c2⟩, h⟩ := am_ifs h
      exact sm_lald c1 c2 hd (hk _ _ _ _ _ _ h)
    · cases h
  | aaload =>
    obtain rfl := am_len1 (n := 1) hlen rfl (fun _ _ _ _ q => by cases q) (fun _ _ q => by cases q)
    simp only [am_stp] at h
    split at h
    · obtain ⟨⟨c1, c2⟩, h⟩ := am_ifs h
      exact sm_aald c1 c2 hd (hk _ _ _ _ _ _ h)
    · cases h
  | iastore =>
    obtain rfl := am_len1 (n := 1) hlen rfl (fun _ _ _ _ q => by cases q) (fun _ _ q => by cases q)
    simp only [am_stp] at h
    split at h
    · obtain ⟨⟨c1, c2⟩, h⟩ := am_ifs h
      exact sm_iast c1 c2 hd (hk _ _ _ _ _ _ h)
    · cases h
  | lastore =>
    obtain rfl := am_len1 (n := 1) hlen rfl (fun _ _ _ _ q => by cases q) (fun _ _ q => by cases q)
    simp only [am_stp] at h
    split at h
    · obtain ⟨⟨c1, c2⟩, h⟩ := am_ifs h
      exact sm_last c1 c2 hd (hk _ _ _ _ _ _ h)
    · cases h
  | bastore =>
    obtain rfl := am_len1 (n := 1) hlen rfl (fun _ _ _ _ q => by cases q) (fun _ _ q => by cases q)
    simp only [am_stp] at h
    split at h
    · split at h
      · rename_i c
        exact sm_bast c.1 c.2 hd (hk _ _ _ _ _ _ h)
      · obtain ⟨c, h⟩ := am_ifs h
        exact sm_zast c.1 c.2 hd (hk _ _ _ _ _ _ h)
    · cases h
  | aastore =>
    obtain rfl := am_len1 (n := 1) hlen rfl (fun _ _ _ _ q => by cases q) (fun _ _ q => by cases q)
    simp only [am_stp] at h
    split at h
    · obtain ⟨⟨c1, c2, c3⟩, h⟩ := am_ifs h
      exact sm_aast c1 c2 c3 hd (hk _ _ _ _ _ _ h)
    · cases h
  | arraylength =>
    obtain rfl := am_len1 (n := 1) hlen rfl (fun _ _ _ _ q => by cases q) (fun _ _ q => by cases q)
    simp only [am_stp] at h
    split at h
    · obtain ⟨⟨c1, c2, c3⟩, h⟩ := am_ifs h
      exact sm_alen c1 c2 c3 hd (hk _ _ _ _ _ _ h)
    · cases h
  | newarray t =>
    obtain rfl := am_len1 (n := 2) hlen rfl (fun _ _ _ _ q => by cases q) (fun _ _ q => by cases q)
    simp only [am_stp] at h
    split at h
    · rename_i tg n st1 ht
      obtain ⟨⟨c1, c2, c3⟩, h⟩ := am_ifs h
      exact sm_newarr ht c1 c2 c3 hd (hk _ _ _ _ _ _ h)
    · cases h
  | anewarray idx =>
    obtain rfl := am_len1 (n := 3) hlen rfl (fun _ _ _ _ q => by cases q) (fun _ _ q => by cases q)
    simp only [am_stp] at h
    split at h
    · obtain ⟨⟨c0, c00, c1, c2, c3⟩, h⟩ := am_ifs h
      exact sm_anew c0 c1 c2 c3 (by rw [c00] at hd; exact hd) (hk _ _ _ _ _ _ h)
    · cases h
  | new idx =>
    obtain rfl := am_len1 (n := 3) hlen rfl (fun _ _ _ _ q => by cases q) (fun _ _ q => by cases q)
    simp only [am_stp] at h
    split at h
    · rename_i t ht
      obtain ⟨c1, h⟩ := am_ifs h
      exact sm_new ht c1 hd (hk _ _ _ _ _ _ h)
    · obtain ⟨⟨c1, c2, c3, c4, c5⟩, h⟩ := am_ifs h
      obtain ⟨e1, e2, e3⟩ := am_isT_spec c5
      cases h
      exact sm_thr c1 c3 c4 (by rw [c2] at hd; exact hd) e1 e2 e3
  | invokestatic idx =>
    obtain rfl := am_len1 (n := 3) hlen rfl (fun _ _ _ _ q => by cases q) (fun _ _ q => by cases q)
    exact am_stS_sound hd hk hcall hcall2 h
  | invokevirtual idx =>
    obtain rfl := am_len1 (n := 3) hlen rfl (fun _ _ _ _ q => by cases q) (fun _ _ q => by cases q)
    exact am_stV_sound (call2 := call2) hd hk hcall h
  | invokespecial idx =>
    obtain rfl := am_len1 (n := 3) hlen rfl (fun _ _ _ _ q => by cases q) (fun _ _ q => by cases q)
    exact am_stI_sound (call2 := call2) hd hk hcall h
  | ireturn =>
    obtain rfl := am_len1 (n := 1) hlen rfl (fun _ _ _ _ q => by cases q) (fun _ _ q => by cases q)
    simp only [am_stp] at h
    split at h
    · split at h
      · rename_i hr
        cases h
        exact sm_fin hd ⟨_, hr, rfl⟩ rfl
      · rename_i hr
        obtain ⟨c, h⟩ := am_ifs h
        cases h
        exact sm_fin hd ⟨_, hr, c⟩ rfl
      · rename_i hr
        obtain ⟨c, h⟩ := am_ifs h
        cases h
        exact sm_fin hd ⟨_, hr, c⟩ rfl
      · cases h
    · cases h
  | lreturn =>
    obtain rfl := am_len1 (n := 1) hlen rfl (fun _ _ _ _ q => by cases q) (fun _ _ q => by cases q)
    simp only [am_stp] at h
    split at h
    · split at h
      · rename_i hr
        cases h
        exact sm_fin hd hr rfl
      · cases h
    · cases h
  | areturn =>
    obtain rfl := am_len1 (n := 1) hlen rfl (fun _ _ _ _ q => by cases q) (fun _ _ q => by cases q)
    simp only [am_stp] at h
    split at h
    · split at h
      · rename_i n hr
        cases h
        exact sm_fin hd ⟨n, hr⟩ rfl
      · cases h
    · split at h
      · rename_i n hr
        cases h
        exact sm_fin hd ⟨n, hr⟩ rfl
      · cases h
    · cases h
  | return_ =>
    obtain rfl := am_len1 (n := 1) hlen rfl (fun _ _ _ _ q => by cases q) (fun _ _ q => by cases q)
    simp only [am_stp] at h
    split at h
    · split at h
      · rename_i hr
        cases h
        exact sm_fin hd hr rfl
      · cases h
    · cases h
  | _ => cases h
/-- SOUNDNESS -/
theorem am_sound : ∀ (f d : Nat) (mi : am_MI) (pc : Nat) (ls st : List Value) (μ : am_M) (r : Option Value) (μ' : am_M), am_run f d mi pc ls st μ = some (r, μ') → am_Sem l D z0 L xs adS d mi pc ls st μ r μ' := by
  intro f
  induction f with
  | zero => intro d mi pc ls st μ r μ' h; cases h
  | succ f ih =>
    intro d mi pc ls st μ r μ' h
    unfold am_run at h
    split at h
    · rename_i i len hd
      obtain ⟨c, h⟩ := am_ifs h
      refine am_stp_sound c hd (fun pc1 ls1 st1 μ1 r μ' q => ih _ _ _ _ _ _ _ _ q) ?_ ?_ h
      · intro mi1 As μ1 r μ' hg q
        cases d with
        | zero => cases q
        | succ d1 =>
          obtain ⟨c1, q⟩ := am_ifs q
          exact ⟨d1, rfl, c1, ih _ _ _ _ _ _ _ _ q⟩
      · intro mi1 As μ1 r μ' hg q
        match d, q with
        | 0, q => cases q
        | 1, q => cases q
        | d1 + 2, q =>
          obtain ⟨c1, q⟩ := am_ifs q
          exact ⟨d1, rfl, c1, ih _ _ _ _ _ _ _ _ q⟩
    · cases h
end SOUND2
