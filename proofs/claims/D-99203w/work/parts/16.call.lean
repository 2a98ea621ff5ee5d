/-! AM, part 7: calls -/
set_option maxRecDepth 100000
section CALLS
variable {l : Launch} {D : va_G} {z0 L : Nat} {xs : Nat → Int32} {adS : Nat → Nat} {d : Nat} {mi : am_MI} {pc : Nat} {ls st : List Value} {μ μ' : am_M} {r : Option Value}
theorem am_nw_ot : ∀ w ∈ am_nw, w.onTables = true := by
  intro w hw
  have h : am_nw.all (fun w => w.onTables) = true := by rfl
  exact List.all_eq_true.mp h w hw
theorem am_nw_warm {s U : State} (hW : s.WarmedH U.vm) : (∀ w ∈ am_nw, va_Nw w s) → ∀ w ∈ am_nw, va_Nw w U := by
  intro h w hw
  have hq := h w hw
  unfold am_nw at hw
  simp only [List.mem_cons, List.not_mem_nil, or_false] at hw
  repeat' (first | (rcases hw with rfl | hw) | subst hw)
  all_goals first | exact va_Nw.warmF hW hq | exact va_Nw.warmM hW hq | exact va_Nw.warmD hW hq
theorem am_Amb.warm {s U : State} {H : Heap} {locs : List Loc} (h : am_Amb l D z0 L xs adS s) (hS : va_S (am_A z0) s.heap H locs) (hU : U.heap = H) (hW : s.WarmedH U.vm) : am_Amb l D z0 L xs adS U := by
  obtain ⟨a1, a2, a3, a4, a5, a6, a7, ⟨a8, a9⟩, ⟨a10, a11⟩, a12⟩ := h
  have kp := hS.2.1
  have hal := hW.alike
  subst hU
  refine ⟨va_K.moved hal a1, Nat.le_trans a2 hS.1, am_nw_warm hW a3, va_AO.moved hal a4, va_Z.moved hal (a5.kept kp), vk_S.moved hal (a6.kept kp), fun i hi => vk_R.warm hW (a7 i hi), ⟨va_X.moved hal (a8.kept ?_), a9⟩, ⟨vx_Zq.moved hal (a10.kept kp), vx_Zq.moved hal (a11.kept kp)⟩, a12⟩
  exact kp _ (Nat.lt_of_lt_of_le a9 a2) (Nat.not_le.mpr a9)
theorem am_Amb.calling {U : State} {g : JFrame} {mk : MethodId} {a : Array Value} (h : am_Amb l D z0 L xs adS U) : am_Amb l D z0 L xs adS (U.calling g mk a) := by
  obtain ⟨a1, a2, a3, a4, a5, a6, a7, ⟨a8, a9⟩, ⟨a10, a11⟩, a12⟩ := h
  have hal : U.vm.Alike (U.calling g mk a).vm := Vm.Alike.refl U.vm
  exact ⟨va_K.moved hal a1, a2, fun w hw => va_Nw.same (u := U) (am_nw_ot w hw) rfl (a3 w hw), va_AO.moved hal a4, va_Z.moved hal a5, vk_S.moved hal a6, fun i hi => vk_R.same rfl (a7 i hi), ⟨va_X.moved hal a8, a9⟩, ⟨vx_Zq.moved hal a10, vx_Zq.moved hal a11⟩, a12⟩
def am_rm (d : Nat) (μ μ' : am_M) : Room := { frames := d, cells := am_c μ' - am_c μ, slots := am_s μ' - am_s μ, locals := 80 * d }
def am_Pc (l : Launch) (D : va_G) (z0 L : Nat) (xs : Nat → Int32) (adS : Nat → Nat) (As : List Value) (μ : am_M) (ρ : Nat → Nat) (Ch : Nat → ClassId) : Array Value → State → Prop :=
  va_Pc (As.map (am_cv ρ)) (fun U => am_Amb l D z0 L xs adS U ∧ am_Rep D z0 L xs adS μ ρ Ch U U.heap)
def am_Qc (D : va_G) (z0 L : Nat) (xs : Nat → Int32) (adS : Nat → Nat) (n : Nat) (ρ : Nat → Nat) (r : Option Value) (μ' : am_M) : State → Outcome → State → Prop := fun st oc t =>
  (∃ (ρ1 : Nat → Nat) (Ch1 : Nat → ClassId), oc = .returned (r.map (am_cv ρ1)) ∧ am_agr n ρ ρ1 ∧ am_Rep D z0 L xs adS μ' ρ1 Ch1 t t.heap ∧ am_OkR (am_n μ') r) ∧ va_F (am_A z0) st t
theorem am_blind {As : List Value} {ρ : Nat → Nat} {Ch : Nat → ClassId} : FrameBlind (am_Pc l D z0 L xs adS As μ ρ Ch) := fun a U g mk q => ⟨q.1, q.2.1.calling, am_Rep.moved (u := U) (Vm.Alike.refl U.vm) q.2.2⟩
/-- a run of a method gives its contract -/
theorem am_met (hg : am_GM mi) {As : List Value} (hlen : (am_exp As).length ≤ am_mL mi) (S : am_Sem l D z0 L xs adS d mi 0 (am_ent (am_mL mi) As) [] μ r μ') (hnr : ∀ q, r ≠ some (.retAddr q)) (hok : am_OkL (am_n μ) As) (ρ : Nat → Nat) (Ch : Nat → ClassId) :
    Met l (am_y mi) (am_W0 mi) (am_rm d μ μ') (am_Pc l D z0 L xs adS As μ ρ Ch) (fun _ => am_Qc D z0 L xs adS (am_n μ) ρ r μ') (am_c μ' - am_c μ) (am_s μ' - am_s μ) (am_A z0) := by
  refine Met.ofW (cc := am_code mi) (maxL := am_mL mi) (ret := am_ret mi) hg.2.1 rfl ?_
  intro p e s m args below meth c s₁ B hml hv
  obtain ⟨rfl, hAm, hR⟩ := hv
  have hts := atoms_spec (ws := am_W0 mi) B.pre
  have hts : ∀ w ∈ lw_all, w.before _ s = true := fun w h => hts w (List.mem_cons_of_mem _ h)
  have hown : s.vm.findClass (am_y mi).cls = some m.cls := findClass_of_methodNamed B.named
  rw [lg_entry_eq]
  have hL := am_entry (ρ := ρ) (nL := am_mL mi) hok hlen
  generalize (lg_sl (As.map (am_cv ρ)) ++ List.replicate (am_mL mi - (lg_sl (As.map (am_cv ρ))).length) Slot.unset).toArray = lsA at hL ⊢
  refine S.2 (am_rm d μ μ') p e s m _ below meth c s.heap [] 0 0 _ ρ Ch lsA ⟨⟨B.exec, B.bytes, hml, B.returns, B.notSynchronized, by rw [hg.1]; exact hown, hts, fun hf => ?_, hAm⟩, ⟨Nat.le_refl _, Nat.le_refl _⟩, ⟨?_, ?_⟩, hR, va_S.rf, hL, hok.ent, am_OkL.nil⟩ ⟨?_, fun h => absurd h (hnr 1)⟩
  · rw [(name_of_methodNamed B.named B.method).1]
    exact hg.2.2.1 hf
  · show 0 + (am_c μ' - am_c μ) ≤ am_c μ' - am_c μ
    omega
  · show 0 + (am_s μ' - am_s μ) ≤ am_s μ' - am_s μ
    omega
  · intro H1 locs1 ρ1 Ch1 pc1 ls1 i1 hd1 hri hR1 hag hS1 hokr
    rw [Nat.zero_add, Nat.zero_add]
    have hq : ∀ t : State, t.heap = H1 → s.WarmedH t.vm → am_Qc D z0 L xs adS (am_n μ) ρ r μ' s (.returned (r.map (am_cv ρ1))) t := fun t ht hW => ⟨⟨ρ1, Ch1, rfl, hag, by rw [ht]; exact am_Rep.moved hW.alike hR1, hokr⟩, hS1.F ht⟩
    have hlk := B.notSynchronized
    unfold am_RI at hri
    split at hri
    · obtain ⟨ty, h1, h2⟩ := hri
      exact W.zret B.exec B.bytes (B.returns.trans h1) h2 hq hS1.2.2 hd1 hlk
    · exact W.lret B.exec B.bytes (B.returns.trans hri) hq hS1.2.2 hd1 hlk
    · obtain ⟨n, h1⟩ := hri
      exact W.aret B.exec B.bytes (B.returns.trans h1) (Or.inl ⟨n, rfl⟩) (Or.inr ⟨_, rfl⟩) hq hS1.2.2 hd1 hlk
    · obtain ⟨n, h1⟩ := hri
      exact W.aret B.exec B.bytes (B.returns.trans h1) (Or.inl ⟨n, rfl⟩) (Or.inl rfl) hq hS1.2.2 hd1 hlk
    · exact W.vret B.exec B.bytes (B.returns.trans hri) hq hS1.2.2 hd1 hlk
    · exact hri.elim
/-- behind a call -/
theorem am_callk {p : Program} {e : Env} {R : Room} {s : State} {m : MethodId} {args : Array Value} {below : List Frame} {meth : Method} {c : Code} {H : Heap} {locs : List Loc} {cells slots mc ms n : Nat} {Q : State → Prop} {ρ : Nat → Nat} {lsA : Array Slot} {rest st0 : List Value}
    (hr : va_Run p l e R s m args below meth c H locs cells slots mc ms (F0 m pc lsA st0) rest (am_Qc D z0 L xs adS n ρ r μ') (am_A z0)) (hS : va_S (am_A z0) s.heap H locs)
    (kk : ∀ (ρ1 : Nat → Nat) (Ch1 : Nat → ClassId) (H1 : Heap) (locs1 : List Loc), am_agr n ρ ρ1 → am_Rep D z0 L xs adS μ' ρ1 Ch1 s H1 → am_OkR (am_n μ') r → va_S (am_A z0) s.heap H1 locs1 → W p l e R s m args below meth c H1 locs1 (cells + mc) (slots + ms) Q (F0 m (pc + 3) lsA ((r.map (am_cv ρ1)).toList ++ rest))) : W p l e R s m args below meth c H locs cells slots Q (F0 m pc lsA st0) := by
  intro T hT X
  obtain ⟨v, st₀, t, T', L1, h0, X', hL, e1, e2, ⟨⟨ρ1, Ch1, hv, hag, hR1, hok⟩, hz, hk⟩, st⟩ := hr T hT X
  cases hv
  rw [h0] at hz hk
  obtain ⟨t2, a1, b1⟩ := kk ρ1 Ch1 T'.heap (locs ++ L1) hag (by
      rw [e1]
      refine am_Rep.moved ?_ hR1
      have := X'.warmed.alike
      rw [e2] at this
      exact this.symm) hok
    ⟨Nat.le_trans hS.1 (by rw [e1]; exact hz), fun q h1 h2 => by rw [e1, hk q (Nat.lt_of_lt_of_le h1 hS.1) h2]; exact hS.2.1 q h1 h2, fun q hq => by
      rcases List.mem_append.mp hq with h | h
      · exact hS.2.2 q h
      · exact hL q h⟩ T' rfl X'
  exact ⟨t2, st t2 a1, b1⟩
theorem am_tk_spec : ∀ (n : Nat) (st acc As rest : List Value), am_tk n st acc = some (As, rest) → ∃ B, As = B ++ acc ∧ B.length = n ∧ st = B.reverse ++ rest := by
  intro n
  induction n with
  | zero => intro st acc As rest h; cases h; exact ⟨[], rfl, rfl, rfl⟩
  | succ n ih =>
    intro st acc As rest h
    cases st with
    | nil => cases h
    | cons v st =>
      obtain ⟨B, h1, h2, h3⟩ := ih st (v :: acc) As rest h
      exact ⟨B ++ [v], by rw [h1]; simp, by simp [h2], by rw [h3]; simp⟩
theorem am_OkL.app {n : Nat} {a b : List Value} (h : am_OkL n (a ++ b)) : am_OkL n a ∧ am_OkL n b := ⟨fun v hv => h v (List.mem_append_left _ hv), fun v hv => h v (List.mem_append_right _ hv)⟩
theorem am_OkL.rev {n : Nat} {a : List Value} (h : am_OkL n a.reverse) : am_OkL n a := fun v hv => h v (List.mem_reverse.mpr hv)
/-- the common part of all calls: room, memory, and what comes behind -/
theorem sm_call {d1 : Nat} {mi1 : am_MI} {As rest : List Value} {r1 : Option Value} {μ1 : am_M} (hdd : d = d1 + 1) (hg : am_GM mi1) (hlen : (am_exp As).length ≤ am_mL mi1) (S1 : am_Sem l D z0 L xs adS d1 mi1 0 (am_ent (am_mL mi1) As) [] μ r1 μ1) (hnr : ∀ q, r1 ≠ some (.retAddr q))
    (hAs : am_OkL (am_n μ) st → am_OkL (am_n μ) As ∧ am_OkL (am_n μ) rest) (h : am_Sem l D z0 L xs adS d mi (pc + 3) ls (r1.toList ++ rest) μ1 r μ')
    (row : ∀ {R : Room} {p : Program} {e : Env} {s : State} {m : MethodId} {args : Array Value} {below : List Frame} {meth : Method} {c : Code} {H : Heap} {locs : List Loc} {cells slots : Nat} {ρ : Nat → Nat} {Ch : Nat → ClassId} {lsA : Array Slot}, am_St l D z0 L xs adS d mi R p s m args meth c H locs cells slots ρ Ch lsA ls st μ μ' →
      Met l (am_y mi1) (am_W0 mi1) (am_rm d1 μ μ1) (am_Pc l D z0 L xs adS As μ ρ Ch) (fun _ => am_Qc D z0 L xs adS (am_n μ) ρ r1 μ1) (am_c μ1 - am_c μ) (am_s μ1 - am_s μ) (am_A z0) → CallFix p m c (am_code mi) (am_mL mi) s args lw_all (am_CN (am_own mi)) → (am_rm d1 μ μ1).frames + 1 ≤ R.frames ∧ 8 + (am_mL mi1 + 11) + (am_rm d1 μ μ1).locals ≤ R.locals →
      (∀ U : State, U.heap = H → s.WarmedH U.vm → am_Pc l D z0 L xs adS As μ ρ Ch (As.map (am_cv ρ)).toArray U) → cells + (am_c μ1 - am_c μ) ≤ R.cells ∧ slots + (am_s μ1 - am_s μ) ≤ R.slots → lsA.size = am_mL mi →
      va_Run p l e R s m args below meth c H locs cells slots (am_c μ1 - am_c μ) (am_s μ1 - am_s μ) (F0 m pc lsA (st.map (am_cv ρ))) (rest.map (am_cv ρ)) (am_Qc D z0 L xs adS (am_n μ) ρ r1 μ1) (am_A z0)) : am_Sem l D z0 L xs adS d mi pc ls st μ r μ' := by
  have m1 := S1.1
  have m2 := h.1
  refine ⟨m1.tr m2, fun R p e s m args below meth c H locs cells slots Q ρ Ch lsA X F => ?_⟩
  have X0 := X
  obtain ⟨⟨hx, hb, hml, hr, hlk, hown, hts, hfl, hAm⟩, ⟨hr1, hr2⟩, ⟨hc1, hc2⟩, hR, hS, hL, hol, hos⟩ := X
  obtain ⟨oA, oR⟩ := hAs hos
  have cle := Nat.le_trans m1.1 m2.1
  have sle := Nat.le_trans m1.2.1 m2.2.1
  have n1 := m1.1
  have n2 := m2.1
  have n3 := m1.2.1
  have n4 := m2.2.1
  have hml60 := hg.2.2.2.1
  have run := row (e := e) (below := below) X0 (am_met hg hlen S1 hnr oA ρ Ch) ⟨hx, hb, hml, hown, hts⟩ (by
      show d1 + 1 ≤ R.frames ∧ 8 + (am_mL mi1 + 11) + 80 * d1 ≤ R.locals
      omega) (fun U hU hW => ⟨rfl, hAm.warm hS hU hW, by rw [hU]; exact am_Rep.moved hW.alike hR⟩) (by omega) hL.1
  refine am_callk run hS (fun ρ1 Ch1 H1 locs1 hag hR1 hokr hS1 => ?_)
  have hnn := m1.2.2
  have k := h.2 R p e s m args below meth c H1 locs1 (cells + (am_c μ1 - am_c μ)) (slots + (am_s μ1 - am_s μ)) Q ρ1 Ch1 lsA ⟨X0.1, X0.2.1, by omega, hR1, hS1, hL.agr hag hR.2.2.2.2 hR1.2.2.2.2 hol, hol.mono hnn, fun v hv => ?_⟩ ?_
  · rw [List.map_append, am_map_agr hag hR.2.2.2.2 hR1.2.2.2.2 oR] at k
    have e1 : (r1.map (am_cv ρ1)).toList = r1.toList.map (am_cv ρ1) := by cases r1 <;> rfl
    rw [e1]
    exact k
  · rcases List.mem_append.mp hv with q | q
    · cases r1 with
      | none => simp at q
      | some w =>
        have : v = w := by simpa using q
        rw [this]
        exact hokr
    · exact (oR v q).mono hnn
  · have c1 : cells + (am_c μ1 - am_c μ) + (am_c μ' - am_c μ1) = cells + (am_c μ' - am_c μ) := by omega
    have c2 : slots + (am_s μ1 - am_s μ) + (am_s μ' - am_s μ1) = slots + (am_s μ' - am_s μ) := by omega
    rw [c1, c2]
    exact ⟨fun H2 locs2 ρ2 Ch2 pc2 ls2 i2 a1 a2 a3 a4 a5 a6 => F.1 H2 locs2 ρ2 Ch2 pc2 ls2 i2 a1 a2 a3 (hag.trans a4 hnn) a5 a6, fun hr H2 locs2 ρ2 Ch2 pc2 ls2 st2 c2 s2 a1 a2 a3 a4 a5 a6 a7 a8 a9 a10 a11 => F.2 hr H2 locs2 ρ2 Ch2 pc2 ls2 st2 c2 s2 a1 a2 a3 a4 a5 a6 a7 a8 a9 (hag.trans a10 hnn) a11⟩
theorem am_st_split {ρ : Nat → Nat} {As rest : List Value} (h : st = As.reverse ++ rest) : st.map (am_cv ρ) = (As.map (am_cv ρ)).reverse ++ rest.map (am_cv ρ) := by
  rw [h, List.map_append, List.map_reverse]
theorem sm_callS {idx n d1 : Nat} {mi1 : am_MI} {As rest : List Value} {r1 : Option Value} {μ1 : am_M} (hdd : d = d1 + 1) (hg : am_GM mi1) (hpn : (parseMethodDescriptor (am_y mi1).desc).map (fun d => d.parameters.length) = some n) (hw : GoodIn lw_all (va_wsS (am_CN (am_own mi)) idx (am_y mi1) (am_W0 mi1))) (hst : st = As.reverse ++ rest) (hn : As.length = n) (hcat : am_cat rest ≤ 8) (hlen : (am_exp As).length ≤ am_mL mi1)
    (hd : decode (am_code mi) pc = .ok (.invokestatic idx, 3)) (S1 : am_Sem l D z0 L xs adS d1 mi1 0 (am_ent (am_mL mi1) As) [] μ r1 μ1) (hnr : ∀ q, r1 ≠ some (.retAddr q)) (h : am_Sem l D z0 L xs adS d mi (pc + 3) ls (r1.toList ++ rest) μ1 r μ') : am_Sem l D z0 L xs adS d mi pc ls st μ r μ' := by
  refine sm_call hdd hg hlen S1 hnr (fun o => by rw [hst] at o; exact ⟨o.app.1.rev, o.app.2⟩) h (fun {R p e s m args below meth c H locs cells slots ρ Ch lsA} X hM cf hroom hpc hcs hsz => ?_)
  exact va_runS (As := As.map (am_cv ρ)) (n := n) cf hM (va_cwS n cf.2.2.2.2 hw rfl rfl rfl ⟨hg.2.2.2.2.1, hg.2.2.2.2.2, hpn⟩ hroom) ⟨am_blind, hpc⟩ rfl (by rw [List.length_map]; exact hn) hsz (am_st_split hst) (by rw [am_cat_map]; show 2 * 0 + _ ≤ 8; omega) hd hcs
theorem am_recvO {s : State} {H : Heap} {ρ : Nat → Nat} {Ch : Nat → ClassId} {b t : Nat} (hK : va_K D am_cl [] s) (hR : am_Rep D z0 L xs adS μ ρ Ch s H) (ht : t < 7) (hb : (am_k μ b).1 = t) : ∃ cell : Cell, H[ρ b]? = some cell ∧ cell.vm.isStatics = false ∧ s.vm.findClass (am_RX t) = some cell.cls := by
  have hh := am_lt hR.2.2.2.1 (show (am_k μ b).1 < 15 by omega)
  have he := am_w_get (ρ := ρ) (Ch := Ch) hh
  rw [am_cell_obj hb ht] at he
  exact va_recv hK hR.1 (am_cl_get t ht) he
theorem am_recvS {s : State} {H : Heap} {locs : List Loc} {ρ : Nat → Nat} {Ch : Nat → ClassId} {b : Nat} (hAm : am_Amb l D z0 L xs adS s) (hS : va_S (am_A z0) s.heap H locs) (hR : am_Rep D z0 L xs adS μ ρ Ch s H) (hb : (am_k μ b).1 = 16) : ∃ cell : Cell, H[ρ b]? = some cell ∧ cell.vm.isStatics = false ∧ s.vm.findClass "java/lang/String" = some cell.cls := by
  have hW := hR.2.2.2.1
  have hB : am_B ≤ b := by
    rcases Nat.lt_or_ge b (am_n μ) with q | q
    · have := hW.1.2 b q
      omega
    · rcases Nat.lt_or_ge b am_B with q2 | q2
      · rw [hW.2.1 b q q2] at hb
        simp at hb
      · exact q2
  have h2 := (hW.2.2.2 b hB).1
  rw [h2] at hb
  unfold am_k0 at hb
  split at hb
  · simp at hb
  · split at hb
    · split at hb
      · have hj : (b - am_B) / 2 < 8 := by omega
        have e : ρ b = adS (2 * ((b - am_B) / 2)) := (congrArg ρ (show b = am_B + 2 * ((b - am_B) / 2) by omega)).trans (hR.2.2.2.2 _)
        rw [e]
        exact vk_recv (i := (b - am_B) / 2) hAm.2.2.2.2.2.1 hj hS
      · simp at hb
    · simp at hb
theorem sm_callV {idx n d1 b t : Nat} {mi1 : am_MI} {As rest : List Value} {r1 : Option Value} {μ1 : am_M} (hdd : d = d1 + 1) (hg : am_GM mi1) (hpn : (parseMethodDescriptor (am_y mi1).desc).map (fun d => d.parameters.length) = some n) (htag : (t < 7 ∧ am_RX t = (am_y mi1).cls) ∨ (t = 16 ∧ "java/lang/String" = (am_y mi1).cls)) (hw : GoodIn lw_all (wsV (am_CN (am_own mi)) idx (am_y mi1).cls (am_y mi1) (am_W0 mi1))) (hst : st = As.reverse ++ .ref b :: rest) (hb : (am_k μ b).1 = t) (hn : As.length = n) (hcat : am_cat rest ≤ 8) (hlen : (am_exp (.ref b :: As)).length ≤ am_mL mi1)
    (hd : decode (am_code mi) pc = .ok (.invokevirtual idx, 3)) (S1 : am_Sem l D z0 L xs adS d1 mi1 0 (am_ent (am_mL mi1) (.ref b :: As)) [] μ r1 μ1) (hnr : ∀ q, r1 ≠ some (.retAddr q)) (h : am_Sem l D z0 L xs adS d mi (pc + 3) ls (r1.toList ++ rest) μ1 r μ') : am_Sem l D z0 L xs adS d mi pc ls st μ r μ' := by
  refine sm_call hdd hg hlen S1 hnr (fun o => by rw [hst] at o; exact ⟨am_OkL.cons o.app.2.head o.app.1.rev, o.app.2.tail⟩) h (fun {R p e s m args below meth c H locs cells slots ρ Ch lsA} X hM cf hroom hpc hcs hsz => ?_)
  have hrecv : ∃ cell : Cell, H[ρ b]? = some cell ∧ cell.vm.isStatics = false ∧ s.vm.findClass (am_y mi1).cls = some cell.cls := by
    rcases htag with ⟨q1, q2⟩ | ⟨q1, q2⟩
    · rw [← q2]
      exact am_recvO X.1.2.2.2.2.2.2.2.2.1 X.2.2.2.1 q1 hb
    · rw [← q2]
      exact am_recvS X.1.2.2.2.2.2.2.2.2 X.2.2.2.2.1 X.2.2.2.1 (by omega)
  exact va_runV (As := As.map (am_cv ρ)) (C := (am_y mi1).cls) (b := ρ b) (n := n) cf hM (cwV n cf.2.2.2.2 hw rfl rfl rfl ⟨rfl, hg.2.2.2.2.1, hg.2.2.2.2.2, hpn⟩ hroom) ⟨am_blind, hrecv, hpc⟩ rfl (by rw [List.length_map]; exact hn) hsz (am_st_split hst) (by rw [am_cat_map]; show 2 * 0 + _ ≤ 8; omega) hd hcs
theorem sm_callVN {idx n d1 b t : Nat} {mi1 : am_MI} {As rest : List Value} {r1 : Option Value} {μ1 : am_M} (hdd : d = d1 + 1) (hg : am_GM mi1) (hpn : (parseMethodDescriptor (am_y mi1).desc).map (fun d => d.parameters.length) = some n) (htag : t < 7) (htag2 : am_RX t = (am_y mi1).cls) (hw1 : Cond.methodLinkNest (am_CN (am_own mi)) idx (am_y mi1) RX1 ∈ am_nw) (hw2 : Cond.instanceMethod (am_y mi1) ∈ lw_all) (hw3 : Cond.selects (am_y mi1).cls (am_y mi1) (am_y mi1) ∈ lw_all) (hw4 : Cond.initialized (am_y mi1).cls ∈ lw_all) (hw5 : GoodIn lw_all (am_W0 mi1)) (hst : st = As.reverse ++ .ref b :: rest) (hb : (am_k μ b).1 = t) (hn : As.length = n) (hcat : am_cat rest ≤ 8) (hlen : (am_exp (.ref b :: As)).length ≤ am_mL mi1)
    (hd : decode (am_code mi) pc = .ok (.invokevirtual idx, 3)) (S1 : am_Sem l D z0 L xs adS d1 mi1 0 (am_ent (am_mL mi1) (.ref b :: As)) [] μ r1 μ1) (hnr : ∀ q, r1 ≠ some (.retAddr q)) (h : am_Sem l D z0 L xs adS d mi (pc + 3) ls (r1.toList ++ rest) μ1 r μ') : am_Sem l D z0 L xs adS d mi pc ls st μ r μ' := by
  refine sm_call hdd hg hlen S1 hnr (fun o => by rw [hst] at o; exact ⟨am_OkL.cons o.app.2.head o.app.1.rev, o.app.2.tail⟩) h (fun {R p e s m args below meth c H locs cells slots ρ Ch lsA} X hM cf hroom hpc hcs hsz => ?_)
  have hts := cf.2.2.2.2
  have hrecv : ∃ cell : Cell, H[ρ b]? = some cell ∧ cell.vm.isStatics = false ∧ s.vm.findClass (am_y mi1).cls = some cell.cls := by
    rw [← htag2]
    exact am_recvO X.1.2.2.2.2.2.2.2.2.1 X.2.2.2.1 htag hb
  exact va_runVN (As := As.map (am_cv ρ)) (C := (am_y mi1).cls) (b := ρ b) (n := n) (host := RX1) cf hM ⟨va_cnB n hts hw5 rfl rfl rfl (X.1.2.2.2.2.2.2.2.2.2.2.1 _ hw1) (hts _ hw4) ⟨hg.2.2.2.2.1, hg.2.2.2.2.2, hpn⟩ hroom, hts _ hw2, hts _ hw3⟩ ⟨am_blind, hrecv, hpc⟩ rfl (by rw [List.length_map]; exact hn) hsz (am_st_split hst) (by rw [am_cat_map]; show 2 * 0 + _ ≤ 8; omega) hd hcs
theorem sm_callI {idx n d1 b : Nat} {mi1 : am_MI} {As rest : List Value} {r1 : Option Value} {μ1 : am_M} (hdd : d = d1 + 1) (hg : am_GM mi1) (hpn : (parseMethodDescriptor (am_y mi1).desc).map (fun d => d.parameters.length) = some n) (hret : am_ret mi1 = none) (hnm : (am_y mi1).name = "<init>") (hw1 : Cond.methodLink (am_CN (am_own mi)) idx (am_y mi1) ∈ lw_all) (hw2 : Cond.instanceMethod (am_y mi1) ∈ lw_all) (hw4 : Cond.initialized (am_y mi1).cls ∈ lw_all) (hw5 : GoodIn lw_all (am_W0 mi1)) (hst : st = As.reverse ++ .ref b :: rest) (hn : As.length = n) (hcat : am_cat rest ≤ 8) (hlen : (am_exp (.ref b :: As)).length ≤ am_mL mi1)
    (hd : decode (am_code mi) pc = .ok (.invokespecial idx, 3)) (S1 : am_Sem l D z0 L xs adS d1 mi1 0 (am_ent (am_mL mi1) (.ref b :: As)) [] μ r1 μ1) (hnr : ∀ q, r1 ≠ some (.retAddr q)) (h : am_Sem l D z0 L xs adS d mi (pc + 3) ls (r1.toList ++ rest) μ1 r μ') : am_Sem l D z0 L xs adS d mi pc ls st μ r μ' := by
  refine sm_call hdd hg hlen S1 hnr (fun o => by rw [hst] at o; exact ⟨am_OkL.cons o.app.2.head o.app.1.rev, o.app.2.tail⟩) h (fun {R p e s m args below meth c H locs cells slots ρ Ch lsA} X hM cf hroom hpc hcs hsz => ?_)
  have hts := cf.2.2.2.2
  have hw0 : am_W0 mi1 = Cond.code (am_y mi1) (am_code mi1) (am_mL mi1) none :: lw_all := by unfold am_W0; rw [hret]
  exact va_runI (As := As.map (am_cv ρ)) (b := ρ b) (n := n) cf hM (cwI n hts hw5 hw0 rfl rfl (hts _ hw4) (hts _ hw1) (hts _ hw2) hnm ⟨hg.2.2.2.2.1, hg.2.2.2.2.2, hpn⟩ hroom) ⟨am_blind, hpc⟩ rfl (by rw [List.length_map]; exact hn) hsz (am_st_split hst) (by rw [am_cat_map]; show 2 * 0 + _ ≤ 8; omega) hd hcs
theorem sm_callIN {idx n d1 b : Nat} {mi1 : am_MI} {As rest : List Value} {r1 : Option Value} {μ1 : am_M} (hdd : d = d1 + 1) (hg : am_GM mi1) (hpn : (parseMethodDescriptor (am_y mi1).desc).map (fun d => d.parameters.length) = some n) (hret : am_ret mi1 = none) (hnm : (am_y mi1).name = "<init>") (hw1 : Cond.methodLinkNest (am_CN (am_own mi)) idx (am_y mi1) RX1 ∈ am_nw) (hw2 : Cond.instanceMethod (am_y mi1) ∈ lw_all) (hw4 : Cond.initialized (am_y mi1).cls ∈ lw_all) (hw5 : GoodIn lw_all (am_W0 mi1)) (hst : st = As.reverse ++ .ref b :: rest) (hn : As.length = n) (hcat : am_cat rest ≤ 8) (hlen : (am_exp (.ref b :: As)).length ≤ am_mL mi1)
    (hd : decode (am_code mi) pc = .ok (.invokespecial idx, 3)) (S1 : am_Sem l D z0 L xs adS d1 mi1 0 (am_ent (am_mL mi1) (.ref b :: As)) [] μ r1 μ1) (hnr : ∀ q, r1 ≠ some (.retAddr q)) (h : am_Sem l D z0 L xs adS d mi (pc + 3) ls (r1.toList ++ rest) μ1 r μ') : am_Sem l D z0 L xs adS d mi pc ls st μ r μ' := by
  refine sm_call hdd hg hlen S1 hnr (fun o => by rw [hst] at o; exact ⟨am_OkL.cons o.app.2.head o.app.1.rev, o.app.2.tail⟩) h (fun {R p e s m args below meth c H locs cells slots ρ Ch lsA} X hM cf hroom hpc hcs hsz => ?_)
  have hts := cf.2.2.2.2
  have hw0 : am_W0 mi1 = Cond.code (am_y mi1) (am_code mi1) (am_mL mi1) none :: lw_all := by unfold am_W0; rw [hret]
  exact va_runIN (As := As.map (am_cv ρ)) (b := ρ b) (n := n) (host := RX1) cf hM ⟨va_cnB n hts hw5 hw0 rfl rfl (X.1.2.2.2.2.2.2.2.2.2.2.1 _ hw1) (hts _ hw4) ⟨hg.2.2.2.2.1, hg.2.2.2.2.2, hpn⟩ hroom, hnm, hts _ hw2⟩ ⟨am_blind, hpc⟩ rfl (by rw [List.length_map]; exact hn) hsz (am_st_split hst) (by rw [am_cat_map]; show 2 * 0 + _ ≤ 8; omega) hd hcs
theorem am_decl_in : Cond.declares ⟨"CuckooByPost$Node", "value", "()I"⟩ ∈ am_nw := by
  unfold am_nw
  simp
theorem sm_callA {idx d1 b t : Nat} {rest : List Value} {r1 : Option Value} {μ1 : am_M} (hdd : d = d1 + 1) (hg : am_GM (am_vm t)) (ht7 : t < 7) (hw : GoodIn lw_all (va_wsU (am_CN (am_own mi)) idx (am_RX t) "CuckooByPost$Node" ⟨"CuckooByPost$Node", "value", "()I"⟩ (am_y (am_vm t)) (am_W0 (am_vm t)))) (hst : st = .ref b :: rest) (hb : (am_k μ b).1 = t) (hcat : am_cat rest ≤ 8) (hlen : (am_exp [.ref b]).length ≤ am_mL (am_vm t))
    (hd : decode (am_code mi) pc = .ok (.invokevirtual idx, 3)) (S1 : am_Sem l D z0 L xs adS d1 (am_vm t) 0 (am_ent (am_mL (am_vm t)) [.ref b]) [] μ r1 μ1) (hnr : ∀ q, r1 ≠ some (.retAddr q)) (h : am_Sem l D z0 L xs adS d mi (pc + 3) ls (r1.toList ++ rest) μ1 r μ') : am_Sem l D z0 L xs adS d mi pc ls st μ r μ' := by
  refine sm_call hdd hg hlen S1 hnr (fun o => by rw [hst] at o; exact ⟨am_OkL.cons o.head am_OkL.nil, o.tail⟩) h (fun {R p e s m args below meth c H locs cells slots ρ Ch lsA} X hM cf hroom hpc hcs hsz => ?_)
  have hts := cf.2.2.2.2
  exact va_runU (x := ⟨"CuckooByPost$Node", "value", "()I"⟩) (As := []) (C := am_RX t) (owner := "CuckooByPost$Node") (b := ρ b) (n := 0) cf hM (va_cwA 0 hts hw rfl rfl rfl (X.1.2.2.2.2.2.2.2.2.2.2.1 _ am_decl_in) ⟨by decide, by decide, by decide +kernel⟩ hroom) ⟨am_blind, am_recvO X.1.2.2.2.2.2.2.2.2.1 X.2.2.2.1 ht7 hb, hpc⟩ rfl rfl hsz (by rw [hst]; rfl) (by rw [am_cat_map]; show 2 * 0 + _ ≤ 8; omega) hd hcs
end CALLS
