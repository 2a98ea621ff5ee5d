/-! AM, part 6: new cells, native and arithmetic calls, switches, returns -/
set_option maxRecDepth 100000
def am_pu {α : Type} (f : Nat → α) (n : Nat) (a : α) : Nat → α := fun j => if j = n then a else f j
theorem am_pu_s {α : Type} {f : Nat → α} {n : Nat} {a : α} : am_pu f n a n = a := if_pos rfl
theorem am_pu_n {α : Type} {f : Nat → α} {n j : Nat} {a : α} (h : j ≠ n) : am_pu f n a j = f j := if_neg h
/-- the addresses with a new cell's -/
def am_pa (ρ : Nat → Nat) (n a : Nat) : Nat → Nat := am_pu (am_pu ρ (500000 + n) 0) n a
theorem am_pa_s {ρ : Nat → Nat} {n a : Nat} : am_pa ρ n a n = a := am_pu_s
theorem am_pa_n {ρ : Nat → Nat} {n a j : Nat} (h : j ≠ n) (h2 : j ≠ 500000 + n) : am_pa ρ n a j = ρ j := by
  unfold am_pa
  rw [am_pu_n h, am_pu_n h2]
theorem am_pa_g {ρ : Nat → Nat} {n a : Nat} : am_pa ρ n a (500000 + n) = 0 := by
  unfold am_pa
  rw [am_pu_n (by omega), am_pu_s]
section REST
variable {l : Launch} {D : va_G} {z0 L : Nat} {xs : Nat → Int32} {adS : Nat → Nat} {d : Nat} {mi : am_MI} {pc : Nat} {ls st : List Value} {μ μ' : am_M} {r : Option Value}
theorem am_new_old {q : Nat × Nat} {sl j : Nat} (h : j ≠ am_n μ) : am_k (am_new μ q sl) j = am_k μ j ∧ am_I (am_new μ q sl) j = am_I μ j ∧ am_L (am_new μ q sl) j = am_L μ j ∧ am_R (am_new μ q sl) j = am_R μ j :=
  ⟨if_neg h, funext fun _ => if_neg h, funext fun _ => if_neg h, funext fun _ => if_neg h⟩
theorem am_new_new {q : Nat × Nat} {sl : Nat} : am_k (am_new μ q sl) (am_n μ) = q ∧ am_I (am_new μ q sl) (am_n μ) = (fun _ => 0) ∧ am_L (am_new μ q sl) (am_n μ) = (fun _ => 0) ∧ am_R (am_new μ q sl) (am_n μ) = (fun _ => none) :=
  ⟨if_pos rfl, funext fun _ => if_pos rfl, funext fun _ => if_pos rfl, funext fun _ => if_pos rfl⟩
theorem am_cell_pa {ρ : Nat → Nat} {Ch : Nat → ClassId} {q : Nat × Nat} {sl a j : Nat} {cA : ClassId} (hW : am_WF L xs μ) (hj : j < am_n μ) : am_cell (am_new μ q sl) (am_pa ρ (am_n μ) a) (am_pu Ch (am_n μ) cA) j = am_cell μ ρ Ch j := by
  have h1 := hW.1.1
  obtain ⟨e1, e2, e3, e4⟩ := am_new_old (q := q) (sl := sl) (show j ≠ am_n μ by omega)
  have hR : ∀ k, (am_R μ j k).map (am_pa ρ (am_n μ) a) = (am_R μ j k).map ρ := by
    intro k
    cases hv : am_R μ j k with
    | none => rfl
    | some v =>
      have := hW.2.2.1 j k v (am_nB hW hj) hv
      show some (am_pa ρ (am_n μ) a v) = some (ρ v)
      rw [am_pa_n (by omega) (by omega)]
  have hg : am_gv (am_pa ρ (am_n μ) a) j = am_gv ρ j := by
    have : am_pa ρ (am_n μ) a (500000 + j) = ρ (500000 + j) := am_pa_n (by omega) (by omega)
    unfold am_gv
    rw [this]
  have hf : am_fval (am_new μ q sl) (am_pa ρ (am_n μ) a) (am_k μ j).1 j = am_fval μ ρ (am_k μ j).1 j := by
    funext k
    unfold am_fval
    rw [e4, e2, hR, hg]
  unfold am_cell
  rw [e1, e2, e3, e4, hf, am_pu_n (show j ≠ am_n μ by omega)]
  simp only [hR]
theorem am_Rep.push {ρ : Nat → Nat} {Ch : Nat → ClassId} {s : State} {H H1 : Heap} {a : Nat} {cA : ClassId} {q : Nat × Nat} {sl : Nat} {e : va_E} (hR : am_Rep D z0 L xs adS μ ρ Ch s H) (hn : am_n μ < 400000) (hq : q.1 < 15) (he : am_cell (am_new μ q sl) (am_pa ρ (am_n μ) a) (am_pu Ch (am_n μ) cA) (am_n μ) = e)
    (hA : ∀ ty, am_aty q.1 = some ty → ArrOfT s cA ty ∧ va_RA s cA ty) (hP : va_P D am_cl (am_w μ ρ Ch ++ [(a, e)]) H1) (hD : va_D (am_A z0) (am_w μ ρ Ch ++ [(a, e)])) : am_Rep D z0 L xs adS (am_new μ q sl) (am_pa ρ (am_n μ) a) (am_pu Ch (am_n μ) cA) s H1 := by
  have hW := hR.2.2.2.1
  have h1 := hW.1.1
  rw [am_w_push (μ' := am_new μ q sl) (ρ' := am_pa ρ (am_n μ) a) (Ch' := am_pu Ch (am_n μ) cA) rfl (fun j hj => ⟨am_pa_n (by omega) (by omega), am_cell_pa hW hj⟩) am_pa_s he] at hP hD
  refine ⟨hP, hD, fun x hx ty ht => ?_, hW.new hn hq, fun j => ?_⟩
  · have hx : x < am_n μ + 1 := hx
    by_cases hxn : x = am_n μ
    · rw [hxn] at ht ⊢
      rw [am_new_new.1] at ht
      rw [am_pu_s]
      exact hA ty ht
    · rw [(am_new_old hxn).1] at ht
      rw [am_pu_n hxn]
      exact hR.2.2.1 x (by omega) ty ht
  · rw [am_pa_n (by unfold am_B; omega) (by unfold am_B; omega)]
    exact hR.2.2.2.2 j
/-- an instruction that makes a cell -/
theorem sm_al {pc1 : Nat} {st1 : List Value} {q : Nat × Nat} {sl : Nat} (h : am_Sem l D z0 L xs adS d mi pc1 ls (.ref (am_n μ) :: st1) (am_new μ q sl) r μ') (hok : am_OkL (am_n μ) st → am_OkL (am_n μ) st1)
    (row : ∀ {R : Room} {p : Program} {e : Env} {s : State} {m : MethodId} {args : Array Value} {below : List Frame} {meth : Method} {c : Code} {H : Heap} {locs : List Loc} {cells slots : Nat} {Q : State → Prop} {ρ : Nat → Nat} {Ch : Nat → ClassId} {lsA : Array Slot}, am_St l D z0 L xs adS d mi R p s m args meth c H locs cells slots ρ Ch lsA ls st μ μ' → cells + 1 ≤ R.cells → slots + sl ≤ R.slots →
      (∀ (a : Nat) (cA : ClassId) (H1 : Heap), am_Rep D z0 L xs adS (am_new μ q sl) (am_pa ρ (am_n μ) a) (am_pu Ch (am_n μ) cA) s H1 → va_S (am_A z0) s.heap H1 locs → W p l e R s m args below meth c H1 locs (cells + 1) (slots + sl) Q (F0 m pc1 lsA (.ref a :: st1.map (am_cv ρ)))) → W p l e R s m args below meth c H locs cells slots Q (F0 m pc lsA (st.map (am_cv ρ)))) : am_Sem l D z0 L xs adS d mi pc ls st μ r μ' := by
  have m1 : am_c μ + 1 ≤ am_c μ' := h.1.1
  have m2 : am_s μ + sl ≤ am_s μ' := h.1.2.1
  have m3 : am_n μ + 1 ≤ am_n μ' := h.1.2.2
  refine ⟨⟨by omega, by omega, by omega⟩, fun R p e s m args below meth c H locs cells slots Q ρ Ch lsA X F => row X ?_ ?_ (fun a cA H1 hR1 hS1 => ?_)⟩
  · have := X.2.2.1.1; omega
  · have := X.2.2.1.2; omega
  · have hR := X.2.2.2.1
    have h1 := hR.2.2.2.1.1.1
    have hag : am_agr (am_n μ) ρ (am_pa ρ (am_n μ) a) := fun j hj => am_pa_n (by omega) (by omega)
    have ho1 := hok X.2.2.2.2.2.2.2
    have k := h.2 R p e s m args below meth c H1 locs (cells + 1) (slots + sl) Q (am_pa ρ (am_n μ) a) (am_pu Ch (am_n μ) cA) lsA ⟨X.1, X.2.1, ?_, hR1, hS1, X.2.2.2.2.2.1.agr hag hR.2.2.2.2 hR1.2.2.2.2 X.2.2.2.2.2.2.1, X.2.2.2.2.2.2.1.mono (Nat.le_succ _), am_OkL.cons (Or.inl (Nat.lt_succ_self _)) (ho1.mono (Nat.le_succ _))⟩ ?_
    · rw [List.map_cons, am_map_agr hag hR.2.2.2.2 hR1.2.2.2.2 ho1] at k
      have e1 : am_cv (am_pa ρ (am_n μ) a) (.ref (am_n μ)) = .ref a := by
        show Value.ref (am_pa ρ (am_n μ) a (am_n μ)) = _
        rw [am_pa_s]
      rw [e1] at k
      exact k
    · show cells + 1 + (am_c μ' - (am_c μ + 1)) ≤ _ ∧ slots + sl + (am_s μ' - (am_s μ + sl)) ≤ _
      have := X.2.2.1
      omega
    · have c1 : cells + 1 + (am_c μ' - am_c (am_new μ q sl)) = cells + (am_c μ' - am_c μ) := by
        show cells + 1 + (am_c μ' - (am_c μ + 1)) = _
        omega
      have c2 : slots + sl + (am_s μ' - am_s (am_new μ q sl)) = slots + (am_s μ' - am_s μ) := by
        show slots + sl + (am_s μ' - (am_s μ + sl)) = _
        omega
      rw [c1, c2]
      have tr : ∀ {ρ2 : Nat → Nat}, am_agr (am_n (am_new μ q sl)) (am_pa ρ (am_n μ) a) ρ2 → am_agr (am_n μ) ρ ρ2 := fun q => hag.trans q (Nat.le_succ _)
      exact ⟨fun H2 locs2 ρ2 Ch2 pc2 ls2 i2 a1 a2 a3 a4 a5 a6 => F.1 H2 locs2 ρ2 Ch2 pc2 ls2 i2 a1 a2 a3 (tr a4) a5 a6, fun hr H2 locs2 ρ2 Ch2 pc2 ls2 st2 c2 s2 a1 a2 a3 a4 a5 a6 a7 a8 a9 a10 a11 => F.2 hr H2 locs2 ρ2 Ch2 pc2 ls2 st2 c2 s2 a1 a2 a3 a4 a5 a6 a7 a8 a9 (tr a10) a11⟩
theorem am_vin0 {n : Int32} {N : Nat} (hN : n.toNatClampNeg = N) : n.toNatClampNeg = N := hN
theorem sm_newarr {n : Int32} {t : ArrayType} {tg : Nat} (ht : am_AT t = some tg) (h0 : ¬ n < 0) (h1 : n.toNatClampNeg ≤ 100000) (hn : am_n μ < 400000) (hd : decode (am_code mi) pc = .ok (.newarray t, 2)) (h : am_Sem l D z0 L xs adS d mi (pc + 2) ls (.ref (am_n μ) :: st) (am_new μ (tg, n.toNatClampNeg) n.toNatClampNeg) r μ') : am_Sem l D z0 L xs adS d mi pc ls (.int n :: st) μ r μ' := by
  refine sm_al h (fun o => o.tail) (fun {R p e s m args below meth c H locs cells slots Q ρ Ch lsA} X hc1 hc2 k => ?_)
  obtain ⟨⟨hx, hb, hml, hr, hlk, hown, hts, hfl, hAm⟩, -, -, hR, hS, hL, hol, hos⟩ := X
  have hA0 : ∀ q, s.heap.size ≤ q → am_A z0 q := fun q hq => Nat.le_trans hAm.2.1 hq
  have key : ∀ (ty : FieldType) (a0 : vp_A), newarray.typeOf t = ty → Cond.arrayClass ty ∈ lw_all → am_aty tg = some ty → tg < 15 → (∀ cA, vp_cell cA a0 = arrV cA n.toNatClampNeg (fun _ => defaultValue ty)) → componentBytes ty ≤ 8 → (∀ ρ1 Ch1, am_cell (am_new μ (tg, n.toNatClampNeg) n.toNatClampNeg) ρ1 Ch1 (am_n μ) = .inl (Ch1 (am_n μ), a0)) →
      W p l e R s m args below meth c H locs cells slots Q (F0 m pc lsA ((Value.int n :: st).map (am_cv ρ))) := by
    intro ty a0 h2 h3 h4 h5 h6 h7 h8
    refine va_newa (atype := t) (a0 := a0) (N' := n.toNatClampNeg) hx hb (by rw [h2]; exact hts _ h3) h2 hAm.1 hR.1 hR.2.1 hS hA0 h6 h0 rfl (by
      have := Nat.mul_le_mul h1 h7
      omega) hc1 hc2 hd (fun q cA H1 hK1 hP1 hD1 hS1 => ?_)
    refine k q cA H1 (hR.push (cA := cA) hn h5 (by rw [h8, am_pu_s]) (fun ty' h9 => ?_) hP1 hD1) hS1
    rw [h4] at h9
    cases h9
    exact hK1.2 0 _ rfl
  obtain ⟨e1, e2, e3, e4⟩ := am_new_new (μ := μ) (q := (tg, n.toNatClampNeg)) (sl := n.toNatClampNeg)
  cases t <;> simp only [am_AT] at ht <;> first | cases ht | skip
  · exact key .boolean (n.toNatClampNeg, .inl (fun _ => 0)) rfl q325 rfl (by decide) (fun _ => rfl) (by decide) (fun ρ1 Ch1 => by rw [am_cell_i (Or.inr (Or.inr (by rw [e1]))), e1, e2])
  · exact key .byte (n.toNatClampNeg, .inl (fun _ => 0)) rfl q478 rfl (by decide) (fun _ => rfl) (by decide) (fun ρ1 Ch1 => by rw [am_cell_i (Or.inr (Or.inl (by rw [e1]))), e1, e2])
  · exact key .int (n.toNatClampNeg, .inl (fun _ => 0)) rfl q197 rfl (by decide) (fun _ => rfl) (by decide) (fun ρ1 Ch1 => by rw [am_cell_i (Or.inl (by rw [e1])), e1, e2])
  · exact key .long (n.toNatClampNeg, .inr (.inl (fun _ => 0))) rfl q326 rfl (by decide) (fun _ => rfl) (by decide) (fun ρ1 Ch1 => by rw [am_cell_l (by rw [e1]), e1, e3])
theorem sm_anew {n : Int32} (hown1 : am_own mi = 1) (h0 : ¬ n < 0) (h1 : n.toNatClampNeg ≤ 100000) (hn : am_n μ < 400000) (hd : decode (am_code mi) pc = .ok (.anewarray 7, 3)) (h : am_Sem l D z0 L xs adS d mi (pc + 3) ls (.ref (am_n μ) :: st) (am_new μ (14, n.toNatClampNeg) n.toNatClampNeg) r μ') : am_Sem l D z0 L xs adS d mi pc ls (.int n :: st) μ r μ' := by
  refine sm_al h (fun o => o.tail) (fun {R p e s m args below meth c H locs cells slots Q ρ Ch lsA} X hc1 hc2 k => ?_)
  obtain ⟨⟨hx, hb, hml, hr, hlk, hown, hts, hfl, hAm⟩, -, -, hR, hS, hL, hol, hos⟩ := X
  have hA0 : ∀ q, s.heap.size ≤ q → am_A z0 q := fun q hq => Nat.le_trans hAm.2.1 hq
  obtain ⟨e1, e2, e3, e4⟩ := am_new_new (μ := μ) (q := (14, n.toNatClampNeg)) (sl := n.toNatClampNeg)
  rw [hown1] at hown
  refine va_newq (C := "CuckooByPost$Spring") hx hb hown (hts _ (am_NT_ok nt_1_7).2.1) hAm.2.2.2.1 hAm.1 hR.1 hR.2.1 hS hA0 h0 rfl (by omega) hc1 hc2 hd (fun q cA H1 hK1 hP1 hD1 hS1 => ?_)
  refine k q cA H1 (hR.push (cA := cA) hn (show (14 : Nat) < 15 by decide) (by rw [am_cell_q (by rw [e1]), e1, e4, am_pu_s]; rfl) (fun ty' h9 => ?_) hP1 hD1) hS1
  cases h9
  exact hK1.2 0 _ rfl
/-- a new object of a class of which fewer fields may be told than it has -/
theorem am_vnew {p : Program} {e : Env} {R : Room} {s : State} {m : MethodId} {args : Array Value} {below : List Frame} {meth : Method} {H : Heap} {locs : List Loc} {cells slots : Nat} {Q : State → Prop} {cc : ByteArray} {lsA : Array Slot} {rest : List Value} {A : Nat → Prop} {ws : va_W} {H0 : Heap} {cl : List vw_C} {tys : List (ClassId × FieldType)}
    {c0 : Code} (hexec : p.tables.exec = Jvm.exec) (hb : c0.code = cc) {own C : String} {T : u_T} {N n ci index : Nat} {Ts : List Cond} (hts : ∀ w ∈ Ts, w.before args s = true) (hin : ∀ w ∈ u_ws C T N, w ∈ Ts) (ty : Nat → FieldType) (hty : ∀ k, k < N → parseFieldDescriptor (T k).2.2.1 = some (ty k)) (hown : s.vm.findClass own = some m.cls) (hcl : (Cond.classLink own index C).before args s = true) (hinst : (Cond.instantiable C n).before args s = true) (hini : (Cond.initialized C).before args s = true)
    (hK : va_K D cl tys s) (hP : va_P D cl ws H) (hD : va_D A ws) (hS : va_S A H0 H locs) (hA : ∀ q, H0.size ≤ q → A q) (hc : cl[ci]? = some (C, T, N)) {fs : List Value} (hfs : ∀ j, j < N → defaultValue (ty j) = vp_V fs j) (hcells : cells + 1 ≤ R.cells) (hslots : slots + n ≤ R.slots) (hdg : decode cc pc = .ok (.new index, 3))
    (kk : ∀ (q : Nat) (H1 : Heap), va_P D cl (ws ++ [(q, .inr (ci, fs))]) H1 → va_D A (ws ++ [(q, .inr (ci, fs))]) → va_S A H0 H1 locs →
      W p l e R s m args below meth c0 H1 locs (cells + 1) (slots + n) Q (F0 m (pc + 3) lsA (.ref q :: rest))) : W p l e R s m args below meth c0 H locs cells slots Q (F0 m pc lsA rest) := by
  have hKn := hK.1 ci _ hc
  refine W.newcK hexec hb hown hcl hinst hini rfl hdg hcells hslots hKn.2.1 rfl fun H1 kC hkC e1 z1 o1 => ?_
  have hk : ∀ (k : Nat) (x : Nat × va_E), ws[k]? = some x → H1[x.1]? = H[x.1]? := fun k x hx => o1 x.1 ((hP k x hx).lt)
  refine kk H.size H1 ((hP.kept hk).app (fun k x hx => ?_)) (hD.push hP rfl (hA _ hS.1)) ⟨Nat.le_trans hS.1 (by omega), fun x h1 h2 => (o1 x (Nat.lt_of_lt_of_le h1 hS.1)).trans (hS.2.1 x h1 h2), hS.2.2⟩
  have hz : k < 1 := (List.getElem?_eq_some_iff.mp hx).1
  rw [show k = 0 by omega] at hx
  cases hx
  exact ⟨_, hc, (u_born ty hts hin hKn hkC e1 hty).to hfs⟩
theorem am_dflt : ∀ ci, ci < 7 → ∀ k, k < am_N ci → defaultValue (am_ty ci k) = if am_fk ci k = 3 ∨ am_fk ci k = 4 then .null else .int 0 := by
  have h : (List.range 7).all (fun ci => (List.range (am_N ci)).all (fun k => decide (defaultValue (am_ty ci k) = if am_fk ci k = 3 ∨ am_fk ci k = 4 then .null else .int 0))) = true := by decide +kernel
  intro ci hc k hk
  exact of_decide_eq_true (am_all_ck h ci hc k hk)
theorem sm_new {idx t : Nat} (ht : am_NT (am_own mi) idx = some t) (hn : am_n μ < 400000) (hd : decode (am_code mi) pc = .ok (.new idx, 3)) (h : am_Sem l D z0 L xs adS d mi (pc + 3) ls (.ref (am_n μ) :: st) (am_new μ (t, 0) (am_NS t)) r μ') : am_Sem l D z0 L xs adS d mi pc ls st μ r μ' := by
  refine sm_al h (fun o => o) (fun {R p e s m args below meth c H locs cells slots Q ρ Ch lsA} X hc1 hc2 k => ?_)
  obtain ⟨⟨hx, hb, hml, hr, hlk, hown, hts, hfl, hAm⟩, -, -, hR, hS, hL, hol, hos⟩ := X
  have hA0 : ∀ q, s.heap.size ≤ q → am_A z0 q := fun q hq => Nat.le_trans hAm.2.1 hq
  obtain ⟨h7, w1, w2, w3⟩ := am_NT_ok ht
  obtain ⟨e1, e2, e3, e4⟩ := am_new_new (μ := μ) (q := (t, 0)) (sl := am_NS t)
  refine am_vnew (C := am_RX t) (T := am_T t) (N := am_N t) (ci := t) (fs := (List.range (am_N t)).map (fun k => if am_fk t k = 3 ∨ am_fk t k = 4 then .null else .int 0)) hx hb hts (am_in t h7) (am_ty t) (am_tyok t h7) hown (hts _ w1) (hts _ w2) (hts _ w3) hAm.1 hR.1 hR.2.1 hS hA0 (am_cl_get t h7) (fun j hj => by rw [am_vpV hj]; exact am_dflt t h7 j hj) hc1 hc2 hd (fun q H1 hP1 hD1 hS1 => ?_)
  refine k q 0 H1 (hR.push (cA := 0) hn (show t < 15 by omega) ?_ (fun ty' h9 => ?_) hP1 hD1) hS1
  · rw [am_cell_obj (ci := t) (by rw [e1]) h7]
    congr 2
    apply List.map_congr_left
    intro j hj
    unfold am_fval
    rw [e4, e2]
    by_cases h3 : am_fk t j = 3
    · simp [h3]
      rfl
    · by_cases h4 : am_fk t j = 4
      · simp [h4, am_gv, am_pa_g]
      · simp [h3, h4]
  · have h9 : am_aty t = some ty' := h9
    match t, h7, h9 with
    | 0, _, h9 => cases h9
    | 1, _, h9 => cases h9
    | 2, _, h9 => cases h9
    | 3, _, h9 => cases h9
    | 4, _, h9 => cases h9
    | 5, _, h9 => cases h9
    | 6, _, h9 => cases h9
/-! natives -/
theorem sm_copy {idx : Nat} {n dp sp : Int32} {a a0 : Nat} {rest : List Value} (hw : Cond.methodLink (am_CN (am_own mi)) idx arraycopyName ∈ lw_all) (hka : (am_k μ a).1 = 10) (hk0 : (am_k μ a0).1 = 10) (hcat : am_cat rest ≤ 8) (hd1 : 1 ≤ d) (h1 : ¬ sp < 0) (h2 : ¬ dp < 0) (h3 : ¬ n < 0) (h4 : sp.toNatClampNeg + n.toNatClampNeg ≤ (am_k μ a0).2) (h5 : dp.toNatClampNeg + n.toNatClampNeg ≤ (am_k μ a).2) (hd : decode (am_code mi) pc = .ok (.invokestatic idx, 3))
    (h : am_Sem l D z0 L xs adS d mi (pc + 3) ls rest (am_cp μ a0 a sp.toNatClampNeg dp.toNatClampNeg n.toNatClampNeg) r μ') : am_Sem l D z0 L xs adS d mi pc ls (.int n :: .int dp :: .ref a :: .int sp :: .ref a0 :: rest) μ r μ' := by
  refine sm_wr h ⟨rfl, rfl, rfl⟩ (fun o => o.tail.tail.tail.tail.tail) (fun {R p e s m args below meth c H locs cells slots Q ρ Ch lsA} X k => ?_)
  obtain ⟨⟨hx, hb, hml, hr, hlk, hown, hts, hfl, hAm⟩, ⟨hr1, hr2⟩, -, hR, hS, hL, hol, hos⟩ := X
  have hha := am_lt hR.2.2.2.1 (show (am_k μ a).1 < 15 by omega)
  have hh0 := am_lt hR.2.2.2.1 (show (am_k μ a0).1 < 15 by omega)
  have hA := hR.2.2.1 a hha .int (by rw [hka]; rfl)
  have hA2 := hR.2.2.1 a0 hh0 .int (by rw [hk0]; rfl)
  have hea := am_w_get (ρ := ρ) (Ch := Ch) hha
  have he0 := am_w_get (ρ := ρ) (Ch := Ch) hh0
  rw [am_cell_i (Or.inl hka)] at hea
  rw [am_cell_i (Or.inl hk0)] at he0
  have hK2 : va_K D am_cl [(Ch a0, .int), (Ch a, .int)] s := (am_K1 hAm.1 hA2).app (am_K1 hAm.1 hA)
  refine va_copyi hx hb (by rw [hml, hL.1]) hown (hts _ hw) (hts _ q594) (hts _ q593) (hts _ q121) hK2 hR.1 hR.2.1 hS a0 a 0 1 he0 hea rfl rfl rfl h1 h2 h3 h4 h5 (fun i _ => rfl) (by omega) (by
    rw [am_cat_map]
    have : nativeFrameWords "java/lang/System" "arraycopy" 5 = 7 := by decide +kernel
    rw [this]
    omega) hd (fun H1 locs1 hP1 hD1 hS1 => k H1 locs1 (hR.upd rfl rfl (fun j hj => ?_) ?_ (hR.2.2.2.1.cp hha) hP1 hD1) hS1)
  · exact am_cell_congr rfl (if_neg hj) rfl rfl
  · rw [am_cell_i (μ := am_cp μ a0 a sp.toNatClampNeg dp.toNatClampNeg n.toNatClampNeg) (Or.inl hka)]
    have e9 : am_I (am_cp μ a0 a sp.toNatClampNeg dp.toNatClampNeg n.toNatClampNeg) a = va_cpy (am_I μ a0) (am_I μ a) sp.toNatClampNeg dp.toNatClampNeg n.toNatClampNeg := if_pos rfl
    rw [e9]
    rfl
theorem sm_max {idx : Nat} {x y : Int32} {rest : List Value} (hw : Cond.methodLink (am_CN (am_own mi)) idx Lib.Math.max.name ∈ lw_all) (hcat : am_cat rest ≤ 8) (hd1 : 1 ≤ d) (hd : decode (am_code mi) pc = .ok (.invokestatic idx, 3)) (h : am_Sem l D z0 L xs adS d mi (pc + 3) ls (.int (if x < y then y else x) :: rest) μ r μ') : am_Sem l D z0 L xs adS d mi pc ls (.int y :: .int x :: rest) μ r μ' := by
  refine ⟨h.1, fun R p e s m args below meth c H locs cells slots Q ρ Ch lsA X F => ?_⟩
  have X0 := X
  obtain ⟨⟨hx, hb, hml, hr, hlk, hown, hts, hfl, hAm⟩, ⟨hr1, hr2⟩, ⟨hc1, hc2⟩, hR, hS, hL, hol, hos⟩ := X
  exact va_mmax hx hb (by rw [hml, hL.1]) hown (hts _ hw) (hts _ q391) (hts _ q105) (hts _ q392) (by omega) (by rw [am_cat_map]; omega) (by omega) (by omega) hd (h.2 _ _ _ _ _ _ _ _ _ _ _ _ _ _ _ _ _ ⟨X0.1, X0.2.1, X0.2.2.1, X0.2.2.2.1, X0.2.2.2.2.1, X0.2.2.2.2.2.1, X0.2.2.2.2.2.2.1, am_OkL.cons trivial hos.tail.tail⟩ F)
theorem sm_min {idx : Nat} {x y : Int32} {rest : List Value} (hw : Cond.methodLink (am_CN (am_own mi)) idx Lib.Math.min.name ∈ lw_all) (hcat : am_cat rest ≤ 8) (hd1 : 1 ≤ d) (hd : decode (am_code mi) pc = .ok (.invokestatic idx, 3)) (h : am_Sem l D z0 L xs adS d mi (pc + 3) ls (.int (if y < x then y else x) :: rest) μ r μ') : am_Sem l D z0 L xs adS d mi pc ls (.int y :: .int x :: rest) μ r μ' := by
  refine ⟨h.1, fun R p e s m args below meth c H locs cells slots Q ρ Ch lsA X F => ?_⟩
  have X0 := X
  obtain ⟨⟨hx, hb, hml, hr, hlk, hown, hts, hfl, hAm⟩, ⟨hr1, hr2⟩, ⟨hc1, hc2⟩, hR, hS, hL, hol, hos⟩ := X
  exact va_mmin hx hb (by rw [hml, hL.1]) hown (hts _ hw) (hts _ q347) (hts _ q105) (hts _ q348) (by omega) (by rw [am_cat_map]; omega) (by omega) (by omega) hd (h.2 _ _ _ _ _ _ _ _ _ _ _ _ _ _ _ _ _ ⟨X0.1, X0.2.1, X0.2.2.1, X0.2.2.2.1, X0.2.2.2.2.1, X0.2.2.2.2.2.1, X0.2.2.2.2.2.2.1, am_OkL.cons trivial hos.tail.tail⟩ F)
theorem sm_abs {idx : Nat} {x : Int32} {rest : List Value} (hw : Cond.methodLink (am_CN (am_own mi)) idx Lib.Math.abs.name ∈ lw_all) (hcat : am_cat rest ≤ 8) (hd1 : 1 ≤ d) (hd : decode (am_code mi) pc = .ok (.invokestatic idx, 3)) (h : am_Sem l D z0 L xs adS d mi (pc + 3) ls (.int (if 0 ≤ x then x else 0 - x) :: rest) μ r μ') : am_Sem l D z0 L xs adS d mi pc ls (.int x :: rest) μ r μ' := by
  refine ⟨h.1, fun R p e s m args below meth c H locs cells slots Q ρ Ch lsA X F => ?_⟩
  have X0 := X
  obtain ⟨⟨hx, hb, hml, hr, hlk, hown, hts, hfl, hAm⟩, ⟨hr1, hr2⟩, ⟨hc1, hc2⟩, hR, hS, hL, hol, hos⟩ := X
  exact va_mabs hx hb (by rw [hml, hL.1]) hown (hts _ hw) (hts _ q662) (hts _ q105) (hts _ q663) (by omega) (by rw [am_cat_map]; omega) (by omega) (by omega) hd (h.2 _ _ _ _ _ _ _ _ _ _ _ _ _ _ _ _ _ ⟨X0.1, X0.2.1, X0.2.2.1, X0.2.2.2.1, X0.2.2.2.2.1, X0.2.2.2.2.2.1, X0.2.2.2.2.2.2.1, am_OkL.cons trivial hos.tail⟩ F)
theorem sm_obj {idx x : Nat} {rest : List Value} (hw : Cond.methodLink (am_CN (am_own mi)) idx Lib.objectInit ∈ lw_all) (hcat : am_cat rest ≤ 8) (hd1 : 1 ≤ d) (hd : decode (am_code mi) pc = .ok (.invokespecial idx, 3)) (h : am_Sem l D z0 L xs adS d mi (pc + 3) ls rest μ r μ') : am_Sem l D z0 L xs adS d mi pc ls (.ref x :: rest) μ r μ' := by
  refine ⟨h.1, fun R p e s m args below meth c H locs cells slots Q ρ Ch lsA X F => ?_⟩
  have X0 := X
  obtain ⟨⟨hx, hb, hml, hr, hlk, hown, hts, hfl, hAm⟩, ⟨hr1, hr2⟩, ⟨hc1, hc2⟩, hR, hS, hL, hol, hos⟩ := X
  refine W.objInit hx hb hown (hts _ hw) (hts _ q128) (hts _ q129) rfl (by rw [hml]; exact hL.1) rfl hd (by omega) ?_ (h.2 _ _ _ _ _ _ _ _ _ _ _ _ _ _ _ _ _ ⟨X0.1, X0.2.1, X0.2.2.1, X0.2.2.2.1, X0.2.2.2.2.1, X0.2.2.2.2.2.1, X0.2.2.2.2.2.2.1, hos.tail⟩ F)
  rw [am_cat_map]
  show 2 * 0 + _ + 12 ≤ _
  omega
/-! switches -/
theorem am_swK_spec {α : Type} (K : Int → Option α) (x : Int32) (dflt : Int) : ∀ (os : List Int) (lo : Int), (∃ (j : Nat) (o : Int), os[j]? = some o ∧ x = Int32.ofInt (lo + j)) ∨ (∀ j : Nat, j < os.length → x ≠ Int32.ofInt (lo + j)) := by
  intro os lo
  by_cases h : ∃ j : Nat, j < os.length ∧ x = Int32.ofInt (lo + j)
  · obtain ⟨j, hj, hx⟩ := h
    exact Or.inl ⟨j, os[j], List.getElem?_eq_getElem hj, hx⟩
  · exact Or.inr (fun j hj e => h ⟨j, hj, e⟩)
theorem am_swK_go {K : Int → am_Res} {x : Int32} {dflt : Int} : ∀ (os : List Int) (lo : Int), (∃ (j : Nat) (o : Int), os[j]? = some o ∧ x = Int32.ofInt (lo + j) ∧ am_swK K x lo os dflt = K o) ∨ ((∀ j : Nat, j < os.length → x ≠ Int32.ofInt (lo + j)) ∧ am_swK K x lo os dflt = K dflt) := by
  intro os
  induction os with
  | nil => intro lo; exact Or.inr ⟨fun j hj => by simp at hj, rfl⟩
  | cons o os ih =>
    intro lo
    unfold am_swK
    by_cases h : x = Int32.ofInt lo
    · rw [if_pos h]
      exact Or.inl ⟨0, o, rfl, by rw [h]; simp, rfl⟩
    · rw [if_neg h]
      rcases ih (lo + 1) with ⟨j, o', h1, h2, h3⟩ | ⟨h1, h2⟩
      · exact Or.inl ⟨j + 1, o', h1, by rw [h2]; congr 1; omega, h3⟩
      · refine Or.inr ⟨fun j hj => ?_, h2⟩
        cases j with
        | zero => simpa using h
        | succ j =>
          have := h1 j (by simpa using hj)
          intro e
          apply this
          rw [e]
          congr 1
          omega
theorem sm_tsw {dflt lo hi : Int} {offs : Array Int} {len : Nat} {x : Int32} {o : Int} {tgt : Nat} (hlen : hi - lo + 1 = (offs.toList.length : Int)) (hlo : -2147483648 ≤ lo) (hhi : hi < 2147483648) (ho : (∃ j : Nat, offs.toList[j]? = some o ∧ x = Int32.ofInt (lo + j)) ∨ ((∀ j : Nat, j < offs.toList.length → x ≠ Int32.ofInt (lo + j)) ∧ o = dflt)) (ht : (pc : Int) + o = (tgt : Int)) (hd : decode (am_code mi) pc = .ok (.tableswitch dflt lo hi offs, len)) (h : am_Sem l D z0 L xs adS d mi tgt ls st μ r μ') : am_Sem l D z0 L xs adS d mi pc ls (.int x :: st) μ r μ' := by
  refine sm_simple h (fun _ o => o.tail) (fun X k => ?_)
  rcases ho with ⟨j, h1, h2⟩ | ⟨h1, h2⟩
  · have hj := (List.getElem?_eq_some_iff.mp h1).1
    have e : x.toInt = lo + j := by
      rw [h2]
      exact Int32.toInt_ofInt_of_le (by omega) (by omega)
    refine lv_tableIn X.1.1 X.1.2.1 hd (by omega) (by omega) (off := o) ?_ ht k
    rw [e, show (lo + (j : Int) - lo).toNat = j by omega]
    simpa using h1
  · refine lv_tableOut X.1.1 X.1.2.1 hd ?_ (by rw [← h2]; exact ht) k
    rcases Int.lt_or_le x.toInt lo with q | q
    · exact Or.inl q
    · rcases Int.lt_or_le hi x.toInt with q2 | q2
      · exact Or.inr q2
      · exfalso
        refine h1 (x.toInt - lo).toNat (by omega) ?_
        rw [show lo + ((x.toInt - lo).toNat : Int) = x.toInt by omega]
        exact (Int32.ofInt_toInt x).symm
theorem am_lkK_go {K : Int → am_Res} {x : Int32} {dflt : Int} : ∀ (ps : List (Int × Int)), ps.all (fun a => decide (-2147483648 ≤ a.1) && decide (a.1 < 2147483648)) = true → am_lkK K x ps dflt = K (Op.lookupswitch.offset ps dflt x.toInt) := by
  intro ps
  induction ps with
  | nil => intro _; rfl
  | cons q ps ih =>
    obtain ⟨a, o⟩ := q
    intro h
    simp only [List.all_cons, Bool.and_eq_true, decide_eq_true_eq] at h
    rw [Op.lookupswitch.offset_cons]
    unfold am_lkK
    have e : Int32.toInt (Int32.ofInt a) = a := Int32.toInt_ofInt_of_le (by omega) (by omega)
    by_cases hx : x = Int32.ofInt a
    · rw [if_pos hx, if_pos (by rw [hx, e])]
    · rw [if_neg hx, if_neg (fun z => hx (by rw [z]; exact (Int32.ofInt_toInt x).symm))]
      exact ih h.2
theorem sm_lsw {dflt : Int} {ps : Array (Int × Int)} {len : Nat} {x : Int32} {tgt : Nat} (hp : (ps.toList.zip (ps.toList.drop 1)).all (fun (a, next) => a.1 < next.1) = true) (ht : (pc : Int) + Op.lookupswitch.offset ps.toList dflt x.toInt = (tgt : Int)) (hd : decode (am_code mi) pc = .ok (.lookupswitch dflt ps, len)) (h : am_Sem l D z0 L xs adS d mi tgt ls st μ r μ') : am_Sem l D z0 L xs adS d mi pc ls (.int x :: st) μ r μ' :=
  sm_simple h (fun _ o => o.tail) (fun X k => lv_lookup X.1.1 X.1.2.1 hd hp rfl ht k)
/-! returns -/
theorem sm_fin {i : Instr} {r0 : Option Value} (hd : decode (am_code mi) pc = .ok (i, 1)) (hri : am_RI mi i r0) (hst : st = r0.toList) : am_Sem l D z0 L xs adS d mi pc ls st μ r0 μ := by
  refine ⟨am_mono.rf, fun R p e s m args below meth c H locs cells slots Q ρ Ch lsA X F => ?_⟩
  subst hst
  have k := F.1 H locs ρ Ch pc lsA i hd hri X.2.2.2.1 am_agr.rf X.2.2.2.2.1 (by
    cases r0 with
    | none => trivial
    | some v => exact X.2.2.2.2.2.2.2 v (by simp))
  rw [Nat.sub_self, Nat.sub_self] at k
  have e1 : (r0.map (am_cv ρ)).toList = r0.toList.map (am_cv ρ) := by cases r0 <;> rfl
  rw [e1] at k
  exact k
end REST
