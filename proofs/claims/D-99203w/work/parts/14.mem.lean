/-! AM, part 5: the instructions that read and write memory -/
set_option maxRecDepth 100000
theorem am_in : ∀ ci, ci < 7 → ∀ w ∈ u_ws (am_RX ci) (am_T ci) (am_N ci), w ∈ lw_all := by
  intro ci h
  match ci, h with
  | 0, _ => exact am_in0
  | 1, _ => exact am_in1
  | 2, _ => exact am_in2
  | 3, _ => exact am_in3
  | 4, _ => exact am_in4
  | 5, _ => exact am_in5
  | 6, _ => exact am_in6
theorem am_tyok : ∀ ci, ci < 7 → ∀ k, k < am_N ci → parseFieldDescriptor (am_T ci k).2.2.1 = some (am_ty ci k) := by
  intro ci h
  match ci, h with
  | 0, _ => exact am_tyok0
  | 1, _ => exact am_tyok1
  | 2, _ => exact am_tyok2
  | 3, _ => exact am_tyok3
  | 4, _ => exact am_tyok4
  | 5, _ => exact am_tyok5
  | 6, _ => exact am_tyok6
theorem am_cl_get : ∀ ci, ci < 7 → am_cl[ci]? = some (am_RX ci, am_T ci, am_N ci) := by
  intro ci h
  match ci, h with
  | 0, _ => rfl
  | 1, _ => rfl
  | 2, _ => rfl
  | 3, _ => rfl
  | 4, _ => rfl
  | 5, _ => rfl
  | 6, _ => rfl
/-- the type of a field by its kind -/
def am_tk0 (ty : FieldType) : Nat := match ty with
  | .int => 0
  | .boolean => 1
  | .char => 2
  | .object _ => 3
  | .array _ => 3
  | _ => 9
theorem am_N41 : ∀ ci, ci < 7 → am_N ci ≤ 41 := by decide +kernel
theorem am_fk_ty : ∀ ci, ci < 7 → ∀ k, k < am_N ci → am_fk ci k ≠ 4 → am_tk0 (am_ty ci k) = am_fk ci k := by
  have h : ∀ ci, ci < 7 → ∀ k, k < 41 → k < am_N ci → am_fk ci k ≠ 4 → am_tk0 (am_ty ci k) = am_fk ci k := by decide +kernel
  intro ci hc k hk
  exact h ci hc k (Nat.lt_of_lt_of_le hk (am_N41 ci hc)) hk
/-- the two fields of one name: the class's own this$0, and Node's -/
def am_tw (ci k : Nat) : Bool := decide (3 ≤ ci) && decide (k = am_N ci - 2)
theorem am_all_ck {f : Nat → Nat → Bool} (h : (List.range 7).all (fun ci => (List.range (am_N ci)).all (f ci)) = true) : ∀ ci, ci < 7 → ∀ k, k < am_N ci → f ci k = true := by
  intro ci hc k hk
  have h1 := List.all_eq_true.mp h ci (List.mem_range.mpr hc)
  exact List.all_eq_true.mp h1 k (List.mem_range.mpr hk)
theorem am_nmk : ∀ ci, ci < 7 → ∀ k, k < am_N ci → am_fk ci k ≠ 4 → am_tw ci k = false → ∀ j, j < am_N ci → j ≠ k → (am_T ci j).2.1 ≠ (am_T ci k).2.1 := by
  have h : (List.range 7).all (fun ci => (List.range (am_N ci)).all (fun k => decide (am_fk ci k = 4) || (am_tw ci k || (List.range (am_N ci)).all (fun j => decide (j = k) || decide ((am_T ci j).2.1 ≠ (am_T ci k).2.1))))) = true := by decide +kernel
  intro ci hc k hk h4 ht j hj hne
  have h1 := am_all_ck h ci hc k hk
  simp only [Bool.or_eq_true, decide_eq_true_eq] at h1
  rcases h1 with q | q | q
  · exact absurd q h4
  · rw [ht] at q; cases q
  · have h2 := List.all_eq_true.mp q j (List.mem_range.mpr hj)
    simp only [Bool.or_eq_true, decide_eq_true_eq] at h2
    rcases h2 with z | z
    · exact absurd z hne
    · exact z
theorem am_nmt : ∀ ci, 3 ≤ ci → ci < 7 → ∀ j, j < am_N ci → j ≠ am_N ci - 2 → j ≠ am_N ci - 1 → (am_T ci j).2.1 ≠ "this$0" := by
  have h : (List.range 7).all (fun ci => (List.range (am_N ci)).all (fun j => decide (ci < 3) || (decide (j = am_N ci - 2) || (decide (j = am_N ci - 1) || decide ((am_T ci j).2.1 ≠ "this$0"))))) = true := by decide +kernel
  intro ci h3 hc j hj h1 h2
  have h5 := am_all_ck h ci hc j hj
  simp only [Bool.or_eq_true, decide_eq_true_eq] at h5
  rcases h5 with q | q | q | q
  · omega
  · exact absurd q h1
  · exact absurd q h2
  · exact q
theorem am_T_tw : ∀ ci, 3 ≤ ci → ci < 7 → (am_T ci (am_N ci - 2)).2 = ("this$0", "LCuckooByPost;", true) ∧ am_T ci (am_N ci - 1) = ("CuckooByPost$Node", "this$0", "LCuckooByPost;", true) ∧ am_fk ci (am_N ci - 2) = 3 ∧ am_fk ci (am_N ci - 1) = 4 ∧ 3 ≤ am_N ci := by
  intro ci h3 hc
  match ci, h3, hc with
  | 3, _, _ => exact ⟨rfl, rfl, rfl, rfl, by decide⟩
  | 4, _, _ => exact ⟨rfl, rfl, rfl, rfl, by decide⟩
  | 5, _, _ => exact ⟨rfl, rfl, rfl, rfl, by decide⟩
  | 6, _, _ => exact ⟨rfl, rfl, rfl, rfl, by decide⟩
theorem am_fk_gh : ∀ ci, ci < 7 → ∀ k, k < am_N ci → am_fk ci k = 4 → 3 ≤ ci ∧ k = am_N ci - 1 := by
  have h : ∀ ci, ci < 7 → ∀ k, k < 41 → k < am_N ci → am_fk ci k = 4 → 3 ≤ ci ∧ k = am_N ci - 1 := by decide +kernel
  intro ci hc k hk
  exact h ci hc k (Nat.lt_of_lt_of_le hk (am_N41 ci hc)) hk
theorem am_tk0_3 {ty : FieldType} (h : am_tk0 ty = 3) : (∃ n, ty = .object n) ∨ ∃ t, ty = .array t := by
  cases ty <;> simp [am_tk0] at h
  · exact Or.inl ⟨_, rfl⟩
  · exact Or.inr ⟨_, rfl⟩
theorem am_tk0_0 {ty : FieldType} (h : am_tk0 ty = 0) : ty = .int := by
  cases ty <;> simp [am_tk0] at h
  rfl
theorem am_tk0_1 {ty : FieldType} (h : am_tk0 ty = 1) : ty = .boolean := by
  cases ty <;> simp [am_tk0] at h
  rfl
theorem am_tk0_2 {ty : FieldType} (h : am_tk0 ty = 2) : ty = .char := by
  cases ty <;> simp [am_tk0] at h
  rfl
def am_fs (μ : am_M) (ρ : Nat → Nat) (ci h : Nat) : List Value := (List.range (am_N ci)).map (am_fval μ ρ ci h)
theorem am_cell_obj {μ : am_M} {ρ : Nat → Nat} {Ch : Nat → ClassId} {h ci : Nat} (hk : (am_k μ h).1 = ci) (hc : ci < 7) : am_cell μ ρ Ch h = .inr (ci, am_fs μ ρ ci h) := by
  unfold am_cell
  rw [if_pos (by rw [hk]; exact hc), hk]
  rfl
theorem am_cell_i {μ : am_M} {ρ : Nat → Nat} {Ch : Nat → ClassId} {h : Nat} (hk : (am_k μ h).1 = 10 ∨ (am_k μ h).1 = 11 ∨ (am_k μ h).1 = 13) : am_cell μ ρ Ch h = .inl (Ch h, (am_k μ h).2, .inl (am_I μ h)) := by
  unfold am_cell
  rw [if_neg (by omega), if_neg (by omega), if_neg (by omega)]
theorem am_cell_l {μ : am_M} {ρ : Nat → Nat} {Ch : Nat → ClassId} {h : Nat} (hk : (am_k μ h).1 = 12) : am_cell μ ρ Ch h = .inl (Ch h, (am_k μ h).2, .inr (.inl (am_L μ h))) := by
  unfold am_cell
  rw [if_neg (by omega), if_pos hk]
theorem am_cell_q {μ : am_M} {ρ : Nat → Nat} {Ch : Nat → ClassId} {h : Nat} (hk : (am_k μ h).1 = 14) : am_cell μ ρ Ch h = .inl (Ch h, (am_k μ h).2, .inr (.inr (.inr (.inr (fun k => (am_R μ h k).map ρ))))) := by
  unfold am_cell
  rw [if_neg (by omega), if_neg (by omega), if_pos hk]
theorem am_fval_fv {μ : am_M} {ρ : Nat → Nat} {ci h kk : Nat} (hc : ci < 7) (h4 : am_fk ci kk ≠ 4) : am_fval μ ρ ci h kk = am_cv ρ (am_fv μ ci h kk) := by
  unfold am_fval am_fv am_isr
  have h16 : ¬ ci = 16 := by omega
  simp only [if_neg h16, if_neg h4]
  by_cases q : am_fk ci kk = 3
  · simp [q, am_cv_rf]
  · simp [q, am_cv]
theorem am_fs_get {μ : am_M} {ρ : Nat → Nat} {ci h kk : Nat} (hk : kk < am_N ci) : (am_fs μ ρ ci h)[kk]? = some (am_fval μ ρ ci h kk) := by
  unfold am_fs
  rw [List.getElem?_map, List.getElem?_range hk]
  rfl
theorem am_fs_len {μ : am_M} {ρ : Nat → Nat} {ci h : Nat} : (am_fs μ ρ ci h).length = am_N ci := by simp [am_fs]
/-- what the setters leave -/
theorem am_I_sI {μ : am_M} {h k a b : Nat} {v : Int32} : am_I (am_sI μ h k v) a b = if a = h ∧ b = k then v else am_I μ a b := rfl
theorem am_R_sR {μ : am_M} {h k a b : Nat} {v : Option Nat} : am_R (am_sR μ h k v) a b = if a = h ∧ b = k then v else am_R μ a b := rfl
theorem am_L_sL {μ : am_M} {h k a b : Nat} {v : Int64} : am_L (am_sL μ h k v) a b = if a = h ∧ b = k then v else am_L μ a b := rfl
theorem am_cell_congr {μ μ' : am_M} {ρ : Nat → Nat} {Ch : Nat → ClassId} {j : Nat} (hk : am_k μ' j = am_k μ j) (hI : am_I μ' j = am_I μ j) (hL : am_L μ' j = am_L μ j) (hR : am_R μ' j = am_R μ j) : am_cell μ' ρ Ch j = am_cell μ ρ Ch j := by
  have hf : am_fval μ' ρ (am_k μ j).1 j = am_fval μ ρ (am_k μ j).1 j := by
    funext k
    unfold am_fval
    rw [hI, hR]
  unfold am_cell
  rw [hk, hI, hL, hR, hf]
theorem am_WF.sI {L : Nat} {xs : Nat → Int32} {μ : am_M} {h k : Nat} {v : Int32} (hW : am_WF L xs μ) (hh : h < am_n μ) : am_WF L xs (am_sI μ h k v) := by
  refine ⟨hW.1, hW.2.1, hW.2.2.1, fun a ha => ⟨(hW.2.2.2 a ha).1, fun b => ?_, (hW.2.2.2 a ha).2.2⟩⟩
  rw [am_I_sI, if_neg]
  · exact (hW.2.2.2 a ha).2.1 b
  · intro q
    have := am_nB hW hh
    omega
theorem am_WF.sL {L : Nat} {xs : Nat → Int32} {μ : am_M} {h k : Nat} {v : Int64} (hW : am_WF L xs μ) : am_WF L xs (am_sL μ h k v) := hW
theorem am_WF.sR {L : Nat} {xs : Nat → Int32} {μ : am_M} {h k : Nat} {v : Option Nat} (hW : am_WF L xs μ) (hh : h < am_n μ) (hv : ∀ x, v = some x → x < am_n μ) : am_WF L xs (am_sR μ h k v) := by
  refine ⟨hW.1, hW.2.1, fun a b x ha hx => ?_, fun a ha => ⟨(hW.2.2.2 a ha).1, (hW.2.2.2 a ha).2.1, fun b => ?_⟩⟩
  · rw [am_R_sR] at hx
    split at hx
    · exact hv x hx
    · exact hW.2.2.1 a b x ha hx
  · rw [am_R_sR, if_neg]
    · exact (hW.2.2.2 a ha).2.2 b
    · intro q
      have := am_nB hW hh
      omega
theorem am_WF.cp {L : Nat} {xs : Nat → Int32} {μ : am_M} {h h' sp dp n : Nat} (hW : am_WF L xs μ) (hh : h' < am_n μ) : am_WF L xs (am_cp μ h h' sp dp n) := by
  refine ⟨hW.1, hW.2.1, hW.2.2.1, fun a ha => ⟨(hW.2.2.2 a ha).1, fun b => ?_, (hW.2.2.2 a ha).2.2⟩⟩
  have e : am_I (am_cp μ h h' sp dp n) a = am_I μ a := by
    show (if a = h' then _ else _) = _
    rw [if_neg]
    · rfl
    · have := am_nB hW hh
      omega
  rw [e]
  exact (hW.2.2.2 a ha).2.1 b
theorem am_WF.new {L : Nat} {xs : Nat → Int32} {μ : am_M} {q : Nat × Nat} {sl : Nat} (hW : am_WF L xs μ) (hn : am_n μ < 400000) (hq : q.1 < 15) : am_WF L xs (am_new μ q sl) := by
  have hB : am_n μ < am_B := Nat.lt_of_lt_of_le hn (by decide)
  have ne : ∀ a, am_B ≤ a → a ≠ am_n μ := fun a ha => by omega
  refine ⟨⟨?_, fun h h1 => ?_⟩, fun h h1 h2 => ?_, fun h k v h1 h2 => ?_, fun h hh => ⟨?_, fun k => ?_, fun k => ?_⟩⟩
  · show am_n μ + 1 ≤ 400001
    omega
  · have h1' : h < am_n μ + 1 := h1
    show (if h = am_n μ then q else am_k μ h).1 < 15
    split
    · exact hq
    · exact hW.1.2 h (by omega)
  · have h1' : am_n μ + 1 ≤ h := h1
    show (if h = am_n μ then q else am_k μ h) = _
    rw [if_neg (by omega)]
    exact hW.2.1 h (by omega) h2
  · have h2' : (if h = am_n μ then none else am_R μ h k) = some v := h2
    show v < am_n μ + 1
    split at h2'
    · cases h2'
    · have := hW.2.2.1 h k v h1 h2'
      omega
  · show (if h = am_n μ then q else am_k μ h) = _
    rw [if_neg (ne h hh)]
    exact (hW.2.2.2 h hh).1
  · show (if h = am_n μ then 0 else am_I μ h k) = _
    rw [if_neg (ne h hh)]
    exact (hW.2.2.2 h hh).2.1 k
  · show (if h = am_n μ then none else am_R μ h k) = _
    rw [if_neg (ne h hh)]
    exact (hW.2.2.2 h hh).2.2 k
theorem am_Rep.upd {D : va_G} {z0 L : Nat} {xs : Nat → Int32} {adS : Nat → Nat} {μ μ1 : am_M} {ρ : Nat → Nat} {Ch : Nat → ClassId} {s : State} {H H1 : Heap} {h : Nat} {e : va_E} (hR : am_Rep D z0 L xs adS μ ρ Ch s H) (hn : am_n μ1 = am_n μ) (hk : am_k μ1 = am_k μ) (hc : ∀ j, j ≠ h → am_cell μ1 ρ Ch j = am_cell μ ρ Ch j) (he : am_cell μ1 ρ Ch h = e) (hW : am_WF L xs μ1)
    (hP : va_P D am_cl ((am_w μ ρ Ch).set h (ρ h, e)) H1) (hD : va_D (am_A z0) ((am_w μ ρ Ch).set h (ρ h, e))) : am_Rep D z0 L xs adS μ1 ρ Ch s H1 := by
  subst he
  rw [am_w_set hn hc] at hP hD
  exact ⟨hP, hD, fun x hx ty ht => by rw [hk] at ht; exact hR.2.2.1 x (by rw [← hn]; exact hx) ty ht, hW, hR.2.2.2.2⟩
section MEM
variable {l : Launch} {D : va_G} {z0 L : Nat} {xs : Nat → Int32} {adS : Nat → Nat} {d : Nat} {mi : am_MI} {pc : Nat} {ls st : List Value} {μ μ' : am_M} {r : Option Value}
/-- an instruction that changes the operand stack; what comes is shown to be in order there -/
theorem sm_gen {pc1 : Nat} {st1 : List Value} (h : am_Sem l D z0 L xs adS d mi pc1 ls st1 μ r μ')
    (row : ∀ {R : Room} {p : Program} {e : Env} {s : State} {m : MethodId} {args : Array Value} {below : List Frame} {meth : Method} {c : Code} {H : Heap} {locs : List Loc} {cells slots : Nat} {Q : State → Prop} {ρ : Nat → Nat} {Ch : Nat → ClassId} {lsA : Array Slot}, am_St l D z0 L xs adS d mi R p s m args meth c H locs cells slots ρ Ch lsA ls st μ μ' →
      (am_OkL (am_n μ) st1 → W p l e R s m args below meth c H locs cells slots Q (F0 m pc1 lsA (st1.map (am_cv ρ)))) → W p l e R s m args below meth c H locs cells slots Q (F0 m pc lsA (st.map (am_cv ρ)))) : am_Sem l D z0 L xs adS d mi pc ls st μ r μ' :=
  ⟨h.1, fun _ _ _ _ _ _ _ _ _ _ _ _ _ _ _ _ _ X F => row X (fun hok => h.2 _ _ _ _ _ _ _ _ _ _ _ _ _ _ _ _ _ ⟨X.1, X.2.1, X.2.2.1, X.2.2.2.1, X.2.2.2.2.1, X.2.2.2.2.2.1, X.2.2.2.2.2.2.1, hok⟩ F)⟩
/-- an instruction that writes a cell -/
theorem sm_wr {pc1 : Nat} {st1 : List Value} {μ1 : am_M} (h : am_Sem l D z0 L xs adS d mi pc1 ls st1 μ1 r μ') (hc : am_c μ1 = am_c μ ∧ am_s μ1 = am_s μ ∧ am_n μ1 = am_n μ) (hok : am_OkL (am_n μ) st → am_OkL (am_n μ) st1)
    (row : ∀ {R : Room} {p : Program} {e : Env} {s : State} {m : MethodId} {args : Array Value} {below : List Frame} {meth : Method} {c : Code} {H : Heap} {locs : List Loc} {cells slots : Nat} {Q : State → Prop} {ρ : Nat → Nat} {Ch : Nat → ClassId} {lsA : Array Slot}, am_St l D z0 L xs adS d mi R p s m args meth c H locs cells slots ρ Ch lsA ls st μ μ' →
      (∀ (H1 : Heap) (locs1 : List Loc), am_Rep D z0 L xs adS μ1 ρ Ch s H1 → va_S (am_A z0) s.heap H1 locs1 → W p l e R s m args below meth c H1 locs1 cells slots Q (F0 m pc1 lsA (st1.map (am_cv ρ)))) → W p l e R s m args below meth c H locs cells slots Q (F0 m pc lsA (st.map (am_cv ρ)))) : am_Sem l D z0 L xs adS d mi pc ls st μ r μ' := by
  refine ⟨⟨by rw [← hc.1]; exact h.1.1, by rw [← hc.2.1]; exact h.1.2.1, by rw [← hc.2.2]; exact h.1.2.2⟩, fun R p e s m args below meth c H locs cells slots Q ρ Ch lsA X F => row X (fun H1 locs1 hR1 hS1 => ?_)⟩
  refine h.2 _ _ _ _ _ _ _ _ _ _ _ _ _ _ _ _ _ ⟨X.1, X.2.1, ?_, hR1, hS1, X.2.2.2.2.2.1, ?_, ?_⟩ ?_
  · rw [hc.1, hc.2.1]; exact X.2.2.1
  · rw [hc.2.2]; exact X.2.2.2.2.2.2.1
  · rw [hc.2.2]; exact hok X.2.2.2.2.2.2.2
  · rw [hc.1, hc.2.1, hc.2.2]; exact F
theorem sm_getf {idx acc ci kk h : Nat} (hf : am_FT (am_own mi) idx = some (acc, ci, kk)) (ha : acc = 0 ∨ acc = 1 ∨ acc = 2 ∨ acc = 4 ∨ acc = 5) (hk : (am_k μ h).1 = ci) (hd : decode (am_code mi) pc = .ok (.getfield idx, 3)) (hn : am_Sem l D z0 L xs adS d mi (pc + 3) ls (am_fv μ ci h kk :: st) μ r μ') : am_Sem l D z0 L xs adS d mi pc ls (.ref h :: st) μ r μ' := by
  refine sm_gen hn (fun {R p e s m args below meth c H locs cells slots Q ρ Ch lsA} X k => ?_)
  obtain ⟨⟨hx, hb, hml, hr, hlk, hown, hts, hfl, hAm⟩, -, -, hR, hS, hL, hol, hos⟩ := X
  obtain ⟨hP, hD, hAr, hW, hadS⟩ := hR
  have own : ∀ (hci : ci < 7) (hkk : kk < am_N ci ∧ am_fk ci kk ≠ 4), am_OkL (am_n μ) (am_fv μ ci h kk :: st) ∧ (am_w μ ρ Ch)[h]? = some (ρ h, .inr (ci, am_fs μ ρ ci h)) := by
    intro hci hkk
    have hh : h < am_n μ := am_lt hW (by omega)
    refine ⟨am_OkL.cons ?_ hos.tail, ?_⟩
    · unfold am_fv
      split
      · cases hv : am_R μ h kk with
        | none => trivial
        | some v => exact Or.inl (hW.2.2.1 h kk v (am_nB hW hh) hv)
      · trivial
    · rw [am_w_get hh, am_cell_obj hk hci]
  have gets : ∀ (hci : ci < 7) (hkk : kk < am_N ci ∧ am_fk ci kk ≠ 4), (Cond.fieldLink (am_CN (am_own mi)) idx (am_T ci kk).1 (am_T ci kk).2.1 (am_T ci kk).2.2.1 ∈ lw_all) → W p l e R s m args below meth c H locs cells slots Q (F0 m pc lsA ((Value.ref h :: st).map (am_cv ρ))) := by
    intro hci hkk hw
    obtain ⟨q1, q2⟩ := own hci hkk
    exact va_get (C := am_RX ci) (T := am_T ci) (N := am_N ci) hx hb hts (am_in ci hci) hown hAm.1 hP h q2 (am_cl_get ci hci) kk hkk.1 (hts _ hw) (fun _ h9 => h9) (am_fs_get hkk.1) hd (by rw [am_fval_fv hci hkk.2]; exact k q1)
  have getn : ∀ (hci : ci < 7) (hkk : kk < am_N ci ∧ am_fk ci kk ≠ 4), (Cond.fieldLinkNest (am_CN (am_own mi)) idx (am_T ci kk).1 (am_T ci kk).2.1 (am_T ci kk).2.2.1 RX1 ∈ am_nw) → W p l e R s m args below meth c H locs cells slots Q (F0 m pc lsA ((Value.ref h :: st).map (am_cv ρ))) := by
    intro hci hkk hw
    obtain ⟨q1, q2⟩ := own hci hkk
    exact va_getN (C := am_RX ci) (T := am_T ci) (N := am_N ci) (host := RX1) hx hb hts (am_in ci hci) hown hAm.1 hP h q2 (am_cl_get ci hci) kk hkk.1 (va_Nw.use rfl (hAm.2.2.1 _ hw)) (fun _ h9 => h9) (am_fs_get hkk.1) hd (by rw [am_fval_fv hci hkk.2]; exact k q1)
  have str : ci = 16 → ∃ i, i < 8 ∧ h = am_B + 2 * i := by
    intro hci
    have hB : am_B ≤ h := by
      rcases Nat.lt_or_ge h (am_n μ) with q | q
      · have := hW.1.2 h q
        omega
      · rcases Nat.lt_or_ge h am_B with q2 | q2
        · rw [hW.2.1 h q q2] at hk
          simp at hk
          omega
        · exact q2
    have h2 := (hW.2.2.2 h hB).1
    rw [h2] at hk
    unfold am_k0 at hk
    split at hk
    · simp at hk; omega
    · split at hk
      · split at hk
        · exact ⟨(h - am_B) / 2, by omega, by omega⟩
        · simp at hk; omega
      · simp at hk; omega
  have gstr : ∀ {nm ds : String} {v : Value} (i : Nat), h = am_B + 2 * i → am_fv μ ci h kk = v → am_Ok (am_n μ) v → va_OF "java/lang/String" nm ds (am_cv ρ v) (adS (2 * i)) (am_A z0) s s.heap → (Cond.fieldLink (am_CN (am_own mi)) idx "java/lang/String" nm ds ∈ lw_all) → W p l e R s m args below meth c H locs cells slots Q (F0 m pc lsA ((Value.ref h :: st).map (am_cv ρ))) := by
    intro nm ds v i hi hv hok hof hw
    have e9 : (Value.ref h :: st).map (am_cv ρ) = .ref (adS (2 * i)) :: st.map (am_cv ρ) := by
      rw [List.map_cons]
      show Value.ref (ρ h) :: _ = _
      rw [hi, hadS]
    rw [e9]
    have k1 := k (by rw [hv]; exact am_OkL.cons hok hos.tail)
    rw [List.map_cons, hv] at k1
    exact vk_getf hx hb hof hS hown (hts _ hw) (fun _ h9 => h9) hd k1
  rcases am_FT_ok hf with q | q | q | q | q | q | q | q
  · exact gets q.2.1 q.2.2.1 q.2.2.2.2
  · exact gets q.2.1 q.2.2.1 q.2.2.2.2.2
  · exact getn q.2.1 q.2.2.1 q.2.2.2
  · exact getn q.2.1 q.2.2.1 q.2.2.2.2
  · omega
  · obtain ⟨-, q2, q3, q4⟩ := q
    obtain ⟨i, hi, hh⟩ := str q2
    have hs := (hAm.2.2.2.2.2.1.1 i hi).2.2.1
    refine gstr (v := .ref (am_B + (2 * i + 1))) i hh ?_ (Or.inr (Nat.le_add_right _ _)) ?_ q4
    · have hB : am_B ≤ h := by omega
      have e1 : am_R μ h kk = some (am_B + (2 * i + 1)) := by
        rw [(hW.2.2.2 h hB).2.2 kk, q3]
        unfold am_R0
        rw [if_pos ⟨by omega, by omega, rfl⟩]
        congr 1
        omega
      unfold am_fv am_isr
      rw [e1, if_pos q2, q3]
      rfl
    · have e2 : am_cv ρ (.ref (am_B + (2 * i + 1))) = .ref (adS (2 * i + 1)) := by
        show Value.ref (ρ _) = _
        rw [hadS]
      rw [e2]
      exact hs
  · obtain ⟨-, q2, q3, q4⟩ := q
    obtain ⟨i, hi, hh⟩ := str q2
    have hs := (hAm.2.2.2.2.2.1.1 i hi).2.1
    refine gstr (v := .int 0) i hh ?_ trivial hs q4
    have hB : am_B ≤ h := by omega
    have e1 : am_I μ h kk = 0 := by
      rw [(hW.2.2.2 h hB).2.1 kk]
      unfold am_I0
      rw [if_neg (by unfold am_SC; unfold am_B at hh; omega), if_pos (by omega), if_pos (by omega)]
    unfold am_fv am_isr
    rw [if_pos q2, q3, e1.symm, q3]
    rfl
  · omega
theorem am_noch {h k : Nat} {v : Int32} : am_c (am_sI μ h k v) = am_c μ ∧ am_s (am_sI μ h k v) = am_s μ ∧ am_n (am_sI μ h k v) = am_n μ := ⟨rfl, rfl, rfl⟩
theorem am_cell_sI {ρ : Nat → Nat} {Ch : Nat → ClassId} {h k j : Nat} {v : Int32} (hj : j ≠ h) : am_cell (am_sI μ h k v) ρ Ch j = am_cell μ ρ Ch j :=
  am_cell_congr rfl (funext fun b => by rw [am_I_sI, if_neg (fun q => hj q.1)]) rfl rfl
theorem am_cell_sR {ρ : Nat → Nat} {Ch : Nat → ClassId} {h k j : Nat} {v : Option Nat} (hj : j ≠ h) : am_cell (am_sR μ h k v) ρ Ch j = am_cell μ ρ Ch j :=
  am_cell_congr rfl rfl rfl (funext fun b => by rw [am_R_sR, if_neg (fun q => hj q.1)])
theorem am_cell_sL {ρ : Nat → Nat} {Ch : Nat → ClassId} {h k j : Nat} {v : Int64} (hj : j ≠ h) : am_cell (am_sL μ h k v) ρ Ch j = am_cell μ ρ Ch j :=
  am_cell_congr rfl rfl (funext fun b => by rw [am_L_sL, if_neg (fun q => hj q.1)]) rfl
theorem am_slots_set (cell : Cell) (i j : Nat) (v : Value) : (cell.setSlot i v).slots[j]? = if i = j ∧ j < cell.slots.size then some v else cell.slots[j]? := by
  show (cell.slots.setIfInBounds i v)[j]? = _
  rw [Array.getElem?_setIfInBounds]
  by_cases h : i = j
  · subst h
    by_cases h2 : i < cell.slots.size
    · simp [h2]
    · simp [h2]
      
  · simp [h]
theorem am_apart {own : String} {s : State} {m : MethodId} {args : Array Value} (hts : ∀ w ∈ lw_all, w.before args s = true) (hK : va_K D am_cl [] s) {ci k : Nat} (hci : ci < 7) (hk : k < am_N ci) {j : Nat} (hj : j < am_N ci) (hne : (am_T ci j).2.1 ≠ (am_T ci k).2.1) : (D.2 ci) j ≠ (D.2 ci) k := by
  obtain ⟨hS, -⟩ := hK.1 ci _ (am_cl_get ci hci)
  obtain ⟨_, _, _, fa, hia, ea⟩ := hS j hj
  obtain ⟨_, _, _, fb, hib, eb⟩ := hS k hk
  rw [← ea, ← eb]
  refine u_apart (u_lays hts (am_in ci hci) hj) (u_lays hts (am_in ci hci) hk) hia hib ?_
  rw [(State.fieldFound?_type hia (am_tyok ci hci j hj)).1, (State.fieldFound?_type hib (am_tyok ci hci k hk)).1]
  exact hne
theorem am_vpV {N j : Nat} {w : Nat → Value} (hj : j < N) : vp_V ((List.range N).map w) j = w j := by
  unfold vp_V
  rw [List.getD_eq_getElem?_getD, List.getElem?_map, List.getElem?_range hj]
  rfl
/-- how a field may be written: its own class's, not final; its own class's in a constructor; a nest mate's, not final -/
def am_WOK (mi : am_MI) (idx ci k : Nat) : Prop :=
  (Cond.fieldLink (am_CN (am_own mi)) idx (am_T ci k).1 (am_T ci k).2.1 (am_T ci k).2.2.1 ∈ lw_all ∧ (am_T ci k).2.2.2 = false) ∨
  (Cond.fieldLink (am_CN (am_own mi)) idx (am_T ci k).1 (am_T ci k).2.1 (am_T ci k).2.2.1 ∈ lw_all ∧ (am_T ci k).2.2.2 = true ∧ (am_T ci k).1 = am_CN (am_own mi) ∧ am_flg mi = 1) ∨
  (Cond.fieldLinkNest (am_CN (am_own mi)) idx (am_T ci k).1 (am_T ci k).2.1 (am_T ci k).2.2.1 RX1 ∈ am_nw ∧ (am_T ci k).2.2.2 = false)
theorem am_wput {p : Program} {e : Env} {R : Room} {s : State} {m : MethodId} {args : Array Value} {below : List Frame} {meth : Method} {c : Code} {H : Heap} {locs : List Loc} {cells slots : Nat} {Q : State → Prop} {ρ : Nat → Nat} {Ch : Nat → ClassId} {lsA : Array Slot} {rest : List Value}
    (C : am_Cx l D z0 L xs adS p s m args meth c mi) (hP : va_P D am_cl (am_w μ ρ Ch) H) (hD : va_D (am_A z0) (am_w μ ρ Ch)) (hS0 : va_S (am_A z0) s.heap H locs) {idx ci k h : Nat} (hci : ci < 7) (hk : k < am_N ci) (hkd : (am_k μ h).1 = ci) (hh : h < am_n μ) (hw : am_WOK mi idx ci k) {v : Value} (hn : narrow (am_ty ci k) v = v) (hfit : fits (am_ty ci k) v = true) (hd : decode (am_code mi) pc = .ok (.putfield idx, 3))
    (kk : ∀ (H1 : Heap) (locs1 : List Loc) (w : Nat → Value), (∀ j, j < am_N ci → w j = if D.2 ci j = D.2 ci k then v else am_fval μ ρ ci h j) → va_P D am_cl ((am_w μ ρ Ch).set h (ρ h, .inr (ci, (List.range (am_N ci)).map w))) H1 → va_D (am_A z0) ((am_w μ ρ Ch).set h (ρ h, .inr (ci, (List.range (am_N ci)).map w))) → va_S (am_A z0) s.heap H1 locs1 → W p l e R s m args below meth c H1 locs1 cells slots Q (F0 m (pc + 3) lsA rest)) :
    W p l e R s m args below meth c H locs cells slots Q (F0 m pc lsA (v :: .ref (ρ h) :: rest)) := by
  obtain ⟨hx, hb, hml, hr, hlk, hown, hts, hfl, hAm⟩ := C
  have he := am_w_get (ρ := ρ) (Ch := Ch) hh
  rw [am_cell_obj hkd hci] at he
  have hc := am_cl_get ci hci
  obtain ⟨r1, h1, cell, q1, q2, q3, q4⟩ := hP h _ he
  have hr1 : r1 = (am_RX ci, am_T ci, am_N ci) := Option.some.inj (h1.symm.trans hc)
  subst hr1
  obtain ⟨hS, hfc, kC, hkC, hkind⟩ := hAm.1.1 ci _ hc
  obtain ⟨cf, kf, fi, f, hi, hsl⟩ := hS k hk
  have hlay := hts _ (am_in ci hci _ (u_in_lay hk))
  unfold u_lay at hlay
  have hst := (u_facts hfc hkC (u_lays hts (am_in ci hci) hk) hi).1
  have hty := am_tyok ci hci k hk
  have hlt : f.slot < cell.slots.size := by rw [hsl]; exact k2_hasslot (q4 k hk)
  have fin : ∀ H' : Heap, H'[ρ h]? = some (cell.setSlot f.slot v) → H'.size = H.size → (∀ q, q ≠ ρ h → H'[q]? = H[q]?) → W p l e R s m args below meth c H' (locs ++ [⟨ρ h, f.slot⟩]) cells slots Q (F0 m (pc + 3) lsA rest) := by
    intro H' e1 e2 e3
    rw [hsl] at e1 hlt ⊢
    refine kk H' _ (fun j => if D.2 ci j = D.2 ci k then v else am_fval μ ρ ci h j) (fun j _ => rfl) (hP.set hD he ⟨_, hc, _, e1, q2, q3, fun j hj => ?_⟩ e3) (hD.set he) (hS0.put e2 e3 (hD.2 h _ he))
    rw [am_slots_set]
    show _ = some (vp_V ((List.range (am_N ci)).map _) j)
    rw [am_vpV hj]
    by_cases hjk : D.2 ci j = D.2 ci k
    · rw [if_pos ⟨hjk.symm, by rw [hjk]; exact hlt⟩, if_pos hjk]
    · rw [if_neg (fun z => hjk z.1.symm), if_neg hjk, q4 j hj]
      show some (vp_V (am_fs μ ρ ci h) j) = _
      unfold am_fs
      rw [am_vpV hj]
  rcases hw with ⟨hw, hfin⟩ | ⟨hw, hfin, hdecl, hflg⟩ | ⟨hw, hfin⟩
  · rw [if_neg (by rw [hfin]; decide)] at hlay
    have h6 := u_store hfc hkC hkind hlay hi hty hn hfit
    exact W.putK hx hb (f := f) ⟨hown, hts _ hw, ⟨_, _, _, hi⟩, hst⟩ (by rw [q2]; exact h6) q1 q3 hlt rfl rfl hd fin
  · rw [if_pos hfin] at hlay
    have hcf : m.cls = cf := by
      obtain ⟨_, _, c', _, _, _, -, -, hf', -, -, -, hown2, -⟩ := Cond.laysFinal_spec hlay
      have e1 : c' = cf := by have := hi.symm.trans hf'; simp at this; exact this.1.symm
      rw [hdecl] at hown2
      rw [← e1]; exact Option.some.inj (hown.symm.trans hown2)
    have h6 := u_fits hfc hkC hkind (Or.inr hlay) hi hty hn hfit
    exact W.putFinK hx hb hown (hts _ hw) hi hst hcf (hfl hflg) (by rw [q2]; exact h6) q1 q3 hlt rfl rfl hd fin
  · rw [if_neg (by rw [hfin]; decide)] at hlay
    have h6 := u_store hfc hkC hkind hlay hi hty hn hfit
    exact va_WputK hx hb (f := f) hown (va_Nw.use rfl (hAm.2.2.1 _ hw)) hi hst (by rw [q2]; exact h6) q1 q3 hlt rfl rfl hd fin
theorem am_FT_WOK {idx acc ci kk : Nat} (hf : am_FT (am_own mi) idx = some (acc, ci, kk)) (ha : acc = 0 ∨ acc = 4 ∨ (acc = 2 ∧ am_flg mi = 1)) : ci < 7 ∧ kk < am_N ci ∧ am_fk ci kk ≠ 4 ∧ am_WOK mi idx ci kk ∧ (am_tw ci kk = true → acc = 2) := by
  have tw : am_tw ci kk = true → (am_T ci kk).2.2.2 = true ∨ ¬ ci < 7 := by
    intro h
    unfold am_tw at h
    simp only [Bool.and_eq_true, decide_eq_true_eq] at h
    by_cases h7 : ci < 7
    · left
      rw [h.2, (am_T_tw ci h.1 h7).1]
    · exact Or.inr h7
  rcases am_FT_ok hf with q | q | q | q | q | q | q | q
  · obtain ⟨q0, q1, q2, q3, q4⟩ := q
    exact ⟨q1, q2.1, q2.2, Or.inl ⟨q4, q3⟩, fun h => by
      rcases tw h with z | z
      · rw [q3] at z; cases z
      · exact absurd q1 z⟩
  · obtain ⟨q0, q1, q2, q3, q4, q5⟩ := q
    exact ⟨q1, q2.1, q2.2, Or.inr (Or.inl ⟨q5, q3, q4, by omega⟩), fun _ => q0⟩
  · omega
  · obtain ⟨q0, q1, q2, q3, q4⟩ := q
    exact ⟨q1, q2.1, q2.2, Or.inr (Or.inr ⟨q4, q3⟩), fun h => by
      rcases tw h with z | z
      · rw [q3] at z; cases z
      · exact absurd q1 z⟩
  · omega
  · omega
  · omega
  · omega
/-- writing a field that has its name alone -/
theorem sm_putx {idx acc ci kk h : Nat} {v : Value} {μ1 : am_M} (hf : am_FT (am_own mi) idx = some (acc, ci, kk)) (ha : acc = 0 ∨ acc = 4 ∨ (acc = 2 ∧ am_flg mi = 1)) (htw : am_tw ci kk = false) (hk : (am_k μ h).1 = ci) (hd : decode (am_code mi) pc = .ok (.putfield idx, 3))
    (hvc : ∀ ρ : Nat → Nat, ∀ ty, am_tk0 ty = am_fk ci kk → narrow ty (am_cv ρ v) = am_cv ρ v ∧ fits ty (am_cv ρ v) = true) (hc : am_c μ1 = am_c μ ∧ am_s μ1 = am_s μ ∧ am_n μ1 = am_n μ) (hkk : am_k μ1 = am_k μ)
    (hset : ∀ (ρ : Nat → Nat) (Ch : Nat → ClassId), (∀ j, j ≠ h → am_cell μ1 ρ Ch j = am_cell μ ρ Ch j) ∧ am_fval μ1 ρ ci h kk = am_cv ρ v ∧ ∀ j, j ≠ kk → am_fval μ1 ρ ci h j = am_fval μ ρ ci h j) (hW1 : am_WF L xs μ → h < am_n μ → am_Ok (am_n μ) v → am_WF L xs μ1)
    (hn : am_Sem l D z0 L xs adS d mi (pc + 3) ls st μ1 r μ') : am_Sem l D z0 L xs adS d mi pc ls (v :: .ref h :: st) μ r μ' := by
  refine sm_wr hn hc (fun o => o.tail.tail) (fun {R p e s m args below meth c H locs cells slots Q ρ Ch lsA} X k => ?_)
  obtain ⟨C, -, -, hR, hS, hL, hol, hos⟩ := X
  obtain ⟨hci, hk1, h4, hw, -⟩ := am_FT_WOK hf ha
  have hW := hR.2.2.2.1
  have hh : h < am_n μ := am_lt hW (by omega)
  have ht := am_fk_ty ci hci kk hk1 h4
  refine am_wput C hR.1 hR.2.1 hS hci hk1 hk hh hw (hvc ρ _ ht).1 (hvc ρ _ ht).2 hd (fun H1 locs1 w hwv hP1 hD1 hS1 => k H1 locs1 ?_ hS1)
  have ew : (List.range (am_N ci)).map w = am_fs μ1 ρ ci h := by
    apply List.map_congr_left
    intro j hj
    have hj := List.mem_range.mp hj
    rw [hwv j hj]
    by_cases hjk : j = kk
    · rw [hjk, if_pos rfl, (hset ρ Ch).2.1]
    · rw [if_neg (am_apart (own := "") (m := m) C.2.2.2.2.2.2.1 C.2.2.2.2.2.2.2.2.1 hci hk1 hj (am_nmk ci hci kk hk1 h4 htw j hj hjk)), (hset ρ Ch).2.2 j hjk]
  rw [ew] at hP1 hD1
  exact hR.upd hc.2.2 hkk (hset ρ Ch).1 (am_cell_obj (by rw [hkk]; exact hk) hci) (hW1 hW hh hos.head) hP1 hD1
theorem am_fval_sI {ρ : Nat → Nat} {ci h kk j : Nat} {x : Int32} (hj : j ≠ kk) : am_fval (am_sI μ h kk x) ρ ci h j = am_fval μ ρ ci h j := by
  have e : am_I (am_sI μ h kk x) h j = am_I μ h j := by
    rw [am_I_sI]
    exact if_neg (fun q => hj q.2)
  unfold am_fval
  rw [e]
  rfl
theorem sm_putI {idx acc ci kk h : Nat} {x : Int32} (hf : am_FT (am_own mi) idx = some (acc, ci, kk)) (ha : acc = 0 ∨ acc = 4 ∨ (acc = 2 ∧ am_flg mi = 1)) (h3 : am_fk ci kk ≠ 3) (hty : ∀ ty, am_tk0 ty = am_fk ci kk → narrow ty (.int x) = .int x ∧ fits ty (.int x) = true) (hk : (am_k μ h).1 = ci) (hd : decode (am_code mi) pc = .ok (.putfield idx, 3)) (hn : am_Sem l D z0 L xs adS d mi (pc + 3) ls st (am_sI μ h kk x) r μ') : am_Sem l D z0 L xs adS d mi pc ls (.int x :: .ref h :: st) μ r μ' := by
  obtain ⟨hci, hk1, h4, hw, -⟩ := am_FT_WOK hf ha
  have htw : am_tw ci kk = false := by
    cases hq : am_tw ci kk with
    | false => rfl
    | true =>
      unfold am_tw at hq
      simp only [Bool.and_eq_true, decide_eq_true_eq] at hq
      exact absurd (by rw [hq.2]; exact (am_T_tw ci hq.1 hci).2.2.1) h3
  exact sm_putx (μ1 := am_sI μ h kk x) hf ha htw hk hd (fun _ => hty) ⟨rfl, rfl, rfl⟩ rfl (fun ρ Ch => ⟨fun j hj => am_cell_sI hj, by unfold am_fval; rw [if_neg h3, if_neg h4, am_I_sI, if_pos ⟨rfl, rfl⟩]; rfl, fun j hj => am_fval_sI hj⟩) (fun hW hh _ => hW.sI hh) hn
theorem am_fval_sR {ρ : Nat → Nat} {ci h kk j : Nat} {x : Option Nat} (hj : j ≠ kk) : am_fval (am_sR μ h kk x) ρ ci h j = am_fval μ ρ ci h j := by
  have e : am_R (am_sR μ h kk x) h j = am_R μ h j := by
    rw [am_R_sR]
    exact if_neg (fun q => hj q.2)
  unfold am_fval
  rw [e]
  rfl
theorem am_fval_sRs {ρ : Nat → Nat} {ci h kk : Nat} {x : Option Nat} (h3 : am_fk ci kk = 3) : am_fval (am_sR μ h kk x) ρ ci h kk = va_rf (x.map ρ) := by
  unfold am_fval
  rw [if_pos h3, am_R_sR, if_pos ⟨rfl, rfl⟩]
/-- the addresses with a Node's own this$0 told -/
def am_gset (ρ : Nat → Nat) (h a : Nat) : Nat → Nat := fun j => if j = 500000 + h then a + 1 else ρ j
theorem am_cell_gset {ρ : Nat → Nat} {Ch : Nat → ClassId} {h a j : Nat} (hW : am_WF L xs μ) (hj : j < am_n μ) (hjh : j ≠ h) : am_cell μ (am_gset ρ h a) Ch j = am_cell μ ρ Ch j := by
  have hR : ∀ k, (am_R μ j k).map (am_gset ρ h a) = (am_R μ j k).map ρ := by
    intro k
    cases hv : am_R μ j k with
    | none => rfl
    | some v =>
      have := hW.2.2.1 j k v (am_nB hW hj) hv
      have h1 := hW.1.1
      show some (am_gset ρ h a v) = some (ρ v)
      unfold am_gset
      rw [if_neg (by omega)]
  have hg : am_gv (am_gset ρ h a) j = am_gv ρ j := by
    have hne : ¬ (500000 + j = 500000 + h) := by omega
    unfold am_gv am_gset
    simp only [if_neg hne]
  unfold am_cell
  have hf : am_fval μ (am_gset ρ h a) (am_k μ j).1 j = am_fval μ ρ (am_k μ j).1 j := by
    funext k
    unfold am_fval
    rw [hR, hg]
  rw [hf]
  simp only [hR]
theorem am_gset_get {ρ : Nat → Nat} {h a j : Nat} (hj : j < 500000) : am_gset ρ h a j = ρ j := by
  unfold am_gset
  rw [if_neg (by omega)]
/-- a write that may change what is not told -/
theorem sm_wr2 {pc1 : Nat} {st1 : List Value} {μ1 : am_M} (h : am_Sem l D z0 L xs adS d mi pc1 ls st1 μ1 r μ') (hc : am_c μ1 = am_c μ ∧ am_s μ1 = am_s μ ∧ am_n μ1 = am_n μ) (hok : am_OkL (am_n μ) st → am_OkL (am_n μ) st1)
    (row : ∀ {R : Room} {p : Program} {e : Env} {s : State} {m : MethodId} {args : Array Value} {below : List Frame} {meth : Method} {c : Code} {H : Heap} {locs : List Loc} {cells slots : Nat} {Q : State → Prop} {ρ : Nat → Nat} {Ch : Nat → ClassId} {lsA : Array Slot}, am_St l D z0 L xs adS d mi R p s m args meth c H locs cells slots ρ Ch lsA ls st μ μ' →
      (∀ (H1 : Heap) (locs1 : List Loc) (ρ1 : Nat → Nat), am_Rep D z0 L xs adS μ1 ρ1 Ch s H1 → am_agr (am_n μ) ρ ρ1 → va_S (am_A z0) s.heap H1 locs1 → W p l e R s m args below meth c H1 locs1 cells slots Q (F0 m pc1 lsA (st1.map (am_cv ρ)))) → W p l e R s m args below meth c H locs cells slots Q (F0 m pc lsA (st.map (am_cv ρ)))) : am_Sem l D z0 L xs adS d mi pc ls st μ r μ' := by
  refine ⟨⟨by rw [← hc.1]; exact h.1.1, by rw [← hc.2.1]; exact h.1.2.1, by rw [← hc.2.2]; exact h.1.2.2⟩, fun R p e s m args below meth c H locs cells slots Q ρ Ch lsA X F => row X (fun H1 locs1 ρ1 hR1 hag hS1 => ?_)⟩
  have ho1 := hok X.2.2.2.2.2.2.2
  rw [← am_map_agr hag X.2.2.2.1.2.2.2.2 hR1.2.2.2.2 ho1]
  refine h.2 _ _ _ _ _ _ _ _ _ _ _ _ _ _ _ _ _ ⟨X.1, X.2.1, ?_, hR1, hS1, X.2.2.2.2.2.1.agr hag X.2.2.2.1.2.2.2.2 hR1.2.2.2.2 X.2.2.2.2.2.2.1, ?_, ?_⟩ ?_
  · rw [hc.1, hc.2.1]; exact X.2.2.1
  · rw [hc.2.2]; exact X.2.2.2.2.2.2.1
  · rw [hc.2.2]; exact ho1
  · rw [hc.1, hc.2.1, hc.2.2]
    exact ⟨fun H2 locs2 ρ2 Ch2 pc2 ls2 i2 a1 a2 a3 a4 a5 a6 => F.1 H2 locs2 ρ2 Ch2 pc2 ls2 i2 a1 a2 a3 (hag.trans a4 (Nat.le_refl _)) a5 a6, fun hr H2 locs2 ρ2 Ch2 pc2 ls2 st2 c2 s2 a1 a2 a3 a4 a5 a6 a7 a8 a9 a10 a11 => F.2 hr H2 locs2 ρ2 Ch2 pc2 ls2 st2 c2 s2 a1 a2 a3 a4 a5 a6 a7 a8 a9 (hag.trans a10 (Nat.le_refl _)) a11⟩
/-- a written cell, and one that is not told -/
theorem am_Rep.updg {μ1 : am_M} {ρ : Nat → Nat} {Ch : Nat → ClassId} {s : State} {H H1 : Heap} {h a : Nat} {e : va_E} (hR : am_Rep D z0 L xs adS μ ρ Ch s H) (hn : am_n μ1 = am_n μ) (hk : am_k μ1 = am_k μ) (hc : ∀ j, j ≠ h → am_cell μ1 ρ Ch j = am_cell μ ρ Ch j) (hh : h < am_n μ) (he : am_cell μ1 (am_gset ρ h a) Ch h = e) (hW : am_WF L xs μ1)
    (hP : va_P D am_cl ((am_w μ ρ Ch).set h (ρ h, e)) H1) (hD : va_D (am_A z0) ((am_w μ ρ Ch).set h (ρ h, e))) : am_Rep D z0 L xs adS μ1 (am_gset ρ h a) Ch s H1 := by
  have h1 := hW.1.1
  have ew : (am_w μ ρ Ch).set h (ρ h, e) = am_w μ1 (am_gset ρ h a) Ch := by
    apply List.ext_getElem?
    intro j
    by_cases hj : j < am_n μ
    · rw [am_w_get (by rw [hn]; exact hj)]
      rw [am_gset_get (by omega)]
      by_cases hjh : j = h
      · subst hjh
        rw [List.getElem?_set_self (by rw [am_w_len]; exact hj), he]
      · rw [List.getElem?_set_ne (Ne.symm hjh), am_w_get hj, am_cell_gset hW (by rw [hn]; exact hj) hjh, hc j hjh]
    · rw [List.getElem?_eq_none (by rw [List.length_set, am_w_len]; omega), List.getElem?_eq_none (by rw [am_w_len, hn]; omega)]
  rw [ew] at hP hD
  refine ⟨hP, hD, fun x hx ty ht => by rw [hk] at ht; exact hR.2.2.1 x (by rw [← hn]; exact hx) ty ht, hW, fun j => ?_⟩
  unfold am_gset
  rw [if_neg (by unfold am_B; omega)]
  exact hR.2.2.2.2 j
theorem sm_putR {idx acc ci kk h v : Nat} (hf : am_FT (am_own mi) idx = some (acc, ci, kk)) (ha : acc = 0 ∨ acc = 4 ∨ (acc = 2 ∧ am_flg mi = 1)) (h3 : am_fk ci kk = 3) (hv : v < am_B) (hk : (am_k μ h).1 = ci) (hd : decode (am_code mi) pc = .ok (.putfield idx, 3)) (hn : am_Sem l D z0 L xs adS d mi (pc + 3) ls st (am_sR μ h kk (some v)) r μ') : am_Sem l D z0 L xs adS d mi pc ls (.ref v :: .ref h :: st) μ r μ' := by
  have hty : ∀ (x : Nat) (ty : FieldType), am_tk0 ty = am_fk ci kk → narrow ty (.ref x) = .ref x ∧ fits ty (.ref x) = true := by
    intro x ty ht
    rcases am_tk0_3 (ht.trans h3) with ⟨n, rfl⟩ | ⟨n, rfl⟩ <;> exact ⟨rfl, rfl⟩
  cases htw : am_tw ci kk with
  | false => exact sm_putx (μ1 := am_sR μ h kk (some v)) hf ha htw hk hd (fun ρ => hty (ρ v)) ⟨rfl, rfl, rfl⟩ rfl (fun ρ Ch => ⟨fun j hj => am_cell_sR hj, am_fval_sRs h3, fun j hj => am_fval_sR hj⟩) (fun hW hh ho => hW.sR hh (fun x hx => by cases hx; rcases ho with q | q <;> omega)) hn
  | true =>
    refine sm_wr2 hn ⟨rfl, rfl, rfl⟩ (fun o => o.tail.tail) (fun {R p e s m args below meth c H locs cells slots Q ρ Ch lsA} X k => ?_)
    obtain ⟨C, -, -, hR, hS, hL, hol, hos⟩ := X
    obtain ⟨hci, hk1, h4, hw, -⟩ := am_FT_WOK hf ha
    have hW := hR.2.2.2.1
    have hh : h < am_n μ := am_lt hW (by omega)
    have hvn : v < am_n μ := by rcases hos.head with q | q <;> omega
    have ht := am_fk_ty ci hci kk hk1 h4
    have htw' := htw
    unfold am_tw at htw'
    simp only [Bool.and_eq_true, decide_eq_true_eq] at htw'
    obtain ⟨hc3, hkN⟩ := htw'
    obtain ⟨t1, t2, t3, t4, t5⟩ := am_T_tw ci hc3 hci
    have hW1 : am_WF L xs (am_sR μ h kk (some v)) := hW.sR hh (fun x hx => by cases hx; exact hvn)
    have h500 := hW.1.1
    refine am_wput C hR.1 hR.2.1 hS hci hk1 hk hh hw (v := .ref (ρ v)) (hty (ρ v) _ ht).1 (hty (ρ v) _ ht).2 hd (fun H1 locs1 w hwv hP1 hD1 hS1 => ?_)
    have wk : ∀ ρ1 : Nat → Nat, ρ1 v = ρ v → (∀ j, j < 500000 → ρ1 j = ρ j) → am_gv ρ1 h = w (am_N ci - 1) → (List.range (am_N ci)).map w = am_fs (am_sR μ h kk (some v)) ρ1 ci h := by
      intro ρ1 hv1 hlt hg
      apply List.map_congr_left
      intro j hj
      have hj := List.mem_range.mp hj
      by_cases hjk : j = kk
      · rw [hjk, hwv kk hk1, if_pos rfl, am_fval_sRs h3]
        show _ = Value.ref (ρ1 v)
        rw [hv1]
      · by_cases hjg : j = am_N ci - 1
        · rw [hjg, ← hg, am_fval_sR (by omega)]
          unfold am_fval
          rw [if_neg (by omega), if_pos t4]
        · have hna : (am_T ci j).2.1 ≠ (am_T ci kk).2.1 := by
            rw [hkN, t1]
            exact am_nmt ci hc3 hci j hj (by omega) hjg
          rw [hwv j hj, if_neg (am_apart (own := "") (m := m) C.2.2.2.2.2.2.1 C.2.2.2.2.2.2.2.2.1 hci hk1 hj hna), am_fval_sR hjk]
          unfold am_fval
          have h4j : am_fk ci j ≠ 4 := fun q => hjg (am_fk_gh ci hci j hj q).2
          rw [if_neg h4j, if_neg h4j]
          cases hv9 : am_R μ h j with
          | none => rfl
          | some x =>
            have := hW.2.2.1 h j x (am_nB hW hh) hv9
            show (if _ then va_rf (some (ρ x)) else _) = if _ then va_rf (some (ρ1 x)) else _
            rw [hlt x (by omega)]
    by_cases hsl : D.2 ci (am_N ci - 1) = D.2 ci kk
    · have hg : am_gv (am_gset ρ h (ρ v)) h = w (am_N ci - 1) := by
        rw [hwv _ (by omega), if_pos hsl]
        unfold am_gv am_gset
        simp
      have ew := wk (am_gset ρ h (ρ v)) (am_gset_get (by omega)) (fun j hj => am_gset_get hj) hg
      rw [ew] at hP1 hD1
      exact k H1 locs1 (am_gset ρ h (ρ v)) (hR.updg rfl rfl (fun j hj => am_cell_sR hj) hh (am_cell_obj hk hci) hW1 hP1 hD1) (fun j hj => am_gset_get (by omega)) hS1
    · have hg : am_gv ρ h = w (am_N ci - 1) := by
        rw [hwv _ (by omega), if_neg hsl]
        unfold am_fval
        rw [if_neg (by omega), if_pos t4]
      have ew := wk ρ rfl (fun j _ => rfl) hg
      rw [ew] at hP1 hD1
      exact k H1 locs1 ρ (hR.upd rfl rfl (fun j hj => am_cell_sR hj) (am_cell_obj hk hci) hW1 hP1 hD1) am_agr.rf hS1
theorem sm_putN {idx acc ci kk h : Nat} (hf : am_FT (am_own mi) idx = some (acc, ci, kk)) (ha : acc = 0 ∨ acc = 4 ∨ (acc = 2 ∧ am_flg mi = 1)) (h3 : am_fk ci kk = 3) (htw : am_tw ci kk = false) (hk : (am_k μ h).1 = ci) (hd : decode (am_code mi) pc = .ok (.putfield idx, 3)) (hn : am_Sem l D z0 L xs adS d mi (pc + 3) ls st (am_sR μ h kk none) r μ') : am_Sem l D z0 L xs adS d mi pc ls (.null :: .ref h :: st) μ r μ' := by
  have hty : ∀ (ty : FieldType), am_tk0 ty = am_fk ci kk → narrow ty .null = .null ∧ fits ty .null = true := by
    intro ty ht
    rcases am_tk0_3 (ht.trans h3) with ⟨n, rfl⟩ | ⟨n, rfl⟩ <;> exact ⟨rfl, rfl⟩
  exact sm_putx (μ1 := am_sR μ h kk none) hf ha htw hk hd (fun ρ => hty) ⟨rfl, rfl, rfl⟩ rfl (fun ρ Ch => ⟨fun j hj => am_cell_sR hj, am_fval_sRs h3, fun j hj => am_fval_sR hj⟩) (fun hW hh ho => hW.sR hh (fun x hx => by cases hx)) hn
/-- Node.this$0: what the object's own this$0 holds already -/
theorem sm_putNode {idx ci kk h v : Nat} (hf : am_FT (am_own mi) idx = some (3, ci, kk)) (hc3 : 3 ≤ (am_k μ h).1) (hc7 : (am_k μ h).1 < 7) (hflg : am_flg mi = 1) (hv : am_R μ h (am_N (am_k μ h).1 - 2) = some v) (hd : decode (am_code mi) pc = .ok (.putfield idx, 3)) (hn : am_Sem l D z0 L xs adS d mi (pc + 3) ls st μ r μ') : am_Sem l D z0 L xs adS d mi pc ls (.ref v :: .ref h :: st) μ r μ' := by
  refine sm_wr2 hn ⟨rfl, rfl, rfl⟩ (fun o => o.tail.tail) (fun {R p e s m args below meth c H locs cells slots Q ρ Ch lsA} X k => ?_)
  obtain ⟨C, -, -, hR, hS, hL, hol, hos⟩ := X
  have hW := hR.2.2.2.1
  have hh : h < am_n μ := am_lt hW (by omega)
  have hvn : v < am_n μ := hW.2.2.1 h _ v (am_nB hW hh) hv
  have h500 := hW.1.1
  generalize hci0 : (am_k μ h).1 = ci0 at hc3 hc7 hv
  obtain ⟨t1, t2, t3, t4, t5⟩ := am_T_tw ci0 hc3 hc7
  have hw : am_WOK mi idx ci0 (am_N ci0 - 1) := by
    rcases am_FT_ok hf with q | q | q | q | q | q | q | q <;> first | exact absurd q.1 (by decide) | skip
    obtain ⟨-, -, q1, q2⟩ := q
    refine Or.inr (Or.inl ?_)
    rw [t2]
    exact ⟨q2, rfl, q1.symm, hflg⟩
  have hty : am_ty ci0 (am_N ci0 - 1) = .object "CuckooByPost" := by
    have h1 := am_tyok ci0 hc7 (am_N ci0 - 1) (by omega)
    rw [t2] at h1
    have h2 : parseFieldDescriptor "LCuckooByPost;" = some (.object "CuckooByPost") := by decide +kernel
    exact Option.some.inj (h1.symm.trans h2)
  refine am_wput C hR.1 hR.2.1 hS hc7 (show am_N ci0 - 1 < am_N ci0 by omega) hci0 hh hw (v := .ref (ρ v)) (by rw [hty]; rfl) (by rw [hty]; rfl) hd (fun H1 locs1 w hwv hP1 hD1 hS1 => ?_)
  have ew : (List.range (am_N ci0)).map w = am_fs μ (am_gset ρ h (ρ v)) ci0 h := by
    apply List.map_congr_left
    intro j hj
    have hj := List.mem_range.mp hj
    rw [hwv j hj]
    have hsame : j ≠ am_N ci0 - 1 → am_fval μ ρ ci0 h j = am_fval μ (am_gset ρ h (ρ v)) ci0 h j := by
      intro hjg
      unfold am_fval
      have h4j : am_fk ci0 j ≠ 4 := fun q => hjg (am_fk_gh ci0 hc7 j hj q).2
      rw [if_neg h4j, if_neg h4j]
      cases hv9 : am_R μ h j with
      | none => rfl
      | some x =>
        have := hW.2.2.1 h j x (am_nB hW hh) hv9
        show (if _ then va_rf (some (ρ x)) else _) = if _ then va_rf (some (am_gset ρ h (ρ v) x)) else _
        rw [am_gset_get (show x < 500000 by omega)]
    by_cases hjg : j = am_N ci0 - 1
    · rw [hjg, if_pos rfl]
      unfold am_fval
      rw [if_neg (by omega), if_pos t4]
      unfold am_gv am_gset
      simp
    · by_cases hjk : j = am_N ci0 - 2
      · have e9 : am_fval μ ρ ci0 h j = .ref (ρ v) := by
          unfold am_fval
          rw [hjk, if_pos t3, hv]
          rfl
        rw [← hsame hjg, e9]
        simp
      · rw [if_neg (am_apart (own := "") (m := m) C.2.2.2.2.2.2.1 C.2.2.2.2.2.2.2.2.1 hc7 (by omega) hj (by rw [t2]; exact am_nmt ci0 hc3 hc7 j hj hjk hjg)), hsame hjg]
  rw [ew] at hP1 hD1
  exact k H1 locs1 (am_gset ρ h (ρ v)) (hR.updg rfl rfl (fun j hj => rfl) hh (am_cell_obj hci0 hc7) hW hP1 hD1) (fun j hj => am_gset_get (by omega)) hS1
/-! arrays -/
theorem am_K1 {s : State} {cA : ClassId} {ty : FieldType} (hK : va_K D am_cl [] s) (h : ArrOfT s cA ty ∧ va_RA s cA ty) : va_K D am_cl [(cA, ty)] s := ⟨hK.1, fun k q hk => by
  cases k with
  | zero => cases hk; exact h
  | succ k => simp at hk⟩
theorem am_vin {i : Int32} {n : Nat} (h : ¬ (i < 0 ∨ n ≤ i.toNatClampNeg)) : vp_in i n := h
theorem sm_iald {h : Nat} {i : Int32} (hk : (am_k μ h).1 = 10 ∨ (am_k μ h).1 = 15) (hi : ¬ (i < 0 ∨ (am_k μ h).2 ≤ i.toNatClampNeg)) (hd : decode (am_code mi) pc = .ok (.iaload, 1)) (hn : am_Sem l D z0 L xs adS d mi (pc + 1) ls (.int (am_I μ h i.toNatClampNeg) :: st) μ r μ') : am_Sem l D z0 L xs adS d mi pc ls (.int i :: .ref h :: st) μ r μ' := by
  refine sm_gen hn (fun {R p e s m args below meth c H locs cells slots Q ρ Ch lsA} X k => ?_)
  obtain ⟨⟨hx, hb, hml, hr, hlk, hown, hts, hfl, hAm⟩, -, -, hR, hS, hL, hol, hos⟩ := X
  obtain ⟨hP, hD, hAr, hW, hadS⟩ := hR
  have k := k (am_OkL.cons trivial hos.tail.tail)
  rcases hk with hk | hk
  · have hh := am_lt hW (show (am_k μ h).1 < 15 by omega)
    have hA := hAr h hh .int (by rw [hk]; rfl)
    have he := am_w_get (ρ := ρ) (Ch := Ch) hh
    rw [am_cell_i (Or.inl hk)] at he
    exact va_iald hx hb (am_K1 hAm.1 hA) hP h 0 he rfl (am_vin hi) hd k
  · have hB : am_B ≤ h := by
      rcases Nat.lt_or_ge h (am_n μ) with q | q
      · have := hW.1.2 h q
        omega
      · rcases Nat.lt_or_ge h am_B with q2 | q2
        · rw [hW.2.1 h q q2] at hk
          simp at hk
        · exact q2
    have hsc : h = am_SC := by
      have h2 := (hW.2.2.2 h hB).1
      rw [h2] at hk
      unfold am_k0 at hk
      split at hk
      · assumption
      · split at hk
        · split at hk <;> simp at hk
        · simp at hk
    have hkk : am_k μ h = (15, L) := by
      rw [(hW.2.2.2 h hB).1, hsc]
      unfold am_k0
      rw [if_pos rfl]
    rw [hkk] at hi
    have hv : am_I μ h i.toNatClampNeg = xs i.toNatClampNeg := by
      rw [(hW.2.2.2 h hB).2.1, hsc]
      unfold am_I0
      rw [if_pos rfl]
    rw [hv] at k
    have hX := hAm.2.2.2.2.2.2.2.1
    have e9 : ρ h = adS 100 := by
      rw [hsc]
      exact hadS 100
    have k1 := va_sld hx hb hX.1 (Nat.lt_of_lt_of_le hX.2 hAm.2.1) (A := am_A z0) (Nat.not_le.mpr hX.2) hS (am_vin hi) hd k
    rw [← e9] at k1
    exact k1
theorem sm_bald {h : Nat} {i : Int32} (hk : (am_k μ h).1 = 11 ∨ (am_k μ h).1 = 13 ∨ (am_k μ h).1 = 17) (hi : ¬ (i < 0 ∨ (am_k μ h).2 ≤ i.toNatClampNeg)) (hd : decode (am_code mi) pc = .ok (.baload, 1)) (hn : am_Sem l D z0 L xs adS d mi (pc + 1) ls (.int (am_I μ h i.toNatClampNeg) :: st) μ r μ') : am_Sem l D z0 L xs adS d mi pc ls (.int i :: .ref h :: st) μ r μ' := by
  refine sm_gen hn (fun {R p e s m args below meth c H locs cells slots Q ρ Ch lsA} X k => ?_)
  obtain ⟨⟨hx, hb, hml, hr, hlk, hown, hts, hfl, hAm⟩, -, -, hR, hS, hL, hol, hos⟩ := X
  obtain ⟨hP, hD, hAr, hW, hadS⟩ := hR
  have k := k (am_OkL.cons trivial hos.tail.tail)
  rcases hk with hk | hk | hk
  · have hh := am_lt hW (show (am_k μ h).1 < 15 by omega)
    have hA := hAr h hh .byte (by rw [hk]; rfl)
    have he := am_w_get (ρ := ρ) (Ch := Ch) hh
    rw [am_cell_i (Or.inr (Or.inl hk))] at he
    exact va_bald hx hb (am_K1 hAm.1 hA) hP h 0 he rfl (am_vin hi) hd k
  · have hh := am_lt hW (show (am_k μ h).1 < 15 by omega)
    have hA := hAr h hh .boolean (by rw [hk]; rfl)
    have he := am_w_get (ρ := ρ) (Ch := Ch) hh
    rw [am_cell_i (Or.inr (Or.inr hk))] at he
    exact va_zald hx hb (am_K1 hAm.1 hA) hP h 0 he rfl (am_vin hi) hd k
  · have hB : am_B ≤ h := by
      rcases Nat.lt_or_ge h (am_n μ) with q | q
      · have := hW.1.2 h q
        omega
      · rcases Nat.lt_or_ge h am_B with q2 | q2
        · rw [hW.2.1 h q q2] at hk
          simp at hk
        · exact q2
    obtain ⟨j, hj, hh, hkk⟩ : ∃ j, j < 8 ∧ h = am_B + (2 * j + 1) ∧ am_k μ h = (17, am_len.getD j 0) := by
      have h2 := (hW.2.2.2 h hB).1
      rw [h2] at hk ⊢
      unfold am_k0 at hk ⊢
      split at hk
      · simp at hk
      · split at hk
        · split at hk
          · simp at hk
          · rename_i a1 a2 a3
            refine ⟨(h - am_B) / 2, by omega, by omega, ?_⟩
            rw [if_neg a1, if_pos a2, if_neg a3]
        · simp at hk
    rw [hkk] at hi
    have hv : am_I μ h i.toNatClampNeg = (am_byt.getD j []).getD i.toNatClampNeg 0 := by
      rw [(hW.2.2.2 h hB).2.1]
      unfold am_I0
      rw [if_neg (by unfold am_SC; unfold am_B at hh; omega), if_pos (by omega), if_neg (by omega)]
      have : (h - am_B) / 2 = j := by omega
      rw [this]
    rw [hv] at k
    have hT := (hAm.2.2.2.2.2.1.1 j hj).2.2.2
    have e9 : ρ h = adS (2 * j + 1) := by
      rw [hh]
      exact hadS _
    have k1 := va_tb hx hb hT hS (am_vin hi) rfl hd k
    rw [show (fun i => adS (2 * i + 1)) j = ρ h from e9.symm] at k1
    exact k1
theorem sm_lald {h : Nat} {i : Int32} (hk : (am_k μ h).1 = 12) (hi : ¬ (i < 0 ∨ (am_k μ h).2 ≤ i.toNatClampNeg)) (hd : decode (am_code mi) pc = .ok (.laload, 1)) (hn : am_Sem l D z0 L xs adS d mi (pc + 1) ls (.long (am_L μ h i.toNatClampNeg) :: st) μ r μ') : am_Sem l D z0 L xs adS d mi pc ls (.int i :: .ref h :: st) μ r μ' := by
  refine sm_gen hn (fun {R p e s m args below meth c H locs cells slots Q ρ Ch lsA} X k => ?_)
  obtain ⟨⟨hx, hb, hml, hr, hlk, hown, hts, hfl, hAm⟩, -, -, hR, hS, hL, hol, hos⟩ := X
  obtain ⟨hP, hD, hAr, hW, hadS⟩ := hR
  have hh := am_lt hW (show (am_k μ h).1 < 15 by omega)
  have hA := hAr h hh .long (by rw [hk]; rfl)
  have he := am_w_get (ρ := ρ) (Ch := Ch) hh
  rw [am_cell_l hk] at he
  exact va_lald hx hb (am_K1 hAm.1 hA) hP h 0 he rfl (am_vin hi) hd (k (am_OkL.cons trivial hos.tail.tail))
theorem sm_aald {h : Nat} {i : Int32} (hk : (am_k μ h).1 = 14) (hi : ¬ (i < 0 ∨ (am_k μ h).2 ≤ i.toNatClampNeg)) (hd : decode (am_code mi) pc = .ok (.aaload, 1)) (hn : am_Sem l D z0 L xs adS d mi (pc + 1) ls (va_rf (am_R μ h i.toNatClampNeg) :: st) μ r μ') : am_Sem l D z0 L xs adS d mi pc ls (.int i :: .ref h :: st) μ r μ' := by
  refine sm_gen hn (fun {R p e s m args below meth c H locs cells slots Q ρ Ch lsA} X k => ?_)
  obtain ⟨⟨hx, hb, hml, hr, hlk, hown, hts, hfl, hAm⟩, -, -, hR, hS, hL, hol, hos⟩ := X
  obtain ⟨hP, hD, hAr, hW, hadS⟩ := hR
  have hh := am_lt hW (show (am_k μ h).1 < 15 by omega)
  have hA := hAr h hh (.object "CuckooByPost$Spring") (by rw [hk]; rfl)
  have he := am_w_get (ρ := ρ) (Ch := Ch) hh
  rw [am_cell_q hk] at he
  have k := k (am_OkL.cons (by
    cases hv : am_R μ h i.toNatClampNeg with
    | none => trivial
    | some v => exact Or.inl (hW.2.2.1 h _ v (am_nB hW hh) hv)) hos.tail.tail)
  rw [List.map_cons, am_cv_rf] at k
  exact va_aldq hx hb (am_K1 hAm.1 hA) hP h 0 he rfl (am_vin hi) hd k
theorem am_upd_eq {f : Nat → Int32} {i : Nat} {x : Int32} {g : Nat → Int32} (h : ∀ j, g j = if j = i then x else f j) : upd f i x = g := by
  funext j
  rw [h]
  unfold upd
  rfl
theorem sm_iast {h : Nat} {i x : Int32} (hk : (am_k μ h).1 = 10) (hi : ¬ (i < 0 ∨ (am_k μ h).2 ≤ i.toNatClampNeg)) (hd : decode (am_code mi) pc = .ok (.iastore, 1)) (hn : am_Sem l D z0 L xs adS d mi (pc + 1) ls st (am_sI μ h i.toNatClampNeg x) r μ') : am_Sem l D z0 L xs adS d mi pc ls (.int x :: .int i :: .ref h :: st) μ r μ' := by
  refine sm_wr hn ⟨rfl, rfl, rfl⟩ (fun o => o.tail.tail.tail) (fun {R p e s m args below meth c H locs cells slots Q ρ Ch lsA} X k => ?_)
  obtain ⟨⟨hx, hb, hml, hr, hlk, hown, hts, hfl, hAm⟩, -, -, hR, hS, hL, hol, hos⟩ := X
  have hh := am_lt hR.2.2.2.1 (show (am_k μ h).1 < 15 by omega)
  have hA := hR.2.2.1 h hh .int (by rw [hk]; rfl)
  have he := am_w_get (ρ := ρ) (Ch := Ch) hh
  rw [am_cell_i (Or.inl hk)] at he
  refine va_iast hx hb (am_K1 hAm.1 hA) hR.1 hR.2.1 hS h 0 he rfl (am_vin hi) hd (fun H1 locs1 hP1 hD1 hS1 => k H1 locs1 (hR.upd rfl rfl (fun j hj => am_cell_sI hj) ?_ (hR.2.2.2.1.sI hh) hP1 hD1) hS1)
  rw [am_cell_i (μ := am_sI μ h i.toNatClampNeg x) (Or.inl hk), am_upd_eq (g := am_I (am_sI μ h i.toNatClampNeg x) h) (fun j => by rw [am_I_sI]; simp)]
  rfl
theorem sm_bast {h : Nat} {i x : Int32} (hk : (am_k μ h).1 = 11) (hi : ¬ (i < 0 ∨ (am_k μ h).2 ≤ i.toNatClampNeg)) (hd : decode (am_code mi) pc = .ok (.bastore, 1)) (hn : am_Sem l D z0 L xs adS d mi (pc + 1) ls st (am_sI μ h i.toNatClampNeg (vp_nar .byte x)) r μ') : am_Sem l D z0 L xs adS d mi pc ls (.int x :: .int i :: .ref h :: st) μ r μ' := by
  refine sm_wr hn ⟨rfl, rfl, rfl⟩ (fun o => o.tail.tail.tail) (fun {R p e s m args below meth c H locs cells slots Q ρ Ch lsA} X k => ?_)
  obtain ⟨⟨hx, hb, hml, hr, hlk, hown, hts, hfl, hAm⟩, -, -, hR, hS, hL, hol, hos⟩ := X
  have hh := am_lt hR.2.2.2.1 (show (am_k μ h).1 < 15 by omega)
  have hA := hR.2.2.1 h hh .byte (by rw [hk]; rfl)
  have he := am_w_get (ρ := ρ) (Ch := Ch) hh
  rw [am_cell_i (Or.inr (Or.inl hk))] at he
  refine va_bast hx hb (am_K1 hAm.1 hA) hR.1 hR.2.1 hS h 0 he rfl (am_vin hi) hd (fun H1 locs1 hP1 hD1 hS1 => k H1 locs1 (hR.upd rfl rfl (fun j hj => am_cell_sI hj) ?_ (hR.2.2.2.1.sI hh) hP1 hD1) hS1)
  rw [am_cell_i (μ := am_sI μ h i.toNatClampNeg (vp_nar .byte x)) (Or.inr (Or.inl hk)), am_upd_eq (g := am_I (am_sI μ h i.toNatClampNeg (vp_nar .byte x)) h) (fun j => by rw [am_I_sI]; simp)]
  rfl
theorem sm_zast {h : Nat} {i x : Int32} (hk : (am_k μ h).1 = 13) (hi : ¬ (i < 0 ∨ (am_k μ h).2 ≤ i.toNatClampNeg)) (hd : decode (am_code mi) pc = .ok (.bastore, 1)) (hn : am_Sem l D z0 L xs adS d mi (pc + 1) ls st (am_sI μ h i.toNatClampNeg (vp_nar .boolean x)) r μ') : am_Sem l D z0 L xs adS d mi pc ls (.int x :: .int i :: .ref h :: st) μ r μ' := by
  refine sm_wr hn ⟨rfl, rfl, rfl⟩ (fun o => o.tail.tail.tail) (fun {R p e s m args below meth c H locs cells slots Q ρ Ch lsA} X k => ?_)
  obtain ⟨⟨hx, hb, hml, hr, hlk, hown, hts, hfl, hAm⟩, -, -, hR, hS, hL, hol, hos⟩ := X
  have hh := am_lt hR.2.2.2.1 (show (am_k μ h).1 < 15 by omega)
  have hA := hR.2.2.1 h hh .boolean (by rw [hk]; rfl)
  have he := am_w_get (ρ := ρ) (Ch := Ch) hh
  rw [am_cell_i (Or.inr (Or.inr hk))] at he
  refine va_zast hx hb (am_K1 hAm.1 hA) hR.1 hR.2.1 hS h 0 he rfl (am_vin hi) hd (fun H1 locs1 hP1 hD1 hS1 => k H1 locs1 (hR.upd rfl rfl (fun j hj => am_cell_sI hj) ?_ (hR.2.2.2.1.sI hh) hP1 hD1) hS1)
  rw [am_cell_i (μ := am_sI μ h i.toNatClampNeg (vp_nar .boolean x)) (Or.inr (Or.inr hk)), am_upd_eq (g := am_I (am_sI μ h i.toNatClampNeg (vp_nar .boolean x)) h) (fun j => by rw [am_I_sI]; simp)]
  rfl
theorem sm_last {h : Nat} {i : Int32} {x : Int64} (hk : (am_k μ h).1 = 12) (hi : ¬ (i < 0 ∨ (am_k μ h).2 ≤ i.toNatClampNeg)) (hd : decode (am_code mi) pc = .ok (.lastore, 1)) (hn : am_Sem l D z0 L xs adS d mi (pc + 1) ls st (am_sL μ h i.toNatClampNeg x) r μ') : am_Sem l D z0 L xs adS d mi pc ls (.long x :: .int i :: .ref h :: st) μ r μ' := by
  refine sm_wr hn ⟨rfl, rfl, rfl⟩ (fun o => o.tail.tail.tail) (fun {R p e s m args below meth c H locs cells slots Q ρ Ch lsA} X k => ?_)
  obtain ⟨⟨hx, hb, hml, hr, hlk, hown, hts, hfl, hAm⟩, -, -, hR, hS, hL, hol, hos⟩ := X
  have hh := am_lt hR.2.2.2.1 (show (am_k μ h).1 < 15 by omega)
  have hA := hR.2.2.1 h hh .long (by rw [hk]; rfl)
  have he := am_w_get (ρ := ρ) (Ch := Ch) hh
  rw [am_cell_l hk] at he
  refine va_last hx hb (am_K1 hAm.1 hA) hR.1 hR.2.1 hS h 0 he rfl (am_vin hi) hd (fun H1 locs1 hP1 hD1 hS1 => k H1 locs1 (hR.upd rfl rfl (fun j hj => am_cell_sL hj) ?_ hR.2.2.2.1.sL hP1 hD1) hS1)
  rw [am_cell_l (μ := am_sL μ h i.toNatClampNeg x) hk]
  have e9 : vp_updL (am_L μ h) i.toNatClampNeg x = am_L (am_sL μ h i.toNatClampNeg x) h := by
    funext j
    rw [am_L_sL]
    simp [vp_updL]
  rw [e9]
  rfl
theorem sm_aast {h v : Nat} {i : Int32} (hk : (am_k μ h).1 = 14) (hv : (am_k μ v).1 = 1) (hi : ¬ (i < 0 ∨ (am_k μ h).2 ≤ i.toNatClampNeg)) (hd : decode (am_code mi) pc = .ok (.aastore, 1)) (hn : am_Sem l D z0 L xs adS d mi (pc + 1) ls st (am_sR μ h i.toNatClampNeg (some v)) r μ') : am_Sem l D z0 L xs adS d mi pc ls (.ref v :: .int i :: .ref h :: st) μ r μ' := by
  refine sm_wr hn ⟨rfl, rfl, rfl⟩ (fun o => o.tail.tail.tail) (fun {R p e s m args below meth c H locs cells slots Q ρ Ch lsA} X k => ?_)
  obtain ⟨⟨hx, hb, hml, hr, hlk, hown, hts, hfl, hAm⟩, -, -, hR, hS, hL, hol, hos⟩ := X
  have hh := am_lt hR.2.2.2.1 (show (am_k μ h).1 < 15 by omega)
  have hhv := am_lt hR.2.2.2.1 (show (am_k μ v).1 < 15 by omega)
  have hA := hR.2.2.1 h hh (.object "CuckooByPost$Spring") (by rw [hk]; rfl)
  have he := am_w_get (ρ := ρ) (Ch := Ch) hh
  have hev := am_w_get (ρ := ρ) (Ch := Ch) hhv
  rw [am_cell_q hk] at he
  rw [am_cell_obj hv (by decide)] at hev
  refine va_astq (r := (RX2, TX2, 13)) hx hb (am_K1 hAm.1 hA) hR.1 hR.2.1 hS h 0 v 1 he rfl hev rfl (am_vin hi) hd (fun H1 locs1 hP1 hD1 hS1 => k H1 locs1 (hR.upd rfl rfl (fun j hj => am_cell_sR hj) ?_ (hR.2.2.2.1.sR hh (fun x hx => by cases hx; exact hhv)) hP1 hD1) hS1)
  rw [am_cell_q (μ := am_sR μ h i.toNatClampNeg (some v)) hk]
  have e9 : va_up (fun k => (am_R μ h k).map ρ) i.toNatClampNeg (some (ρ v)) = fun k => (am_R (am_sR μ h i.toNatClampNeg (some v)) h k).map ρ := by
    funext j
    rw [am_R_sR]
    unfold va_up
    by_cases hj : j = i.toNatClampNeg <;> simp [hj]
  rw [e9]
  rfl
theorem sm_alen {h : Nat} (h1 : 10 ≤ (am_k μ h).1) (h2 : (am_k μ h).1 ≤ 17) (h3 : (am_k μ h).1 ≠ 16) (hd : decode (am_code mi) pc = .ok (.arraylength, 1)) (hn : am_Sem l D z0 L xs adS d mi (pc + 1) ls (.int (Int32.ofNat (am_k μ h).2) :: st) μ r μ') : am_Sem l D z0 L xs adS d mi pc ls (.ref h :: st) μ r μ' := by
  refine sm_gen hn (fun {R p e s m args below meth c H locs cells slots Q ρ Ch lsA} X k => ?_)
  obtain ⟨⟨hx, hb, hml, hr, hlk, hown, hts, hfl, hAm⟩, -, -, hR, hS, hL, hol, hos⟩ := X
  obtain ⟨hP, hD, hAr, hW, hadS⟩ := hR
  have k := k (am_OkL.cons trivial hos.tail)
  rcases Nat.lt_or_ge h (am_n μ) with q | q
  · have h15 := hW.1.2 h q
    obtain ⟨ty, hty⟩ : ∃ ty, am_aty (am_k μ h).1 = some ty := by
      rcases (show (am_k μ h).1 = 10 ∨ (am_k μ h).1 = 11 ∨ (am_k μ h).1 = 12 ∨ (am_k μ h).1 = 13 ∨ (am_k μ h).1 = 14 by omega) with z | z | z | z | z <;> rw [z] <;> exact ⟨_, rfl⟩
    have hA := hAr h q ty hty
    have he := am_w_get (ρ := ρ) (Ch := Ch) q
    obtain ⟨x, hx1, hx2⟩ : ∃ x : vp_A, am_cell μ ρ Ch h = .inl (Ch h, x) ∧ x.1 = (am_k μ h).2 := by
      rcases (show (am_k μ h).1 = 10 ∨ (am_k μ h).1 = 11 ∨ (am_k μ h).1 = 13 ∨ (am_k μ h).1 = 12 ∨ (am_k μ h).1 = 14 by omega) with z | z | z | z | z
      · exact ⟨_, am_cell_i (Or.inl z), rfl⟩
      · exact ⟨_, am_cell_i (Or.inr (Or.inl z)), rfl⟩
      · exact ⟨_, am_cell_i (Or.inr (Or.inr z)), rfl⟩
      · exact ⟨_, am_cell_l z, rfl⟩
      · exact ⟨_, am_cell_q z, rfl⟩
    rw [hx1] at he
    exact va_alen hx hb (am_K1 hAm.1 hA) hP h 0 he rfl (by rw [hx2]) hd k
  · have hB : am_B ≤ h := by
      rcases Nat.lt_or_ge h am_B with q2 | q2
      · rw [hW.2.1 h q q2] at h2
        simp at h2
      · exact q2
    have hkk := (hW.2.2.2 h hB).1
    rw [hkk] at h1 h2 h3 k
    unfold am_k0 at h1 h2 h3 k
    split at k
    · rename_i a1
      have hX := hAm.2.2.2.2.2.2.2.1
      have e9 : ρ h = adS 100 := by
        rw [a1]
        exact hadS 100
      have k1 := va_slen hx hb hX.1 (Nat.lt_of_lt_of_le hX.2 hAm.2.1) (A := am_A z0) (Nat.not_le.mpr hX.2) hS hd k
      rw [← e9] at k1
      exact k1
    · rename_i a1
      rw [if_neg a1] at h1 h2 h3
      split at k
      · rename_i a2
        rw [if_pos a2] at h1 h2 h3
        split at k
        · rename_i a3
          rw [if_pos a3] at h3
          simp at h3
        · rename_i a3
          have hj : (h - am_B) / 2 < 8 := by omega
          have hT := (hAm.2.2.2.2.2.1.1 _ hj).2.2.2
          have e9 : ρ h = adS (2 * ((h - am_B) / 2) + 1) := by
            rw [← hadS]
            congr 1
            omega
          have k1 := va_tlen hx hb hT hS rfl hd k
          rw [show (fun i => adS (2 * i + 1)) ((h - am_B) / 2) = ρ h from e9.symm] at k1
          exact k1
      · rename_i a2
        rw [if_neg a2] at h2
        simp at h2
end MEM
