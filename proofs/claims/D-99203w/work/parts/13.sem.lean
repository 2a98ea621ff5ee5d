/-! AM, part 4: what a run of the abstract machine says of the machine, and the instructions that change no memory -/
set_option maxRecDepth 100000
def am_Amb (l : Launch) (D : va_G) (z0 L : Nat) (xs : Nat → Int32) (adS : Nat → Nat) (s : State) : Prop :=
  va_K D am_cl [] s ∧ z0 ≤ s.heap.size ∧ (∀ w ∈ am_nw, va_Nw w s) ∧ va_AO "CuckooByPost$Spring" s ∧ va_Z "java/lang/String" "COMPACT_STRINGS" "Z" (.int 1) (am_A z0) s s.heap ∧
  vk_S 8 am_len am_byt (fun i => adS (2 * i)) (fun i => adS (2 * i + 1)) (am_A z0) s s.heap ∧ (∀ i, i < 8 → vk_R RX1 (am_ix i) (am_tx i) (adS (2 * i)) s) ∧
  (va_X (adS 100) L xs s s.heap ∧ adS 100 < z0) ∧ (vx_Zq Bundle.tN "UNASSIGNED_STACK" Bundle.steD (am_A z0) s s.heap ∧ vx_Zq Bundle.tN "SUPPRESSED_SENTINEL" Bundle.listD (am_A z0) s s.heap) ∧ l.stackTraces = false
/-- what a frame of a method stands on -/
def am_Cx (l : Launch) (D : va_G) (z0 L : Nat) (xs : Nat → Int32) (adS : Nat → Nat) (p : Program) (s : State) (m : MethodId) (args : Array Value) (meth : Method) (c : Code) (mi : am_MI) : Prop :=
  p.tables.exec = Jvm.exec ∧ c.code = am_code mi ∧ c.maxLocals = am_mL mi ∧ meth.sig.returnType = am_ret mi ∧ meth.locks = false ∧ s.vm.findClass (am_CN (am_own mi)) = some m.cls ∧ (∀ w ∈ lw_all, w.before args s = true) ∧ (am_flg mi = 1 → meth.name = "<init>") ∧ am_Amb l D z0 L xs adS s
def am_mono (μ μ' : am_M) : Prop := am_c μ ≤ am_c μ' ∧ am_s μ ≤ am_s μ' ∧ am_n μ ≤ am_n μ'
theorem am_mono.rf {μ : am_M} : am_mono μ μ := ⟨Nat.le_refl _, Nat.le_refl _, Nat.le_refl _⟩
theorem am_mono.tr {μ μ1 μ2 : am_M} (h : am_mono μ μ1) (h1 : am_mono μ1 μ2) : am_mono μ μ2 := ⟨Nat.le_trans h.1 h1.1, Nat.le_trans h.2.1 h1.2.1, Nat.le_trans h.2.2 h1.2.2⟩
/-- where a run of a frame stands -/
def am_St (l : Launch) (D : va_G) (z0 L : Nat) (xs : Nat → Int32) (adS : Nat → Nat) (d : Nat) (mi : am_MI) (R : Room) (p : Program) (s : State) (m : MethodId) (args : Array Value) (meth : Method) (c : Code) (H : Heap) (locs : List Loc) (cells slots : Nat) (ρ : Nat → Nat) (Ch : Nat → ClassId) (lsA : Array Slot) (ls st : List Value) (μ μ' : am_M) : Prop :=
  am_Cx l D z0 L xs adS p s m args meth c mi ∧ (d ≤ R.frames ∧ 80 * d ≤ R.locals) ∧ (cells + (am_c μ' - am_c μ) ≤ R.cells ∧ slots + (am_s μ' - am_s μ) ≤ R.slots) ∧
  am_Rep D z0 L xs adS μ ρ Ch s H ∧ va_S (am_A z0) s.heap H locs ∧ am_LV lsA (am_mL mi) ls ρ ∧ am_OkL (am_n μ) ls ∧ am_OkL (am_n μ) st
/-- an instruction that returns r -/
def am_RI (mi : am_MI) (i : Instr) (r : Option Value) : Prop := match i, r with
  | .ireturn, some (.int v) => ∃ ty, am_ret mi = some ty ∧ narrow ty (.int v) = .int v
  | .lreturn, some (.long _) => am_ret mi = some .long
  | .areturn, some (.ref _) => ∃ n, am_ret mi = some (.object n)
  | .areturn, some .null => ∃ n, am_ret mi = some (.object n)
  | .return_, none => am_ret mi = none
  | _, _ => False
def am_OkR (n : Nat) (r : Option Value) : Prop := match r with
  | some v => am_Ok n v
  | none => True
/-- what is owed at a frame's end -/
def am_Fin (l : Launch) (D : va_G) (z0 L : Nat) (xs : Nat → Int32) (adS : Nat → Nat) (d : Nat) (mi : am_MI) (R : Room) (p : Program) (e : Env) (s : State) (m : MethodId) (args : Array Value) (below : List Frame) (meth : Method) (c : Code) (cells slots : Nat) (Q : State → Prop) (n : Nat) (ρ : Nat → Nat) (r : Option Value) (μ' : am_M) : Prop :=
  (∀ (H1 : Heap) (locs1 : List Loc) (ρ1 : Nat → Nat) (Ch1 : Nat → ClassId) (pc1 : Nat) (ls1 : Array Slot) (i1 : Instr), decode (am_code mi) pc1 = .ok (i1, 1) → am_RI mi i1 r → am_Rep D z0 L xs adS μ' ρ1 Ch1 s H1 → am_agr n ρ ρ1 → va_S (am_A z0) s.heap H1 locs1 → am_OkR (am_n μ') r →
    W p l e R s m args below meth c H1 locs1 cells slots Q (F0 m pc1 ls1 ((r.map (am_cv ρ1)).toList))) ∧
  (r = some (.retAddr 1) → ∀ (H1 : Heap) (locs1 : List Loc) (ρ1 : Nat → Nat) (Ch1 : Nat → ClassId) (pc1 : Nat) (ls1 : Array Slot) (st1 : List Value) (cells1 slots1 : Nat), decode (am_code mi) pc1 = .ok (.new 279, 3) → decode (am_code mi) (pc1 + 3) = .ok (.dup, 1) → decode (am_code mi) (pc1 + 4) = .ok (.invokespecial 281, 3) → decode (am_code mi) (pc1 + 7) = .ok (.athrow, 1) →
    am_own mi = 1 → 12 ≤ d → (st1.map fun v => v.category).sum ≤ 8 → ls1.size = am_mL mi → am_Rep D z0 L xs adS μ' ρ1 Ch1 s H1 → am_agr n ρ ρ1 → va_S (am_A z0) s.heap H1 locs1 → cells1 + 1 = cells → slots1 + 6 = slots →
    W p l e R s m args below meth c H1 locs1 cells1 slots1 Q (F0 m pc1 ls1 st1))
def am_Sem (l : Launch) (D : va_G) (z0 L : Nat) (xs : Nat → Int32) (adS : Nat → Nat) (d : Nat) (mi : am_MI) (pc : Nat) (ls st : List Value) (μ : am_M) (r : Option Value) (μ' : am_M) : Prop :=
  am_mono μ μ' ∧ ∀ (R : Room) (p : Program) (e : Env) (s : State) (m : MethodId) (args : Array Value) (below : List Frame) (meth : Method) (c : Code) (H : Heap) (locs : List Loc) (cells slots : Nat) (Q : State → Prop) (ρ : Nat → Nat) (Ch : Nat → ClassId) (lsA : Array Slot),
    am_St l D z0 L xs adS d mi R p s m args meth c H locs cells slots ρ Ch lsA ls st μ μ' →
    am_Fin l D z0 L xs adS d mi R p e s m args below meth c (cells + (am_c μ' - am_c μ)) (slots + (am_s μ' - am_s μ)) Q (am_n μ) ρ r μ' →
    W p l e R s m args below meth c H locs cells slots Q (F0 m pc lsA (st.map (am_cv ρ)))
section SM
variable {l : Launch} {D : va_G} {z0 L : Nat} {xs : Nat → Int32} {adS : Nat → Nat} {d : Nat} {mi : am_MI} {pc : Nat} {ls st : List Value} {μ μ' : am_M} {r : Option Value}
/-- an instruction that changes the operand stack alone -/
theorem sm_simple {pc1 : Nat} {st1 : List Value} (h : am_Sem l D z0 L xs adS d mi pc1 ls st1 μ r μ') (hok : am_OkL (am_n μ) ls → am_OkL (am_n μ) st → am_OkL (am_n μ) st1)
    (row : ∀ {R : Room} {p : Program} {e : Env} {s : State} {m : MethodId} {args : Array Value} {below : List Frame} {meth : Method} {c : Code} {H : Heap} {locs : List Loc} {cells slots : Nat} {Q : State → Prop} {ρ : Nat → Nat} {Ch : Nat → ClassId} {lsA : Array Slot}, am_St l D z0 L xs adS d mi R p s m args meth c H locs cells slots ρ Ch lsA ls st μ μ' →
      W p l e R s m args below meth c H locs cells slots Q (F0 m pc1 lsA (st1.map (am_cv ρ))) → W p l e R s m args below meth c H locs cells slots Q (F0 m pc lsA (st.map (am_cv ρ)))) : am_Sem l D z0 L xs adS d mi pc ls st μ r μ' :=
  ⟨h.1, fun _ _ _ _ _ _ _ _ _ _ _ _ _ _ _ _ _ X F => row X (h.2 _ _ _ _ _ _ _ _ _ _ _ _ _ _ _ _ _ ⟨X.1, X.2.1, X.2.2.1, X.2.2.2.1, X.2.2.2.2.1, X.2.2.2.2.2.1, X.2.2.2.2.2.2.1, hok X.2.2.2.2.2.2.1 X.2.2.2.2.2.2.2⟩ F)⟩
/-- an instruction that changes the locals and the operand stack -/
theorem sm_store {pc1 : Nat} {ls1 st1 : List Value} (h : am_Sem l D z0 L xs adS d mi pc1 ls1 st1 μ r μ') (hok : am_OkL (am_n μ) ls → am_OkL (am_n μ) st → am_OkL (am_n μ) ls1 ∧ am_OkL (am_n μ) st1)
    (row : ∀ {R : Room} {p : Program} {e : Env} {s : State} {m : MethodId} {args : Array Value} {below : List Frame} {meth : Method} {c : Code} {H : Heap} {locs : List Loc} {cells slots : Nat} {Q : State → Prop} {ρ : Nat → Nat} {Ch : Nat → ClassId} {lsA : Array Slot}, am_St l D z0 L xs adS d mi R p s m args meth c H locs cells slots ρ Ch lsA ls st μ μ' →
      (∀ ls' : Array Slot, am_LV ls' (am_mL mi) ls1 ρ → W p l e R s m args below meth c H locs cells slots Q (F0 m pc1 ls' (st1.map (am_cv ρ)))) → W p l e R s m args below meth c H locs cells slots Q (F0 m pc lsA (st.map (am_cv ρ)))) : am_Sem l D z0 L xs adS d mi pc ls st μ r μ' :=
  ⟨h.1, fun _ _ _ _ _ _ _ _ _ _ _ _ _ _ _ _ _ X F => row X (fun ls' hl => h.2 _ _ _ _ _ _ _ _ _ _ _ _ _ _ _ _ _ ⟨X.1, X.2.1, X.2.2.1, X.2.2.2.1, X.2.2.2.2.1, hl, (hok X.2.2.2.2.2.2.1 X.2.2.2.2.2.2.2).1, (hok X.2.2.2.2.2.2.1 X.2.2.2.2.2.2.2).2⟩ F)⟩
theorem sm_iconst {n : Int} (hd : decode (am_code mi) pc = .ok (.iconst n, 1)) (h : am_Sem l D z0 L xs adS d mi (pc + 1) ls (.int (Int32.ofInt n) :: st) μ r μ') : am_Sem l D z0 L xs adS d mi pc ls (st) μ r μ' :=
  sm_simple h (fun _ o => am_OkL.cons trivial o) (fun X k => lv_iconst X.1.1 X.1.2.1 hd rfl k)
theorem sm_bipush {n : Int} (hd : decode (am_code mi) pc = .ok (.bipush n, 2)) (h : am_Sem l D z0 L xs adS d mi (pc + 2) ls (.int (Int8.ofInt n).toInt32 :: st) μ r μ') : am_Sem l D z0 L xs adS d mi pc ls (st) μ r μ' :=
  sm_simple h (fun _ o => am_OkL.cons trivial o) (fun X k => lv_bipush X.1.1 X.1.2.1 hd rfl k)
theorem sm_sipush {n : Int} (hd : decode (am_code mi) pc = .ok (.sipush n, 3)) (h : am_Sem l D z0 L xs adS d mi (pc + 3) ls (.int (Int16.ofInt n).toInt32 :: st) μ r μ') : am_Sem l D z0 L xs adS d mi pc ls (st) μ r μ' :=
  sm_simple h (fun _ o => am_OkL.cons trivial o) (fun X k => lv_sipush X.1.1 X.1.2.1 hd rfl k)
theorem sm_lconst {n : Fin 2} (hd : decode (am_code mi) pc = .ok (.lconst n, 1)) (h : am_Sem l D z0 L xs adS d mi (pc + 1) ls (.long (Int64.ofNat (n : Nat)) :: st) μ r μ') : am_Sem l D z0 L xs adS d mi pc ls (st) μ r μ' :=
  sm_simple h (fun _ o => am_OkL.cons trivial o) (fun X k => lv_lconst X.1.1 X.1.2.1 hd rfl k)
theorem sm_null  (hd : decode (am_code mi) pc = .ok (.aconst_null, 1)) (h : am_Sem l D z0 L xs adS d mi (pc + 1) ls (.null :: st) μ r μ') : am_Sem l D z0 L xs adS d mi pc ls (st) μ r μ' :=
  sm_simple h (fun _ o => am_OkL.cons trivial o) (fun X k => lv_null X.1.1 X.1.2.1 hd k)
theorem sm_iadd {x y : Int32} (hd : decode (am_code mi) pc = .ok (.iadd, 1)) (h : am_Sem l D z0 L xs adS d mi (pc + 1) ls (.int (x + y) :: st) μ r μ') : am_Sem l D z0 L xs adS d mi pc ls (.int y :: .int x :: st) μ r μ' :=
  sm_simple h (fun _ o => am_OkL.cons trivial o.tail.tail) (fun X k => lv_iadd X.1.1 X.1.2.1 hd k)
theorem sm_isub {x y : Int32} (hd : decode (am_code mi) pc = .ok (.isub, 1)) (h : am_Sem l D z0 L xs adS d mi (pc + 1) ls (.int (x - y) :: st) μ r μ') : am_Sem l D z0 L xs adS d mi pc ls (.int y :: .int x :: st) μ r μ' :=
  sm_simple h (fun _ o => am_OkL.cons trivial o.tail.tail) (fun X k => lv_isub X.1.1 X.1.2.1 hd k)
theorem sm_imul {x y : Int32} (hd : decode (am_code mi) pc = .ok (.imul, 1)) (h : am_Sem l D z0 L xs adS d mi (pc + 1) ls (.int (x * y) :: st) μ r μ') : am_Sem l D z0 L xs adS d mi pc ls (.int y :: .int x :: st) μ r μ' :=
  sm_simple h (fun _ o => am_OkL.cons trivial o.tail.tail) (fun X k => lv_imul X.1.1 X.1.2.1 hd k)
theorem sm_iand {x y : Int32} (hd : decode (am_code mi) pc = .ok (.iand, 1)) (h : am_Sem l D z0 L xs adS d mi (pc + 1) ls (.int (x &&& y) :: st) μ r μ') : am_Sem l D z0 L xs adS d mi pc ls (.int y :: .int x :: st) μ r μ' :=
  sm_simple h (fun _ o => am_OkL.cons trivial o.tail.tail) (fun X k => lv_iand X.1.1 X.1.2.1 hd k)
theorem sm_ior {x y : Int32} (hd : decode (am_code mi) pc = .ok (.ior, 1)) (h : am_Sem l D z0 L xs adS d mi (pc + 1) ls (.int (x ||| y) :: st) μ r μ') : am_Sem l D z0 L xs adS d mi pc ls (.int y :: .int x :: st) μ r μ' :=
  sm_simple h (fun _ o => am_OkL.cons trivial o.tail.tail) (fun X k => lv_ior X.1.1 X.1.2.1 hd k)
theorem sm_ixor {x y : Int32} (hd : decode (am_code mi) pc = .ok (.ixor, 1)) (h : am_Sem l D z0 L xs adS d mi (pc + 1) ls (.int (x ^^^ y) :: st) μ r μ') : am_Sem l D z0 L xs adS d mi pc ls (.int y :: .int x :: st) μ r μ' :=
  sm_simple h (fun _ o => am_OkL.cons trivial o.tail.tail) (fun X k => lv_ixor X.1.1 X.1.2.1 hd k)
theorem sm_ishl {x y : Int32} (hd : decode (am_code mi) pc = .ok (.ishl, 1)) (h : am_Sem l D z0 L xs adS d mi (pc + 1) ls (.int (x <<< (y &&& 31)) :: st) μ r μ') : am_Sem l D z0 L xs adS d mi pc ls (.int y :: .int x :: st) μ r μ' :=
  sm_simple h (fun _ o => am_OkL.cons trivial o.tail.tail) (fun X k => lv_ishl X.1.1 X.1.2.1 hd k)
theorem sm_ishr {x y : Int32} (hd : decode (am_code mi) pc = .ok (.ishr, 1)) (h : am_Sem l D z0 L xs adS d mi (pc + 1) ls (.int (x >>> (y &&& 31)) :: st) μ r μ') : am_Sem l D z0 L xs adS d mi pc ls (.int y :: .int x :: st) μ r μ' :=
  sm_simple h (fun _ o => am_OkL.cons trivial o.tail.tail) (fun X k => lv_ishr X.1.1 X.1.2.1 hd k)
theorem sm_iushr {x y : Int32} (hd : decode (am_code mi) pc = .ok (.iushr, 1)) (h : am_Sem l D z0 L xs adS d mi (pc + 1) ls (.int (x.toUInt32 >>> (y.toUInt32 &&& Int32.toUInt32 31)).toInt32 :: st) μ r μ') : am_Sem l D z0 L xs adS d mi pc ls (.int y :: .int x :: st) μ r μ' :=
  sm_simple h (fun _ o => am_OkL.cons trivial o.tail.tail) (fun X k => lv_iushr X.1.1 X.1.2.1 hd rfl k)
theorem sm_idiv {x y : Int32} (hne : ¬ y = 0) (hd : decode (am_code mi) pc = .ok (.idiv, 1)) (h : am_Sem l D z0 L xs adS d mi (pc + 1) ls (.int (x / y) :: st) μ r μ') : am_Sem l D z0 L xs adS d mi pc ls (.int y :: .int x :: st) μ r μ' :=
  sm_simple h (fun _ o => am_OkL.cons trivial o.tail.tail) (fun X k => lv_idiv X.1.1 X.1.2.1 hd hne k)
theorem sm_irem {x y : Int32} (hne : ¬ y = 0) (hd : decode (am_code mi) pc = .ok (.irem, 1)) (h : am_Sem l D z0 L xs adS d mi (pc + 1) ls (.int (x - x / y * y) :: st) μ r μ') : am_Sem l D z0 L xs adS d mi pc ls (.int y :: .int x :: st) μ r μ' :=
  sm_simple h (fun _ o => am_OkL.cons trivial o.tail.tail) (fun X k => lv_irem X.1.1 X.1.2.1 hd hne k)
theorem sm_ineg {x : Int32} (hd : decode (am_code mi) pc = .ok (.ineg, 1)) (h : am_Sem l D z0 L xs adS d mi (pc + 1) ls (.int (-x) :: st) μ r μ') : am_Sem l D z0 L xs adS d mi pc ls (.int x :: st) μ r μ' :=
  sm_simple h (fun _ o => am_OkL.cons trivial o.tail) (fun X k => lv_ineg X.1.1 X.1.2.1 hd k)
theorem sm_i2l {x : Int32} (hd : decode (am_code mi) pc = .ok (.i2l, 1)) (h : am_Sem l D z0 L xs adS d mi (pc + 1) ls (.long x.toInt64 :: st) μ r μ') : am_Sem l D z0 L xs adS d mi pc ls (.int x :: st) μ r μ' :=
  sm_simple h (fun _ o => am_OkL.cons trivial o.tail) (fun X k => lv_i2l X.1.1 X.1.2.1 hd rfl k)
theorem sm_i2b {x : Int32} (hd : decode (am_code mi) pc = .ok (.i2b, 1)) (h : am_Sem l D z0 L xs adS d mi (pc + 1) ls (.int x.toInt8.toInt32 :: st) μ r μ') : am_Sem l D z0 L xs adS d mi pc ls (.int x :: st) μ r μ' :=
  sm_simple h (fun _ o => am_OkL.cons trivial o.tail) (fun X k => lv_i2b X.1.1 X.1.2.1 hd rfl k)
theorem sm_i2s {x : Int32} (hd : decode (am_code mi) pc = .ok (.i2s, 1)) (h : am_Sem l D z0 L xs adS d mi (pc + 1) ls (.int x.toInt16.toInt32 :: st) μ r μ') : am_Sem l D z0 L xs adS d mi pc ls (.int x :: st) μ r μ' :=
  sm_simple h (fun _ o => am_OkL.cons trivial o.tail) (fun X k => lv_i2s X.1.1 X.1.2.1 hd rfl k)
theorem sm_i2c {x : Int32} (hd : decode (am_code mi) pc = .ok (.i2c, 1)) (h : am_Sem l D z0 L xs adS d mi (pc + 1) ls (.int (x.toUInt32 % 65536).toInt32 :: st) μ r μ') : am_Sem l D z0 L xs adS d mi pc ls (.int x :: st) μ r μ' :=
  sm_simple h (fun _ o => am_OkL.cons trivial o.tail) (fun X k => lv_i2c X.1.1 X.1.2.1 hd rfl k)
theorem sm_ladd {x y : Int64} (hd : decode (am_code mi) pc = .ok (.ladd, 1)) (h : am_Sem l D z0 L xs adS d mi (pc + 1) ls (.long (x + y) :: st) μ r μ') : am_Sem l D z0 L xs adS d mi pc ls (.long y :: .long x :: st) μ r μ' :=
  sm_simple h (fun _ o => am_OkL.cons trivial o.tail.tail) (fun X k => lv_ladd X.1.1 X.1.2.1 hd k)
theorem sm_lmul {x y : Int64} (hd : decode (am_code mi) pc = .ok (.lmul, 1)) (h : am_Sem l D z0 L xs adS d mi (pc + 1) ls (.long (x * y) :: st) μ r μ') : am_Sem l D z0 L xs adS d mi pc ls (.long y :: .long x :: st) μ r μ' :=
  sm_simple h (fun _ o => am_OkL.cons trivial o.tail.tail) (fun X k => lv_lmul X.1.1 X.1.2.1 hd k)
theorem sm_lcmp {x y : Int64} (hd : decode (am_code mi) pc = .ok (.lcmp, 1)) (h : am_Sem l D z0 L xs adS d mi (pc + 1) ls (.int (lg_cmp x y) :: st) μ r μ') : am_Sem l D z0 L xs adS d mi pc ls (.long y :: .long x :: st) μ r μ' :=
  sm_simple h (fun _ o => am_OkL.cons trivial o.tail.tail) (fun X k => W.lcmp X.1.1 X.1.2.1 hd k)
theorem sm_ldiv {x y : Int64} (hne : ¬ y = 0) (hd : decode (am_code mi) pc = .ok (.ldiv, 1)) (h : am_Sem l D z0 L xs adS d mi (pc + 1) ls (.long (x / y) :: st) μ r μ') : am_Sem l D z0 L xs adS d mi pc ls (.long y :: .long x :: st) μ r μ' :=
  sm_simple h (fun _ o => am_OkL.cons trivial o.tail.tail) (fun X k => lv_ldiv X.1.1 X.1.2.1 hd hne k)
theorem sm_lrem {x y : Int64} (hne : ¬ y = 0) (hd : decode (am_code mi) pc = .ok (.lrem, 1)) (h : am_Sem l D z0 L xs adS d mi (pc + 1) ls (.long (x - x / y * y) :: st) μ r μ') : am_Sem l D z0 L xs adS d mi pc ls (.long y :: .long x :: st) μ r μ' :=
  sm_simple h (fun _ o => am_OkL.cons trivial o.tail.tail) (fun X k => lv_lrem X.1.1 X.1.2.1 hd hne k)
theorem sm_dup {v : Value} (hv : v.category = 1) (hd : decode (am_code mi) pc = .ok (.dup, 1)) (h : am_Sem l D z0 L xs adS d mi (pc + 1) ls (v :: v :: st) μ r μ') : am_Sem l D z0 L xs adS d mi pc ls (v :: st) μ r μ' :=
  sm_simple h (fun _ o => am_OkL.cons o.head o) (fun X k => lv_dup X.1.1 X.1.2.1 hd (by rw [am_cv_cat]; exact hv) k)
theorem sm_pop {v : Value} (hv : v.category = 1) (hd : decode (am_code mi) pc = .ok (.pop, 1)) (h : am_Sem l D z0 L xs adS d mi (pc + 1) ls (st) μ r μ') : am_Sem l D z0 L xs adS d mi pc ls (v :: st) μ r μ' :=
  sm_simple h (fun _ o => o.tail) (fun X k => lv_pop X.1.1 X.1.2.1 hd (by rw [am_cv_cat]; exact hv) k)
theorem sm_dup_x1 {v w : Value} (hv : v.category = 1) (hw : w.category = 1) (hd : decode (am_code mi) pc = .ok (.dup_x1, 1)) (h : am_Sem l D z0 L xs adS d mi (pc + 1) ls (v :: w :: v :: st) μ r μ') : am_Sem l D z0 L xs adS d mi pc ls (v :: w :: st) μ r μ' :=
  sm_simple h (fun _ o => am_OkL.cons o.head (am_OkL.cons o.tail.head (am_OkL.cons o.head o.tail.tail))) (fun X k => lv_dup_x1 X.1.1 X.1.2.1 hd (by rw [am_cv_cat]; exact hv) (by rw [am_cv_cat]; exact hw) k)
theorem sm_dup2 {v w : Value} (hv : v.category = 1) (hw : w.category = 1) (hd : decode (am_code mi) pc = .ok (.dup2, 1)) (h : am_Sem l D z0 L xs adS d mi (pc + 1) ls (v :: w :: v :: w :: st) μ r μ') : am_Sem l D z0 L xs adS d mi pc ls (v :: w :: st) μ r μ' :=
  sm_simple h (fun _ o => am_OkL.cons o.head (am_OkL.cons o.tail.head o)) (fun X k => lv_dup2_11 X.1.1 X.1.2.1 hd (by rw [am_cv_cat]; exact hv) (by rw [am_cv_cat]; exact hw) k)
theorem sm_iload_n {j : Fin 4} {x : Int32} (hj : ls[(j : Nat)]? = some (.int x)) (hd : decode (am_code mi) pc = .ok (.iload_n j, 1)) (h : am_Sem l D z0 L xs adS d mi (pc + 1) ls (.int x :: st) μ r μ') : am_Sem l D z0 L xs adS d mi pc ls st μ r μ' :=
  sm_simple h (fun _ o => am_OkL.cons trivial o) (fun X k => lv_iload_n X.1.1 X.1.2.1 hd rfl (X.2.2.2.2.2.1.2.2.2 _ _ hj (fun _ q => by cases q)) k)
theorem sm_iload {j : Nat} {x : Int32} (hj : ls[j]? = some (.int x)) (hd : decode (am_code mi) pc = .ok (.iload j, 2)) (h : am_Sem l D z0 L xs adS d mi (pc + 2) ls (.int x :: st) μ r μ') : am_Sem l D z0 L xs adS d mi pc ls st μ r μ' :=
  sm_simple h (fun _ o => am_OkL.cons trivial o) (fun X k => lv_iload X.1.1 X.1.2.1 hd (X.2.2.2.2.2.1.2.2.2 _ _ hj (fun _ q => by cases q)) k)
theorem sm_lload_n {j : Fin 4} {x : Int64} (hj : ls[(j : Nat)]? = some (.long x)) (hd : decode (am_code mi) pc = .ok (.lload_n j, 1)) (h : am_Sem l D z0 L xs adS d mi (pc + 1) ls (.long x :: st) μ r μ') : am_Sem l D z0 L xs adS d mi pc ls st μ r μ' :=
  sm_simple h (fun _ o => am_OkL.cons trivial o) (fun X k => lv_lload_n X.1.1 X.1.2.1 hd rfl (X.2.2.2.2.2.1.2.2.2 _ _ hj (fun _ q => by cases q)) k)
theorem sm_lload {j : Nat} {x : Int64} (hj : ls[j]? = some (.long x)) (hd : decode (am_code mi) pc = .ok (.lload j, 2)) (h : am_Sem l D z0 L xs adS d mi (pc + 2) ls (.long x :: st) μ r μ') : am_Sem l D z0 L xs adS d mi pc ls st μ r μ' :=
  sm_simple h (fun _ o => am_OkL.cons trivial o) (fun X k => lv_lload X.1.1 X.1.2.1 hd (X.2.2.2.2.2.1.2.2.2 _ _ hj (fun _ q => by cases q)) k)
theorem sm_aload_n {j : Fin 4} {x : Nat} (hj : ls[(j : Nat)]? = some (.ref x)) (hd : decode (am_code mi) pc = .ok (.aload_n j, 1)) (h : am_Sem l D z0 L xs adS d mi (pc + 1) ls (.ref x :: st) μ r μ') : am_Sem l D z0 L xs adS d mi pc ls st μ r μ' :=
  sm_simple h (fun p o => am_OkL.cons (p _ (List.mem_of_getElem? hj)) o) (fun X k => lv_aload_n X.1.1 X.1.2.1 hd rfl (X.2.2.2.2.2.1.2.2.2 _ _ hj (fun _ q => by cases q)) k)
theorem sm_aload {j : Nat} {x : Nat} (hj : ls[j]? = some (.ref x)) (hd : decode (am_code mi) pc = .ok (.aload j, 2)) (h : am_Sem l D z0 L xs adS d mi (pc + 2) ls (.ref x :: st) μ r μ') : am_Sem l D z0 L xs adS d mi pc ls st μ r μ' :=
  sm_simple h (fun p o => am_OkL.cons (p _ (List.mem_of_getElem? hj)) o) (fun X k => lv_aload X.1.1 X.1.2.1 hd (X.2.2.2.2.2.1.2.2.2 _ _ hj (fun _ q => by cases q)) k)
theorem sm_aload_nN {j : Fin 4} (hj : ls[(j : Nat)]? = some (.null)) (hd : decode (am_code mi) pc = .ok (.aload_n j, 1)) (h : am_Sem l D z0 L xs adS d mi (pc + 1) ls (.null :: st) μ r μ') : am_Sem l D z0 L xs adS d mi pc ls st μ r μ' :=
  sm_simple h (fun p o => am_OkL.cons (p _ (List.mem_of_getElem? hj)) o) (fun X k => lv_aload_nN X.1.1 X.1.2.1 hd rfl (X.2.2.2.2.2.1.2.2.2 _ _ hj (fun _ q => by cases q)) k)
theorem sm_aloadN {j : Nat} (hj : ls[j]? = some (.null)) (hd : decode (am_code mi) pc = .ok (.aload j, 2)) (h : am_Sem l D z0 L xs adS d mi (pc + 2) ls (.null :: st) μ r μ') : am_Sem l D z0 L xs adS d mi pc ls st μ r μ' :=
  sm_simple h (fun p o => am_OkL.cons (p _ (List.mem_of_getElem? hj)) o) (fun X k => lv_aloadN X.1.1 X.1.2.1 hd (X.2.2.2.2.2.1.2.2.2 _ _ hj (fun _ q => by cases q)) k)
theorem sm_istore_n {j : Fin 4} {x : Int32} (hj : (j : Nat) < ls.length) (hd : decode (am_code mi) pc = .ok (.istore_n j, 1)) (h : am_Sem l D z0 L xs adS d mi (pc + 1) (am_st1 ls j (.int x)) st μ r μ') : am_Sem l D z0 L xs adS d mi pc ls (.int x :: st) μ r μ' :=
  sm_store h (fun p o => ⟨p.st1 o.head, o.tail⟩) (fun X k => lv_istore_n X.1.1 X.1.2.1 hd rfl (nL := am_mL mi) X.2.2.2.2.2.1.has (Nat.lt_of_lt_of_le hj X.2.2.2.2.2.1.2.1) rfl (fun ls' hl => k ls' (am_LV.st1 (lsA := ls') X.2.2.2.2.2.1.2.1 hl)))
theorem sm_istore {j : Nat} {x : Int32} (hj : j < ls.length) (hd : decode (am_code mi) pc = .ok (.istore j, 2)) (h : am_Sem l D z0 L xs adS d mi (pc + 2) (am_st1 ls j (.int x)) st μ r μ') : am_Sem l D z0 L xs adS d mi pc ls (.int x :: st) μ r μ' :=
  sm_store h (fun p o => ⟨p.st1 o.head, o.tail⟩) (fun X k => lv_istore X.1.1 X.1.2.1 hd (nL := am_mL mi) X.2.2.2.2.2.1.has (Nat.lt_of_lt_of_le hj X.2.2.2.2.2.1.2.1) rfl (fun ls' hl => k ls' (am_LV.st1 (lsA := ls') X.2.2.2.2.2.1.2.1 hl)))
theorem sm_astore_n {j : Fin 4} {x : Nat} (hj : (j : Nat) < ls.length) (hd : decode (am_code mi) pc = .ok (.astore_n j, 1)) (h : am_Sem l D z0 L xs adS d mi (pc + 1) (am_st1 ls j (.ref x)) st μ r μ') : am_Sem l D z0 L xs adS d mi pc ls (.ref x :: st) μ r μ' :=
  sm_store h (fun p o => ⟨p.st1 o.head, o.tail⟩) (fun X k => lv_astore_n X.1.1 X.1.2.1 hd rfl (nL := am_mL mi) X.2.2.2.2.2.1.has (Nat.lt_of_lt_of_le hj X.2.2.2.2.2.1.2.1) rfl (fun ls' hl => k ls' (am_LV.st1 (lsA := ls') X.2.2.2.2.2.1.2.1 hl)))
theorem sm_astore {j : Nat} {x : Nat} (hj : j < ls.length) (hd : decode (am_code mi) pc = .ok (.astore j, 2)) (h : am_Sem l D z0 L xs adS d mi (pc + 2) (am_st1 ls j (.ref x)) st μ r μ') : am_Sem l D z0 L xs adS d mi pc ls (.ref x :: st) μ r μ' :=
  sm_store h (fun p o => ⟨p.st1 o.head, o.tail⟩) (fun X k => lv_astore X.1.1 X.1.2.1 hd (nL := am_mL mi) X.2.2.2.2.2.1.has (Nat.lt_of_lt_of_le hj X.2.2.2.2.2.1.2.1) rfl (fun ls' hl => k ls' (am_LV.st1 (lsA := ls') X.2.2.2.2.2.1.2.1 hl)))
theorem sm_astore_nN {j : Fin 4} (hj : (j : Nat) < ls.length) (hd : decode (am_code mi) pc = .ok (.astore_n j, 1)) (h : am_Sem l D z0 L xs adS d mi (pc + 1) (am_st1 ls j (.null)) st μ r μ') : am_Sem l D z0 L xs adS d mi pc ls (.null :: st) μ r μ' :=
  sm_store h (fun p o => ⟨p.st1 o.head, o.tail⟩) (fun X k => lv_astore_nN X.1.1 X.1.2.1 hd rfl (nL := am_mL mi) X.2.2.2.2.2.1.has (Nat.lt_of_lt_of_le hj X.2.2.2.2.2.1.2.1) rfl (fun ls' hl => k ls' (am_LV.st1 (lsA := ls') X.2.2.2.2.2.1.2.1 hl)))
theorem sm_astoreN {j : Nat} (hj : j < ls.length) (hd : decode (am_code mi) pc = .ok (.astore j, 2)) (h : am_Sem l D z0 L xs adS d mi (pc + 2) (am_st1 ls j (.null)) st μ r μ') : am_Sem l D z0 L xs adS d mi pc ls (.null :: st) μ r μ' :=
  sm_store h (fun p o => ⟨p.st1 o.head, o.tail⟩) (fun X k => lv_astoreN X.1.1 X.1.2.1 hd (nL := am_mL mi) X.2.2.2.2.2.1.has (Nat.lt_of_lt_of_le hj X.2.2.2.2.2.1.2.1) rfl (fun ls' hl => k ls' (am_LV.st1 (lsA := ls') X.2.2.2.2.2.1.2.1 hl)))
theorem sm_lstore_n {j : Fin 4} {x : Int64} (hj : (j : Nat) + 1 < ls.length) (hd : decode (am_code mi) pc = .ok (.lstore_n j, 1)) (h : am_Sem l D z0 L xs adS d mi (pc + 1) (am_st2 ls j (.long x)) st μ r μ') : am_Sem l D z0 L xs adS d mi pc ls (.long x :: st) μ r μ' :=
  sm_store h (fun p o => ⟨p.st2 o.head, o.tail⟩) (fun X k => lv_lstore_n X.1.1 X.1.2.1 hd rfl (nL := am_mL mi) X.2.2.2.2.2.1.has (Nat.lt_of_lt_of_le hj X.2.2.2.2.2.1.2.1) rfl (fun ls' hl => k ls' (am_LV.st2 (lsA := ls') X.2.2.2.2.2.1.2.1 hl)))
theorem sm_lstore {j : Nat} {x : Int64} (hj : j + 1 < ls.length) (hd : decode (am_code mi) pc = .ok (.lstore j, 2)) (h : am_Sem l D z0 L xs adS d mi (pc + 2) (am_st2 ls j (.long x)) st μ r μ') : am_Sem l D z0 L xs adS d mi pc ls (.long x :: st) μ r μ' :=
  sm_store h (fun p o => ⟨p.st2 o.head, o.tail⟩) (fun X k => lv_lstore X.1.1 X.1.2.1 hd (nL := am_mL mi) X.2.2.2.2.2.1.has (Nat.lt_of_lt_of_le hj X.2.2.2.2.2.1.2.1) rfl (fun ls' hl => k ls' (am_LV.st2 (lsA := ls') X.2.2.2.2.2.1.2.1 hl)))
theorem sm_iinc {j : Nat} {n : Int} {x : Int32} (hj : ls[j]? = some (.int x)) (hd : decode (am_code mi) pc = .ok (.iinc j n, 3)) (h : am_Sem l D z0 L xs adS d mi (pc + 3) (am_st1 ls j (.int (x + Int32.ofInt n))) st μ r μ') : am_Sem l D z0 L xs adS d mi pc ls st μ r μ' :=
  sm_store h (fun p o => ⟨p.st1 trivial, o⟩) (fun {R p e s m args below meth c H locs cells slots Q ρ Ch lsA} X k => by
    have hmem : (j, Value.int x) ∈ am_ll ρ 0 ls := (am_ll_mem ls 0).mpr ⟨j, .int x, hj, (fun _ q => by cases q), (by rw [Nat.zero_add]; rfl)⟩
    obtain ⟨q, hq⟩ := List.getElem?_of_mem hmem
    exact lv_iinc X.1.1 X.1.2.1 hd (nL := am_mL mi) X.2.2.2.2.2.1.has hq rfl (Nat.lt_of_lt_of_le (List.getElem?_eq_some_iff.mp hj).1 X.2.2.2.2.2.1.2.1) rfl (fun ls' hl => k ls' (am_LV.st1 (lsA := ls') (v := .int (x + Int32.ofInt n)) X.2.2.2.2.2.1.2.1 hl)))
theorem sm_goto {off : Int} {tgt : Nat} (ht : (pc : Int) + off = (tgt : Int)) (hd : decode (am_code mi) pc = .ok (.goto off, 3)) (h : am_Sem l D z0 L xs adS d mi tgt ls st μ r μ') : am_Sem l D z0 L xs adS d mi pc ls st μ r μ' :=
  sm_simple h (fun _ o => o) (fun X k => lv_goto X.1.1 X.1.2.1 hd ht k)
theorem sm_if_eq_t {x : Int32} {off : Int} {tgt : Nat} (ht : (pc : Int) + off = (tgt : Int)) (hc : x = 0) (hd : decode (am_code mi) pc = .ok (.ifCond .eq off, 3)) (h : am_Sem l D z0 L xs adS d mi tgt ls st μ r μ') : am_Sem l D z0 L xs adS d mi pc ls (.int x :: st) μ r μ' :=
  sm_simple h (fun _ o => o.tail) (fun X k => lv_if_eq X.1.1 X.1.2.1 hd ht (fun _ => k) (fun q => absurd hc q))
theorem sm_if_eq_f {x : Int32} {off : Int} {tgt : Nat} (ht : (pc : Int) + off = (tgt : Int)) (hc : ¬ (x = 0)) (hd : decode (am_code mi) pc = .ok (.ifCond .eq off, 3)) (h : am_Sem l D z0 L xs adS d mi (pc + 3) ls st μ r μ') : am_Sem l D z0 L xs adS d mi pc ls (.int x :: st) μ r μ' :=
  sm_simple h (fun _ o => o.tail) (fun X k => lv_if_eq X.1.1 X.1.2.1 hd ht (fun q => absurd q hc) (fun _ => k))
theorem sm_icmp_eq_t {x y : Int32} {off : Int} {tgt : Nat} (ht : (pc : Int) + off = (tgt : Int)) (hc : x = y) (hd : decode (am_code mi) pc = .ok (.if_icmp .eq off, 3)) (h : am_Sem l D z0 L xs adS d mi tgt ls st μ r μ') : am_Sem l D z0 L xs adS d mi pc ls (.int y :: .int x :: st) μ r μ' :=
  sm_simple h (fun _ o => o.tail.tail) (fun X k => lv_icmp_eq X.1.1 X.1.2.1 hd ht (fun _ => k) (fun q => absurd hc q))
theorem sm_icmp_eq_f {x y : Int32} {off : Int} {tgt : Nat} (ht : (pc : Int) + off = (tgt : Int)) (hc : ¬ (x = y)) (hd : decode (am_code mi) pc = .ok (.if_icmp .eq off, 3)) (h : am_Sem l D z0 L xs adS d mi (pc + 3) ls st μ r μ') : am_Sem l D z0 L xs adS d mi pc ls (.int y :: .int x :: st) μ r μ' :=
  sm_simple h (fun _ o => o.tail.tail) (fun X k => lv_icmp_eq X.1.1 X.1.2.1 hd ht (fun q => absurd q hc) (fun _ => k))
theorem sm_if_ne_t {x : Int32} {off : Int} {tgt : Nat} (ht : (pc : Int) + off = (tgt : Int)) (hc : ¬ x = 0) (hd : decode (am_code mi) pc = .ok (.ifCond .ne off, 3)) (h : am_Sem l D z0 L xs adS d mi tgt ls st μ r μ') : am_Sem l D z0 L xs adS d mi pc ls (.int x :: st) μ r μ' :=
  sm_simple h (fun _ o => o.tail) (fun X k => lv_if_ne X.1.1 X.1.2.1 hd ht (fun _ => k) (fun q => absurd q hc))
theorem sm_if_ne_f {x : Int32} {off : Int} {tgt : Nat} (ht : (pc : Int) + off = (tgt : Int)) (hc : ¬ (¬ x = 0)) (hd : decode (am_code mi) pc = .ok (.ifCond .ne off, 3)) (h : am_Sem l D z0 L xs adS d mi (pc + 3) ls st μ r μ') : am_Sem l D z0 L xs adS d mi pc ls (.int x :: st) μ r μ' :=
  sm_simple h (fun _ o => o.tail) (fun X k => lv_if_ne X.1.1 X.1.2.1 hd ht (fun q => absurd q hc) (fun _ => k))
theorem sm_icmp_ne_t {x y : Int32} {off : Int} {tgt : Nat} (ht : (pc : Int) + off = (tgt : Int)) (hc : ¬ x = y) (hd : decode (am_code mi) pc = .ok (.if_icmp .ne off, 3)) (h : am_Sem l D z0 L xs adS d mi tgt ls st μ r μ') : am_Sem l D z0 L xs adS d mi pc ls (.int y :: .int x :: st) μ r μ' :=
  sm_simple h (fun _ o => o.tail.tail) (fun X k => lv_icmp_ne X.1.1 X.1.2.1 hd ht (fun _ => k) (fun q => absurd q hc))
theorem sm_icmp_ne_f {x y : Int32} {off : Int} {tgt : Nat} (ht : (pc : Int) + off = (tgt : Int)) (hc : ¬ (¬ x = y)) (hd : decode (am_code mi) pc = .ok (.if_icmp .ne off, 3)) (h : am_Sem l D z0 L xs adS d mi (pc + 3) ls st μ r μ') : am_Sem l D z0 L xs adS d mi pc ls (.int y :: .int x :: st) μ r μ' :=
  sm_simple h (fun _ o => o.tail.tail) (fun X k => lv_icmp_ne X.1.1 X.1.2.1 hd ht (fun q => absurd q hc) (fun _ => k))
theorem sm_if_lt_t {x : Int32} {off : Int} {tgt : Nat} (ht : (pc : Int) + off = (tgt : Int)) (hc : x < 0) (hd : decode (am_code mi) pc = .ok (.ifCond .lt off, 3)) (h : am_Sem l D z0 L xs adS d mi tgt ls st μ r μ') : am_Sem l D z0 L xs adS d mi pc ls (.int x :: st) μ r μ' :=
  sm_simple h (fun _ o => o.tail) (fun X k => lv_if_lt X.1.1 X.1.2.1 hd ht (fun _ => k) (fun q => absurd hc q))
theorem sm_if_lt_f {x : Int32} {off : Int} {tgt : Nat} (ht : (pc : Int) + off = (tgt : Int)) (hc : ¬ (x < 0)) (hd : decode (am_code mi) pc = .ok (.ifCond .lt off, 3)) (h : am_Sem l D z0 L xs adS d mi (pc + 3) ls st μ r μ') : am_Sem l D z0 L xs adS d mi pc ls (.int x :: st) μ r μ' :=
  sm_simple h (fun _ o => o.tail) (fun X k => lv_if_lt X.1.1 X.1.2.1 hd ht (fun q => absurd q hc) (fun _ => k))
theorem sm_icmp_lt_t {x y : Int32} {off : Int} {tgt : Nat} (ht : (pc : Int) + off = (tgt : Int)) (hc : x < y) (hd : decode (am_code mi) pc = .ok (.if_icmp .lt off, 3)) (h : am_Sem l D z0 L xs adS d mi tgt ls st μ r μ') : am_Sem l D z0 L xs adS d mi pc ls (.int y :: .int x :: st) μ r μ' :=
  sm_simple h (fun _ o => o.tail.tail) (fun X k => lv_icmp_lt X.1.1 X.1.2.1 hd ht (fun _ => k) (fun q => absurd hc q))
theorem sm_icmp_lt_f {x y : Int32} {off : Int} {tgt : Nat} (ht : (pc : Int) + off = (tgt : Int)) (hc : ¬ (x < y)) (hd : decode (am_code mi) pc = .ok (.if_icmp .lt off, 3)) (h : am_Sem l D z0 L xs adS d mi (pc + 3) ls st μ r μ') : am_Sem l D z0 L xs adS d mi pc ls (.int y :: .int x :: st) μ r μ' :=
  sm_simple h (fun _ o => o.tail.tail) (fun X k => lv_icmp_lt X.1.1 X.1.2.1 hd ht (fun q => absurd q hc) (fun _ => k))
theorem sm_if_ge_t {x : Int32} {off : Int} {tgt : Nat} (ht : (pc : Int) + off = (tgt : Int)) (hc : 0 ≤ x) (hd : decode (am_code mi) pc = .ok (.ifCond .ge off, 3)) (h : am_Sem l D z0 L xs adS d mi tgt ls st μ r μ') : am_Sem l D z0 L xs adS d mi pc ls (.int x :: st) μ r μ' :=
  sm_simple h (fun _ o => o.tail) (fun X k => lv_if_ge X.1.1 X.1.2.1 hd ht (fun _ => k) (fun q => absurd hc q))
theorem sm_if_ge_f {x : Int32} {off : Int} {tgt : Nat} (ht : (pc : Int) + off = (tgt : Int)) (hc : ¬ (0 ≤ x)) (hd : decode (am_code mi) pc = .ok (.ifCond .ge off, 3)) (h : am_Sem l D z0 L xs adS d mi (pc + 3) ls st μ r μ') : am_Sem l D z0 L xs adS d mi pc ls (.int x :: st) μ r μ' :=
  sm_simple h (fun _ o => o.tail) (fun X k => lv_if_ge X.1.1 X.1.2.1 hd ht (fun q => absurd q hc) (fun _ => k))
theorem sm_icmp_ge_t {x y : Int32} {off : Int} {tgt : Nat} (ht : (pc : Int) + off = (tgt : Int)) (hc : y ≤ x) (hd : decode (am_code mi) pc = .ok (.if_icmp .ge off, 3)) (h : am_Sem l D z0 L xs adS d mi tgt ls st μ r μ') : am_Sem l D z0 L xs adS d mi pc ls (.int y :: .int x :: st) μ r μ' :=
  sm_simple h (fun _ o => o.tail.tail) (fun X k => lv_icmp_ge X.1.1 X.1.2.1 hd ht (fun _ => k) (fun q => absurd hc q))
theorem sm_icmp_ge_f {x y : Int32} {off : Int} {tgt : Nat} (ht : (pc : Int) + off = (tgt : Int)) (hc : ¬ (y ≤ x)) (hd : decode (am_code mi) pc = .ok (.if_icmp .ge off, 3)) (h : am_Sem l D z0 L xs adS d mi (pc + 3) ls st μ r μ') : am_Sem l D z0 L xs adS d mi pc ls (.int y :: .int x :: st) μ r μ' :=
  sm_simple h (fun _ o => o.tail.tail) (fun X k => lv_icmp_ge X.1.1 X.1.2.1 hd ht (fun q => absurd q hc) (fun _ => k))
theorem sm_if_gt_t {x : Int32} {off : Int} {tgt : Nat} (ht : (pc : Int) + off = (tgt : Int)) (hc : 0 < x) (hd : decode (am_code mi) pc = .ok (.ifCond .gt off, 3)) (h : am_Sem l D z0 L xs adS d mi tgt ls st μ r μ') : am_Sem l D z0 L xs adS d mi pc ls (.int x :: st) μ r μ' :=
  sm_simple h (fun _ o => o.tail) (fun X k => lv_if_gt X.1.1 X.1.2.1 hd ht (fun _ => k) (fun q => absurd hc q))
theorem sm_if_gt_f {x : Int32} {off : Int} {tgt : Nat} (ht : (pc : Int) + off = (tgt : Int)) (hc : ¬ (0 < x)) (hd : decode (am_code mi) pc = .ok (.ifCond .gt off, 3)) (h : am_Sem l D z0 L xs adS d mi (pc + 3) ls st μ r μ') : am_Sem l D z0 L xs adS d mi pc ls (.int x :: st) μ r μ' :=
  sm_simple h (fun _ o => o.tail) (fun X k => lv_if_gt X.1.1 X.1.2.1 hd ht (fun q => absurd q hc) (fun _ => k))
theorem sm_icmp_gt_t {x y : Int32} {off : Int} {tgt : Nat} (ht : (pc : Int) + off = (tgt : Int)) (hc : y < x) (hd : decode (am_code mi) pc = .ok (.if_icmp .gt off, 3)) (h : am_Sem l D z0 L xs adS d mi tgt ls st μ r μ') : am_Sem l D z0 L xs adS d mi pc ls (.int y :: .int x :: st) μ r μ' :=
  sm_simple h (fun _ o => o.tail.tail) (fun X k => lv_icmp_gt X.1.1 X.1.2.1 hd ht (fun _ => k) (fun q => absurd hc q))
theorem sm_icmp_gt_f {x y : Int32} {off : Int} {tgt : Nat} (ht : (pc : Int) + off = (tgt : Int)) (hc : ¬ (y < x)) (hd : decode (am_code mi) pc = .ok (.if_icmp .gt off, 3)) (h : am_Sem l D z0 L xs adS d mi (pc + 3) ls st μ r μ') : am_Sem l D z0 L xs adS d mi pc ls (.int y :: .int x :: st) μ r μ' :=
  sm_simple h (fun _ o => o.tail.tail) (fun X k => lv_icmp_gt X.1.1 X.1.2.1 hd ht (fun q => absurd q hc) (fun _ => k))
theorem sm_if_le_t {x : Int32} {off : Int} {tgt : Nat} (ht : (pc : Int) + off = (tgt : Int)) (hc : x ≤ 0) (hd : decode (am_code mi) pc = .ok (.ifCond .le off, 3)) (h : am_Sem l D z0 L xs adS d mi tgt ls st μ r μ') : am_Sem l D z0 L xs adS d mi pc ls (.int x :: st) μ r μ' :=
  sm_simple h (fun _ o => o.tail) (fun X k => lv_if_le X.1.1 X.1.2.1 hd ht (fun _ => k) (fun q => absurd hc q))
theorem sm_if_le_f {x : Int32} {off : Int} {tgt : Nat} (ht : (pc : Int) + off = (tgt : Int)) (hc : ¬ (x ≤ 0)) (hd : decode (am_code mi) pc = .ok (.ifCond .le off, 3)) (h : am_Sem l D z0 L xs adS d mi (pc + 3) ls st μ r μ') : am_Sem l D z0 L xs adS d mi pc ls (.int x :: st) μ r μ' :=
  sm_simple h (fun _ o => o.tail) (fun X k => lv_if_le X.1.1 X.1.2.1 hd ht (fun q => absurd q hc) (fun _ => k))
theorem sm_icmp_le_t {x y : Int32} {off : Int} {tgt : Nat} (ht : (pc : Int) + off = (tgt : Int)) (hc : x ≤ y) (hd : decode (am_code mi) pc = .ok (.if_icmp .le off, 3)) (h : am_Sem l D z0 L xs adS d mi tgt ls st μ r μ') : am_Sem l D z0 L xs adS d mi pc ls (.int y :: .int x :: st) μ r μ' :=
  sm_simple h (fun _ o => o.tail.tail) (fun X k => lv_icmp_le X.1.1 X.1.2.1 hd ht (fun _ => k) (fun q => absurd hc q))
theorem sm_icmp_le_f {x y : Int32} {off : Int} {tgt : Nat} (ht : (pc : Int) + off = (tgt : Int)) (hc : ¬ (x ≤ y)) (hd : decode (am_code mi) pc = .ok (.if_icmp .le off, 3)) (h : am_Sem l D z0 L xs adS d mi (pc + 3) ls st μ r μ') : am_Sem l D z0 L xs adS d mi pc ls (.int y :: .int x :: st) μ r μ' :=
  sm_simple h (fun _ o => o.tail.tail) (fun X k => lv_icmp_le X.1.1 X.1.2.1 hd ht (fun q => absurd q hc) (fun _ => k))
theorem sm_ifnull {x : Nat} {off : Int} (hd : decode (am_code mi) pc = .ok (.ifnull off, 3)) (h : am_Sem l D z0 L xs adS d mi (pc + 3) ls st μ r μ') : am_Sem l D z0 L xs adS d mi pc ls (.ref x :: st) μ r μ' :=
  sm_simple h (fun _ o => o.tail) (fun X k => lv_ifnull X.1.1 X.1.2.1 hd k)
theorem sm_ifnullN {off : Int} {tgt : Nat} (ht : (pc : Int) + off = (tgt : Int)) (hd : decode (am_code mi) pc = .ok (.ifnull off, 3)) (h : am_Sem l D z0 L xs adS d mi tgt ls st μ r μ') : am_Sem l D z0 L xs adS d mi pc ls (.null :: st) μ r μ' :=
  sm_simple h (fun _ o => o.tail) (fun X k => lv_ifnullN X.1.1 X.1.2.1 hd ht k)
theorem sm_ifnonnull {x : Nat} {off : Int} {tgt : Nat} (ht : (pc : Int) + off = (tgt : Int)) (hd : decode (am_code mi) pc = .ok (.ifnonnull off, 3)) (h : am_Sem l D z0 L xs adS d mi tgt ls st μ r μ') : am_Sem l D z0 L xs adS d mi pc ls (.ref x :: st) μ r μ' :=
  sm_simple h (fun _ o => o.tail) (fun X k => lv_ifnonnull X.1.1 X.1.2.1 hd ht k)
theorem sm_ifnonnullN {off : Int} (hd : decode (am_code mi) pc = .ok (.ifnonnull off, 3)) (h : am_Sem l D z0 L xs adS d mi (pc + 3) ls st μ r μ') : am_Sem l D z0 L xs adS d mi pc ls (.null :: st) μ r μ' :=
  sm_simple h (fun _ o => o.tail) (fun X k => lv_ifnonnullN X.1.1 X.1.2.1 hd k)
theorem sm_ldc {idx : Nat} {v : Int32} (hv : am_KI (am_own mi) idx = some v) (hd : decode (am_code mi) pc = .ok (.ldc idx, 2)) (h : am_Sem l D z0 L xs adS d mi (pc + 2) ls (.int v :: st) μ r μ') : am_Sem l D z0 L xs adS d mi pc ls st μ r μ' :=
  sm_simple h (fun _ o => am_OkL.cons trivial o) (fun X k => lv_ldc X.1.1 X.1.2.1 X.1.2.2.2.2.2.1 (X.1.2.2.2.2.2.2.1 _ (am_KI_ok hv)) hd k)
theorem sm_ldcw {idx : Nat} {v : Int32} (hv : am_KI (am_own mi) idx = some v) (hd : decode (am_code mi) pc = .ok (.ldc_w idx, 3)) (h : am_Sem l D z0 L xs adS d mi (pc + 3) ls (.int v :: st) μ r μ') : am_Sem l D z0 L xs adS d mi pc ls st μ r μ' :=
  sm_simple h (fun _ o => am_OkL.cons trivial o) (fun X k => lv_ldcw X.1.1 X.1.2.1 X.1.2.2.2.2.2.1 (X.1.2.2.2.2.2.2.1 _ (am_KI_ok hv)) hd k)
theorem sm_ldc2 {idx : Nat} {v : Int64} (hv : am_KL (am_own mi) idx = some v) (hd : decode (am_code mi) pc = .ok (.ldc2_w idx, 3)) (h : am_Sem l D z0 L xs adS d mi (pc + 3) ls (.long v :: st) μ r μ') : am_Sem l D z0 L xs adS d mi pc ls st μ r μ' :=
  sm_simple h (fun _ o => am_OkL.cons trivial o) (fun X k => lv_ldc2 X.1.1 X.1.2.1 X.1.2.2.2.2.2.1 (X.1.2.2.2.2.2.2.1 _ (am_KL_ok hv)) hd k)
theorem va_ldcwS {p : Program} {l : Launch} {e : Env} {R : Room} {s : State} {m : MethodId} {args : Array Value} {below : List Frame} {meth : Method} {c : Code} {H : Heap} {locs : List Loc} {cells slots : Nat} {Q : State → Prop} {cc : ByteArray} {pc : Nat} {ls : Array Slot} {rest : List Value} (hexec : p.tables.exec = Jvm.exec) (hb : c.code = cc) {own tx : String} {index q : Nat} (hown : s.vm.findClass own = some m.cls) (hZ : vk_R own index tx q s) (hdg : decode cc pc = .ok (.ldc_w index, 3))
    (k : W p l e R s m args below meth c H locs cells slots Q (F0 m (pc + 3) ls (.ref q :: rest))) : W p l e R s m args below meth c H locs cells slots Q (F0 m pc ls rest) := by
  intro T hT X
  obtain ⟨t, a1, b1⟩ := k T hT X
  refine ⟨t, ?_, b1⟩
  obtain ⟨k0, cf, i, a', hk, hcf, hcp, -, hr, hev'⟩ := Cond.stringRef_spec (args := #[]) hown hZ.1
  have hq := hZ.2.symm.trans hev'
  cases hq
  obtain ⟨k', hk', he⟩ := X.warmed.alike.2.2 _ _ hk
  have hr' : k'.resolved[index]? = some (some (.string q)) := by
    rcases X.warmed.entry hk hk' index with h | ⟨h, -⟩
    · rw [h]; exact hr
    · rw [hr] at h; cases h
  have hdg' : decode c.code (F0 m pc ls rest).pc = .ok (.ldc_w index, 3) := by rw [hb]; exact hdg
  jvm_step X.here [hexec, hdg', ldc_w.wp_string (e := e) (s := T) (f := F0 m pc ls rest) X.here.top hk' (by rw [he]; exact hcf) hcp hr']
  exact a1
theorem sm_ldcS {idx i : Nat} (hv : am_KS (am_own mi) idx = some i) (hd : decode (am_code mi) pc = .ok (.ldc idx, 2)) (h : am_Sem l D z0 L xs adS d mi (pc + 2) ls (.ref (am_B + 2 * i) :: st) μ r μ') : am_Sem l D z0 L xs adS d mi pc ls st μ r μ' :=
  sm_simple h (fun _ o => am_OkL.cons (Or.inr (Nat.le_add_right _ _)) o) (fun {R p e s m args below meth c H locs cells slots Q ρ Ch lsA} X k => by
    obtain ⟨h1, h2, h3⟩ := am_KS_ok hv
    have hown := X.1.2.2.2.2.2.1
    rw [h1] at hown
    subst h3
    have hr := X.1.2.2.2.2.2.2.2.2.2.2.2.2.2.2.1 i h2
    have e9 : ρ (am_B + 2 * i) = adS (2 * i) := X.2.2.2.1.2.2.2.2 _
    refine va_ldcS X.1.1 X.1.2.1 hown hr hd ?_
    have k' : W p l e R s m args below meth c H locs cells slots Q (F0 m (pc + 2) lsA (.ref (ρ (am_B + 2 * i)) :: st.map (am_cv ρ))) := k
    rwa [e9] at k')
theorem sm_ldcwS {idx i : Nat} (hv : am_KS (am_own mi) idx = some i) (hd : decode (am_code mi) pc = .ok (.ldc_w idx, 3)) (h : am_Sem l D z0 L xs adS d mi (pc + 3) ls (.ref (am_B + 2 * i) :: st) μ r μ') : am_Sem l D z0 L xs adS d mi pc ls st μ r μ' :=
  sm_simple h (fun _ o => am_OkL.cons (Or.inr (Nat.le_add_right _ _)) o) (fun {R p e s m args below meth c H locs cells slots Q ρ Ch lsA} X k => by
    obtain ⟨h1, h2, h3⟩ := am_KS_ok hv
    have hown := X.1.2.2.2.2.2.1
    rw [h1] at hown
    subst h3
    have hr := X.1.2.2.2.2.2.2.2.2.2.2.2.2.2.2.1 i h2
    have e9 : ρ (am_B + 2 * i) = adS (2 * i) := X.2.2.2.1.2.2.2.2 _
    refine va_ldcwS X.1.1 X.1.2.1 hown hr hd ?_
    have k' : W p l e R s m args below meth c H locs cells slots Q (F0 m (pc + 3) lsA (.ref (ρ (am_B + 2 * i)) :: st.map (am_cv ρ))) := k
    rwa [e9] at k')
theorem sm_getstatic {idx ci k : Nat} (hv : am_FT (am_own mi) idx = some (6, ci, k)) (hd : decode (am_code mi) pc = .ok (.getstatic idx, 3)) (h : am_Sem l D z0 L xs adS d mi (pc + 3) ls (.int 1 :: st) μ r μ') : am_Sem l D z0 L xs adS d mi pc ls st μ r μ' :=
  sm_simple h (fun _ o => am_OkL.cons trivial o) (fun {R p e s m args below meth c H locs cells slots Q ρ Ch lsA} X k => by
    have hw : Cond.fieldLink (am_CN (am_own mi)) idx "java/lang/String" "COMPACT_STRINGS" "Z" ∈ lw_all := by
      rcases am_FT_ok hv with q | q | q | q | q | q | q | q <;> first | exact absurd q.1 (by decide) | exact q.2.2.2
    exact va_gets (C := "java/lang/String") (n := "COMPACT_STRINGS") (d := "Z") X.1.1 X.1.2.1 X.1.2.2.2.2.2.2.2.2.2.2.2.2.1 X.2.2.2.2.1 X.1.2.2.2.2.2.1 (X.1.2.2.2.2.2.2.1 _ hw) (fun _ h9 => h9) hd k)
end SM
