/-! AM, part 2: the abstract machine -/
set_option maxRecDepth 100000
/-- ints, longs, references, kinds by (handle, place); handles in use, cells, slots -/
abbrev am_M : Type := (Nat → Nat → Int32) × (Nat → Nat → Int64) × (Nat → Nat → Option Nat) × (Nat → Nat × Nat) × Nat × Nat × Nat
abbrev am_Res : Type := Option (Option Value × am_M)
def am_I (μ : am_M) : Nat → Nat → Int32 := μ.1
def am_L (μ : am_M) : Nat → Nat → Int64 := μ.2.1
def am_R (μ : am_M) : Nat → Nat → Option Nat := μ.2.2.1
def am_k (μ : am_M) : Nat → Nat × Nat := μ.2.2.2.1
def am_n (μ : am_M) : Nat := μ.2.2.2.2.1
def am_c (μ : am_M) : Nat := μ.2.2.2.2.2.1
def am_s (μ : am_M) : Nat := μ.2.2.2.2.2.2
def am_u {α : Type} (f : Nat → Nat → α) (h k : Nat) (v : α) : Nat → Nat → α := fun a b => if a = h ∧ b = k then v else f a b
def am_sI (μ : am_M) (h k : Nat) (v : Int32) : am_M := (am_u μ.1 h k v, μ.2)
def am_sL (μ : am_M) (h k : Nat) (v : Int64) : am_M := (μ.1, am_u μ.2.1 h k v, μ.2.2)
def am_sR (μ : am_M) (h k : Nat) (v : Option Nat) : am_M := (μ.1, μ.2.1, am_u μ.2.2.1 h k v, μ.2.2.2)
/-- a whole row of ints copied -/
def am_cp (μ : am_M) (h h' sp dp n : Nat) : am_M := (fun a => if a = h' then va_cpy (μ.1 h) (μ.1 h') sp dp n else μ.1 a, μ.2)
/-- a new cell: (tag, length) q, s slots -/
def am_new (μ : am_M) (q : Nat × Nat) (s : Nat) : am_M :=
  (fun a b => if a = am_n μ then 0 else am_I μ a b, fun a b => if a = am_n μ then 0 else am_L μ a b, fun a b => if a = am_n μ then none else am_R μ a b, fun a => if a = am_n μ then q else am_k μ a, am_n μ + 1, am_c μ + 1, am_s μ + s)
/-- an exception made and thrown away: a cell of six slots -/
def am_bump (μ : am_M) : am_M := (am_I μ, am_L μ, am_R μ, am_k μ, am_n μ, am_c μ + 1, am_s μ + 6)
def am_B : Nat := 1000000
def am_SC : Nat := 1000100
/-- no value: a local that is not set -/
abbrev am_F : Value := .retAddr 0
def am_kill (v : Value) : Value := match v with
  | .long _ => am_F
  | .double _ => am_F
  | v => v
def am_kp : List Value → Nat → List Value
  | x :: l, 1 => am_kill x :: l
  | x :: l, i + 2 => x :: am_kp l (i + 1)
  | l, _ => l
def am_st1 (l : List Value) (i : Nat) (v : Value) : List Value := (am_kp l i).set i v
def am_st2 (l : List Value) (i : Nat) (v : Value) : List Value := ((am_kp l i).set i v).set (i + 1) am_F
def am_cat (st : List Value) : Nat := (st.map fun v => v.category).sum
def am_exp : List Value → List Value
  | [] => []
  | .long x :: l => .long x :: am_F :: am_exp l
  | v :: l => v :: am_exp l
def am_ent (n : Nat) (As : List Value) : List Value := am_exp As ++ List.replicate (n - (am_exp As).length) am_F
def am_aty : Nat → Option FieldType
  | 10 => some .int
  | 11 => some .byte
  | 12 => some .long
  | 13 => some .boolean
  | 14 => some (.object "CuckooByPost$Spring")
  | _ => none
def am_AT : ArrayType → Option Nat
  | .int => some 10
  | .byte => some 11
  | .long => some 12
  | .boolean => some 13
  | _ => none
/-- may this int be returned -/
def am_ro (r : Option FieldType) (v : Int32) : Prop := match r with
  | some .int => True
  | some .boolean => narrow .boolean (.int v) = .int v
  | some .byte => narrow .byte (.int v) = .int v
  | some .char => narrow .char (.int v) = .int v
  | _ => False
def am_jmp (k : Nat → am_Res) (pc : Nat) (off : Int) : am_Res := if 0 ≤ (pc : Int) + off then k ((pc : Int) + off).toNat else none
def am_if (c : Jvm.ClassFile.Cond) (x y : Int32) (A B : am_Res) : am_Res := match c with
  | .eq => if x = y then A else B
  | .ne => if x = y then B else A
  | .lt => if x < y then A else B
  | .ge => if y ≤ x then A else B
  | .gt => if y < x then A else B
  | .le => if x ≤ y then A else B
def am_ldI (k : Nat → List Value → List Value → am_M → am_Res) (q : Nat) (ls st : List Value) (μ : am_M) (j : Nat) : am_Res := match ls[j]? with
  | some (.int x) => k q ls (.int x :: st) μ
  | _ => none
def am_ldL (k : Nat → List Value → List Value → am_M → am_Res) (q : Nat) (ls st : List Value) (μ : am_M) (j : Nat) : am_Res := match ls[j]? with
  | some (.long x) => k q ls (.long x :: st) μ
  | _ => none
def am_ldA (k : Nat → List Value → List Value → am_M → am_Res) (q : Nat) (ls st : List Value) (μ : am_M) (j : Nat) : am_Res := match ls[j]? with
  | some (.ref x) => k q ls (.ref x :: st) μ
  | some .null => k q ls (.null :: st) μ
  | _ => none
def am_toI (k : Nat → List Value → List Value → am_M → am_Res) (q : Nat) (ls st : List Value) (μ : am_M) (j : Nat) : am_Res := match st with
  | .int x :: st => if j < ls.length then k q (am_st1 ls j (.int x)) st μ else none
  | _ => none
def am_toA (k : Nat → List Value → List Value → am_M → am_Res) (q : Nat) (ls st : List Value) (μ : am_M) (j : Nat) : am_Res := match st with
  | .ref x :: st => if j < ls.length then k q (am_st1 ls j (.ref x)) st μ else none
  | .null :: st => if j < ls.length then k q (am_st1 ls j .null) st μ else none
  | _ => none
def am_toL (k : Nat → List Value → List Value → am_M → am_Res) (q : Nat) (ls st : List Value) (μ : am_M) (j : Nat) : am_Res := match st with
  | .long x :: st => if j + 1 < ls.length then k q (am_st2 ls j (.long x)) st μ else none
  | _ => none
def am_b2 (k : Nat → List Value → List Value → am_M → am_Res) (q : Nat) (ls st : List Value) (μ : am_M) (f : Int32 → Int32 → Int32) : am_Res := match st with
  | .int y :: .int x :: st => k q ls (.int (f x y) :: st) μ
  | _ => none
def am_u1 (k : Nat → List Value → List Value → am_M → am_Res) (q : Nat) (ls st : List Value) (μ : am_M) (f : Int32 → Value) : am_Res := match st with
  | .int x :: st => k q ls (f x :: st) μ
  | _ => none
def am_l2 (k : Nat → List Value → List Value → am_M → am_Res) (q : Nat) (ls st : List Value) (μ : am_M) (f : Int64 → Int64 → Value) : am_Res := match st with
  | .long y :: .long x :: st => k q ls (f x y :: st) μ
  | _ => none
def am_swK (k : Int → am_Res) (x : Int32) : Int → List Int → Int → am_Res
  | _, [], d => k d
  | lo, o :: os, d => if x = Int32.ofInt lo then k o else am_swK k x (lo + 1) os d
def am_lkK (k : Int → am_Res) (x : Int32) : List (Int × Int) → Int → am_Res
  | [], d => k d
  | (a, o) :: os, d => if x = Int32.ofInt a then k o else am_lkK k x os d
def am_isr (ci kk : Nat) : Bool := if ci = 16 then kk == 0 else am_fk ci kk == 3
def am_fv (μ : am_M) (ci h kk : Nat) : Value := if am_isr ci kk = true then va_rf (am_R μ h kk) else .int (am_I μ h kk)
def am_put (k : Nat → List Value → List Value → am_M → am_Res) (q : Nat) (ls st : List Value) (μ : am_M) (ci kk : Nat) : am_Res := match am_fk ci kk, st with
  | 0, .int x :: .ref h :: st => if (am_k μ h).1 = ci then k q ls st (am_sI μ h kk x) else none
  | 1, .int x :: .ref h :: st => if (am_k μ h).1 = ci ∧ narrow .boolean (.int x) = .int x ∧ fits .boolean (.int x) = true then k q ls st (am_sI μ h kk x) else none
  | 2, .int x :: .ref h :: st => if (am_k μ h).1 = ci ∧ narrow .char (.int x) = .int x ∧ fits .char (.int x) = true then k q ls st (am_sI μ h kk x) else none
  | 3, .ref v :: .ref h :: st => if (am_k μ h).1 = ci ∧ v < am_B then k q ls st (am_sR μ h kk (some v)) else none
  | 3, .null :: .ref h :: st => if (am_k μ h).1 = ci ∧ ci < 3 then k q ls st (am_sR μ h kk none) else none
  | _, _ => none
def am_tk : Nat → List Value → List Value → Option (List Value × List Value)
  | 0, st, acc => some (acc, st)
  | _ + 1, [], _ => none
  | n + 1, v :: st, acc => am_tk n st (v :: acc)
/-- behind a call -/
def am_kr (k : Nat → List Value → List Value → am_M → am_Res) (q : Nat) (ls rest : List Value) (r : am_Res) : am_Res := match r with
  | some (some (.retAddr _), _) => none
  | some (some v, μ1) => k q ls (v :: rest) μ1
  | some (none, μ1) => k q ls rest μ1
  | none => none
/-- behind a call of CuckooByPost.nest, guest or row by the law's catching methods -/
def am_kx (k : Nat → List Value → List Value → am_M → am_Res) (q : Nat) (ls rest : List Value) (o : Nat) (r : am_Res) : am_Res := match r with
  | some (some (.retAddr _), μ1) => k q ls (.int 1 :: rest) μ1
  | some (some (.int v), μ1) => if (am_k μ1 o).1 = 12 ∧ 1 ≤ (am_k μ1 o).2 then k q ls (.int 0 :: rest) (am_sL μ1 o 0 v.toInt64) else none
  | some (some (.long v), μ1) => if (am_k μ1 o).1 = 12 ∧ 1 ≤ (am_k μ1 o).2 then k q ls (.int 0 :: rest) (am_sL μ1 o 0 v) else none
  | _ => none
/-- the rest of 'throw new NoSuchElementException()' -/
def am_isT {ε : Type} (a b c : Except ε (Instr × Nat)) : Bool := match a with
  | .ok (.dup, 1) => (match b with
    | .ok (.invokespecial 281, 3) => (match c with
      | .ok (.athrow, 1) => true
      | _ => false)
    | _ => false)
  | _ => false
theorem am_isT_spec {ε : Type} {a b c : Except ε (Instr × Nat)} (h : am_isT a b c = true) : a = .ok (.dup, 1) ∧ b = .ok (.invokespecial 281, 3) ∧ c = .ok (.athrow, 1) := by
  unfold am_isT at h
  split at h
  · split at h
    · split at h
      · exact ⟨rfl, rfl, rfl⟩
      · cases h
    · cases h
  · cases h
def am_stp (k : Nat → List Value → List Value → am_M → am_Res) (call call2 : am_MI → List Value → am_M → am_Res) (dk : Nat) (mi : am_MI) (pc len : Nat) (ls st : List Value) (μ : am_M) (i : Instr) : am_Res := match i with
  | .iconst n => k (pc + len) ls (.int (Int32.ofInt n) :: st) μ
  | .bipush n => k (pc + len) ls (.int (Int8.ofInt n).toInt32 :: st) μ
  | .sipush n => k (pc + len) ls (.int (Int16.ofInt n).toInt32 :: st) μ
  | .lconst n => k (pc + len) ls (.long (Int64.ofNat (n : Nat)) :: st) μ
  | .aconst_null => k (pc + len) ls (.null :: st) μ
  | .ldc idx => (match am_KI (am_own mi) idx with
    | some v => k (pc + len) ls (.int v :: st) μ
    | none => match am_KS (am_own mi) idx with
      | some j => k (pc + len) ls (.ref (am_B + 2 * j) :: st) μ
      | none => none)
  | .ldc_w idx => (match am_KI (am_own mi) idx with
    | some v => k (pc + len) ls (.int v :: st) μ
    | none => match am_KS (am_own mi) idx with
      | some j => k (pc + len) ls (.ref (am_B + 2 * j) :: st) μ
      | none => none)
  | .ldc2_w idx => (match am_KL (am_own mi) idx with
    | some v => k (pc + len) ls (.long v :: st) μ
    | none => none)
  | .iload_n j => am_ldI k (pc + len) ls st μ j
  | .iload j => am_ldI k (pc + len) ls st μ j
  | .lload_n j => am_ldL k (pc + len) ls st μ j
  | .lload j => am_ldL k (pc + len) ls st μ j
  | .aload_n j => am_ldA k (pc + len) ls st μ j
  | .aload j => am_ldA k (pc + len) ls st μ j
  | .istore_n j => am_toI k (pc + len) ls st μ j
  | .istore j => am_toI k (pc + len) ls st μ j
  | .astore_n j => am_toA k (pc + len) ls st μ j
  | .astore j => am_toA k (pc + len) ls st μ j
  | .lstore_n j => am_toL k (pc + len) ls st μ j
  | .lstore j => am_toL k (pc + len) ls st μ j
  | .iinc j n => (match ls[j]? with
    | some (.int x) => k (pc + len) (am_st1 ls j (.int (x + Int32.ofInt n))) st μ
    | _ => none)
  | .iadd => am_b2 k (pc + len) ls st μ (fun x y => x + y)
  | .isub => am_b2 k (pc + len) ls st μ (fun x y => x - y)
  | .imul => am_b2 k (pc + len) ls st μ (fun x y => x * y)
  | .iand => am_b2 k (pc + len) ls st μ (fun x y => x &&& y)
  | .ior => am_b2 k (pc + len) ls st μ (fun x y => x ||| y)
  | .ixor => am_b2 k (pc + len) ls st μ (fun x y => x ^^^ y)
  | .ishl => am_b2 k (pc + len) ls st μ (fun x y => x <<< (y &&& 31))
  | .ishr => am_b2 k (pc + len) ls st μ (fun x y => x >>> (y &&& 31))
  | .iushr => am_b2 k (pc + len) ls st μ (fun x y => (x.toUInt32 >>> (y.toUInt32 &&& Int32.toUInt32 31)).toInt32)
  | .idiv => (match st with
    | .int y :: .int x :: st => if y = 0 then none else k (pc + len) ls (.int (x / y) :: st) μ
    | _ => none)
  | .irem => (match st with
    | .int y :: .int x :: st => if y = 0 then none else k (pc + len) ls (.int (x - x / y * y) :: st) μ
    | _ => none)
  | .ineg => am_u1 k (pc + len) ls st μ (fun x => .int (-x))
  | .i2l => am_u1 k (pc + len) ls st μ (fun x => .long x.toInt64)
  | .i2b => am_u1 k (pc + len) ls st μ (fun x => .int x.toInt8.toInt32)
  | .i2s => am_u1 k (pc + len) ls st μ (fun x => .int x.toInt16.toInt32)
  | .i2c => am_u1 k (pc + len) ls st μ (fun x => .int (x.toUInt32 % 65536).toInt32)
  | .ladd => am_l2 k (pc + len) ls st μ (fun x y => .long (x + y))
  | .lmul => am_l2 k (pc + len) ls st μ (fun x y => .long (x * y))
  | .lcmp => am_l2 k (pc + len) ls st μ (fun x y => .int (lg_cmp x y))
  | .ldiv => (match st with
    | .long y :: .long x :: st => if y = 0 then none else k (pc + len) ls (.long (x / y) :: st) μ
    | _ => none)
  | .lrem => (match st with
    | .long y :: .long x :: st => if y = 0 then none else k (pc + len) ls (.long (x - x / y * y) :: st) μ
    | _ => none)
  | .dup => (match st with
    | v :: st => if v.category = 1 then k (pc + len) ls (v :: v :: st) μ else none
    | _ => none)
  | .pop => (match st with
    | v :: st => if v.category = 1 then k (pc + len) ls st μ else none
    | _ => none)
  | .dup_x1 => (match st with
    | v :: w :: st => if v.category = 1 ∧ w.category = 1 then k (pc + len) ls (v :: w :: v :: st) μ else none
    | _ => none)
  | .dup2 => (match st with
    | v :: w :: st => if v.category = 1 ∧ w.category = 1 then k (pc + len) ls (v :: w :: v :: w :: st) μ else none
    | _ => none)
  | .goto off => am_jmp (fun q => k q ls st μ) pc off
  | .ifCond c off => (match st with
    | .int x :: st => if 0 ≤ (pc : Int) + off then am_if c x 0 (am_jmp (fun q => k q ls st μ) pc off) (k (pc + len) ls st μ) else none
    | _ => none)
  | .if_icmp c off => (match st with
    | .int y :: .int x :: st => if 0 ≤ (pc : Int) + off then am_if c x y (am_jmp (fun q => k q ls st μ) pc off) (k (pc + len) ls st μ) else none
    | _ => none)
  | .ifnull off => (match st with
    | .null :: st => am_jmp (fun q => k q ls st μ) pc off
    | .ref _ :: st => k (pc + len) ls st μ
    | _ => none)
  | .ifnonnull off => (match st with
    | .null :: st => k (pc + len) ls st μ
    | .ref _ :: st => am_jmp (fun q => k q ls st μ) pc off
    | _ => none)
  | .tableswitch d lo hi offs => (match st with
    | .int x :: st => if hi - lo + 1 = (offs.toList.length : Int) ∧ -2147483648 ≤ lo ∧ hi < 2147483648 then am_swK (fun o => am_jmp (fun q => k q ls st μ) pc o) x lo offs.toList d else none
    | _ => none)
  | .lookupswitch d ps => (match st with
    | .int x :: st => if ((ps.toList.zip (ps.toList.drop 1)).all (fun (a, next) => a.1 < next.1) = true) ∧ (ps.toList.all (fun a => decide (-2147483648 ≤ a.1) && decide (a.1 < 2147483648)) = true) then am_lkK (fun o => am_jmp (fun q => k q ls st μ) pc o) x ps.toList d else none
    | _ => none)
  | .getfield idx => (match am_FT (am_own mi) idx, st with
    | some (acc, ci, kk), .ref h :: st => if (am_k μ h).1 = ci ∧ (acc = 0 ∨ acc = 1 ∨ acc = 2 ∨ acc = 4 ∨ acc = 5) then k (pc + len) ls (am_fv μ ci h kk :: st) μ else none
    | _, _ => none)
  | .getstatic idx => (match am_FT (am_own mi) idx with
    | some (acc, _, _) => if acc = 6 then k (pc + len) ls (.int 1 :: st) μ else none
    | _ => none)
  | .putfield idx => (match am_FT (am_own mi) idx with
    | some (acc, ci, kk) =>
      if acc = 3 then (match st with
        | .ref v :: .ref h :: st => if 3 ≤ (am_k μ h).1 ∧ (am_k μ h).1 < 7 ∧ am_flg mi = 1 ∧ am_R μ h (am_N (am_k μ h).1 - 2) = some v then k (pc + len) ls st μ else none
        | _ => none)
      else if acc = 0 ∨ acc = 4 ∨ (acc = 2 ∧ am_flg mi = 1) then am_put k (pc + len) ls st μ ci kk else none
    | none => none)
  | .iaload => (match st with
    | .int i :: .ref h :: st => if ((am_k μ h).1 = 10 ∨ (am_k μ h).1 = 15) ∧ ¬ (i < 0 ∨ (am_k μ h).2 ≤ i.toNatClampNeg) then k (pc + len) ls (.int (am_I μ h i.toNatClampNeg) :: st) μ else none
    | _ => none)
  | .baload => (match st with
    | .int i :: .ref h :: st => if ((am_k μ h).1 = 11 ∨ (am_k μ h).1 = 13 ∨ (am_k μ h).1 = 17) ∧ ¬ (i < 0 ∨ (am_k μ h).2 ≤ i.toNatClampNeg) then k (pc + len) ls (.int (am_I μ h i.toNatClampNeg) :: st) μ else none
    | _ => none)
  | .laload => (match st with
    | .int i :: .ref h :: st => if (am_k μ h).1 = 12 ∧ ¬ (i < 0 ∨ (am_k μ h).2 ≤ i.toNatClampNeg) then k (pc + len) ls (.long (am_L μ h i.toNatClampNeg) :: st) μ else none
    | _ => none)
  | .aaload => (match st with
    | .int i :: .ref h :: st => if (am_k μ h).1 = 14 ∧ ¬ (i < 0 ∨ (am_k μ h).2 ≤ i.toNatClampNeg) then k (pc + len) ls (va_rf (am_R μ h i.toNatClampNeg) :: st) μ else none
    | _ => none)
  | .iastore => (match st with
    | .int x :: .int i :: .ref h :: st => if (am_k μ h).1 = 10 ∧ ¬ (i < 0 ∨ (am_k μ h).2 ≤ i.toNatClampNeg) then k (pc + len) ls st (am_sI μ h i.toNatClampNeg x) else none
    | _ => none)
  | .bastore => (match st with
    | .int x :: .int i :: .ref h :: st =>
      if (am_k μ h).1 = 11 ∧ ¬ (i < 0 ∨ (am_k μ h).2 ≤ i.toNatClampNeg) then k (pc + len) ls st (am_sI μ h i.toNatClampNeg (vp_nar .byte x))
      else if (am_k μ h).1 = 13 ∧ ¬ (i < 0 ∨ (am_k μ h).2 ≤ i.toNatClampNeg) then k (pc + len) ls st (am_sI μ h i.toNatClampNeg (vp_nar .boolean x)) else none
    | _ => none)
  | .lastore => (match st with
    | .long x :: .int i :: .ref h :: st => if (am_k μ h).1 = 12 ∧ ¬ (i < 0 ∨ (am_k μ h).2 ≤ i.toNatClampNeg) then k (pc + len) ls st (am_sL μ h i.toNatClampNeg x) else none
    | _ => none)
  | .aastore => (match st with
    | .ref v :: .int i :: .ref h :: st => if (am_k μ h).1 = 14 ∧ (am_k μ v).1 = 1 ∧ ¬ (i < 0 ∨ (am_k μ h).2 ≤ i.toNatClampNeg) then k (pc + len) ls st (am_sR μ h i.toNatClampNeg (some v)) else none
    | _ => none)
  | .arraylength => (match st with
    | .ref h :: st => if 10 ≤ (am_k μ h).1 ∧ (am_k μ h).1 ≤ 17 ∧ (am_k μ h).1 ≠ 16 then k (pc + len) ls (.int (Int32.ofNat (am_k μ h).2) :: st) μ else none
    | _ => none)
  | .newarray t => (match am_AT t, st with
    | some tg, .int n :: st => if ¬ n < 0 ∧ n.toNatClampNeg ≤ 100000 ∧ am_n μ < 400000 then k (pc + len) ls (.ref (am_n μ) :: st) (am_new μ (tg, n.toNatClampNeg) n.toNatClampNeg) else none
    | _, _ => none)
  | .anewarray idx => (match st with
    | .int n :: st => if am_own mi = 1 ∧ idx = 7 ∧ ¬ n < 0 ∧ n.toNatClampNeg ≤ 100000 ∧ am_n μ < 400000 then k (pc + len) ls (.ref (am_n μ) :: st) (am_new μ (14, n.toNatClampNeg) n.toNatClampNeg) else none
    | _ => none)
  | .new idx => (match am_NT (am_own mi) idx with
    | some t => if am_n μ < 400000 then k (pc + len) ls (.ref (am_n μ) :: st) (am_new μ (t, 0) (am_NS t)) else none
    | none => if am_own mi = 1 ∧ idx = 279 ∧ 12 ≤ dk ∧ am_cat st ≤ 8 ∧ am_isT (decode (am_code mi) (pc + 3)) (decode (am_code mi) (pc + 4)) (decode (am_code mi) (pc + 7)) = true then some (some (.retAddr 1), am_bump μ) else none)
  | .invokestatic idx => (match am_CT (am_own mi) idx with
    | some (0, _, n, mi') => (match am_tk n st [] with
      | some (As, rest) => if am_cat rest ≤ 8 then am_kr k (pc + len) ls rest (call mi' As μ) else none
      | none => none)
    | some (7, _, _, _) => (match st with
      | .int n :: .int dp :: .ref a :: .int sp :: .ref a0 :: rest => if (am_k μ a).1 = 10 ∧ (am_k μ a0).1 = 10 ∧ am_cat rest ≤ 8 ∧ 1 ≤ dk ∧ ¬ sp < 0 ∧ ¬ dp < 0 ∧ ¬ n < 0 ∧ sp.toNatClampNeg + n.toNatClampNeg ≤ (am_k μ a0).2 ∧ dp.toNatClampNeg + n.toNatClampNeg ≤ (am_k μ a).2 then k (pc + len) ls rest (am_cp μ a0 a sp.toNatClampNeg dp.toNatClampNeg n.toNatClampNeg) else none
      | _ => none)
    | some (8, 2, _, mi') => (match st with
      | .ref o :: .int p :: .ref x :: rest => if am_cat rest ≤ 8 ∧ 14 ≤ dk ∧ (am_k μ x).1 = 0 then am_kx k (pc + len) ls rest o (call2 mi' [.ref x, .int p] μ) else none
      | _ => none)
    | some (8, _, _, mi') => (match st with
      | .ref o :: .int q :: .int p :: .ref x :: rest => if am_cat rest ≤ 8 ∧ 14 ≤ dk ∧ (am_k μ x).1 = 0 then am_kx k (pc + len) ls rest o (call2 mi' [.ref x, .int p, .int q] μ) else none
      | _ => none)
    | some (9, 0, _, _) => (match st with
      | .int y :: .int x :: rest => if am_cat rest ≤ 8 ∧ 1 ≤ dk then k (pc + len) ls (.int (if x < y then y else x) :: rest) μ else none
      | _ => none)
    | some (9, 1, _, _) => (match st with
      | .int y :: .int x :: rest => if am_cat rest ≤ 8 ∧ 1 ≤ dk then k (pc + len) ls (.int (if y < x then y else x) :: rest) μ else none
      | _ => none)
    | some (9, _, _, _) => (match st with
      | .int x :: rest => if am_cat rest ≤ 8 ∧ 1 ≤ dk then k (pc + len) ls (.int (if 0 ≤ x then x else 0 - x) :: rest) μ else none
      | _ => none)
    | _ => none)
  | .invokevirtual idx => (match am_CT (am_own mi) idx with
    | some (6, _, _, _) => (match st with
      | .ref b :: rest => if am_cat rest ≤ 8 ∧ 3 ≤ (am_k μ b).1 ∧ (am_k μ b).1 < 7 then am_kr k (pc + len) ls rest (call (am_vm (am_k μ b).1) [.ref b] μ) else none
      | _ => none)
    | some (kind, tag, n, mi') => if kind = 1 ∨ kind = 2 then (match am_tk n st [] with
      | some (As, .ref b :: rest) => if am_cat rest ≤ 8 ∧ (am_k μ b).1 = tag then am_kr k (pc + len) ls rest (call mi' (.ref b :: As) μ) else none
      | _ => none) else none
    | none => none)
  | .invokespecial idx => (match am_CT (am_own mi) idx with
    | some (5, _, _, _) => (match st with
      | .ref _ :: rest => if am_cat rest ≤ 8 ∧ 1 ≤ dk then k (pc + len) ls rest μ else none
      | _ => none)
    | some (kind, _, n, mi') => if kind = 3 ∨ kind = 4 then (match am_tk n st [] with
      | some (As, .ref b :: rest) => if am_cat rest ≤ 8 then am_kr k (pc + len) ls rest (call mi' (.ref b :: As) μ) else none
      | _ => none) else none
    | none => none)
  | .ireturn => (match st with
    | [.int v] => (match am_ret mi with
      | some .int => some (some (.int v), μ)
      | some .boolean => if narrow .boolean (.int v) = .int v then some (some (.int v), μ) else none
      | some .byte => if narrow .byte (.int v) = .int v then some (some (.int v), μ) else none
      | _ => none)
    | _ => none)
  | .lreturn => (match st with
    | [.long v] => (match am_ret mi with
      | some .long => some (some (.long v), μ)
      | _ => none)
    | _ => none)
  | .areturn => (match st with
    | [.ref a] => (match am_ret mi with
      | some (.object _) => some (some (.ref a), μ)
      | _ => none)
    | [.null] => (match am_ret mi with
      | some (.object _) => some (some .null, μ)
      | _ => none)
    | _ => none)
  | .return_ => (match st with
    | [] => (match am_ret mi with
      | none => some (none, μ)
      | _ => none)
    | _ => none)
  | _ => none
def am_ln : Instr → Nat
  | .bipush _ => 2
  | .sipush _ => 3
  | .ldc _ => 2
  | .ldc_w _ => 3
  | .ldc2_w _ => 3
  | .iload _ => 2
  | .lload _ => 2
  | .aload _ => 2
  | .istore _ => 2
  | .astore _ => 2
  | .lstore _ => 2
  | .iinc _ _ => 3
  | .goto _ => 3
  | .ifCond _ _ => 3
  | .if_icmp _ _ => 3
  | .ifnull _ => 3
  | .ifnonnull _ => 3
  | .getfield _ => 3
  | .getstatic _ => 3
  | .putfield _ => 3
  | .newarray _ => 2
  | .anewarray _ => 3
  | .new _ => 3
  | .invokestatic _ => 3
  | .invokevirtual _ => 3
  | .invokespecial _ => 3
  | _ => 1
/-- the length that the rows know -/
def am_lnok (i : Instr) (len : Nat) : Bool := match i with
  | .tableswitch _ _ _ _ => true
  | .lookupswitch _ _ => true
  | i => len == am_ln i
def am_run : Nat → Nat → am_MI → Nat → List Value → List Value → am_M → am_Res
  | 0, _, _, _, _, _, _ => none
  | f + 1, d, mi, pc, ls, st, μ => match decode (am_code mi) pc with
    | .ok (i, len) => if am_lnok i len = true then am_stp (am_run f d mi) (fun mi' As μ1 => match d with
        | 0 => none
        | d' + 1 => if (am_exp As).length ≤ am_mL mi' then am_run f d' mi' 0 (am_ent (am_mL mi') As) [] μ1 else none)
        (fun mi' As μ1 => match d with
        | d' + 2 => if (am_exp As).length ≤ am_mL mi' then am_run f d' mi' 0 (am_ent (am_mL mi') As) [] μ1 else none
        | _ => none) d mi pc len ls st μ i else none
    | .error _ => none
