/-! AM, part 1: the methods and the tables of the abstract machine (printed by gen/tables.py) -/
set_option maxRecDepth 100000
/-- a method: number of its class, constructor flag, name, code, locals, answer -/
abbrev am_MI : Type := Nat × Nat × MethodName × ByteArray × Nat × Option FieldType
abbrev am_own (mi : am_MI) : Nat := mi.1
abbrev am_flg (mi : am_MI) : Nat := mi.2.1
abbrev am_y (mi : am_MI) : MethodName := mi.2.2.1
abbrev am_code (mi : am_MI) : ByteArray := mi.2.2.2.1
abbrev am_mL (mi : am_MI) : Nat := mi.2.2.2.2.1
abbrev am_ret (mi : am_MI) : Option FieldType := mi.2.2.2.2.2
def am_CN : Nat → String
  | 0 => RX0
  | 1 => RX1
  | 2 => RX2
  | 3 => RX3
  | 4 => RX4
  | 5 => RX5
  | 6 => RX6
  | 7 => RX7
  | 8 => RX8
  | 10 => RJ0
  | 11 => RJ1
  | 12 => RJ2
  | 13 => RJ10
  | 14 => RJ11
  | _ => ""
def am_T3 : u_T := fun k => match k with
  | 0 => ("CuckooByPost$Number", "v", "I", true)
  | 1 => ("CuckooByPost$Number", "this$0", "LCuckooByPost;", true)
  | _ => ("CuckooByPost$Node", "this$0", "LCuckooByPost;", true)
def am_T4 : u_T := fun k => match k with
  | 0 => ("CuckooByPost$Sign", "sign", "I", true)
  | 1 => ("CuckooByPost$Sign", "this$0", "LCuckooByPost;", true)
  | _ => ("CuckooByPost$Node", "this$0", "LCuckooByPost;", true)
def am_T5 : u_T := fun k => match k with
  | 0 => ("CuckooByPost$Less", "its", "LCuckooByPost$Node;", true)
  | 1 => ("CuckooByPost$Less", "this$0", "LCuckooByPost;", true)
  | _ => ("CuckooByPost$Node", "this$0", "LCuckooByPost;", true)
def am_T6 : u_T := fun k => match k with
  | 0 => ("CuckooByPost$Act", "sign", "C", true)
  | 1 => ("CuckooByPost$Act", "left", "LCuckooByPost$Node;", true)
  | 2 => ("CuckooByPost$Act", "right", "LCuckooByPost$Node;", true)
  | 3 => ("CuckooByPost$Act", "this$0", "LCuckooByPost;", true)
  | _ => ("CuckooByPost$Node", "this$0", "LCuckooByPost;", true)
/-- the fields of a class, by its tag -/
def am_T : Nat → u_T
  | 0 => TX1
  | 1 => TX2
  | 2 => TX3
  | 3 => am_T3
  | 4 => am_T4
  | 5 => am_T5
  | _ => am_T6
def am_RX : Nat → String
  | 0 => RX1
  | 1 => RX2
  | 2 => RX3
  | 3 => RX6
  | 4 => RX7
  | 5 => RX5
  | _ => RX8
def am_N : Nat → Nat
  | 0 => 41
  | 1 => 13
  | 2 => 39
  | 3 => 3
  | 4 => 3
  | 5 => 3
  | _ => 5
/-- how many slots an object of the class has -/
def am_NS : Nat → Nat
  | 0 => 41
  | 1 => 13
  | 2 => 39
  | 3 => 3
  | 4 => 3
  | 5 => 3
  | _ => 5
/-- kind of a field: 0 int, 1 boolean, 2 char, 3 reference, 4 Node.this$0 (not told) -/
def am_fk0 : Nat → Nat
  | 0 => 3
  | 1 => 3
  | 2 => 0
  | 3 => 0
  | 4 => 0
  | 5 => 3
  | 6 => 0
  | 7 => 0
  | 8 => 0
  | 9 => 0
  | 10 => 3
  | 11 => 3
  | 12 => 3
  | 13 => 3
  | 14 => 0
  | 15 => 3
  | 16 => 0
  | 17 => 3
  | 18 => 3
  | 19 => 3
  | 20 => 3
  | 21 => 0
  | 22 => 3
  | 23 => 3
  | 24 => 3
  | 25 => 3
  | 26 => 0
  | 27 => 3
  | 28 => 3
  | 29 => 3
  | 30 => 0
  | 31 => 3
  | 32 => 3
  | 33 => 0
  | 34 => 3
  | 35 => 3
  | 36 => 0
  | 37 => 3
  | 38 => 3
  | 39 => 3
  | _ => 0
def am_fk1 : Nat → Nat
  | 0 => 3
  | 1 => 3
  | 2 => 3
  | 3 => 3
  | 4 => 3
  | 5 => 3
  | 6 => 3
  | 7 => 3
  | 8 => 3
  | 9 => 3
  | 10 => 0
  | 11 => 0
  | _ => 0
def am_fk2 : Nat → Nat
  | 0 => 3
  | 1 => 0
  | 2 => 0
  | 3 => 3
  | 4 => 0
  | 5 => 3
  | 6 => 0
  | 7 => 0
  | 8 => 3
  | 9 => 0
  | 10 => 0
  | 11 => 0
  | 12 => 0
  | 13 => 3
  | 14 => 3
  | 15 => 3
  | 16 => 0
  | 17 => 1
  | 18 => 3
  | 19 => 3
  | 20 => 0
  | 21 => 3
  | 22 => 3
  | 23 => 3
  | 24 => 3
  | 25 => 3
  | 26 => 3
  | 27 => 3
  | 28 => 0
  | 29 => 3
  | 30 => 3
  | 31 => 3
  | 32 => 3
  | 33 => 0
  | 34 => 0
  | 35 => 0
  | 36 => 3
  | 37 => 3
  | _ => 3
def am_fk3 : Nat → Nat
  | 0 => 0
  | 1 => 3
  | _ => 4
def am_fk4 : Nat → Nat
  | 0 => 0
  | 1 => 3
  | _ => 4
def am_fk5 : Nat → Nat
  | 0 => 3
  | 1 => 3
  | _ => 4
def am_fk6 : Nat → Nat
  | 0 => 2
  | 1 => 3
  | 2 => 3
  | 3 => 3
  | _ => 4
def am_fk : Nat → Nat → Nat
  | 0 => am_fk0
  | 1 => am_fk1
  | 2 => am_fk2
  | 3 => am_fk3
  | 4 => am_fk4
  | 5 => am_fk5
  | _ => am_fk6
def am_ty0 : Nat → FieldType
  | 0 => (.object "CuckooByPost$Spring")
  | 1 => (.object "CuckooByPost$Spring")
  | 2 => .int
  | 3 => .int
  | 4 => .int
  | 5 => (.array .int)
  | 6 => .int
  | 7 => .int
  | 8 => .int
  | 9 => .int
  | 10 => (.array .int)
  | 11 => (.array .int)
  | 12 => (.array .int)
  | 13 => (.array .int)
  | 14 => .int
  | 15 => (.object "CuckooByPost$Spring")
  | 16 => .int
  | 17 => (.object "CuckooByPost$Node")
  | 18 => (.object "CuckooByPost$Node")
  | 19 => (.array (.object "CuckooByPost$Spring"))
  | 20 => (.object "CuckooByPost$Spring")
  | 21 => .int
  | 22 => (.array .boolean)
  | 23 => (.array .int)
  | 24 => (.array .int)
  | 25 => (.array .int)
  | 26 => .int
  | 27 => (.array .int)
  | 28 => (.array .int)
  | 29 => (.array .int)
  | 30 => .int
  | 31 => (.array .int)
  | 32 => (.array .int)
  | 33 => .int
  | 34 => (.array .int)
  | 35 => (.array .int)
  | 36 => .int
  | 37 => (.array (.object "CuckooByPost$Spring"))
  | 38 => (.array .int)
  | 39 => (.array .long)
  | _ => .int
def am_ty1 : Nat → FieldType
  | 0 => (.array .int)
  | 1 => (.array .int)
  | 2 => (.array .int)
  | 3 => (.array .int)
  | 4 => (.array .int)
  | 5 => (.array .int)
  | 6 => (.array .int)
  | 7 => (.array .int)
  | 8 => (.array .int)
  | 9 => (.array .int)
  | 10 => .int
  | 11 => .int
  | _ => .int
def am_ty2 : Nat → FieldType
  | 0 => (.array .int)
  | 1 => .int
  | 2 => .int
  | 3 => (.array .byte)
  | 4 => .int
  | 5 => (.array .long)
  | 6 => .int
  | 7 => .int
  | 8 => (.array .byte)
  | 9 => .int
  | 10 => .int
  | 11 => .int
  | 12 => .int
  | 13 => (.array .int)
  | 14 => (.array .byte)
  | 15 => (.array .byte)
  | 16 => .int
  | 17 => .boolean
  | 18 => (.array .int)
  | 19 => (.array .int)
  | 20 => .int
  | 21 => (.array .int)
  | 22 => (.array .int)
  | 23 => (.array .int)
  | 24 => (.array .int)
  | 25 => (.array .int)
  | 26 => (.array .int)
  | 27 => (.array .int)
  | 28 => .int
  | 29 => (.array .int)
  | 30 => (.array .int)
  | 31 => (.array .int)
  | 32 => (.array .int)
  | 33 => .int
  | 34 => .int
  | 35 => .int
  | 36 => (.array .int)
  | 37 => (.array .boolean)
  | _ => (.array .int)
def am_ty3 : Nat → FieldType
  | 0 => .int
  | 1 => (.object "CuckooByPost")
  | _ => (.object "CuckooByPost")
def am_ty4 : Nat → FieldType
  | 0 => .int
  | 1 => (.object "CuckooByPost")
  | _ => (.object "CuckooByPost")
def am_ty5 : Nat → FieldType
  | 0 => (.object "CuckooByPost$Node")
  | 1 => (.object "CuckooByPost")
  | _ => (.object "CuckooByPost")
def am_ty6 : Nat → FieldType
  | 0 => .char
  | 1 => (.object "CuckooByPost$Node")
  | 2 => (.object "CuckooByPost$Node")
  | 3 => (.object "CuckooByPost")
  | _ => (.object "CuckooByPost")
def am_ty : Nat → Nat → FieldType
  | 0 => am_ty0
  | 1 => am_ty1
  | 2 => am_ty2
  | 3 => am_ty3
  | 4 => am_ty4
  | 5 => am_ty5
  | _ => am_ty6
abbrev am_cl : List vw_C := [(RX1, TX1, 41), (RX2, TX2, 13), (RX3, TX3, 39), (RX6, am_T3, 3), (RX7, am_T4, 3), (RX5, am_T5, 3), (RX8, am_T6, 5)]
theorem am_nm0 : ∀ a, a < 41 → ∀ b, b < 41 → a ≠ b → (TX1 a).2.1 ≠ (TX1 b).2.1 := by decide +kernel
theorem am_tyok0 : ∀ k, k < 41 → parseFieldDescriptor (TX1 k).2.2.1 = some (am_ty0 k) := by decide +kernel
theorem am_nm1 : ∀ a, a < 13 → ∀ b, b < 13 → a ≠ b → (TX2 a).2.1 ≠ (TX2 b).2.1 := by decide +kernel
theorem am_tyok1 : ∀ k, k < 13 → parseFieldDescriptor (TX2 k).2.2.1 = some (am_ty1 k) := by decide +kernel
theorem am_nm2 : ∀ a, a < 39 → ∀ b, b < 39 → a ≠ b → (TX3 a).2.1 ≠ (TX3 b).2.1 := by decide +kernel
theorem am_tyok2 : ∀ k, k < 39 → parseFieldDescriptor (TX3 k).2.2.1 = some (am_ty2 k) := by decide +kernel
theorem am_tyok3 : ∀ k, k < 3 → parseFieldDescriptor (am_T3 k).2.2.1 = some (am_ty3 k) := by decide +kernel
theorem am_tyok4 : ∀ k, k < 3 → parseFieldDescriptor (am_T4 k).2.2.1 = some (am_ty4 k) := by decide +kernel
theorem am_tyok5 : ∀ k, k < 3 → parseFieldDescriptor (am_T5 k).2.2.1 = some (am_ty5 k) := by decide +kernel
theorem am_tyok6 : ∀ k, k < 5 → parseFieldDescriptor (am_T6 k).2.2.1 = some (am_ty6 k) := by decide +kernel
theorem am_in0 : ∀ w ∈ u_ws RX1 TX1 41, w ∈ lw_all := lw_in (u_ws RX1 TX1 41) [242, 244, 246, 248, 250, 252, 254, 256, 258, 260, 262, 264, 266, 268, 270, 272, 274, 276, 278, 280, 282, 284, 286, 288, 290, 292, 294, 296, 298, 300, 302, 304, 306, 308, 310, 312, 314, 316, 318, 320, 322] (by decide +kernel) (by decide +kernel)
theorem am_in1 : ∀ w ∈ u_ws RX2 TX2 13, w ∈ lw_all := lw_in (u_ws RX2 TX2 13) [170, 172, 174, 176, 178, 180, 182, 184, 186, 188, 190, 192, 194] (by decide +kernel) (by decide +kernel)
theorem am_in2 : ∀ w ∈ u_ws RX3 TX3 39, w ∈ lw_all := lw_in (u_ws RX3 TX3 39) [1099, 1101, 1103, 1105, 1107, 1109, 1111, 1113, 1115, 1117, 1119, 1121, 1123, 1125, 1127, 1129, 1131, 1133, 1135, 1137, 1139, 1141, 1143, 1145, 1147, 1149, 1151, 1153, 1155, 1157, 1159, 1161, 1163, 1165, 1167, 1169, 1171, 1173, 1175] (by decide +kernel) (by decide +kernel)
theorem am_in3 : ∀ w ∈ u_ws RX6 am_T3 3, w ∈ lw_all := lw_in (u_ws RX6 am_T3 3) [522, 524, 526] (by decide +kernel) (by decide +kernel)
theorem am_in4 : ∀ w ∈ u_ws RX7 am_T4 3, w ∈ lw_all := lw_in (u_ws RX7 am_T4 3) [537, 539, 541] (by decide +kernel) (by decide +kernel)
theorem am_in5 : ∀ w ∈ u_ws RX5 am_T5 3, w ∈ lw_all := lw_in (u_ws RX5 am_T5 3) [507, 509, 511] (by decide +kernel) (by decide +kernel)
theorem am_in6 : ∀ w ∈ u_ws RX8 am_T6 5, w ∈ lw_all := lw_in (u_ws RX8 am_T6 5) [559, 561, 563, 565, 567] (by decide +kernel) (by decide +kernel)
/-- the words that do not ride in the lists -/
def am_nw : List Cond := [(Jvm.Cond.methodLinkNest "CuckooByPost" (9 : Nat) ({ cls := "CuckooByPost$Spring", name := "<init>", desc := "()V" } : Jvm.MethodName) "CuckooByPost"),
  (Jvm.Cond.fieldLinkNest "CuckooByPost" (188 : Nat) "CuckooByPost$Spring" "kind" "[I" "CuckooByPost"),
  (Jvm.Cond.fieldLinkNest "CuckooByPost" (191 : Nat) "CuckooByPost$Spring" "strength" "[I" "CuckooByPost"),
  (Jvm.Cond.fieldLinkNest "CuckooByPost" (194 : Nat) "CuckooByPost$Spring" "colour" "[I" "CuckooByPost"),
  (Jvm.Cond.fieldLinkNest "CuckooByPost" (197 : Nat) "CuckooByPost$Spring" "own" "[I" "CuckooByPost"),
  (Jvm.Cond.fieldLinkNest "CuckooByPost" (110 : Nat) "CuckooByPost$Spring" "notice" "[I" "CuckooByPost"),
  (Jvm.Cond.fieldLinkNest "CuckooByPost" (282 : Nat) "CuckooByPost$Spring" "replies" "[I" "CuckooByPost"),
  (Jvm.Cond.fieldLinkNest "CuckooByPost" (113 : Nat) "CuckooByPost$Spring" "guest" "[I" "CuckooByPost"),
  (Jvm.Cond.fieldLinkNest "CuckooByPost" (259 : Nat) "CuckooByPost$Spring" "tint" "[I" "CuckooByPost"),
  (Jvm.Cond.fieldLinkNest "CuckooByPost" (285 : Nat) "CuckooByPost$Spring" "age" "[I" "CuckooByPost"),
  (Jvm.Cond.fieldLinkNest "CuckooByPost" (288 : Nat) "CuckooByPost$Spring" "fed" "[I" "CuckooByPost"),
  (Jvm.Cond.fieldLinkNest "CuckooByPost" (347 : Nat) "CuckooByPost$Spring" "day" "I" "CuckooByPost"),
  (Jvm.Cond.fieldLinkNest "CuckooByPost" (344 : Nat) "CuckooByPost$Spring" "flown" "I" "CuckooByPost"),
  (Jvm.Cond.fieldLinkNest "CuckooByPost" (338 : Nat) "CuckooByPost$Spring" "turned" "I" "CuckooByPost"),
  (Jvm.Cond.methodLinkNest "CuckooByPost$Less" (7 : Nat) ({ cls := "CuckooByPost$Node", name := "<init>", desc := "(LCuckooByPost;)V" } : Jvm.MethodName) "CuckooByPost"),
  (Jvm.Cond.methodLinkNest "CuckooByPost$Number" (7 : Nat) ({ cls := "CuckooByPost$Node", name := "<init>", desc := "(LCuckooByPost;)V" } : Jvm.MethodName) "CuckooByPost"),
  (Jvm.Cond.fieldLinkNest "CuckooByPost$Sign" (48 : Nat) "CuckooByPost$Spring" "kind" "[I" "CuckooByPost"),
  (Jvm.Cond.fieldLinkNest "CuckooByPost$Sign" (54 : Nat) "CuckooByPost$Spring" "strength" "[I" "CuckooByPost"),
  (Jvm.Cond.fieldLinkNest "CuckooByPost$Sign" (32 : Nat) "CuckooByPost$Spring" "colour" "[I" "CuckooByPost"),
  (Jvm.Cond.fieldLinkNest "CuckooByPost$Sign" (51 : Nat) "CuckooByPost$Spring" "own" "[I" "CuckooByPost"),
  (Jvm.Cond.fieldLinkNest "CuckooByPost$Sign" (41 : Nat) "CuckooByPost$Spring" "notice" "[I" "CuckooByPost"),
  (Jvm.Cond.fieldLinkNest "CuckooByPost$Sign" (23 : Nat) "CuckooByPost$Spring" "tint" "[I" "CuckooByPost"),
  (Jvm.Cond.fieldLinkNest "CuckooByPost$Sign" (57 : Nat) "CuckooByPost$Spring" "age" "[I" "CuckooByPost"),
  (Jvm.Cond.fieldLinkNest "CuckooByPost$Sign" (69 : Nat) "CuckooByPost$Spring" "day" "I" "CuckooByPost"),
  (Jvm.Cond.fieldLinkNest "CuckooByPost$Sign" (19 : Nat) "CuckooByPost" "askedSpring" "LCuckooByPost$Spring;" "CuckooByPost"),
  (Jvm.Cond.fieldLinkNest "CuckooByPost$Sign" (29 : Nat) "CuckooByPost" "askedNest" "I" "CuckooByPost"),
  (Jvm.Cond.methodLinkNest "CuckooByPost$Sign" (9 : Nat) ({ cls := "CuckooByPost$Node", name := "<init>", desc := "(LCuckooByPost;)V" } : Jvm.MethodName) "CuckooByPost"),
  (Jvm.Cond.methodLinkNest "CuckooByPost$Sign" (60 : Nat) ({ cls := "CuckooByPost", name := "guests", desc := "(LCuckooByPost$Spring;I)I" } : Jvm.MethodName) "CuckooByPost"),
  (Jvm.Cond.methodLinkNest "CuckooByPost$Act" (7 : Nat) ({ cls := "CuckooByPost$Node", name := "<init>", desc := "(LCuckooByPost;)V" } : Jvm.MethodName) "CuckooByPost"),
  (Jvm.Cond.declares ({ cls := "CuckooByPost$Node", name := "value", desc := "()I" } : Jvm.MethodName))]
theorem am_nw_tbl : ∀ w ∈ am_nw, w ∈ lw_tbl := List.forall_mem_cons.mpr ⟨q132, List.forall_mem_cons.mpr ⟨q138, List.forall_mem_cons.mpr ⟨q141, List.forall_mem_cons.mpr ⟨q144, List.forall_mem_cons.mpr ⟨q147, List.forall_mem_cons.mpr ⟨q150, List.forall_mem_cons.mpr ⟨q152, List.forall_mem_cons.mpr ⟨q154, List.forall_mem_cons.mpr ⟨q157, List.forall_mem_cons.mpr ⟨q160, List.forall_mem_cons.mpr ⟨q162, List.forall_mem_cons.mpr ⟨q165, List.forall_mem_cons.mpr ⟨q167, List.forall_mem_cons.mpr ⟨q169, List.forall_mem_cons.mpr ⟨q500, List.forall_mem_cons.mpr ⟨q519, List.forall_mem_cons.mpr ⟨q137, List.forall_mem_cons.mpr ⟨q140, List.forall_mem_cons.mpr ⟨q143, List.forall_mem_cons.mpr ⟨q146, List.forall_mem_cons.mpr ⟨q149, List.forall_mem_cons.mpr ⟨q156, List.forall_mem_cons.mpr ⟨q159, List.forall_mem_cons.mpr ⟨q164, List.forall_mem_cons.mpr ⟨q214, List.forall_mem_cons.mpr ⟨q216, List.forall_mem_cons.mpr ⟨q534, List.forall_mem_cons.mpr ⟨q680, List.forall_mem_cons.mpr ⟨q554, List.forall_mem_cons.mpr ⟨q665, fun _ h => absurd h List.not_mem_nil⟩⟩⟩⟩⟩⟩⟩⟩⟩⟩⟩⟩⟩⟩⟩⟩⟩⟩⟩⟩⟩⟩⟩⟩⟩⟩⟩⟩⟩⟩
def am_FTL : Nat → List (Nat × Nat × Nat × Nat)
  | 1 => [(10, 2, 0, 0), (16, 2, 0, 1), (19, 0, 0, 3), (23, 2, 0, 5), (27, 2, 0, 10), (30, 2, 0, 11), (33, 2, 0, 12), (36, 2, 0, 13), (39, 2, 0, 19), (43, 2, 0, 20), (46, 2, 0, 22), (50, 2, 0, 23), (53, 2, 0, 24), (56, 2, 0, 25), (59, 2, 0, 27), (62, 2, 0, 28), (65, 2, 0, 29), (68, 2, 0, 31), (71, 2, 0, 32), (74, 2, 0, 34), (77, 2, 0, 35), (80, 2, 0, 37), (83, 2, 0, 38), (86, 2, 0, 39), (94, 0, 0, 2), (110, 1, 1, 4), (113, 1, 1, 6), (120, 0, 0, 6), (123, 0, 0, 7), (126, 0, 0, 9), (135, 0, 0, 8), (160, 0, 0, 14), (188, 1, 1, 0), (191, 1, 1, 1), (194, 1, 1, 2), (197, 1, 1, 3), (204, 0, 0, 21), (207, 0, 0, 4), (248, 0, 0, 18), (256, 0, 0, 17), (259, 1, 1, 7), (268, 0, 0, 15), (271, 0, 0, 16), (282, 1, 1, 5), (285, 1, 1, 8), (288, 1, 1, 9), (338, 4, 1, 12), (344, 4, 1, 11), (347, 4, 1, 10), (378, 0, 0, 40), (385, 0, 0, 26), (410, 0, 0, 30), (471, 0, 0, 33), (487, 0, 0, 36)]
  | 2 => [(9, 2, 1, 0), (15, 2, 1, 1), (18, 2, 1, 2), (21, 2, 1, 3), (24, 2, 1, 4), (27, 2, 1, 5), (30, 2, 1, 6), (33, 2, 1, 7), (36, 2, 1, 8), (39, 2, 1, 9), (48, 0, 1, 10), (52, 0, 1, 11), (55, 0, 1, 12)]
  | 3 => [(9, 2, 2, 0), (13, 0, 2, 2), (17, 2, 2, 3), (21, 2, 2, 5), (25, 2, 2, 13), (28, 0, 2, 14), (31, 0, 2, 15), (34, 2, 2, 18), (37, 2, 2, 19), (40, 2, 2, 21), (43, 2, 2, 22), (46, 2, 2, 23), (49, 2, 2, 24), (52, 2, 2, 25), (55, 2, 2, 26), (58, 2, 2, 27), (61, 2, 2, 29), (64, 2, 2, 30), (67, 2, 2, 31), (70, 2, 2, 32), (73, 2, 2, 36), (76, 2, 2, 37), (80, 2, 2, 38), (83, 0, 2, 7), (86, 0, 2, 6), (89, 0, 2, 1), (100, 0, 2, 4), (103, 0, 2, 8), (106, 0, 2, 9), (109, 0, 2, 10), (112, 0, 2, 11), (115, 0, 2, 12), (155, 0, 2, 20), (158, 0, 2, 35), (183, 0, 2, 17), (190, 0, 2, 16), (305, 0, 2, 28), (354, 0, 2, 33), (376, 0, 2, 34)]
  | 4 => [(1, 3, 7, 0)]
  | 5 => [(1, 2, 5, 1), (13, 2, 5, 0)]
  | 6 => [(1, 2, 3, 1), (13, 2, 3, 0)]
  | 7 => [(3, 2, 4, 1), (15, 2, 4, 0), (19, 4, 0, 15), (23, 1, 1, 7), (29, 4, 0, 16), (32, 1, 1, 2), (41, 1, 1, 4), (48, 1, 1, 0), (51, 1, 1, 3), (54, 1, 1, 1), (57, 1, 1, 8), (69, 4, 1, 10)]
  | 8 => [(1, 2, 6, 3), (13, 2, 6, 0), (17, 2, 6, 1), (21, 2, 6, 2)]
  | 11 => [(9, 5, 16, 0), (15, 5, 16, 1), (38, 6, 16, 2)]
  | _ => []
/-- what a field reference names: (how it is reached, class tag, number of the field) -/
def am_FT (own idx : Nat) : Option (Nat × Nat × Nat) := ((am_FTL own).find? (fun e => e.1 == idx)).map (fun e => e.2)
/-- how a field is reached: 0 own, not final; 1 nest mate's, final (read); 2 own, final; 3 Node.this$0; 4 nest mate's, not final; 5 of a String; 6 String.COMPACT_STRINGS -/
def am_FOK (own idx acc ci k : Nat) : Prop :=
  (acc = 0 ∧ ci < 7 ∧ (k < am_N ci ∧ am_fk ci k ≠ 4) ∧ (am_T ci k).2.2.2 = false ∧ Cond.fieldLink (am_CN own) idx (am_T ci k).1 (am_T ci k).2.1 (am_T ci k).2.2.1 ∈ lw_all) ∨
  (acc = 2 ∧ ci < 7 ∧ (k < am_N ci ∧ am_fk ci k ≠ 4) ∧ (am_T ci k).2.2.2 = true ∧ (am_T ci k).1 = am_CN own ∧ Cond.fieldLink (am_CN own) idx (am_T ci k).1 (am_T ci k).2.1 (am_T ci k).2.2.1 ∈ lw_all) ∨
  (acc = 1 ∧ ci < 7 ∧ (k < am_N ci ∧ am_fk ci k ≠ 4) ∧ Cond.fieldLinkNest (am_CN own) idx (am_T ci k).1 (am_T ci k).2.1 (am_T ci k).2.2.1 RX1 ∈ am_nw) ∨
  (acc = 4 ∧ ci < 7 ∧ (k < am_N ci ∧ am_fk ci k ≠ 4) ∧ (am_T ci k).2.2.2 = false ∧ Cond.fieldLinkNest (am_CN own) idx (am_T ci k).1 (am_T ci k).2.1 (am_T ci k).2.2.1 RX1 ∈ am_nw) ∨
  (acc = 3 ∧ ci = 7 ∧ am_CN own = RX4 ∧ Cond.fieldLink (am_CN own) idx "CuckooByPost$Node" "this$0" "LCuckooByPost;" ∈ lw_all) ∨
  (acc = 5 ∧ ci = 16 ∧ k = 0 ∧ Cond.fieldLink (am_CN own) idx "java/lang/String" "value" "[B" ∈ lw_all) ∨
  (acc = 5 ∧ ci = 16 ∧ k = 1 ∧ Cond.fieldLink (am_CN own) idx "java/lang/String" "coder" "B" ∈ lw_all) ∨
  (acc = 6 ∧ ci = 16 ∧ k = 2 ∧ Cond.fieldLink (am_CN own) idx "java/lang/String" "COMPACT_STRINGS" "Z" ∈ lw_all)
theorem fo_1_10 : am_FOK 1 10 2 0 0 := Or.inr (Or.inl ⟨rfl, by decide, ⟨by decide, by decide⟩, rfl, rfl, q199⟩)
theorem ft_1_10 : am_FT 1 10 = some (2, 0, 0) := rfl
theorem fo_1_16 : am_FOK 1 16 2 0 1 := Or.inr (Or.inl ⟨rfl, by decide, ⟨by decide, by decide⟩, rfl, rfl, q200⟩)
theorem ft_1_16 : am_FT 1 16 = some (2, 0, 1) := rfl
theorem fo_1_19 : am_FOK 1 19 0 0 3 := Or.inl ⟨rfl, by decide, ⟨by decide, by decide⟩, rfl, q202⟩
theorem ft_1_19 : am_FT 1 19 = some (0, 0, 3) := rfl
theorem fo_1_23 : am_FOK 1 23 2 0 5 := Or.inr (Or.inl ⟨rfl, by decide, ⟨by decide, by decide⟩, rfl, rfl, q204⟩)
theorem ft_1_23 : am_FT 1 23 = some (2, 0, 5) := rfl
theorem fo_1_27 : am_FOK 1 27 2 0 10 := Or.inr (Or.inl ⟨rfl, by decide, ⟨by decide, by decide⟩, rfl, rfl, q209⟩)
theorem ft_1_27 : am_FT 1 27 = some (2, 0, 10) := rfl
theorem fo_1_30 : am_FOK 1 30 2 0 11 := Or.inr (Or.inl ⟨rfl, by decide, ⟨by decide, by decide⟩, rfl, rfl, q210⟩)
theorem ft_1_30 : am_FT 1 30 = some (2, 0, 11) := rfl
theorem fo_1_33 : am_FOK 1 33 2 0 12 := Or.inr (Or.inl ⟨rfl, by decide, ⟨by decide, by decide⟩, rfl, rfl, q211⟩)
theorem ft_1_33 : am_FT 1 33 = some (2, 0, 12) := rfl
theorem fo_1_36 : am_FOK 1 36 2 0 13 := Or.inr (Or.inl ⟨rfl, by decide, ⟨by decide, by decide⟩, rfl, rfl, q212⟩)
theorem ft_1_36 : am_FT 1 36 = some (2, 0, 13) := rfl
theorem fo_1_39 : am_FOK 1 39 2 0 19 := Or.inr (Or.inl ⟨rfl, by decide, ⟨by decide, by decide⟩, rfl, rfl, q220⟩)
theorem ft_1_39 : am_FT 1 39 = some (2, 0, 19) := rfl
theorem fo_1_43 : am_FOK 1 43 2 0 20 := Or.inr (Or.inl ⟨rfl, by decide, ⟨by decide, by decide⟩, rfl, rfl, q221⟩)
theorem ft_1_43 : am_FT 1 43 = some (2, 0, 20) := rfl
theorem fo_1_46 : am_FOK 1 46 2 0 22 := Or.inr (Or.inl ⟨rfl, by decide, ⟨by decide, by decide⟩, rfl, rfl, q223⟩)
theorem ft_1_46 : am_FT 1 46 = some (2, 0, 22) := rfl
theorem fo_1_50 : am_FOK 1 50 2 0 23 := Or.inr (Or.inl ⟨rfl, by decide, ⟨by decide, by decide⟩, rfl, rfl, q224⟩)
theorem ft_1_50 : am_FT 1 50 = some (2, 0, 23) := rfl
theorem fo_1_53 : am_FOK 1 53 2 0 24 := Or.inr (Or.inl ⟨rfl, by decide, ⟨by decide, by decide⟩, rfl, rfl, q225⟩)
theorem ft_1_53 : am_FT 1 53 = some (2, 0, 24) := rfl
theorem fo_1_56 : am_FOK 1 56 2 0 25 := Or.inr (Or.inl ⟨rfl, by decide, ⟨by decide, by decide⟩, rfl, rfl, q226⟩)
theorem ft_1_56 : am_FT 1 56 = some (2, 0, 25) := rfl
theorem fo_1_59 : am_FOK 1 59 2 0 27 := Or.inr (Or.inl ⟨rfl, by decide, ⟨by decide, by decide⟩, rfl, rfl, q228⟩)
theorem ft_1_59 : am_FT 1 59 = some (2, 0, 27) := rfl
theorem fo_1_62 : am_FOK 1 62 2 0 28 := Or.inr (Or.inl ⟨rfl, by decide, ⟨by decide, by decide⟩, rfl, rfl, q229⟩)
theorem ft_1_62 : am_FT 1 62 = some (2, 0, 28) := rfl
theorem fo_1_65 : am_FOK 1 65 2 0 29 := Or.inr (Or.inl ⟨rfl, by decide, ⟨by decide, by decide⟩, rfl, rfl, q230⟩)
theorem ft_1_65 : am_FT 1 65 = some (2, 0, 29) := rfl
theorem fo_1_68 : am_FOK 1 68 2 0 31 := Or.inr (Or.inl ⟨rfl, by decide, ⟨by decide, by decide⟩, rfl, rfl, q232⟩)
theorem ft_1_68 : am_FT 1 68 = some (2, 0, 31) := rfl
theorem fo_1_71 : am_FOK 1 71 2 0 32 := Or.inr (Or.inl ⟨rfl, by decide, ⟨by decide, by decide⟩, rfl, rfl, q233⟩)
theorem ft_1_71 : am_FT 1 71 = some (2, 0, 32) := rfl
theorem fo_1_74 : am_FOK 1 74 2 0 34 := Or.inr (Or.inl ⟨rfl, by decide, ⟨by decide, by decide⟩, rfl, rfl, q235⟩)
theorem ft_1_74 : am_FT 1 74 = some (2, 0, 34) := rfl
theorem fo_1_77 : am_FOK 1 77 2 0 35 := Or.inr (Or.inl ⟨rfl, by decide, ⟨by decide, by decide⟩, rfl, rfl, q236⟩)
theorem ft_1_77 : am_FT 1 77 = some (2, 0, 35) := rfl
theorem fo_1_80 : am_FOK 1 80 2 0 37 := Or.inr (Or.inl ⟨rfl, by decide, ⟨by decide, by decide⟩, rfl, rfl, q238⟩)
theorem ft_1_80 : am_FT 1 80 = some (2, 0, 37) := rfl
theorem fo_1_83 : am_FOK 1 83 2 0 38 := Or.inr (Or.inl ⟨rfl, by decide, ⟨by decide, by decide⟩, rfl, rfl, q239⟩)
theorem ft_1_83 : am_FT 1 83 = some (2, 0, 38) := rfl
theorem fo_1_86 : am_FOK 1 86 2 0 39 := Or.inr (Or.inl ⟨rfl, by decide, ⟨by decide, by decide⟩, rfl, rfl, q240⟩)
theorem ft_1_86 : am_FT 1 86 = some (2, 0, 39) := rfl
theorem fo_1_94 : am_FOK 1 94 0 0 2 := Or.inl ⟨rfl, by decide, ⟨by decide, by decide⟩, rfl, q201⟩
theorem ft_1_94 : am_FT 1 94 = some (0, 0, 2) := rfl
theorem fo_1_110 : am_FOK 1 110 1 1 4 := Or.inr (Or.inr (Or.inl ⟨rfl, by decide, ⟨by decide, by decide⟩, (List.mem_of_getElem? (i := 5) rfl)⟩))
theorem ft_1_110 : am_FT 1 110 = some (1, 1, 4) := rfl
theorem fo_1_113 : am_FOK 1 113 1 1 6 := Or.inr (Or.inr (Or.inl ⟨rfl, by decide, ⟨by decide, by decide⟩, (List.mem_of_getElem? (i := 7) rfl)⟩))
theorem ft_1_113 : am_FT 1 113 = some (1, 1, 6) := rfl
theorem fo_1_120 : am_FOK 1 120 0 0 6 := Or.inl ⟨rfl, by decide, ⟨by decide, by decide⟩, rfl, q205⟩
theorem ft_1_120 : am_FT 1 120 = some (0, 0, 6) := rfl
theorem fo_1_123 : am_FOK 1 123 0 0 7 := Or.inl ⟨rfl, by decide, ⟨by decide, by decide⟩, rfl, q206⟩
theorem ft_1_123 : am_FT 1 123 = some (0, 0, 7) := rfl
theorem fo_1_126 : am_FOK 1 126 0 0 9 := Or.inl ⟨rfl, by decide, ⟨by decide, by decide⟩, rfl, q208⟩
theorem ft_1_126 : am_FT 1 126 = some (0, 0, 9) := rfl
theorem fo_1_135 : am_FOK 1 135 0 0 8 := Or.inl ⟨rfl, by decide, ⟨by decide, by decide⟩, rfl, q207⟩
theorem ft_1_135 : am_FT 1 135 = some (0, 0, 8) := rfl
theorem fo_1_160 : am_FOK 1 160 0 0 14 := Or.inl ⟨rfl, by decide, ⟨by decide, by decide⟩, rfl, q213⟩
theorem ft_1_160 : am_FT 1 160 = some (0, 0, 14) := rfl
theorem fo_1_188 : am_FOK 1 188 1 1 0 := Or.inr (Or.inr (Or.inl ⟨rfl, by decide, ⟨by decide, by decide⟩, (List.mem_of_getElem? (i := 1) rfl)⟩))
theorem ft_1_188 : am_FT 1 188 = some (1, 1, 0) := rfl
theorem fo_1_191 : am_FOK 1 191 1 1 1 := Or.inr (Or.inr (Or.inl ⟨rfl, by decide, ⟨by decide, by decide⟩, (List.mem_of_getElem? (i := 2) rfl)⟩))
theorem ft_1_191 : am_FT 1 191 = some (1, 1, 1) := rfl
theorem fo_1_194 : am_FOK 1 194 1 1 2 := Or.inr (Or.inr (Or.inl ⟨rfl, by decide, ⟨by decide, by decide⟩, (List.mem_of_getElem? (i := 3) rfl)⟩))
theorem ft_1_194 : am_FT 1 194 = some (1, 1, 2) := rfl
theorem fo_1_197 : am_FOK 1 197 1 1 3 := Or.inr (Or.inr (Or.inl ⟨rfl, by decide, ⟨by decide, by decide⟩, (List.mem_of_getElem? (i := 4) rfl)⟩))
theorem ft_1_197 : am_FT 1 197 = some (1, 1, 3) := rfl
theorem fo_1_204 : am_FOK 1 204 0 0 21 := Or.inl ⟨rfl, by decide, ⟨by decide, by decide⟩, rfl, q222⟩
theorem ft_1_204 : am_FT 1 204 = some (0, 0, 21) := rfl
theorem fo_1_207 : am_FOK 1 207 0 0 4 := Or.inl ⟨rfl, by decide, ⟨by decide, by decide⟩, rfl, q203⟩
theorem ft_1_207 : am_FT 1 207 = some (0, 0, 4) := rfl
theorem fo_1_248 : am_FOK 1 248 0 0 18 := Or.inl ⟨rfl, by decide, ⟨by decide, by decide⟩, rfl, q219⟩
theorem ft_1_248 : am_FT 1 248 = some (0, 0, 18) := rfl
theorem fo_1_256 : am_FOK 1 256 0 0 17 := Or.inl ⟨rfl, by decide, ⟨by decide, by decide⟩, rfl, q218⟩
theorem ft_1_256 : am_FT 1 256 = some (0, 0, 17) := rfl
theorem fo_1_259 : am_FOK 1 259 1 1 7 := Or.inr (Or.inr (Or.inl ⟨rfl, by decide, ⟨by decide, by decide⟩, (List.mem_of_getElem? (i := 8) rfl)⟩))
theorem ft_1_259 : am_FT 1 259 = some (1, 1, 7) := rfl
theorem fo_1_268 : am_FOK 1 268 0 0 15 := Or.inl ⟨rfl, by decide, ⟨by decide, by decide⟩, rfl, q215⟩
theorem ft_1_268 : am_FT 1 268 = some (0, 0, 15) := rfl
theorem fo_1_271 : am_FOK 1 271 0 0 16 := Or.inl ⟨rfl, by decide, ⟨by decide, by decide⟩, rfl, q217⟩
theorem ft_1_271 : am_FT 1 271 = some (0, 0, 16) := rfl
theorem fo_1_282 : am_FOK 1 282 1 1 5 := Or.inr (Or.inr (Or.inl ⟨rfl, by decide, ⟨by decide, by decide⟩, (List.mem_of_getElem? (i := 6) rfl)⟩))
theorem ft_1_282 : am_FT 1 282 = some (1, 1, 5) := rfl
theorem fo_1_285 : am_FOK 1 285 1 1 8 := Or.inr (Or.inr (Or.inl ⟨rfl, by decide, ⟨by decide, by decide⟩, (List.mem_of_getElem? (i := 9) rfl)⟩))
theorem ft_1_285 : am_FT 1 285 = some (1, 1, 8) := rfl
theorem fo_1_288 : am_FOK 1 288 1 1 9 := Or.inr (Or.inr (Or.inl ⟨rfl, by decide, ⟨by decide, by decide⟩, (List.mem_of_getElem? (i := 10) rfl)⟩))
theorem ft_1_288 : am_FT 1 288 = some (1, 1, 9) := rfl
theorem fo_1_338 : am_FOK 1 338 4 1 12 := Or.inr (Or.inr (Or.inr (Or.inl ⟨rfl, by decide, ⟨by decide, by decide⟩, rfl, (List.mem_of_getElem? (i := 13) rfl)⟩)))
theorem ft_1_338 : am_FT 1 338 = some (4, 1, 12) := rfl
theorem fo_1_344 : am_FOK 1 344 4 1 11 := Or.inr (Or.inr (Or.inr (Or.inl ⟨rfl, by decide, ⟨by decide, by decide⟩, rfl, (List.mem_of_getElem? (i := 12) rfl)⟩)))
theorem ft_1_344 : am_FT 1 344 = some (4, 1, 11) := rfl
theorem fo_1_347 : am_FOK 1 347 4 1 10 := Or.inr (Or.inr (Or.inr (Or.inl ⟨rfl, by decide, ⟨by decide, by decide⟩, rfl, (List.mem_of_getElem? (i := 11) rfl)⟩)))
theorem ft_1_347 : am_FT 1 347 = some (4, 1, 10) := rfl
theorem fo_1_378 : am_FOK 1 378 0 0 40 := Or.inl ⟨rfl, by decide, ⟨by decide, by decide⟩, rfl, q241⟩
theorem ft_1_378 : am_FT 1 378 = some (0, 0, 40) := rfl
theorem fo_1_385 : am_FOK 1 385 0 0 26 := Or.inl ⟨rfl, by decide, ⟨by decide, by decide⟩, rfl, q227⟩
theorem ft_1_385 : am_FT 1 385 = some (0, 0, 26) := rfl
theorem fo_1_410 : am_FOK 1 410 0 0 30 := Or.inl ⟨rfl, by decide, ⟨by decide, by decide⟩, rfl, q231⟩
theorem ft_1_410 : am_FT 1 410 = some (0, 0, 30) := rfl
theorem fo_1_471 : am_FOK 1 471 0 0 33 := Or.inl ⟨rfl, by decide, ⟨by decide, by decide⟩, rfl, q234⟩
theorem ft_1_471 : am_FT 1 471 = some (0, 0, 33) := rfl
theorem fo_1_487 : am_FOK 1 487 0 0 36 := Or.inl ⟨rfl, by decide, ⟨by decide, by decide⟩, rfl, q237⟩
theorem ft_1_487 : am_FT 1 487 = some (0, 0, 36) := rfl
theorem fo_2_9 : am_FOK 2 9 2 1 0 := Or.inr (Or.inl ⟨rfl, by decide, ⟨by decide, by decide⟩, rfl, rfl, q136⟩)
theorem ft_2_9 : am_FT 2 9 = some (2, 1, 0) := rfl
theorem fo_2_15 : am_FOK 2 15 2 1 1 := Or.inr (Or.inl ⟨rfl, by decide, ⟨by decide, by decide⟩, rfl, rfl, q139⟩)
theorem ft_2_15 : am_FT 2 15 = some (2, 1, 1) := rfl
theorem fo_2_18 : am_FOK 2 18 2 1 2 := Or.inr (Or.inl ⟨rfl, by decide, ⟨by decide, by decide⟩, rfl, rfl, q142⟩)
theorem ft_2_18 : am_FT 2 18 = some (2, 1, 2) := rfl
theorem fo_2_21 : am_FOK 2 21 2 1 3 := Or.inr (Or.inl ⟨rfl, by decide, ⟨by decide, by decide⟩, rfl, rfl, q145⟩)
theorem ft_2_21 : am_FT 2 21 = some (2, 1, 3) := rfl
theorem fo_2_24 : am_FOK 2 24 2 1 4 := Or.inr (Or.inl ⟨rfl, by decide, ⟨by decide, by decide⟩, rfl, rfl, q148⟩)
theorem ft_2_24 : am_FT 2 24 = some (2, 1, 4) := rfl
theorem fo_2_27 : am_FOK 2 27 2 1 5 := Or.inr (Or.inl ⟨rfl, by decide, ⟨by decide, by decide⟩, rfl, rfl, q151⟩)
theorem ft_2_27 : am_FT 2 27 = some (2, 1, 5) := rfl
theorem fo_2_30 : am_FOK 2 30 2 1 6 := Or.inr (Or.inl ⟨rfl, by decide, ⟨by decide, by decide⟩, rfl, rfl, q153⟩)
theorem ft_2_30 : am_FT 2 30 = some (2, 1, 6) := rfl
theorem fo_2_33 : am_FOK 2 33 2 1 7 := Or.inr (Or.inl ⟨rfl, by decide, ⟨by decide, by decide⟩, rfl, rfl, q155⟩)
theorem ft_2_33 : am_FT 2 33 = some (2, 1, 7) := rfl
theorem fo_2_36 : am_FOK 2 36 2 1 8 := Or.inr (Or.inl ⟨rfl, by decide, ⟨by decide, by decide⟩, rfl, rfl, q158⟩)
theorem ft_2_36 : am_FT 2 36 = some (2, 1, 8) := rfl
theorem fo_2_39 : am_FOK 2 39 2 1 9 := Or.inr (Or.inl ⟨rfl, by decide, ⟨by decide, by decide⟩, rfl, rfl, q161⟩)
theorem ft_2_39 : am_FT 2 39 = some (2, 1, 9) := rfl
theorem fo_2_48 : am_FOK 2 48 0 1 10 := Or.inl ⟨rfl, by decide, ⟨by decide, by decide⟩, rfl, q163⟩
theorem ft_2_48 : am_FT 2 48 = some (0, 1, 10) := rfl
theorem fo_2_52 : am_FOK 2 52 0 1 11 := Or.inl ⟨rfl, by decide, ⟨by decide, by decide⟩, rfl, q166⟩
theorem ft_2_52 : am_FT 2 52 = some (0, 1, 11) := rfl
theorem fo_2_55 : am_FOK 2 55 0 1 12 := Or.inl ⟨rfl, by decide, ⟨by decide, by decide⟩, rfl, q168⟩
theorem ft_2_55 : am_FT 2 55 = some (0, 1, 12) := rfl
theorem fo_3_9 : am_FOK 3 9 2 2 0 := Or.inr (Or.inl ⟨rfl, by decide, ⟨by decide, by decide⟩, rfl, rfl, q1060⟩)
theorem ft_3_9 : am_FT 3 9 = some (2, 2, 0) := rfl
theorem fo_3_13 : am_FOK 3 13 0 2 2 := Or.inl ⟨rfl, by decide, ⟨by decide, by decide⟩, rfl, q1062⟩
theorem ft_3_13 : am_FT 3 13 = some (0, 2, 2) := rfl
theorem fo_3_17 : am_FOK 3 17 2 2 3 := Or.inr (Or.inl ⟨rfl, by decide, ⟨by decide, by decide⟩, rfl, rfl, q1063⟩)
theorem ft_3_17 : am_FT 3 17 = some (2, 2, 3) := rfl
theorem fo_3_21 : am_FOK 3 21 2 2 5 := Or.inr (Or.inl ⟨rfl, by decide, ⟨by decide, by decide⟩, rfl, rfl, q1065⟩)
theorem ft_3_21 : am_FT 3 21 = some (2, 2, 5) := rfl
theorem fo_3_25 : am_FOK 3 25 2 2 13 := Or.inr (Or.inl ⟨rfl, by decide, ⟨by decide, by decide⟩, rfl, rfl, q1073⟩)
theorem ft_3_25 : am_FT 3 25 = some (2, 2, 13) := rfl
theorem fo_3_28 : am_FOK 3 28 0 2 14 := Or.inl ⟨rfl, by decide, ⟨by decide, by decide⟩, rfl, q1074⟩
theorem ft_3_28 : am_FT 3 28 = some (0, 2, 14) := rfl
theorem fo_3_31 : am_FOK 3 31 0 2 15 := Or.inl ⟨rfl, by decide, ⟨by decide, by decide⟩, rfl, q1075⟩
theorem ft_3_31 : am_FT 3 31 = some (0, 2, 15) := rfl
theorem fo_3_34 : am_FOK 3 34 2 2 18 := Or.inr (Or.inl ⟨rfl, by decide, ⟨by decide, by decide⟩, rfl, rfl, q1078⟩)
theorem ft_3_34 : am_FT 3 34 = some (2, 2, 18) := rfl
theorem fo_3_37 : am_FOK 3 37 2 2 19 := Or.inr (Or.inl ⟨rfl, by decide, ⟨by decide, by decide⟩, rfl, rfl, q1079⟩)
theorem ft_3_37 : am_FT 3 37 = some (2, 2, 19) := rfl
theorem fo_3_40 : am_FOK 3 40 2 2 21 := Or.inr (Or.inl ⟨rfl, by decide, ⟨by decide, by decide⟩, rfl, rfl, q1081⟩)
theorem ft_3_40 : am_FT 3 40 = some (2, 2, 21) := rfl
theorem fo_3_43 : am_FOK 3 43 2 2 22 := Or.inr (Or.inl ⟨rfl, by decide, ⟨by decide, by decide⟩, rfl, rfl, q1082⟩)
theorem ft_3_43 : am_FT 3 43 = some (2, 2, 22) := rfl
theorem fo_3_46 : am_FOK 3 46 2 2 23 := Or.inr (Or.inl ⟨rfl, by decide, ⟨by decide, by decide⟩, rfl, rfl, q1083⟩)
theorem ft_3_46 : am_FT 3 46 = some (2, 2, 23) := rfl
theorem fo_3_49 : am_FOK 3 49 2 2 24 := Or.inr (Or.inl ⟨rfl, by decide, ⟨by decide, by decide⟩, rfl, rfl, q1084⟩)
theorem ft_3_49 : am_FT 3 49 = some (2, 2, 24) := rfl
theorem fo_3_52 : am_FOK 3 52 2 2 25 := Or.inr (Or.inl ⟨rfl, by decide, ⟨by decide, by decide⟩, rfl, rfl, q1085⟩)
theorem ft_3_52 : am_FT 3 52 = some (2, 2, 25) := rfl
theorem fo_3_55 : am_FOK 3 55 2 2 26 := Or.inr (Or.inl ⟨rfl, by decide, ⟨by decide, by decide⟩, rfl, rfl, q1086⟩)
theorem ft_3_55 : am_FT 3 55 = some (2, 2, 26) := rfl
theorem fo_3_58 : am_FOK 3 58 2 2 27 := Or.inr (Or.inl ⟨rfl, by decide, ⟨by decide, by decide⟩, rfl, rfl, q1087⟩)
theorem ft_3_58 : am_FT 3 58 = some (2, 2, 27) := rfl
theorem fo_3_61 : am_FOK 3 61 2 2 29 := Or.inr (Or.inl ⟨rfl, by decide, ⟨by decide, by decide⟩, rfl, rfl, q1089⟩)
theorem ft_3_61 : am_FT 3 61 = some (2, 2, 29) := rfl
theorem fo_3_64 : am_FOK 3 64 2 2 30 := Or.inr (Or.inl ⟨rfl, by decide, ⟨by decide, by decide⟩, rfl, rfl, q1090⟩)
theorem ft_3_64 : am_FT 3 64 = some (2, 2, 30) := rfl
theorem fo_3_67 : am_FOK 3 67 2 2 31 := Or.inr (Or.inl ⟨rfl, by decide, ⟨by decide, by decide⟩, rfl, rfl, q1091⟩)
theorem ft_3_67 : am_FT 3 67 = some (2, 2, 31) := rfl
theorem fo_3_70 : am_FOK 3 70 2 2 32 := Or.inr (Or.inl ⟨rfl, by decide, ⟨by decide, by decide⟩, rfl, rfl, q1092⟩)
theorem ft_3_70 : am_FT 3 70 = some (2, 2, 32) := rfl
theorem fo_3_73 : am_FOK 3 73 2 2 36 := Or.inr (Or.inl ⟨rfl, by decide, ⟨by decide, by decide⟩, rfl, rfl, q1096⟩)
theorem ft_3_73 : am_FT 3 73 = some (2, 2, 36) := rfl
theorem fo_3_76 : am_FOK 3 76 2 2 37 := Or.inr (Or.inl ⟨rfl, by decide, ⟨by decide, by decide⟩, rfl, rfl, q1097⟩)
theorem ft_3_76 : am_FT 3 76 = some (2, 2, 37) := rfl
theorem fo_3_80 : am_FOK 3 80 2 2 38 := Or.inr (Or.inl ⟨rfl, by decide, ⟨by decide, by decide⟩, rfl, rfl, q1098⟩)
theorem ft_3_80 : am_FT 3 80 = some (2, 2, 38) := rfl
theorem fo_3_83 : am_FOK 3 83 0 2 7 := Or.inl ⟨rfl, by decide, ⟨by decide, by decide⟩, rfl, q1067⟩
theorem ft_3_83 : am_FT 3 83 = some (0, 2, 7) := rfl
theorem fo_3_86 : am_FOK 3 86 0 2 6 := Or.inl ⟨rfl, by decide, ⟨by decide, by decide⟩, rfl, q1066⟩
theorem ft_3_86 : am_FT 3 86 = some (0, 2, 6) := rfl
theorem fo_3_89 : am_FOK 3 89 0 2 1 := Or.inl ⟨rfl, by decide, ⟨by decide, by decide⟩, rfl, q1061⟩
theorem ft_3_89 : am_FT 3 89 = some (0, 2, 1) := rfl
theorem fo_3_100 : am_FOK 3 100 0 2 4 := Or.inl ⟨rfl, by decide, ⟨by decide, by decide⟩, rfl, q1064⟩
theorem ft_3_100 : am_FT 3 100 = some (0, 2, 4) := rfl
theorem fo_3_103 : am_FOK 3 103 0 2 8 := Or.inl ⟨rfl, by decide, ⟨by decide, by decide⟩, rfl, q1068⟩
theorem ft_3_103 : am_FT 3 103 = some (0, 2, 8) := rfl
theorem fo_3_106 : am_FOK 3 106 0 2 9 := Or.inl ⟨rfl, by decide, ⟨by decide, by decide⟩, rfl, q1069⟩
theorem ft_3_106 : am_FT 3 106 = some (0, 2, 9) := rfl
theorem fo_3_109 : am_FOK 3 109 0 2 10 := Or.inl ⟨rfl, by decide, ⟨by decide, by decide⟩, rfl, q1070⟩
theorem ft_3_109 : am_FT 3 109 = some (0, 2, 10) := rfl
theorem fo_3_112 : am_FOK 3 112 0 2 11 := Or.inl ⟨rfl, by decide, ⟨by decide, by decide⟩, rfl, q1071⟩
theorem ft_3_112 : am_FT 3 112 = some (0, 2, 11) := rfl
theorem fo_3_115 : am_FOK 3 115 0 2 12 := Or.inl ⟨rfl, by decide, ⟨by decide, by decide⟩, rfl, q1072⟩
theorem ft_3_115 : am_FT 3 115 = some (0, 2, 12) := rfl
theorem fo_3_155 : am_FOK 3 155 0 2 20 := Or.inl ⟨rfl, by decide, ⟨by decide, by decide⟩, rfl, q1080⟩
theorem ft_3_155 : am_FT 3 155 = some (0, 2, 20) := rfl
theorem fo_3_158 : am_FOK 3 158 0 2 35 := Or.inl ⟨rfl, by decide, ⟨by decide, by decide⟩, rfl, q1095⟩
theorem ft_3_158 : am_FT 3 158 = some (0, 2, 35) := rfl
theorem fo_3_183 : am_FOK 3 183 0 2 17 := Or.inl ⟨rfl, by decide, ⟨by decide, by decide⟩, rfl, q1077⟩
theorem ft_3_183 : am_FT 3 183 = some (0, 2, 17) := rfl
theorem fo_3_190 : am_FOK 3 190 0 2 16 := Or.inl ⟨rfl, by decide, ⟨by decide, by decide⟩, rfl, q1076⟩
theorem ft_3_190 : am_FT 3 190 = some (0, 2, 16) := rfl
theorem fo_3_305 : am_FOK 3 305 0 2 28 := Or.inl ⟨rfl, by decide, ⟨by decide, by decide⟩, rfl, q1088⟩
theorem ft_3_305 : am_FT 3 305 = some (0, 2, 28) := rfl
theorem fo_3_354 : am_FOK 3 354 0 2 33 := Or.inl ⟨rfl, by decide, ⟨by decide, by decide⟩, rfl, q1093⟩
theorem ft_3_354 : am_FT 3 354 = some (0, 2, 33) := rfl
theorem fo_3_376 : am_FOK 3 376 0 2 34 := Or.inl ⟨rfl, by decide, ⟨by decide, by decide⟩, rfl, q1094⟩
theorem ft_3_376 : am_FT 3 376 = some (0, 2, 34) := rfl
theorem fo_4_1 : am_FOK 4 1 3 7 0 := Or.inr (Or.inr (Or.inr (Or.inr (Or.inl ⟨rfl, rfl, rfl, q506⟩))))
theorem ft_4_1 : am_FT 4 1 = some (3, 7, 0) := rfl
theorem fo_5_1 : am_FOK 5 1 2 5 1 := Or.inr (Or.inl ⟨rfl, by decide, ⟨by decide, by decide⟩, rfl, rfl, q505⟩)
theorem ft_5_1 : am_FT 5 1 = some (2, 5, 1) := rfl
theorem fo_5_13 : am_FOK 5 13 2 5 0 := Or.inr (Or.inl ⟨rfl, by decide, ⟨by decide, by decide⟩, rfl, rfl, q504⟩)
theorem ft_5_13 : am_FT 5 13 = some (2, 5, 0) := rfl
theorem fo_6_1 : am_FOK 6 1 2 3 1 := Or.inr (Or.inl ⟨rfl, by decide, ⟨by decide, by decide⟩, rfl, rfl, q521⟩)
theorem ft_6_1 : am_FT 6 1 = some (2, 3, 1) := rfl
theorem fo_6_13 : am_FOK 6 13 2 3 0 := Or.inr (Or.inl ⟨rfl, by decide, ⟨by decide, by decide⟩, rfl, rfl, q520⟩)
theorem ft_6_13 : am_FT 6 13 = some (2, 3, 0) := rfl
theorem fo_7_3 : am_FOK 7 3 2 4 1 := Or.inr (Or.inl ⟨rfl, by decide, ⟨by decide, by decide⟩, rfl, rfl, q536⟩)
theorem ft_7_3 : am_FT 7 3 = some (2, 4, 1) := rfl
theorem fo_7_15 : am_FOK 7 15 2 4 0 := Or.inr (Or.inl ⟨rfl, by decide, ⟨by decide, by decide⟩, rfl, rfl, q535⟩)
theorem ft_7_15 : am_FT 7 15 = some (2, 4, 0) := rfl
theorem fo_7_19 : am_FOK 7 19 4 0 15 := Or.inr (Or.inr (Or.inr (Or.inl ⟨rfl, by decide, ⟨by decide, by decide⟩, rfl, (List.mem_of_getElem? (i := 24) rfl)⟩)))
theorem ft_7_19 : am_FT 7 19 = some (4, 0, 15) := rfl
theorem fo_7_23 : am_FOK 7 23 1 1 7 := Or.inr (Or.inr (Or.inl ⟨rfl, by decide, ⟨by decide, by decide⟩, (List.mem_of_getElem? (i := 21) rfl)⟩))
theorem ft_7_23 : am_FT 7 23 = some (1, 1, 7) := rfl
theorem fo_7_29 : am_FOK 7 29 4 0 16 := Or.inr (Or.inr (Or.inr (Or.inl ⟨rfl, by decide, ⟨by decide, by decide⟩, rfl, (List.mem_of_getElem? (i := 25) rfl)⟩)))
theorem ft_7_29 : am_FT 7 29 = some (4, 0, 16) := rfl
theorem fo_7_32 : am_FOK 7 32 1 1 2 := Or.inr (Or.inr (Or.inl ⟨rfl, by decide, ⟨by decide, by decide⟩, (List.mem_of_getElem? (i := 18) rfl)⟩))
theorem ft_7_32 : am_FT 7 32 = some (1, 1, 2) := rfl
theorem fo_7_41 : am_FOK 7 41 1 1 4 := Or.inr (Or.inr (Or.inl ⟨rfl, by decide, ⟨by decide, by decide⟩, (List.mem_of_getElem? (i := 20) rfl)⟩))
theorem ft_7_41 : am_FT 7 41 = some (1, 1, 4) := rfl
theorem fo_7_48 : am_FOK 7 48 1 1 0 := Or.inr (Or.inr (Or.inl ⟨rfl, by decide, ⟨by decide, by decide⟩, (List.mem_of_getElem? (i := 16) rfl)⟩))
theorem ft_7_48 : am_FT 7 48 = some (1, 1, 0) := rfl
theorem fo_7_51 : am_FOK 7 51 1 1 3 := Or.inr (Or.inr (Or.inl ⟨rfl, by decide, ⟨by decide, by decide⟩, (List.mem_of_getElem? (i := 19) rfl)⟩))
theorem ft_7_51 : am_FT 7 51 = some (1, 1, 3) := rfl
theorem fo_7_54 : am_FOK 7 54 1 1 1 := Or.inr (Or.inr (Or.inl ⟨rfl, by decide, ⟨by decide, by decide⟩, (List.mem_of_getElem? (i := 17) rfl)⟩))
theorem ft_7_54 : am_FT 7 54 = some (1, 1, 1) := rfl
theorem fo_7_57 : am_FOK 7 57 1 1 8 := Or.inr (Or.inr (Or.inl ⟨rfl, by decide, ⟨by decide, by decide⟩, (List.mem_of_getElem? (i := 22) rfl)⟩))
theorem ft_7_57 : am_FT 7 57 = some (1, 1, 8) := rfl
theorem fo_7_69 : am_FOK 7 69 4 1 10 := Or.inr (Or.inr (Or.inr (Or.inl ⟨rfl, by decide, ⟨by decide, by decide⟩, rfl, (List.mem_of_getElem? (i := 23) rfl)⟩)))
theorem ft_7_69 : am_FT 7 69 = some (4, 1, 10) := rfl
theorem fo_8_1 : am_FOK 8 1 2 6 3 := Or.inr (Or.inl ⟨rfl, by decide, ⟨by decide, by decide⟩, rfl, rfl, q558⟩)
theorem ft_8_1 : am_FT 8 1 = some (2, 6, 3) := rfl
theorem fo_8_13 : am_FOK 8 13 2 6 0 := Or.inr (Or.inl ⟨rfl, by decide, ⟨by decide, by decide⟩, rfl, rfl, q555⟩)
theorem ft_8_13 : am_FT 8 13 = some (2, 6, 0) := rfl
theorem fo_8_17 : am_FOK 8 17 2 6 1 := Or.inr (Or.inl ⟨rfl, by decide, ⟨by decide, by decide⟩, rfl, rfl, q556⟩)
theorem ft_8_17 : am_FT 8 17 = some (2, 6, 1) := rfl
theorem fo_8_21 : am_FOK 8 21 2 6 2 := Or.inr (Or.inl ⟨rfl, by decide, ⟨by decide, by decide⟩, rfl, rfl, q557⟩)
theorem ft_8_21 : am_FT 8 21 = some (2, 6, 2) := rfl
theorem fo_11_9 : am_FOK 11 9 5 16 0 := Or.inr (Or.inr (Or.inr (Or.inr (Or.inr (Or.inl ⟨rfl, rfl, rfl, q1653⟩)))))
theorem ft_11_9 : am_FT 11 9 = some (5, 16, 0) := rfl
theorem fo_11_15 : am_FOK 11 15 5 16 1 := Or.inr (Or.inr (Or.inr (Or.inr (Or.inr (Or.inr <| Or.inl ⟨rfl, rfl, rfl, q1652⟩)))))
theorem ft_11_15 : am_FT 11 15 = some (5, 16, 1) := rfl
theorem fo_11_38 : am_FOK 11 38 6 16 2 := Or.inr (Or.inr (Or.inr (Or.inr (Or.inr (Or.inr (Or.inr ⟨rfl, rfl, rfl, q374⟩))))))
theorem ft_11_38 : am_FT 11 38 = some (6, 16, 2) := rfl
theorem am_FTL_ok1 : ∀ e ∈ am_FTL 1, am_FOK 1 e.1 e.2.1 e.2.2.1 e.2.2.2 := List.forall_mem_cons.mpr ⟨fo_1_10, List.forall_mem_cons.mpr ⟨fo_1_16, List.forall_mem_cons.mpr ⟨fo_1_19, List.forall_mem_cons.mpr ⟨fo_1_23, List.forall_mem_cons.mpr ⟨fo_1_27, List.forall_mem_cons.mpr ⟨fo_1_30, List.forall_mem_cons.mpr ⟨fo_1_33, List.forall_mem_cons.mpr ⟨fo_1_36, List.forall_mem_cons.mpr ⟨fo_1_39, List.forall_mem_cons.mpr ⟨fo_1_43, List.forall_mem_cons.mpr ⟨fo_1_46, List.forall_mem_cons.mpr ⟨fo_1_50, List.forall_mem_cons.mpr ⟨fo_1_53, List.forall_mem_cons.mpr ⟨fo_1_56, List.forall_mem_cons.mpr ⟨fo_1_59, List.forall_mem_cons.mpr ⟨fo_1_62, List.forall_mem_cons.mpr ⟨fo_1_65, List.forall_mem_cons.mpr ⟨fo_1_68, List.forall_mem_cons.mpr ⟨fo_1_71, List.forall_mem_cons.mpr ⟨fo_1_74, List.forall_mem_cons.mpr ⟨fo_1_77, List.forall_mem_cons.mpr ⟨fo_1_80, List.forall_mem_cons.mpr ⟨fo_1_83, List.forall_mem_cons.mpr ⟨fo_1_86, List.forall_mem_cons.mpr ⟨fo_1_94, List.forall_mem_cons.mpr ⟨fo_1_110, List.forall_mem_cons.mpr ⟨fo_1_113, List.forall_mem_cons.mpr ⟨fo_1_120, List.forall_mem_cons.mpr ⟨fo_1_123, List.forall_mem_cons.mpr ⟨fo_1_126, List.forall_mem_cons.mpr ⟨fo_1_135, List.forall_mem_cons.mpr ⟨fo_1_160, List.forall_mem_cons.mpr ⟨fo_1_188, List.forall_mem_cons.mpr ⟨fo_1_191, List.forall_mem_cons.mpr ⟨fo_1_194, List.forall_mem_cons.mpr ⟨fo_1_197, List.forall_mem_cons.mpr ⟨fo_1_204, List.forall_mem_cons.mpr ⟨fo_1_207, List.forall_mem_cons.mpr ⟨fo_1_248, List.forall_mem_cons.mpr ⟨fo_1_256, List.forall_mem_cons.mpr ⟨fo_1_259, List.forall_mem_cons.mpr ⟨fo_1_268, List.forall_mem_cons.mpr ⟨fo_1_271, List.forall_mem_cons.mpr ⟨fo_1_282, List.forall_mem_cons.mpr ⟨fo_1_285, List.forall_mem_cons.mpr ⟨fo_1_288, List.forall_mem_cons.mpr ⟨fo_1_338, List.forall_mem_cons.mpr ⟨fo_1_344, List.forall_mem_cons.mpr ⟨fo_1_347, List.forall_mem_cons.mpr ⟨fo_1_378, List.forall_mem_cons.mpr ⟨fo_1_385, List.forall_mem_cons.mpr ⟨fo_1_410, List.forall_mem_cons.mpr ⟨fo_1_471, List.forall_mem_cons.mpr ⟨fo_1_487, fun _ h => absurd h List.not_mem_nil⟩⟩⟩⟩⟩⟩⟩⟩⟩⟩⟩⟩⟩⟩⟩⟩⟩⟩⟩⟩⟩⟩⟩⟩⟩⟩⟩⟩⟩⟩⟩⟩⟩⟩⟩⟩⟩⟩⟩⟩⟩⟩⟩⟩⟩⟩⟩⟩⟩⟩⟩⟩⟩⟩
theorem am_FTL_ok2 : ∀ e ∈ am_FTL 2, am_FOK 2 e.1 e.2.1 e.2.2.1 e.2.2.2 := List.forall_mem_cons.mpr ⟨fo_2_9, List.forall_mem_cons.mpr ⟨fo_2_15, List.forall_mem_cons.mpr ⟨fo_2_18, List.forall_mem_cons.mpr ⟨fo_2_21, List.forall_mem_cons.mpr ⟨fo_2_24, List.forall_mem_cons.mpr ⟨fo_2_27, List.forall_mem_cons.mpr ⟨fo_2_30, List.forall_mem_cons.mpr ⟨fo_2_33, List.forall_mem_cons.mpr ⟨fo_2_36, List.forall_mem_cons.mpr ⟨fo_2_39, List.forall_mem_cons.mpr ⟨fo_2_48, List.forall_mem_cons.mpr ⟨fo_2_52, List.forall_mem_cons.mpr ⟨fo_2_55, fun _ h => absurd h List.not_mem_nil⟩⟩⟩⟩⟩⟩⟩⟩⟩⟩⟩⟩⟩
theorem am_FTL_ok3 : ∀ e ∈ am_FTL 3, am_FOK 3 e.1 e.2.1 e.2.2.1 e.2.2.2 := List.forall_mem_cons.mpr ⟨fo_3_9, List.forall_mem_cons.mpr ⟨fo_3_13, List.forall_mem_cons.mpr ⟨fo_3_17, List.forall_mem_cons.mpr ⟨fo_3_21, List.forall_mem_cons.mpr ⟨fo_3_25, List.forall_mem_cons.mpr ⟨fo_3_28, List.forall_mem_cons.mpr ⟨fo_3_31, List.forall_mem_cons.mpr ⟨fo_3_34, List.forall_mem_cons.mpr ⟨fo_3_37, List.forall_mem_cons.mpr ⟨fo_3_40, List.forall_mem_cons.mpr ⟨fo_3_43, List.forall_mem_cons.mpr ⟨fo_3_46, List.forall_mem_cons.mpr ⟨fo_3_49, List.forall_mem_cons.mpr ⟨fo_3_52, List.forall_mem_cons.mpr ⟨fo_3_55, List.forall_mem_cons.mpr ⟨fo_3_58, List.forall_mem_cons.mpr ⟨fo_3_61, List.forall_mem_cons.mpr ⟨fo_3_64, List.forall_mem_cons.mpr ⟨fo_3_67, List.forall_mem_cons.mpr ⟨fo_3_70, List.forall_mem_cons.mpr ⟨fo_3_73, List.forall_mem_cons.mpr ⟨fo_3_76, List.forall_mem_cons.mpr ⟨fo_3_80, List.forall_mem_cons.mpr ⟨fo_3_83, List.forall_mem_cons.mpr ⟨fo_3_86, List.forall_mem_cons.mpr ⟨fo_3_89, List.forall_mem_cons.mpr ⟨fo_3_100, List.forall_mem_cons.mpr ⟨fo_3_103, List.forall_mem_cons.mpr ⟨fo_3_106, List.forall_mem_cons.mpr ⟨fo_3_109, List.forall_mem_cons.mpr ⟨fo_3_112, List.forall_mem_cons.mpr ⟨fo_3_115, List.forall_mem_cons.mpr ⟨fo_3_155, List.forall_mem_cons.mpr ⟨fo_3_158, List.forall_mem_cons.mpr ⟨fo_3_183, List.forall_mem_cons.mpr ⟨fo_3_190, List.forall_mem_cons.mpr ⟨fo_3_305, List.forall_mem_cons.mpr ⟨fo_3_354, List.forall_mem_cons.mpr ⟨fo_3_376, fun _ h => absurd h List.not_mem_nil⟩⟩⟩⟩⟩⟩⟩⟩⟩⟩⟩⟩⟩⟩⟩⟩⟩⟩⟩⟩⟩⟩⟩⟩⟩⟩⟩⟩⟩⟩⟩⟩⟩⟩⟩⟩⟩⟩⟩
theorem am_FTL_ok4 : ∀ e ∈ am_FTL 4, am_FOK 4 e.1 e.2.1 e.2.2.1 e.2.2.2 := List.forall_mem_cons.mpr ⟨fo_4_1, fun _ h => absurd h List.not_mem_nil⟩
theorem am_FTL_ok5 : ∀ e ∈ am_FTL 5, am_FOK 5 e.1 e.2.1 e.2.2.1 e.2.2.2 := List.forall_mem_cons.mpr ⟨fo_5_1, List.forall_mem_cons.mpr ⟨fo_5_13, fun _ h => absurd h List.not_mem_nil⟩⟩
theorem am_FTL_ok6 : ∀ e ∈ am_FTL 6, am_FOK 6 e.1 e.2.1 e.2.2.1 e.2.2.2 := List.forall_mem_cons.mpr ⟨fo_6_1, List.forall_mem_cons.mpr ⟨fo_6_13, fun _ h => absurd h List.not_mem_nil⟩⟩
theorem am_FTL_ok7 : ∀ e ∈ am_FTL 7, am_FOK 7 e.1 e.2.1 e.2.2.1 e.2.2.2 := List.forall_mem_cons.mpr ⟨fo_7_3, List.forall_mem_cons.mpr ⟨fo_7_15, List.forall_mem_cons.mpr ⟨fo_7_19, List.forall_mem_cons.mpr ⟨fo_7_23, List.forall_mem_cons.mpr ⟨fo_7_29, List.forall_mem_cons.mpr ⟨fo_7_32, List.forall_mem_cons.mpr ⟨fo_7_41, List.forall_mem_cons.mpr ⟨fo_7_48, List.forall_mem_cons.mpr ⟨fo_7_51, List.forall_mem_cons.mpr ⟨fo_7_54, List.forall_mem_cons.mpr ⟨fo_7_57, List.forall_mem_cons.mpr ⟨fo_7_69, fun _ h => absurd h List.not_mem_nil⟩⟩⟩⟩⟩⟩⟩⟩⟩⟩⟩⟩
theorem am_FTL_ok8 : ∀ e ∈ am_FTL 8, am_FOK 8 e.1 e.2.1 e.2.2.1 e.2.2.2 := List.forall_mem_cons.mpr ⟨fo_8_1, List.forall_mem_cons.mpr ⟨fo_8_13, List.forall_mem_cons.mpr ⟨fo_8_17, List.forall_mem_cons.mpr ⟨fo_8_21, fun _ h => absurd h List.not_mem_nil⟩⟩⟩⟩
theorem am_FTL_ok11 : ∀ e ∈ am_FTL 11, am_FOK 11 e.1 e.2.1 e.2.2.1 e.2.2.2 := List.forall_mem_cons.mpr ⟨fo_11_9, List.forall_mem_cons.mpr ⟨fo_11_15, List.forall_mem_cons.mpr ⟨fo_11_38, fun _ h => absurd h List.not_mem_nil⟩⟩⟩
theorem am_FTL_ok (own : Nat) : ∀ e ∈ am_FTL own, am_FOK own e.1 e.2.1 e.2.2.1 e.2.2.2 := by
  match own with
  | 0 => exact fun _ h => absurd h List.not_mem_nil
  | 1 => exact am_FTL_ok1
  | 2 => exact am_FTL_ok2
  | 3 => exact am_FTL_ok3
  | 4 => exact am_FTL_ok4
  | 5 => exact am_FTL_ok5
  | 6 => exact am_FTL_ok6
  | 7 => exact am_FTL_ok7
  | 8 => exact am_FTL_ok8
  | 9 => exact fun _ h => absurd h List.not_mem_nil
  | 10 => exact fun _ h => absurd h List.not_mem_nil
  | 11 => exact am_FTL_ok11
  | n + 12 => exact fun _ h => absurd h List.not_mem_nil
theorem am_FT_ok {own idx acc ci k : Nat} (h : am_FT own idx = some (acc, ci, k)) : am_FOK own idx acc ci k := by
  unfold am_FT at h
  rw [Option.map_eq_some_iff] at h
  obtain ⟨e, he, h2⟩ := h
  have h3 := List.find?_some he
  have h4 := am_FTL_ok own e (List.mem_of_find?_eq_some he)
  have h5 : e.1 = idx := eq_of_beq h3
  rw [h5, h2] at h4
  exact h4
def am_KIL : Nat → List (Nat × Int32)
  | 1 => [(423, 1000000), (490, 1103515245)]
  | 3 => [(318, 2000000000), (379, 1103515245)]
  | 13 => [(264, 65536), (265, 1431655765), (266, 858993459), (267, 252645135)]
  | _ => []
def am_KI (own idx : Nat) : Option Int32 := ((am_KIL own).find? (fun e => e.1 == idx)).map (fun e => e.2)
theorem am_KIL_ok (own : Nat) : ∀ e ∈ am_KIL own, Jvm.Cond.constant (am_CN own) e.1 e.2 ∈ lw_all := by
  match own with
  | 0 => exact fun _ h => absurd h List.not_mem_nil
  | 1 => exact List.forall_mem_cons.mpr ⟨q807, List.forall_mem_cons.mpr ⟨q958, fun _ h => absurd h List.not_mem_nil⟩⟩
  | 2 => exact fun _ h => absurd h List.not_mem_nil
  | 3 => exact List.forall_mem_cons.mpr ⟨q1483, List.forall_mem_cons.mpr ⟨q1620, fun _ h => absurd h List.not_mem_nil⟩⟩
  | 4 => exact fun _ h => absurd h List.not_mem_nil
  | 5 => exact fun _ h => absurd h List.not_mem_nil
  | 6 => exact fun _ h => absurd h List.not_mem_nil
  | 7 => exact fun _ h => absurd h List.not_mem_nil
  | 8 => exact fun _ h => absurd h List.not_mem_nil
  | 9 => exact fun _ h => absurd h List.not_mem_nil
  | 10 => exact fun _ h => absurd h List.not_mem_nil
  | 11 => exact fun _ h => absurd h List.not_mem_nil
  | 12 => exact fun _ h => absurd h List.not_mem_nil
  | 13 => exact List.forall_mem_cons.mpr ⟨q877, List.forall_mem_cons.mpr ⟨q618, List.forall_mem_cons.mpr ⟨q619, List.forall_mem_cons.mpr ⟨q620, fun _ h => absurd h List.not_mem_nil⟩⟩⟩⟩
  | n + 14 => exact fun _ h => absurd h List.not_mem_nil
theorem am_KI_ok {own idx : Nat} {v : Int32} (h : am_KI own idx = some v) : Jvm.Cond.constant (am_CN own) idx v ∈ lw_all := by
  unfold am_KI at h
  rw [Option.map_eq_some_iff] at h
  obtain ⟨e, he, h2⟩ := h
  have h3 := List.find?_some he
  have h4 := am_KIL_ok own e (List.mem_of_find?_eq_some he)
  have h5 : e.1 = idx := eq_of_beq h3
  rw [h5, h2] at h4
  exact h4
theorem ki_1_423 : am_KI 1 423 = some (1000000) := rfl
theorem ki_1_490 : am_KI 1 490 = some (1103515245) := rfl
theorem ki_3_318 : am_KI 3 318 = some (2000000000) := rfl
theorem ki_3_379 : am_KI 3 379 = some (1103515245) := rfl
theorem ki_13_264 : am_KI 13 264 = some (65536) := rfl
theorem ki_13_265 : am_KI 13 265 = some (1431655765) := rfl
theorem ki_13_266 : am_KI 13 266 = some (858993459) := rfl
theorem ki_13_267 : am_KI 13 267 = some (252645135) := rfl
def am_KLL : Nat → List (Nat × Int64)
  | 1 => [(105, 9), (152, 48), (154, 57), (295, 3), (372, 60), (408, 99), (430, 20), (438, 30), (461, 10), (463, 8), (469, 4)]
  | 3 => [(319, -1)]
  | _ => []
def am_KL (own idx : Nat) : Option Int64 := ((am_KLL own).find? (fun e => e.1 == idx)).map (fun e => e.2)
theorem am_KLL_ok (own : Nat) : ∀ e ∈ am_KLL own, Jvm.Cond.constantLong (am_CN own) e.1 e.2 ∈ lw_all := by
  match own with
  | 0 => exact fun _ h => absurd h List.not_mem_nil
  | 1 => exact List.forall_mem_cons.mpr ⟨q573, List.forall_mem_cons.mpr ⟨q455, List.forall_mem_cons.mpr ⟨q456, List.forall_mem_cons.mpr ⟨q578, List.forall_mem_cons.mpr ⟨q715, List.forall_mem_cons.mpr ⟨q781, List.forall_mem_cons.mpr ⟨q828, List.forall_mem_cons.mpr ⟨q845, List.forall_mem_cons.mpr ⟨q902, List.forall_mem_cons.mpr ⟨q903, List.forall_mem_cons.mpr ⟨q914, fun _ h => absurd h List.not_mem_nil⟩⟩⟩⟩⟩⟩⟩⟩⟩⟩⟩
  | 2 => exact fun _ h => absurd h List.not_mem_nil
  | 3 => exact List.forall_mem_cons.mpr ⟨q1488, fun _ h => absurd h List.not_mem_nil⟩
  | n + 4 => exact fun _ h => absurd h List.not_mem_nil
theorem am_KL_ok {own idx : Nat} {v : Int64} (h : am_KL own idx = some v) : Jvm.Cond.constantLong (am_CN own) idx v ∈ lw_all := by
  unfold am_KL at h
  rw [Option.map_eq_some_iff] at h
  obtain ⟨e, he, h2⟩ := h
  have h3 := List.find?_some he
  have h4 := am_KLL_ok own e (List.mem_of_find?_eq_some he)
  have h5 : e.1 = idx := eq_of_beq h3
  rw [h5, h2] at h4
  exact h4
theorem kl_1_105 : am_KL 1 105 = some (9) := rfl
theorem kl_1_152 : am_KL 1 152 = some (48) := rfl
theorem kl_1_154 : am_KL 1 154 = some (57) := rfl
theorem kl_1_295 : am_KL 1 295 = some (3) := rfl
theorem kl_1_372 : am_KL 1 372 = some (60) := rfl
theorem kl_1_408 : am_KL 1 408 = some (99) := rfl
theorem kl_1_430 : am_KL 1 430 = some (20) := rfl
theorem kl_1_438 : am_KL 1 438 = some (30) := rfl
theorem kl_1_461 : am_KL 1 461 = some (10) := rfl
theorem kl_1_463 : am_KL 1 463 = some (8) := rfl
theorem kl_1_469 : am_KL 1 469 = some (4) := rfl
theorem kl_3_319 : am_KL 3 319 = some (-1) := rfl
/-- String constants, all of CuckooByPost: (entry, number) -/
def am_KSL : List (Nat × String) := [(163, "wpdr"), (168, "123456789"), (173, "012345"), (224, "cnkosaxd"), (233, "<>="), (235, "+-"), (237, "*/"), (388, "nrltxd")]
def am_ix (i : Nat) : Nat := match i with
  | 0 => 163
  | 1 => 168
  | 2 => 173
  | 3 => 224
  | 4 => 233
  | 5 => 235
  | 6 => 237
  | _ => 388
def am_tx (i : Nat) : String := match i with
  | 0 => "wpdr"
  | 1 => "123456789"
  | 2 => "012345"
  | 3 => "cnkosaxd"
  | 4 => "<>="
  | 5 => "+-"
  | 6 => "*/"
  | _ => "nrltxd"
def am_KS (own idx : Nat) : Option Nat := if own = 1 then (if idx = 163 then some 0 else if idx = 168 then some 1 else if idx = 173 then some 2 else if idx = 224 then some 3 else if idx = 233 then some 4 else if idx = 235 then some 5 else if idx = 237 then some 6 else if idx = 388 then some 7 else none) else none
theorem am_KS_ok {own idx i : Nat} (h : am_KS own idx = some i) : own = 1 ∧ i < 8 ∧ am_ix i = idx := by
  unfold am_KS at h
  split at h
  · rename_i h1
    refine ⟨h1, ?_⟩
    repeat' split at h
    all_goals first | (cases h; subst_vars; exact ⟨by decide, rfl⟩) | cases h
  · cases h
theorem ks_1_163 : am_KS 1 163 = some 0 := rfl
theorem ks_1_168 : am_KS 1 168 = some 1 := rfl
theorem ks_1_173 : am_KS 1 173 = some 2 := rfl
theorem ks_1_224 : am_KS 1 224 = some 3 := rfl
theorem ks_1_233 : am_KS 1 233 = some 4 := rfl
theorem ks_1_235 : am_KS 1 235 = some 5 := rfl
theorem ks_1_237 : am_KS 1 237 = some 6 := rfl
theorem ks_1_388 : am_KS 1 388 = some 7 := rfl
def am_len : List Nat := [4, 9, 6, 8, 3, 2, 2, 6]
def am_byt : List (List Int32) := [[119, 112, 100, 114], [49, 50, 51, 52, 53, 54, 55, 56, 57], [48, 49, 50, 51, 52, 53], [99, 110, 107, 111, 115, 97, 120, 100], [60, 62, 61], [43, 45], [42, 47], [110, 114, 108, 116, 120, 100]]
theorem am_sr0 : (Jvm.Cond.stringRef RX1 (am_ix 0) (am_tx 0)) ∈ lw_tbl := q353
theorem am_sr1 : (Jvm.Cond.stringRef RX1 (am_ix 1) (am_tx 1)) ∈ lw_tbl := q446
theorem am_sr2 : (Jvm.Cond.stringRef RX1 (am_ix 2) (am_tx 2)) ∈ lw_tbl := q457
theorem am_sr3 : (Jvm.Cond.stringRef RX1 (am_ix 3) (am_tx 3)) ∈ lw_tbl := q528
theorem am_sr4 : (Jvm.Cond.stringRef RX1 (am_ix 4) (am_tx 4)) ∈ lw_tbl := q546
theorem am_sr5 : (Jvm.Cond.stringRef RX1 (am_ix 5) (am_tx 5)) ∈ lw_tbl := q547
theorem am_sr6 : (Jvm.Cond.stringRef RX1 (am_ix 6) (am_tx 6)) ∈ lw_tbl := q548
theorem am_sr7 : (Jvm.Cond.stringRef RX1 (am_ix 7) (am_tx 7)) ∈ lw_tbl := q741
def am_GM (mi : am_MI) : Prop := am_CN (am_own mi) = (am_y mi).cls ∧ plainName (am_y mi).cls = true ∧ (am_flg mi = 1 → (am_y mi).name = "<init>") ∧ am_mL mi ≤ 60 ∧ ((am_y mi).cls ≠ "java/lang/invoke/MethodHandle" ∧ (am_y mi).cls ≠ "java/lang/invoke/VarHandle")
def mJ1_indexOf : am_MI := (11, 0, yJ1_indexOf, cJ1_indexOf, 2, (some .int))
theorem gm_J1_indexOf : am_GM mJ1_indexOf := ⟨rfl, rfl, fun h => absurd h (by decide), by decide, by decide, by decide⟩
def mJ1_indexOf_2 : am_MI := (11, 0, yJ1_indexOf_2, cJ1_indexOf_2, 3, (some .int))
theorem gm_J1_indexOf_2 : am_GM mJ1_indexOf_2 := ⟨rfl, rfl, fun h => absurd h (by decide), by decide, by decide, by decide⟩
def mJ1_isLatin1 : am_MI := (11, 0, yJ1_isLatin1, cJ1_isLatin1, 1, (some .boolean))
theorem gm_J1_isLatin1 : am_GM mJ1_isLatin1 := ⟨rfl, rfl, fun h => absurd h (by decide), by decide, by decide, by decide⟩
def mJ1_length : am_MI := (11, 0, yJ1_length, cJ1_length, 1, (some .int))
theorem gm_J1_length : am_GM mJ1_length := ⟨rfl, rfl, fun h => absurd h (by decide), by decide, by decide, by decide⟩
def mJ1_coder : am_MI := (11, 0, yJ1_coder, cJ1_coder, 1, (some .byte))
theorem gm_J1_coder : am_GM mJ1_coder := ⟨rfl, rfl, fun h => absurd h (by decide), by decide, by decide, by decide⟩
def mJ1_checkBoundsBeginEnd : am_MI := (11, 0, yJ1_checkBoundsBeginEnd, cJ1_checkBoundsBeginEnd, 3, none)
theorem gm_J1_checkBoundsBeginEnd : am_GM mJ1_checkBoundsBeginEnd := ⟨rfl, rfl, fun h => absurd h (by decide), by decide, by decide, by decide⟩
def mJ10_bitCount : am_MI := (13, 0, yJ10_bitCount, cJ10_bitCount, 1, (some .int))
theorem gm_J10_bitCount : am_GM mJ10_bitCount := ⟨rfl, rfl, fun h => absurd h (by decide), by decide, by decide, by decide⟩
def mJ10_numberOfTrailingZeros : am_MI := (13, 0, yJ10_numberOfTrailingZeros, cJ10_numberOfTrailingZeros, 2, (some .int))
theorem gm_J10_numberOfTrailingZeros : am_GM mJ10_numberOfTrailingZeros := ⟨rfl, rfl, fun h => absurd h (by decide), by decide, by decide, by decide⟩
def mJ11_init : am_MI := (14, 1, yJ11_init, cJ11_init, 1, none)
def mJ2_indexOf : am_MI := (12, 0, yJ2_indexOf, cJ2_indexOf, 4, (some .int))
theorem gm_J2_indexOf : am_GM mJ2_indexOf := ⟨rfl, rfl, fun h => absurd h (by decide), by decide, by decide, by decide⟩
def mJ2_canEncode : am_MI := (12, 0, yJ2_canEncode, cJ2_canEncode, 1, (some .boolean))
theorem gm_J2_canEncode : am_GM mJ2_canEncode := ⟨rfl, rfl, fun h => absurd h (by decide), by decide, by decide, by decide⟩
def mJ2_indexOfChar : am_MI := (12, 0, yJ2_indexOfChar, cJ2_indexOfChar, 6, (some .int))
theorem gm_J2_indexOfChar : am_GM mJ2_indexOfChar := ⟨rfl, rfl, fun h => absurd h (by decide), by decide, by decide, by decide⟩
def mX1_init : am_MI := (1, 1, yX1_init, cX1_init, 1, none)
theorem gm_X1_init : am_GM mX1_init := ⟨rfl, rfl, fun _ => rfl, by decide, by decide, by decide⟩
def mX1_sign : am_MI := (1, 0, yX1_sign, cX1_sign, 3, (some .int))
theorem gm_X1_sign : am_GM mX1_sign := ⟨rfl, rfl, fun h => absurd h (by decide), by decide, by decide, by decide⟩
def mX1_end : am_MI := (1, 0, yX1_end, cX1_end, 2, (some .boolean))
theorem gm_X1_end : am_GM mX1_end := ⟨rfl, rfl, fun h => absurd h (by decide), by decide, by decide, by decide⟩
def mX1_in : am_MI := (1, 0, yX1_in, cX1_in, 6, (some .boolean))
theorem gm_X1_in : am_GM mX1_in := ⟨rfl, rfl, fun h => absurd h (by decide), by decide, by decide, by decide⟩
def mX1_nests : am_MI := (1, 0, yX1_nests, cX1_nests, 6, (some .int))
theorem gm_X1_nests : am_GM mX1_nests := ⟨rfl, rfl, fun h => absurd h (by decide), by decide, by decide, by decide⟩
def mX1_begins : am_MI := (1, 0, yX1_begins, cX1_begins, 3, (some .int))
theorem gm_X1_begins : am_GM mX1_begins := ⟨rfl, rfl, fun h => absurd h (by decide), by decide, by decide, by decide⟩
def mX1_readsNest : am_MI := (1, 0, yX1_readsNest, cX1_readsNest, 2, (some .boolean))
theorem gm_X1_readsNest : am_GM mX1_readsNest := ⟨rfl, rfl, fun h => absurd h (by decide), by decide, by decide, by decide⟩
def mX1_takesOf : am_MI := (1, 0, yX1_takesOf, cX1_takesOf, 3, (some .int))
theorem gm_X1_takesOf : am_GM mX1_takesOf := ⟨rfl, rfl, fun h => absurd h (by decide), by decide, by decide, by decide⟩
def mX1_among : am_MI := (1, 0, yX1_among, cX1_among, 2, (some .int))
theorem gm_X1_among : am_GM mX1_among := ⟨rfl, rfl, fun h => absurd h (by decide), by decide, by decide, by decide⟩
def mX1_number : am_MI := (1, 0, yX1_number, cX1_number, 4, (some .int))
theorem gm_X1_number : am_GM mX1_number := ⟨rfl, rfl, fun h => absurd h (by decide), by decide, by decide, by decide⟩
def mX1_isDigit : am_MI := (1, 0, yX1_isDigit, cX1_isDigit, 1, (some .boolean))
theorem gm_X1_isDigit : am_GM mX1_isDigit := ⟨rfl, rfl, fun h => absurd h (by decide), by decide, by decide, by decide⟩
def mX1_takes : am_MI := (1, 0, yX1_takes, cX1_takes, 3, (some .boolean))
theorem gm_X1_takes : am_GM mX1_takes := ⟨rfl, rfl, fun h => absurd h (by decide), by decide, by decide, by decide⟩
def mX1_isAt : am_MI := (1, 0, yX1_isAt, cX1_isAt, 2, (some .boolean))
theorem gm_X1_isAt : am_GM mX1_isAt := ⟨rfl, rfl, fun h => absurd h (by decide), by decide, by decide, by decide⟩
def mX1_faultOf : am_MI := (1, 0, yX1_faultOf, cX1_faultOf, 4, (some .int))
theorem gm_X1_faultOf : am_GM mX1_faultOf := ⟨rfl, rfl, fun h => absurd h (by decide), by decide, by decide, by decide⟩
def mX1_rule : am_MI := (1, 0, yX1_rule, cX1_rule, 2, (some .int))
theorem gm_X1_rule : am_GM mX1_rule := ⟨rfl, rfl, fun h => absurd h (by decide), by decide, by decide, by decide⟩
def mX1_readsRule : am_MI := (1, 0, yX1_readsRule, cX1_readsRule, 2, (some .int))
theorem gm_X1_readsRule : am_GM mX1_readsRule := ⟨rfl, rfl, fun h => absurd h (by decide), by decide, by decide, by decide⟩
def mX1_reads : am_MI := (1, 0, yX1_reads, cX1_reads, 6, (some (.object "CuckooByPost$Node")))
theorem gm_X1_reads : am_GM mX1_reads := ⟨rfl, rfl, fun h => absurd h (by decide), by decide, by decide, by decide⟩
def mX1_readsThing : am_MI := (1, 0, yX1_readsThing, cX1_readsThing, 2, (some (.object "CuckooByPost$Node")))
theorem gm_X1_readsThing : am_GM mX1_readsThing := ⟨rfl, rfl, fun h => absurd h (by decide), by decide, by decide, by decide⟩
def mX1_acts : am_MI := (1, 0, yX1_acts, cX1_acts, 1, (some (.object "java/lang/String")))
theorem gm_X1_acts : am_GM mX1_acts := ⟨rfl, rfl, fun h => absurd h (by decide), by decide, by decide, by decide⟩
def mX1_clear : am_MI := (1, 0, yX1_clear, cX1_clear, 3, (some .int))
theorem gm_X1_clear : am_GM mX1_clear := ⟨rfl, rfl, fun h => absurd h (by decide), by decide, by decide, by decide⟩
def mX1_sheet : am_MI := (1, 0, yX1_sheet, cX1_sheet, 8, (some .int))
theorem gm_X1_sheet : am_GM mX1_sheet := ⟨rfl, rfl, fun h => absurd h (by decide), by decide, by decide, by decide⟩
def mX1_sumOf : am_MI := (1, 0, yX1_sumOf, cX1_sumOf, 4, (some .int))
theorem gm_X1_sumOf : am_GM mX1_sumOf := ⟨rfl, rfl, fun h => absurd h (by decide), by decide, by decide, by decide⟩
def mX1_undo : am_MI := (1, 0, yX1_undo, cX1_undo, 1, (some .int))
theorem gm_X1_undo : am_GM mX1_undo := ⟨rfl, rfl, fun h => absurd h (by decide), by decide, by decide, by decide⟩
def mX1_announce : am_MI := (1, 0, yX1_announce, cX1_announce, 2, (some .int))
theorem gm_X1_announce : am_GM mX1_announce := ⟨rfl, rfl, fun h => absurd h (by decide), by decide, by decide, by decide⟩
def mX1_announces : am_MI := (1, 0, yX1_announces, cX1_announces, 3, (some .int))
theorem gm_X1_announces : am_GM mX1_announces := ⟨rfl, rfl, fun h => absurd h (by decide), by decide, by decide, by decide⟩
def mX1_isNest : am_MI := (1, 0, yX1_isNest, cX1_isNest, 2, (some .boolean))
theorem gm_X1_isNest : am_GM mX1_isNest := ⟨rfl, rfl, fun h => absurd h (by decide), by decide, by decide, by decide⟩
def mX1_noticed : am_MI := (1, 0, yX1_noticed, cX1_noticed, 4, (some .int))
theorem gm_X1_noticed : am_GM mX1_noticed := ⟨rfl, rfl, fun h => absurd h (by decide), by decide, by decide, by decide⟩
def mX1_counts : am_MI := (1, 0, yX1_counts, cX1_counts, 2, (some .int))
theorem gm_X1_counts : am_GM mX1_counts := ⟨rfl, rfl, fun h => absurd h (by decide), by decide, by decide, by decide⟩
def mX1_putsBy : am_MI := (1, 0, yX1_putsBy, cX1_putsBy, 4, none)
theorem gm_X1_putsBy : am_GM mX1_putsBy := ⟨rfl, rfl, fun h => absurd h (by decide), by decide, by decide, by decide⟩
def mX1_reply : am_MI := (1, 0, yX1_reply, cX1_reply, 2, (some .int))
theorem gm_X1_reply : am_GM mX1_reply := ⟨rfl, rfl, fun h => absurd h (by decide), by decide, by decide, by decide⟩
def mX1_repliesTo : am_MI := (1, 0, yX1_repliesTo, cX1_repliesTo, 3, (some .int))
theorem gm_X1_repliesTo : am_GM mX1_repliesTo := ⟨rfl, rfl, fun h => absurd h (by decide), by decide, by decide, by decide⟩
def mX1_lay : am_MI := (1, 0, yX1_lay, cX1_lay, 3, (some .int))
theorem gm_X1_lay : am_GM mX1_lay := ⟨rfl, rfl, fun h => absurd h (by decide), by decide, by decide, by decide⟩
def mX1_lays : am_MI := (1, 0, yX1_lays, cX1_lays, 4, (some .int))
theorem gm_X1_lays : am_GM mX1_lays := ⟨rfl, rfl, fun h => absurd h (by decide), by decide, by decide, by decide⟩
def mX1_isColour : am_MI := (1, 0, yX1_isColour, cX1_isColour, 1, (some .boolean))
theorem gm_X1_isColour : am_GM mX1_isColour := ⟨rfl, rfl, fun h => absurd h (by decide), by decide, by decide, by decide⟩
def mX1_isInTime : am_MI := (1, 0, yX1_isInTime, cX1_isInTime, 3, (some .boolean))
theorem gm_X1_isInTime : am_GM mX1_isInTime := ⟨rfl, rfl, fun h => absurd h (by decide), by decide, by decide, by decide⟩
def mX1_oddOf : am_MI := (1, 0, yX1_oddOf, cX1_oddOf, 3, (some .int))
theorem gm_X1_oddOf : am_GM mX1_oddOf := ⟨rfl, rfl, fun h => absurd h (by decide), by decide, by decide, by decide⟩
def mX1_guests : am_MI := (1, 0, yX1_guests, cX1_guests, 5, (some .int))
theorem gm_X1_guests : am_GM mX1_guests := ⟨rfl, rfl, fun h => absurd h (by decide), by decide, by decide, by decide⟩
def mX1_tint : am_MI := (1, 0, yX1_tint, cX1_tint, 3, (some .int))
theorem gm_X1_tint : am_GM mX1_tint := ⟨rfl, rfl, fun h => absurd h (by decide), by decide, by decide, by decide⟩
def mX1_tints : am_MI := (1, 0, yX1_tints, cX1_tints, 5, (some .int))
theorem gm_X1_tints : am_GM mX1_tints := ⟨rfl, rfl, fun h => absurd h (by decide), by decide, by decide, by decide⟩
def mX1_exchange : am_MI := (1, 0, yX1_exchange, cX1_exchange, 3, (some .int))
theorem gm_X1_exchange : am_GM mX1_exchange := ⟨rfl, rfl, fun h => absurd h (by decide), by decide, by decide, by decide⟩
def mX1_exchanges : am_MI := (1, 0, yX1_exchanges, cX1_exchanges, 4, (some .int))
theorem gm_X1_exchanges : am_GM mX1_exchanges := ⟨rfl, rfl, fun h => absurd h (by decide), by decide, by decide, by decide⟩
def mX1_isPair : am_MI := (1, 0, yX1_isPair, cX1_isPair, 3, (some .boolean))
theorem gm_X1_isPair : am_GM mX1_isPair := ⟨rfl, rfl, fun h => absurd h (by decide), by decide, by decide, by decide⟩
def mX1_swaps : am_MI := (1, 0, yX1_swaps, cX1_swaps, 4, none)
theorem gm_X1_swaps : am_GM mX1_swaps := ⟨rfl, rfl, fun h => absurd h (by decide), by decide, by decide, by decide⟩
def mX1_days : am_MI := (1, 0, yX1_days, cX1_days, 4, (some .int))
theorem gm_X1_days : am_GM mX1_days := ⟨rfl, rfl, fun h => absurd h (by decide), by decide, by decide, by decide⟩
def mX1_daysGo : am_MI := (1, 0, yX1_daysGo, cX1_daysGo, 4, none)
theorem gm_X1_daysGo : am_GM mX1_daysGo := ⟨rfl, rfl, fun h => absurd h (by decide), by decide, by decide, by decide⟩
def mX1_dayGoes : am_MI := (1, 0, yX1_dayGoes, cX1_dayGoes, 4, none)
theorem gm_X1_dayGoes : am_GM mX1_dayGoes := ⟨rfl, rfl, fun h => absurd h (by decide), by decide, by decide, by decide⟩
def mX1_has : am_MI := (1, 0, yX1_has, cX1_has, 2, (some .boolean))
theorem gm_X1_has : am_GM mX1_has := ⟨rfl, rfl, fun h => absurd h (by decide), by decide, by decide, by decide⟩
def mX1_tells : am_MI := (1, 0, yX1_tells, cX1_tells, 3, none)
theorem gm_X1_tells : am_GM mX1_tells := ⟨rfl, rfl, fun h => absurd h (by decide), by decide, by decide, by decide⟩
def mX1_spring : am_MI := (1, 0, yX1_spring, cX1_spring, 5, (some .int))
theorem gm_X1_spring : am_GM mX1_spring := ⟨rfl, rfl, fun h => absurd h (by decide), by decide, by decide, by decide⟩
def mX1_readsAct : am_MI := (1, 0, yX1_readsAct, cX1_readsAct, 3, (some .boolean))
theorem gm_X1_readsAct : am_GM mX1_readsAct := ⟨rfl, rfl, fun h => absurd h (by decide), by decide, by decide, by decide⟩
def mX1_does : am_MI := (1, 0, yX1_does, cX1_does, 4, (some .boolean))
theorem gm_X1_does : am_GM mX1_does := ⟨rfl, rfl, fun h => absurd h (by decide), by decide, by decide, by decide⟩
def mX1_odd : am_MI := (1, 0, yX1_odd, cX1_odd, 3, (some .int))
theorem gm_X1_odd : am_GM mX1_odd := ⟨rfl, rfl, fun h => absurd h (by decide), by decide, by decide, by decide⟩
def mX1_oddIf : am_MI := (1, 0, yX1_oddIf, cX1_oddIf, 3, (some .int))
theorem gm_X1_oddIf : am_GM mX1_oddIf := ⟨rfl, rfl, fun h => absurd h (by decide), by decide, by decide, by decide⟩
def mX1_shown : am_MI := (1, 0, yX1_shown, cX1_shown, 1, (some .int))
theorem gm_X1_shown : am_GM mX1_shown := ⟨rfl, rfl, fun h => absurd h (by decide), by decide, by decide, by decide⟩
def mX1_colours : am_MI := (1, 0, yX1_colours, cX1_colours, 5, (some .int))
theorem gm_X1_colours : am_GM mX1_colours := ⟨rfl, rfl, fun h => absurd h (by decide), by decide, by decide, by decide⟩
def mX1_where : am_MI := (1, 0, yX1_where, cX1_where, 6, (some .int))
theorem gm_X1_where : am_GM mX1_where := ⟨rfl, rfl, fun h => absurd h (by decide), by decide, by decide, by decide⟩
def mX1_isFree : am_MI := (1, 0, yX1_isFree, cX1_isFree, 3, (some .boolean))
theorem gm_X1_isFree : am_GM mX1_isFree := ⟨rfl, rfl, fun h => absurd h (by decide), by decide, by decide, by decide⟩
def mX1_flies : am_MI := (1, 0, yX1_flies, cX1_flies, 4, (some .int))
theorem gm_X1_flies : am_GM mX1_flies := ⟨rfl, rfl, fun h => absurd h (by decide), by decide, by decide, by decide⟩
def mX1_fliesIn : am_MI := (1, 0, yX1_fliesIn, cX1_fliesIn, 4, (some .int))
theorem gm_X1_fliesIn : am_GM mX1_fliesIn := ⟨rfl, rfl, fun h => absurd h (by decide), by decide, by decide, by decide⟩
def mX1_later : am_MI := (1, 0, yX1_later, cX1_later, 2, (some .int))
theorem gm_X1_later : am_GM mX1_later := ⟨rfl, rfl, fun h => absurd h (by decide), by decide, by decide, by decide⟩
def mX1_place : am_MI := (1, 0, yX1_place, cX1_place, 3, (some .int))
theorem gm_X1_place : am_GM mX1_place := ⟨rfl, rfl, fun h => absurd h (by decide), by decide, by decide, by decide⟩
def mX1_placesFrom : am_MI := (1, 0, yX1_placesFrom, cX1_placesFrom, 5, none)
theorem gm_X1_placesFrom : am_GM mX1_placesFrom := ⟨rfl, rfl, fun h => absurd h (by decide), by decide, by decide, by decide⟩
def mX1_suspects : am_MI := (1, 0, yX1_suspects, cX1_suspects, 5, (some .int))
theorem gm_X1_suspects : am_GM mX1_suspects := ⟨rfl, rfl, fun h => absurd h (by decide), by decide, by decide, by decide⟩
def mX1_tinting : am_MI := (1, 0, yX1_tinting, cX1_tinting, 6, (some .int))
theorem gm_X1_tinting : am_GM mX1_tinting := ⟨rfl, rfl, fun h => absurd h (by decide), by decide, by decide, by decide⟩
def mX1_waiting : am_MI := (1, 0, yX1_waiting, cX1_waiting, 4, (some .int))
theorem gm_X1_waiting : am_GM mX1_waiting := ⟨rfl, rfl, fun h => absurd h (by decide), by decide, by decide, by decide⟩
def mX1_exchanged : am_MI := (1, 0, yX1_exchanged, cX1_exchanged, 7, (some .int))
theorem gm_X1_exchanged : am_GM mX1_exchanged := ⟨rfl, rfl, fun h => absurd h (by decide), by decide, by decide, by decide⟩
def mX1_turnedNow : am_MI := (1, 0, yX1_turnedNow, cX1_turnedNow, 1, (some .int))
theorem gm_X1_turnedNow : am_GM mX1_turnedNow := ⟨rfl, rfl, fun h => absurd h (by decide), by decide, by decide, by decide⟩
def mX1_eldest : am_MI := (1, 0, yX1_eldest, cX1_eldest, 4, (some .int))
theorem gm_X1_eldest : am_GM mX1_eldest := ⟨rfl, rfl, fun h => absurd h (by decide), by decide, by decide, by decide⟩
def mX1_waits : am_MI := (1, 0, yX1_waits, cX1_waits, 3, (some .int))
theorem gm_X1_waits : am_GM mX1_waits := ⟨rfl, rfl, fun h => absurd h (by decide), by decide, by decide, by decide⟩
def mX1_waitsFor : am_MI := (1, 0, yX1_waitsFor, cX1_waitsFor, 4, (some .int))
theorem gm_X1_waitsFor : am_GM mX1_waitsFor := ⟨rfl, rfl, fun h => absurd h (by decide), by decide, by decide, by decide⟩
def mX1_spares : am_MI := (1, 0, yX1_spares, cX1_spares, 4, (some .int))
theorem gm_X1_spares : am_GM mX1_spares := ⟨rfl, rfl, fun h => absurd h (by decide), by decide, by decide, by decide⟩
def mX1_open : am_MI := (1, 0, yX1_open, cX1_open, 2, (some .int))
theorem gm_X1_open : am_GM mX1_open := ⟨rfl, rfl, fun h => absurd h (by decide), by decide, by decide, by decide⟩
def mX1_inTime : am_MI := (1, 0, yX1_inTime, cX1_inTime, 4, (some .int))
theorem gm_X1_inTime : am_GM mX1_inTime := ⟨rfl, rfl, fun h => absurd h (by decide), by decide, by decide, by decide⟩
def mX1_kinds : am_MI := (1, 0, yX1_kinds, cX1_kinds, 5, (some .int))
theorem gm_X1_kinds : am_GM mX1_kinds := ⟨rfl, rfl, fun h => absurd h (by decide), by decide, by decide, by decide⟩
def mX1_feeds : am_MI := (1, 0, yX1_feeds, cX1_feeds, 2, (some .int))
theorem gm_X1_feeds : am_GM mX1_feeds := ⟨rfl, rfl, fun h => absurd h (by decide), by decide, by decide, by decide⟩
def mX1_wanted : am_MI := (1, 0, yX1_wanted, cX1_wanted, 2, (some .int))
theorem gm_X1_wanted : am_GM mX1_wanted := ⟨rfl, rfl, fun h => absurd h (by decide), by decide, by decide, by decide⟩
def mX1_fedBy : am_MI := (1, 0, yX1_fedBy, cX1_fedBy, 9, (some .int))
theorem gm_X1_fedBy : am_GM mX1_fedBy := ⟨rfl, rfl, fun h => absurd h (by decide), by decide, by decide, by decide⟩
def mX1_beside : am_MI := (1, 0, yX1_beside, cX1_beside, 2, (some .int))
theorem gm_X1_beside : am_GM mX1_beside := ⟨rfl, rfl, fun h => absurd h (by decide), by decide, by decide, by decide⟩
def mX1_enough : am_MI := (1, 0, yX1_enough, cX1_enough, 2, (some .int))
theorem gm_X1_enough : am_GM mX1_enough := ⟨rfl, rfl, fun h => absurd h (by decide), by decide, by decide, by decide⟩
def mX1_needed : am_MI := (1, 0, yX1_needed, cX1_needed, 6, (some .int))
theorem gm_X1_needed : am_GM mX1_needed := ⟨rfl, rfl, fun h => absurd h (by decide), by decide, by decide, by decide⟩
def mX1_lodgings : am_MI := (1, 0, yX1_lodgings, cX1_lodgings, 2, (some .int))
theorem gm_X1_lodgings : am_GM mX1_lodgings := ⟨rfl, rfl, fun h => absurd h (by decide), by decide, by decide, by decide⟩
def mX1_laysLodgings : am_MI := (1, 0, yX1_laysLodgings, cX1_laysLodgings, 4, none)
theorem gm_X1_laysLodgings : am_GM mX1_laysLodgings := ⟨rfl, rfl, fun h => absurd h (by decide), by decide, by decide, by decide⟩
def mX1_pointsTo : am_MI := (1, 0, yX1_pointsTo, cX1_pointsTo, 5, (some .int))
theorem gm_X1_pointsTo : am_GM mX1_pointsTo := ⟨rfl, rfl, fun h => absurd h (by decide), by decide, by decide, by decide⟩
def mX1_dislikes : am_MI := (1, 0, yX1_dislikes, cX1_dislikes, 3, (some .int))
theorem gm_X1_dislikes : am_GM mX1_dislikes := ⟨rfl, rfl, fun h => absurd h (by decide), by decide, by decide, by decide⟩
def mX1_movers : am_MI := (1, 0, yX1_movers, cX1_movers, 3, (some .int))
theorem gm_X1_movers : am_GM mX1_movers := ⟨rfl, rfl, fun h => absurd h (by decide), by decide, by decide, by decide⟩
def mX1_leavers : am_MI := (1, 0, yX1_leavers, cX1_leavers, 5, (some .int))
theorem gm_X1_leavers : am_GM mX1_leavers := ⟨rfl, rfl, fun h => absurd h (by decide), by decide, by decide, by decide⟩
def mX1_wouldHave : am_MI := (1, 0, yX1_wouldHave, cX1_wouldHave, 3, (some .boolean))
theorem gm_X1_wouldHave : am_GM mX1_wouldHave := ⟨rfl, rfl, fun h => absurd h (by decide), by decide, by decide, by decide⟩
def mX1_whose : am_MI := (1, 0, yX1_whose, cX1_whose, 12, (some .int))
theorem gm_X1_whose : am_GM mX1_whose := ⟨rfl, rfl, fun h => absurd h (by decide), by decide, by decide, by decide⟩
def mX1_looks : am_MI := (1, 0, yX1_looks, cX1_looks, 6, (some .long))
theorem gm_X1_looks : am_GM mX1_looks := ⟨rfl, rfl, fun h => absurd h (by decide), by decide, by decide, by decide⟩
def mX1_common : am_MI := (1, 0, yX1_common, cX1_common, 4, (some .long))
theorem gm_X1_common : am_GM mX1_common := ⟨rfl, rfl, fun h => absurd h (by decide), by decide, by decide, by decide⟩
def mX1_wrote : am_MI := (1, 0, yX1_wrote, cX1_wrote, 5, (some .int))
theorem gm_X1_wrote : am_GM mX1_wrote := ⟨rfl, rfl, fun h => absurd h (by decide), by decide, by decide, by decide⟩
def mX1_burn : am_MI := (1, 0, yX1_burn, cX1_burn, 2, (some .int))
theorem gm_X1_burn : am_GM mX1_burn := ⟨rfl, rfl, fun h => absurd h (by decide), by decide, by decide, by decide⟩
def mX1_fits : am_MI := (1, 0, yX1_fits, cX1_fits, 2, (some .int))
theorem gm_X1_fits : am_GM mX1_fits := ⟨rfl, rfl, fun h => absurd h (by decide), by decide, by decide, by decide⟩
def mX1_fitting : am_MI := (1, 0, yX1_fitting, cX1_fitting, 5, (some .int))
theorem gm_X1_fitting : am_GM mX1_fitting := ⟨rfl, rfl, fun h => absurd h (by decide), by decide, by decide, by decide⟩
def mX1_isSo : am_MI := (1, 0, yX1_isSo, cX1_isSo, 4, (some .boolean))
theorem gm_X1_isSo : am_GM mX1_isSo := ⟨rfl, rfl, fun h => absurd h (by decide), by decide, by decide, by decide⟩
def mX1_ask : am_MI := (1, 0, yX1_ask, cX1_ask, 7, (some .int))
theorem gm_X1_ask : am_GM mX1_ask := ⟨rfl, rfl, fun h => absurd h (by decide), by decide, by decide, by decide⟩
def mX1_rests : am_MI := (1, 0, yX1_rests, cX1_rests, 5, (some .int))
theorem gm_X1_rests : am_GM mX1_rests := ⟨rfl, rfl, fun h => absurd h (by decide), by decide, by decide, by decide⟩
def mX1_isRest : am_MI := (1, 0, yX1_isRest, cX1_isRest, 6, (some .boolean))
theorem gm_X1_isRest : am_GM mX1_isRest := ⟨rfl, rfl, fun h => absurd h (by decide), by decide, by decide, by decide⟩
def mX1_law : am_MI := (1, 0, yX1_law, cX1_law, 5, (some .int))
theorem gm_X1_law : am_GM mX1_law := ⟨rfl, rfl, fun h => absurd h (by decide), by decide, by decide, by decide⟩
def mX1_flownIn : am_MI := (1, 0, yX1_flownIn, cX1_flownIn, 2, (some .int))
theorem gm_X1_flownIn : am_GM mX1_flownIn := ⟨rfl, rfl, fun h => absurd h (by decide), by decide, by decide, by decide⟩
def mX1_years : am_MI := (1, 0, yX1_years, cX1_years, 6, (some .int))
theorem gm_X1_years : am_GM mX1_years := ⟨rfl, rfl, fun h => absurd h (by decide), by decide, by decide, by decide⟩
def mX1_draws : am_MI := (1, 0, yX1_draws, cX1_draws, 2, (some .int))
theorem gm_X1_draws : am_GM mX1_draws := ⟨rfl, rfl, fun h => absurd h (by decide), by decide, by decide, by decide⟩
def mX1_keep : am_MI := (1, 0, yX1_keep, cX1_keep, 2, (some .boolean))
theorem gm_X1_keep : am_GM mX1_keep := ⟨rfl, rfl, fun h => absurd h (by decide), by decide, by decide, by decide⟩
def mX1_again : am_MI := (1, 0, yX1_again, cX1_again, 2, (some .boolean))
theorem gm_X1_again : am_GM mX1_again := ⟨rfl, rfl, fun h => absurd h (by decide), by decide, by decide, by decide⟩
def mX1_count : am_MI := (1, 0, yX1_count, cX1_count, 2, (some .int))
theorem gm_X1_count : am_GM mX1_count := ⟨rfl, rfl, fun h => absurd h (by decide), by decide, by decide, by decide⟩
def mX1_nest : am_MI := (1, 0, yX1_nest, cX1_nest, 3, (some .int))
theorem gm_X1_nest : am_GM mX1_nest := ⟨rfl, rfl, fun h => absurd h (by decide), by decide, by decide, by decide⟩
def mX1_guest : am_MI := (1, 0, yX1_guest, cX1_guest, 3, (some .int))
theorem gm_X1_guest : am_GM mX1_guest := ⟨rfl, rfl, fun h => absurd h (by decide), by decide, by decide, by decide⟩
def mX1_row : am_MI := (1, 0, yX1_row, cX1_row, 2, (some .long))
theorem gm_X1_row : am_GM mX1_row := ⟨rfl, rfl, fun h => absurd h (by decide), by decide, by decide, by decide⟩
def mX2_init : am_MI := (2, 1, yX2_init, cX2_init, 1, none)
theorem gm_X2_init : am_GM mX2_init := ⟨rfl, rfl, fun _ => rfl, by decide, by decide, by decide⟩
def mX2_comes : am_MI := (2, 0, yX2_comes, cX2_comes, 2, none)
theorem gm_X2_comes : am_GM mX2_comes := ⟨rfl, rfl, fun h => absurd h (by decide), by decide, by decide, by decide⟩
def mX2_leaves : am_MI := (2, 0, yX2_leaves, cX2_leaves, 2, none)
theorem gm_X2_leaves : am_GM mX2_leaves := ⟨rfl, rfl, fun h => absurd h (by decide), by decide, by decide, by decide⟩
def mX2_becomes : am_MI := (2, 0, yX2_becomes, cX2_becomes, 2, none)
theorem gm_X2_becomes : am_GM mX2_becomes := ⟨rfl, rfl, fun h => absurd h (by decide), by decide, by decide, by decide⟩
def mX2_isNoticed : am_MI := (2, 0, yX2_isNoticed, cX2_isNoticed, 2, (some .boolean))
theorem gm_X2_isNoticed : am_GM mX2_isNoticed := ⟨rfl, rfl, fun h => absurd h (by decide), by decide, by decide, by decide⟩
def mX2_lies : am_MI := (2, 0, yX2_lies, cX2_lies, 3, none)
theorem gm_X2_lies : am_GM mX2_lies := ⟨rfl, rfl, fun h => absurd h (by decide), by decide, by decide, by decide⟩
def mX3_init : am_MI := (3, 1, yX3_init, cX3_init, 1, none)
theorem gm_X3_init : am_GM mX3_init := ⟨rfl, rfl, fun _ => rfl, by decide, by decide, by decide⟩
def mX3_thrown : am_MI := (3, 0, yX3_thrown, cX3_thrown, 1, (some .int))
theorem gm_X3_thrown : am_GM mX3_thrown := ⟨rfl, rfl, fun h => absurd h (by decide), by decide, by decide, by decide⟩
def mX3_sign : am_MI := (3, 0, yX3_sign, cX3_sign, 3, (some .int))
theorem gm_X3_sign : am_GM mX3_sign := ⟨rfl, rfl, fun h => absurd h (by decide), by decide, by decide, by decide⟩
def mX3_end : am_MI := (3, 0, yX3_end, cX3_end, 2, (some .boolean))
theorem gm_X3_end : am_GM mX3_end := ⟨rfl, rfl, fun h => absurd h (by decide), by decide, by decide, by decide⟩
def mX3_in : am_MI := (3, 0, yX3_in, cX3_in, 3, (some .boolean))
theorem gm_X3_in : am_GM mX3_in := ⟨rfl, rfl, fun h => absurd h (by decide), by decide, by decide, by decide⟩
def mX3_nests : am_MI := (3, 0, yX3_nests, cX3_nests, 5, (some .int))
theorem gm_X3_nests : am_GM mX3_nests := ⟨rfl, rfl, fun h => absurd h (by decide), by decide, by decide, by decide⟩
def mX3_beginText : am_MI := (3, 0, yX3_beginText, cX3_beginText, 2, none)
theorem gm_X3_beginText : am_GM mX3_beginText := ⟨rfl, rfl, fun h => absurd h (by decide), by decide, by decide, by decide⟩
def mX3_begin : am_MI := (3, 0, yX3_begin, cX3_begin, 4, none)
theorem gm_X3_begin : am_GM mX3_begin := ⟨rfl, rfl, fun h => absurd h (by decide), by decide, by decide, by decide⟩
def mX3_fine : am_MI := (3, 0, yX3_fine, cX3_fine, 1, (some .boolean))
theorem gm_X3_fine : am_GM mX3_fine := ⟨rfl, rfl, fun h => absurd h (by decide), by decide, by decide, by decide⟩
def mX3_fault : am_MI := (3, 0, yX3_fault, cX3_fault, 2, none)
theorem gm_X3_fault : am_GM mX3_fault := ⟨rfl, rfl, fun h => absurd h (by decide), by decide, by decide, by decide⟩
def mX3_readNest : am_MI := (3, 0, yX3_readNest, cX3_readNest, 2, none)
theorem gm_X3_readNest : am_GM mX3_readNest := ⟨rfl, rfl, fun h => absurd h (by decide), by decide, by decide, by decide⟩
def mX3_here : am_MI := (3, 0, yX3_here, cX3_here, 1, (some .int))
theorem gm_X3_here : am_GM mX3_here := ⟨rfl, rfl, fun h => absurd h (by decide), by decide, by decide, by decide⟩
def mX3_kindBy : am_MI := (3, 0, yX3_kindBy, cX3_kindBy, 1, (some .int))
theorem gm_X3_kindBy : am_GM mX3_kindBy := ⟨rfl, rfl, fun h => absurd h (by decide), by decide, by decide, by decide⟩
def mX3_oneOf : am_MI := (3, 0, yX3_oneOf, cX3_oneOf, 3, (some .int))
theorem gm_X3_oneOf : am_GM mX3_oneOf := ⟨rfl, rfl, fun h => absurd h (by decide), by decide, by decide, by decide⟩
def mX3_passes : am_MI := (3, 0, yX3_passes, cX3_passes, 2, (some .boolean))
theorem gm_X3_passes : am_GM mX3_passes := ⟨rfl, rfl, fun h => absurd h (by decide), by decide, by decide, by decide⟩
def mX3_wasRight : am_MI := (3, 0, yX3_wasRight, cX3_wasRight, 1, (some .boolean))
theorem gm_X3_wasRight : am_GM mX3_wasRight := ⟨rfl, rfl, fun h => absurd h (by decide), by decide, by decide, by decide⟩
def mX3_rule : am_MI := (3, 0, yX3_rule, cX3_rule, 3, (some .int))
theorem gm_X3_rule : am_GM mX3_rule := ⟨rfl, rfl, fun h => absurd h (by decide), by decide, by decide, by decide⟩
def mX3_readRule : am_MI := (3, 0, yX3_readRule, cX3_readRule, 1, (some .boolean))
theorem gm_X3_readRule : am_GM mX3_readRule := ⟨rfl, rfl, fun h => absurd h (by decide), by decide, by decide, by decide⟩
def mX3_held : am_MI := (3, 0, yX3_held, cX3_held, 3, (some .int))
theorem gm_X3_held : am_GM mX3_held := ⟨rfl, rfl, fun h => absurd h (by decide), by decide, by decide, by decide⟩
def mX3_sum : am_MI := (3, 0, yX3_sum, cX3_sum, 5, (some .int))
theorem gm_X3_sum : am_GM mX3_sum := ⟨rfl, rfl, fun h => absurd h (by decide), by decide, by decide, by decide⟩
def mX3_product : am_MI := (3, 0, yX3_product, cX3_product, 5, (some .int))
theorem gm_X3_product : am_GM mX3_product := ⟨rfl, rfl, fun h => absurd h (by decide), by decide, by decide, by decide⟩
def mX3_thing : am_MI := (3, 0, yX3_thing, cX3_thing, 4, (some .int))
theorem gm_X3_thing : am_GM mX3_thing := ⟨rfl, rfl, fun h => absurd h (by decide), by decide, by decide, by decide⟩
def mX3_need : am_MI := (3, 0, yX3_need, cX3_need, 2, none)
theorem gm_X3_need : am_GM mX3_need := ⟨rfl, rfl, fun h => absurd h (by decide), by decide, by decide, by decide⟩
def mX3_number : am_MI := (3, 0, yX3_number, cX3_number, 4, (some .int))
theorem gm_X3_number : am_GM mX3_number := ⟨rfl, rfl, fun h => absurd h (by decide), by decide, by decide, by decide⟩
def mX3_letterOf : am_MI := (3, 0, yX3_letterOf, cX3_letterOf, 1, (some .int))
theorem gm_X3_letterOf : am_GM mX3_letterOf := ⟨rfl, rfl, fun h => absurd h (by decide), by decide, by decide, by decide⟩
def mX3_nest : am_MI := (3, 0, yX3_nest, cX3_nest, 3, (some .int))
theorem gm_X3_nest : am_GM mX3_nest := ⟨rfl, rfl, fun h => absurd h (by decide), by decide, by decide, by decide⟩
def mX3_isNest : am_MI := (3, 0, yX3_isNest, cX3_isNest, 2, (some .boolean))
theorem gm_X3_isNest : am_GM mX3_isNest := ⟨rfl, rfl, fun h => absurd h (by decide), by decide, by decide, by decide⟩
def mX3_lost : am_MI := (3, 0, yX3_lost, cX3_lost, 1, (some .int))
theorem gm_X3_lost : am_GM mX3_lost := ⟨rfl, rfl, fun h => absurd h (by decide), by decide, by decide, by decide⟩
def mX3_isInTime : am_MI := (3, 0, yX3_isInTime, cX3_isInTime, 3, (some .boolean))
theorem gm_X3_isInTime : am_GM mX3_isInTime := ⟨rfl, rfl, fun h => absurd h (by decide), by decide, by decide, by decide⟩
def mX3_guest : am_MI := (3, 0, yX3_guest, cX3_guest, 3, (some .int))
theorem gm_X3_guest : am_GM mX3_guest := ⟨rfl, rfl, fun h => absurd h (by decide), by decide, by decide, by decide⟩
def mX3_oddNow : am_MI := (3, 0, yX3_oddNow, cX3_oddNow, 3, (some .int))
theorem gm_X3_oddNow : am_GM mX3_oddNow := ⟨rfl, rfl, fun h => absurd h (by decide), by decide, by decide, by decide⟩
def mX3_guests : am_MI := (3, 0, yX3_guests, cX3_guests, 4, (some .int))
theorem gm_X3_guests : am_GM mX3_guests := ⟨rfl, rfl, fun h => absurd h (by decide), by decide, by decide, by decide⟩
def mX3_oddOf : am_MI := (3, 0, yX3_oddOf, cX3_oddOf, 10, (some .int))
theorem gm_X3_oddOf : am_GM mX3_oddOf := ⟨rfl, rfl, fun h => absurd h (by decide), by decide, by decide, by decide⟩
def mX3_clear : am_MI := (3, 0, yX3_clear, cX3_clear, 3, (some .int))
theorem gm_X3_clear : am_GM mX3_clear := ⟨rfl, rfl, fun h => absurd h (by decide), by decide, by decide, by decide⟩
def mX3_sheet : am_MI := (3, 0, yX3_sheet, cX3_sheet, 9, (some .int))
theorem gm_X3_sheet : am_GM mX3_sheet := ⟨rfl, rfl, fun h => absurd h (by decide), by decide, by decide, by decide⟩
def mX3_announce : am_MI := (3, 0, yX3_announce, cX3_announce, 3, (some .int))
theorem gm_X3_announce : am_GM mX3_announce := ⟨rfl, rfl, fun h => absurd h (by decide), by decide, by decide, by decide⟩
def mX3_refusesAnnounce : am_MI := (3, 0, yX3_refusesAnnounce, cX3_refusesAnnounce, 3, (some .int))
theorem gm_X3_refusesAnnounce : am_GM mX3_refusesAnnounce := ⟨rfl, rfl, fun h => absurd h (by decide), by decide, by decide, by decide⟩
def mX3_remember : am_MI := (3, 0, yX3_remember, cX3_remember, 3, none)
theorem gm_X3_remember : am_GM mX3_remember := ⟨rfl, rfl, fun h => absurd h (by decide), by decide, by decide, by decide⟩
def mX3_lay0 : am_MI := (3, 0, yX3_lay0, cX3_lay0, 4, none)
theorem gm_X3_lay0 : am_GM mX3_lay0 := ⟨rfl, rfl, fun h => absurd h (by decide), by decide, by decide, by decide⟩
def mX3_goAnnounce : am_MI := (3, 0, yX3_goAnnounce, cX3_goAnnounce, 2, none)
theorem gm_X3_goAnnounce : am_GM mX3_goAnnounce := ⟨rfl, rfl, fun h => absurd h (by decide), by decide, by decide, by decide⟩
def mX3_notices : am_MI := (3, 0, yX3_notices, cX3_notices, 4, (some .int))
theorem gm_X3_notices : am_GM mX3_notices := ⟨rfl, rfl, fun h => absurd h (by decide), by decide, by decide, by decide⟩
def mX3_reply : am_MI := (3, 0, yX3_reply, cX3_reply, 3, (some .int))
theorem gm_X3_reply : am_GM mX3_reply := ⟨rfl, rfl, fun h => absurd h (by decide), by decide, by decide, by decide⟩
def mX3_refusesReply : am_MI := (3, 0, yX3_refusesReply, cX3_refusesReply, 3, (some .int))
theorem gm_X3_refusesReply : am_GM mX3_refusesReply := ⟨rfl, rfl, fun h => absurd h (by decide), by decide, by decide, by decide⟩
def mX3_goReply : am_MI := (3, 0, yX3_goReply, cX3_goReply, 2, none)
theorem gm_X3_goReply : am_GM mX3_goReply := ⟨rfl, rfl, fun h => absurd h (by decide), by decide, by decide, by decide⟩
def mX3_lay : am_MI := (3, 0, yX3_lay, cX3_lay, 4, (some .int))
theorem gm_X3_lay : am_GM mX3_lay := ⟨rfl, rfl, fun h => absurd h (by decide), by decide, by decide, by decide⟩
def mX3_refusesLay : am_MI := (3, 0, yX3_refusesLay, cX3_refusesLay, 4, (some .int))
theorem gm_X3_refusesLay : am_GM mX3_refusesLay := ⟨rfl, rfl, fun h => absurd h (by decide), by decide, by decide, by decide⟩
def mX3_isColour : am_MI := (3, 0, yX3_isColour, cX3_isColour, 1, (some .boolean))
theorem gm_X3_isColour : am_GM mX3_isColour := ⟨rfl, rfl, fun h => absurd h (by decide), by decide, by decide, by decide⟩
def mX3_goLay : am_MI := (3, 0, yX3_goLay, cX3_goLay, 3, none)
theorem gm_X3_goLay : am_GM mX3_goLay := ⟨rfl, rfl, fun h => absurd h (by decide), by decide, by decide, by decide⟩
def mX3_tint : am_MI := (3, 0, yX3_tint, cX3_tint, 5, (some .int))
theorem gm_X3_tint : am_GM mX3_tint := ⟨rfl, rfl, fun h => absurd h (by decide), by decide, by decide, by decide⟩
def mX3_refusesTint : am_MI := (3, 0, yX3_refusesTint, cX3_refusesTint, 3, (some .int))
theorem gm_X3_refusesTint : am_GM mX3_refusesTint := ⟨rfl, rfl, fun h => absurd h (by decide), by decide, by decide, by decide⟩
def mX3_exchange : am_MI := (3, 0, yX3_exchange, cX3_exchange, 3, (some .int))
theorem gm_X3_exchange : am_GM mX3_exchange := ⟨rfl, rfl, fun h => absurd h (by decide), by decide, by decide, by decide⟩
def mX3_areTwo : am_MI := (3, 0, yX3_areTwo, cX3_areTwo, 3, (some .boolean))
theorem gm_X3_areTwo : am_GM mX3_areTwo := ⟨rfl, rfl, fun h => absurd h (by decide), by decide, by decide, by decide⟩
def mX3_goExchange : am_MI := (3, 0, yX3_goExchange, cX3_goExchange, 5, none)
theorem gm_X3_goExchange : am_GM mX3_goExchange := ⟨rfl, rfl, fun h => absurd h (by decide), by decide, by decide, by decide⟩
def mX3_days : am_MI := (3, 0, yX3_days, cX3_days, 4, (some .int))
theorem gm_X3_days : am_GM mX3_days := ⟨rfl, rfl, fun h => absurd h (by decide), by decide, by decide, by decide⟩
def mX3_goDays : am_MI := (3, 0, yX3_goDays, cX3_goDays, 4, none)
theorem gm_X3_goDays : am_GM mX3_goDays := ⟨rfl, rfl, fun h => absurd h (by decide), by decide, by decide, by decide⟩
def mX3_goDay : am_MI := (3, 0, yX3_goDay, cX3_goDay, 4, none)
theorem gm_X3_goDay : am_GM mX3_goDay := ⟨rfl, rfl, fun h => absurd h (by decide), by decide, by decide, by decide⟩
def mX3_outs : am_MI := (3, 0, yX3_outs, cX3_outs, 4, (some .int))
theorem gm_X3_outs : am_GM mX3_outs := ⟨rfl, rfl, fun h => absurd h (by decide), by decide, by decide, by decide⟩
def mX3_has : am_MI := (3, 0, yX3_has, cX3_has, 2, (some .boolean))
theorem gm_X3_has : am_GM mX3_has := ⟨rfl, rfl, fun h => absurd h (by decide), by decide, by decide, by decide⟩
def mX3_tell : am_MI := (3, 0, yX3_tell, cX3_tell, 3, none)
theorem gm_X3_tell : am_GM mX3_tell := ⟨rfl, rfl, fun h => absurd h (by decide), by decide, by decide, by decide⟩
def mX3_spring : am_MI := (3, 0, yX3_spring, cX3_spring, 3, (some .int))
theorem gm_X3_spring : am_GM mX3_spring := ⟨rfl, rfl, fun h => absurd h (by decide), by decide, by decide, by decide⟩
def mX3_readAct : am_MI := (3, 0, yX3_readAct, cX3_readAct, 4, none)
theorem gm_X3_readAct : am_GM mX3_readAct := ⟨rfl, rfl, fun h => absurd h (by decide), by decide, by decide, by decide⟩
def mX3_act : am_MI := (3, 0, yX3_act, cX3_act, 4, (some .boolean))
theorem gm_X3_act : am_GM mX3_act := ⟨rfl, rfl, fun h => absurd h (by decide), by decide, by decide, by decide⟩
def mX3_undo : am_MI := (3, 0, yX3_undo, cX3_undo, 2, (some .int))
theorem gm_X3_undo : am_GM mX3_undo := ⟨rfl, rfl, fun h => absurd h (by decide), by decide, by decide, by decide⟩
def mX3_odd : am_MI := (3, 0, yX3_odd, cX3_odd, 3, (some .int))
theorem gm_X3_odd : am_GM mX3_odd := ⟨rfl, rfl, fun h => absurd h (by decide), by decide, by decide, by decide⟩
def mX3_oddLaid : am_MI := (3, 0, yX3_oddLaid, cX3_oddLaid, 4, (some .int))
theorem gm_X3_oddLaid : am_GM mX3_oddLaid := ⟨rfl, rfl, fun h => absurd h (by decide), by decide, by decide, by decide⟩
def mX3_put : am_MI := (3, 0, yX3_put, cX3_put, 1, (some .int))
theorem gm_X3_put : am_GM mX3_put := ⟨rfl, rfl, fun h => absurd h (by decide), by decide, by decide, by decide⟩
def mX3_colours : am_MI := (3, 0, yX3_colours, cX3_colours, 6, (some .int))
theorem gm_X3_colours : am_GM mX3_colours := ⟨rfl, rfl, fun h => absurd h (by decide), by decide, by decide, by decide⟩
def mX3_where : am_MI := (3, 0, yX3_where, cX3_where, 4, (some .int))
theorem gm_X3_where : am_GM mX3_where := ⟨rfl, rfl, fun h => absurd h (by decide), by decide, by decide, by decide⟩
def mX3_flies : am_MI := (3, 0, yX3_flies, cX3_flies, 4, (some .int))
theorem gm_X3_flies : am_GM mX3_flies := ⟨rfl, rfl, fun h => absurd h (by decide), by decide, by decide, by decide⟩
def mX3_fliesIn : am_MI := (3, 0, yX3_fliesIn, cX3_fliesIn, 5, (some .int))
theorem gm_X3_fliesIn : am_GM mX3_fliesIn := ⟨rfl, rfl, fun h => absurd h (by decide), by decide, by decide, by decide⟩
def mX3_later : am_MI := (3, 0, yX3_later, cX3_later, 2, (some .int))
theorem gm_X3_later : am_GM mX3_later := ⟨rfl, rfl, fun h => absurd h (by decide), by decide, by decide, by decide⟩
def mX3_place : am_MI := (3, 0, yX3_place, cX3_place, 3, (some .int))
theorem gm_X3_place : am_GM mX3_place := ⟨rfl, rfl, fun h => absurd h (by decide), by decide, by decide, by decide⟩
def mX3_openFree : am_MI := (3, 0, yX3_openFree, cX3_openFree, 3, (some .int))
theorem gm_X3_openFree : am_GM mX3_openFree := ⟨rfl, rfl, fun h => absurd h (by decide), by decide, by decide, by decide⟩
def mX3_goPlace : am_MI := (3, 0, yX3_goPlace, cX3_goPlace, 5, none)
theorem gm_X3_goPlace : am_GM mX3_goPlace := ⟨rfl, rfl, fun h => absurd h (by decide), by decide, by decide, by decide⟩
def mX3_suspects : am_MI := (3, 0, yX3_suspects, cX3_suspects, 4, (some .int))
theorem gm_X3_suspects : am_GM mX3_suspects := ⟨rfl, rfl, fun h => absurd h (by decide), by decide, by decide, by decide⟩
def mX3_tinting : am_MI := (3, 0, yX3_tinting, cX3_tinting, 4, (some .int))
theorem gm_X3_tinting : am_GM mX3_tinting := ⟨rfl, rfl, fun h => absurd h (by decide), by decide, by decide, by decide⟩
def mX3_oddTinted : am_MI := (3, 0, yX3_oddTinted, cX3_oddTinted, 3, (some .int))
theorem gm_X3_oddTinted : am_GM mX3_oddTinted := ⟨rfl, rfl, fun h => absurd h (by decide), by decide, by decide, by decide⟩
def mX3_waiting : am_MI := (3, 0, yX3_waiting, cX3_waiting, 4, (some .int))
theorem gm_X3_waiting : am_GM mX3_waiting := ⟨rfl, rfl, fun h => absurd h (by decide), by decide, by decide, by decide⟩
def mX3_exchanged : am_MI := (3, 0, yX3_exchanged, cX3_exchanged, 7, (some .int))
theorem gm_X3_exchanged : am_GM mX3_exchanged := ⟨rfl, rfl, fun h => absurd h (by decide), by decide, by decide, by decide⟩
def mX3_eldest : am_MI := (3, 0, yX3_eldest, cX3_eldest, 3, (some .int))
theorem gm_X3_eldest : am_GM mX3_eldest := ⟨rfl, rfl, fun h => absurd h (by decide), by decide, by decide, by decide⟩
def mX3_waits : am_MI := (3, 0, yX3_waits, cX3_waits, 3, (some .int))
theorem gm_X3_waits : am_GM mX3_waits := ⟨rfl, rfl, fun h => absurd h (by decide), by decide, by decide, by decide⟩
def mX3_daysBy : am_MI := (3, 0, yX3_daysBy, cX3_daysBy, 5, (some .int))
theorem gm_X3_daysBy : am_GM mX3_daysBy := ⟨rfl, rfl, fun h => absurd h (by decide), by decide, by decide, by decide⟩
def mX3_spares : am_MI := (3, 0, yX3_spares, cX3_spares, 4, (some .int))
theorem gm_X3_spares : am_GM mX3_spares := ⟨rfl, rfl, fun h => absurd h (by decide), by decide, by decide, by decide⟩
def mX3_open : am_MI := (3, 0, yX3_open, cX3_open, 3, (some .int))
theorem gm_X3_open : am_GM mX3_open := ⟨rfl, rfl, fun h => absurd h (by decide), by decide, by decide, by decide⟩
def mX3_kinds : am_MI := (3, 0, yX3_kinds, cX3_kinds, 5, (some .int))
theorem gm_X3_kinds : am_GM mX3_kinds := ⟨rfl, rfl, fun h => absurd h (by decide), by decide, by decide, by decide⟩
def mX3_feeds : am_MI := (3, 0, yX3_feeds, cX3_feeds, 2, (some .int))
theorem gm_X3_feeds : am_GM mX3_feeds := ⟨rfl, rfl, fun h => absurd h (by decide), by decide, by decide, by decide⟩
def mX3_young : am_MI := (3, 0, yX3_young, cX3_young, 3, (some .int))
theorem gm_X3_young : am_GM mX3_young := ⟨rfl, rfl, fun h => absurd h (by decide), by decide, by decide, by decide⟩
def mX3_givenBy : am_MI := (3, 0, yX3_givenBy, cX3_givenBy, 8, (some .int))
theorem gm_X3_givenBy : am_GM mX3_givenBy := ⟨rfl, rfl, fun h => absurd h (by decide), by decide, by decide, by decide⟩
def mX3_enough : am_MI := (3, 0, yX3_enough, cX3_enough, 3, (some .int))
theorem gm_X3_enough : am_GM mX3_enough := ⟨rfl, rfl, fun h => absurd h (by decide), by decide, by decide, by decide⟩
def mX3_needed : am_MI := (3, 0, yX3_needed, cX3_needed, 4, (some .int))
theorem gm_X3_needed : am_GM mX3_needed := ⟨rfl, rfl, fun h => absurd h (by decide), by decide, by decide, by decide⟩
def mX3_lodgings : am_MI := (3, 0, yX3_lodgings, cX3_lodgings, 2, (some .int))
theorem gm_X3_lodgings : am_GM mX3_lodgings := ⟨rfl, rfl, fun h => absurd h (by decide), by decide, by decide, by decide⟩
def mX3_layLodgings : am_MI := (3, 0, yX3_layLodgings, cX3_layLodgings, 4, none)
theorem gm_X3_layLodgings : am_GM mX3_layLodgings := ⟨rfl, rfl, fun h => absurd h (by decide), by decide, by decide, by decide⟩
def mX3_wish : am_MI := (3, 0, yX3_wish, cX3_wish, 5, (some .int))
theorem gm_X3_wish : am_GM mX3_wish := ⟨rfl, rfl, fun h => absurd h (by decide), by decide, by decide, by decide⟩
def mX3_worse : am_MI := (3, 0, yX3_worse, cX3_worse, 3, (some .int))
theorem gm_X3_worse : am_GM mX3_worse := ⟨rfl, rfl, fun h => absurd h (by decide), by decide, by decide, by decide⟩
def mX3_movers : am_MI := (3, 0, yX3_movers, cX3_movers, 3, (some .int))
theorem gm_X3_movers : am_GM mX3_movers := ⟨rfl, rfl, fun h => absurd h (by decide), by decide, by decide, by decide⟩
def mX3_leavers : am_MI := (3, 0, yX3_leavers, cX3_leavers, 5, (some .int))
theorem gm_X3_leavers : am_GM mX3_leavers := ⟨rfl, rfl, fun h => absurd h (by decide), by decide, by decide, by decide⟩
def mX3_whose : am_MI := (3, 0, yX3_whose, cX3_whose, 12, (some .int))
theorem gm_X3_whose : am_GM mX3_whose := ⟨rfl, rfl, fun h => absurd h (by decide), by decide, by decide, by decide⟩
def mX3_looks : am_MI := (3, 0, yX3_looks, cX3_looks, 3, (some .long))
theorem gm_X3_looks : am_GM mX3_looks := ⟨rfl, rfl, fun h => absurd h (by decide), by decide, by decide, by decide⟩
def mX3_power : am_MI := (3, 0, yX3_power, cX3_power, 6, (some .long))
theorem gm_X3_power : am_GM mX3_power := ⟨rfl, rfl, fun h => absurd h (by decide), by decide, by decide, by decide⟩
def mX3_common : am_MI := (3, 0, yX3_common, cX3_common, 4, (some .long))
theorem gm_X3_common : am_GM mX3_common := ⟨rfl, rfl, fun h => absurd h (by decide), by decide, by decide, by decide⟩
def mX3_wrote : am_MI := (3, 0, yX3_wrote, cX3_wrote, 4, (some .int))
theorem gm_X3_wrote : am_GM mX3_wrote := ⟨rfl, rfl, fun h => absurd h (by decide), by decide, by decide, by decide⟩
def mX3_burn : am_MI := (3, 0, yX3_burn, cX3_burn, 2, (some .int))
theorem gm_X3_burn : am_GM mX3_burn := ⟨rfl, rfl, fun h => absurd h (by decide), by decide, by decide, by decide⟩
def mX3_fits : am_MI := (3, 0, yX3_fits, cX3_fits, 1, (some .int))
theorem gm_X3_fits : am_GM mX3_fits := ⟨rfl, rfl, fun h => absurd h (by decide), by decide, by decide, by decide⟩
def mX3_fitting : am_MI := (3, 0, yX3_fitting, cX3_fitting, 5, (some .int))
theorem gm_X3_fitting : am_GM mX3_fitting := ⟨rfl, rfl, fun h => absurd h (by decide), by decide, by decide, by decide⟩
def mX3_fits_2 : am_MI := (3, 0, yX3_fits_2, cX3_fits_2, 4, (some .boolean))
theorem gm_X3_fits_2 : am_GM mX3_fits_2 := ⟨rfl, rfl, fun h => absurd h (by decide), by decide, by decide, by decide⟩
def mX3_ask : am_MI := (3, 0, yX3_ask, cX3_ask, 7, (some .int))
theorem gm_X3_ask : am_GM mX3_ask := ⟨rfl, rfl, fun h => absurd h (by decide), by decide, by decide, by decide⟩
def mX3_rests : am_MI := (3, 0, yX3_rests, cX3_rests, 5, (some .int))
theorem gm_X3_rests : am_GM mX3_rests := ⟨rfl, rfl, fun h => absurd h (by decide), by decide, by decide, by decide⟩
def mX3_isRest : am_MI := (3, 0, yX3_isRest, cX3_isRest, 4, (some .boolean))
theorem gm_X3_isRest : am_GM mX3_isRest := ⟨rfl, rfl, fun h => absurd h (by decide), by decide, by decide, by decide⟩
def mX3_hostGets : am_MI := (3, 0, yX3_hostGets, cX3_hostGets, 3, (some .int))
theorem gm_X3_hostGets : am_GM mX3_hostGets := ⟨rfl, rfl, fun h => absurd h (by decide), by decide, by decide, by decide⟩
def mX3_guestGets : am_MI := (3, 0, yX3_guestGets, cX3_guestGets, 3, (some .int))
theorem gm_X3_guestGets : am_GM mX3_guestGets := ⟨rfl, rfl, fun h => absurd h (by decide), by decide, by decide, by decide⟩
def mX3_law : am_MI := (3, 0, yX3_law, cX3_law, 6, (some .int))
theorem gm_X3_law : am_GM mX3_law := ⟨rfl, rfl, fun h => absurd h (by decide), by decide, by decide, by decide⟩
def mX3_flownIn60 : am_MI := (3, 0, yX3_flownIn60, cX3_flownIn60, 1, (some .int))
theorem gm_X3_flownIn60 : am_GM mX3_flownIn60 := ⟨rfl, rfl, fun h => absurd h (by decide), by decide, by decide, by decide⟩
def mX3_years : am_MI := (3, 0, yX3_years, cX3_years, 7, (some .int))
theorem gm_X3_years : am_GM mX3_years := ⟨rfl, rfl, fun h => absurd h (by decide), by decide, by decide, by decide⟩
def mX3_draw : am_MI := (3, 0, yX3_draw, cX3_draw, 2, (some .int))
theorem gm_X3_draw : am_GM mX3_draw := ⟨rfl, rfl, fun h => absurd h (by decide), by decide, by decide, by decide⟩
def mX3_keep : am_MI := (3, 0, yX3_keep, cX3_keep, 2, (some .boolean))
theorem gm_X3_keep : am_GM mX3_keep := ⟨rfl, rfl, fun h => absurd h (by decide), by decide, by decide, by decide⟩
def mX3_again : am_MI := (3, 0, yX3_again, cX3_again, 3, (some .boolean))
theorem gm_X3_again : am_GM mX3_again := ⟨rfl, rfl, fun h => absurd h (by decide), by decide, by decide, by decide⟩
def mX3_count : am_MI := (3, 0, yX3_count, cX3_count, 2, (some .int))
theorem gm_X3_count : am_GM mX3_count := ⟨rfl, rfl, fun h => absurd h (by decide), by decide, by decide, by decide⟩
def mX3_allOwn : am_MI := (3, 0, yX3_allOwn, cX3_allOwn, 3, (some .int))
theorem gm_X3_allOwn : am_GM mX3_allOwn := ⟨rfl, rfl, fun h => absurd h (by decide), by decide, by decide, by decide⟩
def mX3_row : am_MI := (3, 0, yX3_row, cX3_row, 2, (some .long))
theorem gm_X3_row : am_GM mX3_row := ⟨rfl, rfl, fun h => absurd h (by decide), by decide, by decide, by decide⟩
def mX4_init : am_MI := (4, 1, yX4_init, cX4_init, 2, none)
theorem gm_X4_init : am_GM mX4_init := ⟨rfl, rfl, fun _ => rfl, by decide, by decide, by decide⟩
def mX5_init : am_MI := (5, 1, yX5_init, cX5_init, 3, none)
theorem gm_X5_init : am_GM mX5_init := ⟨rfl, rfl, fun _ => rfl, by decide, by decide, by decide⟩
def mX5_value : am_MI := (5, 0, yX5_value, cX5_value, 1, (some .int))
theorem gm_X5_value : am_GM mX5_value := ⟨rfl, rfl, fun h => absurd h (by decide), by decide, by decide, by decide⟩
def mX6_init : am_MI := (6, 1, yX6_init, cX6_init, 3, none)
theorem gm_X6_init : am_GM mX6_init := ⟨rfl, rfl, fun _ => rfl, by decide, by decide, by decide⟩
def mX6_value : am_MI := (6, 0, yX6_value, cX6_value, 1, (some .int))
theorem gm_X6_value : am_GM mX6_value := ⟨rfl, rfl, fun h => absurd h (by decide), by decide, by decide, by decide⟩
def mX7_init : am_MI := (7, 1, yX7_init, cX7_init, 3, none)
theorem gm_X7_init : am_GM mX7_init := ⟨rfl, rfl, fun _ => rfl, by decide, by decide, by decide⟩
def mX7_value : am_MI := (7, 0, yX7_value, cX7_value, 1, (some .int))
theorem gm_X7_value : am_GM mX7_value := ⟨rfl, rfl, fun h => absurd h (by decide), by decide, by decide, by decide⟩
def mX8_init : am_MI := (8, 1, yX8_init, cX8_init, 5, none)
theorem gm_X8_init : am_GM mX8_init := ⟨rfl, rfl, fun _ => rfl, by decide, by decide, by decide⟩
def mX8_value : am_MI := (8, 0, yX8_value, cX8_value, 3, (some .int))
theorem gm_X8_value : am_GM mX8_value := ⟨rfl, rfl, fun h => absurd h (by decide), by decide, by decide, by decide⟩
def am_vm : Nat → am_MI
  | 3 => mX6_value
  | 4 => mX7_value
  | 5 => mX5_value
  | _ => mX8_value
def am_W0 (mi : am_MI) : List Cond := ws_ (am_y mi) (am_code mi) (am_mL mi) (am_ret mi)
/-- what a call's table row rests on; kinds: 0 static, 1 virtual, 2 private of a nest mate, 3 constructor, 4 constructor of a nest mate, 6 Node.value, 7 arraycopy, 8 the law's own catching methods -/
def am_COK (own idx kind tag n : Nat) (mi : am_MI) : Prop :=
  (kind = 0 ∧ am_GM mi ∧ (parseMethodDescriptor (am_y mi).desc).map (fun d => d.parameters.length) = some n ∧ GoodIn lw_all (va_wsS (am_CN own) idx (am_y mi) (am_W0 mi))) ∨
  (kind = 1 ∧ am_GM mi ∧ (parseMethodDescriptor (am_y mi).desc).map (fun d => d.parameters.length) = some n ∧ ((tag < 7 ∧ am_RX tag = (am_y mi).cls) ∨ (tag = 16 ∧ "java/lang/String" = (am_y mi).cls)) ∧ GoodIn lw_all (wsV (am_CN own) idx (am_y mi).cls (am_y mi) (am_W0 mi))) ∨
  (kind = 2 ∧ am_GM mi ∧ (parseMethodDescriptor (am_y mi).desc).map (fun d => d.parameters.length) = some n ∧ tag < 7 ∧ am_RX tag = (am_y mi).cls ∧ Cond.methodLinkNest (am_CN own) idx (am_y mi) RX1 ∈ am_nw ∧ Cond.instanceMethod (am_y mi) ∈ lw_all ∧ Cond.selects (am_y mi).cls (am_y mi) (am_y mi) ∈ lw_all ∧ Cond.initialized (am_y mi).cls ∈ lw_all ∧ GoodIn lw_all (am_W0 mi)) ∨
  (kind = 3 ∧ am_GM mi ∧ (parseMethodDescriptor (am_y mi).desc).map (fun d => d.parameters.length) = some n ∧ am_ret mi = none ∧ (am_y mi).name = "<init>" ∧ Cond.methodLink (am_CN own) idx (am_y mi) ∈ lw_all ∧ Cond.instanceMethod (am_y mi) ∈ lw_all ∧ Cond.initialized (am_y mi).cls ∈ lw_all ∧ GoodIn lw_all (am_W0 mi)) ∨
  (kind = 4 ∧ am_GM mi ∧ (parseMethodDescriptor (am_y mi).desc).map (fun d => d.parameters.length) = some n ∧ am_ret mi = none ∧ (am_y mi).name = "<init>" ∧ Cond.methodLinkNest (am_CN own) idx (am_y mi) RX1 ∈ am_nw ∧ Cond.instanceMethod (am_y mi) ∈ lw_all ∧ Cond.initialized (am_y mi).cls ∈ lw_all ∧ GoodIn lw_all (am_W0 mi)) ∨
  (kind = 6 ∧ n = 0 ∧ ∀ t, 3 ≤ t → t < 7 → am_GM (am_vm t) ∧ GoodIn lw_all (va_wsU (am_CN own) idx (am_RX t) "CuckooByPost$Node" ⟨"CuckooByPost$Node", "value", "()I"⟩ (am_y (am_vm t)) (am_W0 (am_vm t)))) ∨
  (kind = 7 ∧ Cond.methodLink (am_CN own) idx arraycopyName ∈ lw_all) ∨
  (kind = 8 ∧ own = 0 ∧ am_GM mi ∧ ((tag = 0 ∧ idx = 45 ∧ mi = mX1_nest) ∨ (tag = 1 ∧ idx = 54 ∧ mi = mX1_guest) ∨ (tag = 2 ∧ idx = 227 ∧ mi = mX1_row))) ∨
  (kind = 5 ∧ Cond.methodLink (am_CN own) idx Lib.objectInit ∈ lw_all) ∨
  (kind = 9 ∧ ((tag = 0 ∧ Cond.methodLink (am_CN own) idx Lib.Math.max.name ∈ lw_all) ∨ (tag = 1 ∧ Cond.methodLink (am_CN own) idx Lib.Math.min.name ∈ lw_all) ∨ (tag = 2 ∧ Cond.methodLink (am_CN own) idx Lib.Math.abs.name ∈ lw_all)))
def am_CTL : Nat → List (Nat × Nat × Nat × Nat × am_MI)
  | 0 => [(7, 1, 0, 2, mX1_nest), (15, 1, 0, 2, mX1_guest), (18, 1, 0, 1, mX1_row), (22, 3, 0, 0, mX1_init), (25, 3, 0, 0, mX3_init), (26, 1, 0, 1, mX1_sign), (30, 1, 2, 1, mX3_sign), (31, 1, 0, 1, mX1_end), (35, 1, 2, 1, mX3_end), (36, 1, 0, 0, mX1_nests), (40, 1, 2, 0, mX3_nests), (41, 1, 0, 0, mX1_rule), (44, 1, 2, 0, mX3_rule), (45, 8, 0, 4, mX1_nest), (50, 1, 2, 2, mX3_nest), (51, 1, 2, 0, mX3_thrown), (54, 8, 1, 4, mX1_guest), (56, 1, 2, 2, mX3_guest), (57, 1, 0, 1, mX1_clear), (60, 1, 2, 1, mX3_clear), (61, 1, 0, 4, mX1_sheet), (65, 1, 2, 4, mX3_sheet), (66, 1, 0, 1, mX1_announce), (69, 1, 2, 1, mX3_announce), (70, 1, 0, 1, mX1_reply), (73, 1, 2, 1, mX3_reply), (74, 1, 0, 2, mX1_lay), (77, 1, 2, 2, mX3_lay), (78, 1, 0, 2, mX1_tint), (81, 1, 2, 2, mX3_tint), (82, 1, 0, 2, mX1_exchange), (85, 1, 2, 2, mX3_exchange), (86, 1, 0, 1, mX1_days), (89, 1, 2, 1, mX3_days), (90, 1, 0, 0, mX1_spring), (93, 1, 2, 0, mX3_spring), (94, 1, 0, 0, mX1_undo), (97, 1, 2, 0, mX3_undo), (98, 1, 0, 2, mX1_odd), (101, 1, 2, 2, mX3_odd), (102, 1, 0, 1, mX1_colours), (105, 1, 2, 1, mX3_colours), (106, 1, 0, 1, mX1_where), (109, 1, 2, 1, mX3_where), (110, 1, 0, 2, mX1_flies), (113, 1, 2, 2, mX3_flies), (114, 1, 0, 1, mX1_later), (117, 1, 2, 1, mX3_later), (118, 1, 0, 0, mX1_place), (121, 1, 2, 0, mX3_place), (122, 1, 0, 0, mX1_suspects), (125, 1, 2, 0, mX3_suspects), (126, 1, 0, 1, mX1_tinting), (129, 1, 2, 1, mX3_tinting), (130, 1, 0, 2, mX1_waiting), (133, 1, 2, 2, mX3_waiting), (134, 1, 0, 0, mX1_exchanged), (137, 1, 2, 0, mX3_exchanged), (138, 1, 0, 0, mX1_eldest), (141, 1, 2, 0, mX3_eldest), (142, 1, 0, 2, mX1_waits), (145, 1, 2, 2, mX3_waits), (146, 1, 0, 2, mX1_spares), (149, 1, 2, 2, mX3_spares), (150, 1, 0, 0, mX1_open), (153, 1, 2, 0, mX3_open), (154, 1, 0, 1, mX1_kinds), (157, 1, 2, 1, mX3_kinds), (158, 1, 0, 1, mX1_feeds), (161, 1, 2, 1, mX3_feeds), (162, 1, 0, 0, mX1_enough), (165, 1, 2, 0, mX3_enough), (166, 1, 0, 1, mX1_needed), (169, 1, 2, 1, mX3_needed), (170, 1, 0, 0, mX1_lodgings), (173, 1, 2, 0, mX3_lodgings), (174, 1, 0, 0, mX1_movers), (177, 1, 2, 0, mX3_movers), (178, 1, 0, 0, mX1_leavers), (181, 1, 2, 0, mX3_leavers), (182, 1, 0, 5, mX1_whose), (186, 1, 2, 5, mX3_whose), (187, 1, 0, 2, mX1_wrote), (190, 1, 2, 2, mX3_wrote), (191, 1, 0, 0, mX1_burn), (194, 1, 2, 0, mX3_burn), (195, 1, 0, 0, mX1_fits), (198, 1, 2, 0, mX3_fits), (199, 1, 0, 0, mX1_ask), (202, 1, 2, 0, mX3_ask), (203, 1, 0, 1, mX1_rests), (206, 1, 2, 1, mX3_rests), (207, 1, 0, 0, mX1_law), (210, 1, 2, 0, mX3_law), (211, 1, 0, 2, mX1_years), (214, 1, 2, 2, mX3_years), (215, 1, 0, 1, mX1_keep), (218, 1, 2, 1, mX3_keep), (219, 1, 0, 1, mX1_again), (222, 1, 2, 1, mX3_again), (223, 1, 0, 1, mX1_count), (226, 1, 2, 1, mX3_count), (227, 8, 2, 3, mX1_row), (230, 1, 2, 1, mX3_row)]
  | 1 => [(1, 5, 0, 0, mJ11_init), (9, 4, 0, 0, mX2_init), (90, 0, 0, 2, mX1_common), (97, 0, 0, 3, mX1_in), (101, 1, 0, 1, mX1_isNest), (107, 1, 1, 1, mX2_isNoticed), (116, 1, 0, 2, mX1_isInTime), (129, 9, 1, 2, mJ11_init), (138, 1, 0, 1, mX1_isAt), (142, 1, 16, 1, mJ1_indexOf), (148, 1, 0, 1, mX1_among), (156, 1, 0, 0, mX1_isDigit), (165, 1, 0, 1, mX1_takesOf), (170, 1, 0, 1, mX1_number), (175, 1, 0, 1, mX1_begins), (178, 1, 0, 0, mX1_readsNest), (181, 1, 0, 1, mX1_takes), (184, 1, 0, 2, mX1_faultOf), (200, 1, 1, 1, mX2_comes), (210, 1, 0, 0, mX1_readsThing), (216, 3, 0, 2, mX5_init), (221, 3, 0, 2, mX6_init), (228, 3, 0, 2, mX7_init), (229, 1, 0, 1, mX1_reads), (239, 0, 0, 1, mX1_acts), (245, 3, 0, 4, mX8_init), (252, 1, 0, 0, mX1_readsRule), (262, 9, 2, 1, mJ11_init), (265, 9, 0, 2, mJ11_init), (274, 6, 0, 0, mX5_value), (291, 1, 0, 2, mX1_oddOf), (297, 1, 0, 1, mX1_sumOf), (301, 1, 1, 1, mX2_becomes), (305, 1, 0, 1, mX1_putsBy), (308, 1, 0, 1, mX1_noticed), (312, 0, 0, 1, mJ10_bitCount), (317, 0, 0, 1, mX1_isColour), (320, 1, 1, 2, mX2_lies), (324, 1, 0, 2, mX1_isPair), (328, 0, 0, 3, mX1_swaps), (332, 1, 0, 2, mX1_guests), (335, 1, 1, 1, mX2_leaves), (341, 0, 0, 2, mX1_has), (350, 1, 0, 1, mX1_dayGoes), (353, 1, 0, 2, mX1_announces), (356, 1, 0, 1, mX1_counts), (359, 1, 0, 2, mX1_repliesTo), (362, 1, 0, 3, mX1_lays), (366, 1, 0, 3, mX1_tints), (369, 1, 0, 3, mX1_exchanges), (374, 1, 0, 2, mX1_daysGo), (381, 1, 0, 1, mX1_tells), (390, 1, 0, 0, mX1_readsAct), (393, 1, 0, 1, mX1_does), (396, 1, 0, 2, mX1_oddIf), (399, 0, 0, 1, mX1_shown), (402, 1, 0, 2, mX1_isFree), (405, 1, 0, 1, mX1_fliesIn), (413, 7, 0, 5, mJ11_init), (419, 1, 0, 3, mX1_placesFrom), (424, 1, 0, 0, mX1_turnedNow), (427, 1, 0, 2, mX1_waitsFor), (432, 1, 0, 1, mX1_inTime), (435, 1, 0, 1, mX1_beside), (440, 1, 0, 1, mX1_wanted), (443, 1, 0, 2, mX1_fedBy), (446, 1, 0, 2, mX1_dislikes), (449, 0, 0, 1, mJ10_numberOfTrailingZeros), (452, 1, 0, 2, mX1_pointsTo), (455, 1, 0, 0, mX1_laysLodgings), (458, 1, 0, 2, mX1_wouldHave), (465, 0, 0, 3, mX1_looks), (474, 1, 0, 3, mX1_isSo), (478, 1, 0, 0, mX1_fitting), (481, 0, 0, 3, mX1_isRest), (484, 1, 0, 1, mX1_flownIn), (491, 1, 0, 1, mX1_draws)]
  | 2 => [(3, 5, 0, 0, mJ11_init), (42, 7, 0, 5, mJ11_init), (58, 1, 1, 1, mX2_leaves), (62, 9, 0, 2, mJ11_init)]
  | 3 => [(3, 5, 0, 0, mJ11_init), (92, 0, 0, 3, mX3_in), (96, 1, 2, 1, mX3_isNest), (118, 1, 2, 3, mX3_begin), (122, 1, 2, 0, mX3_fine), (126, 1, 2, 0, mX3_here), (130, 1, 2, 1, mX3_passes), (134, 1, 2, 1, mX3_fault), (138, 1, 2, 2, mX3_oneOf), (142, 0, 0, 1, mX3_kindBy), (146, 1, 2, 1, mX3_beginText), (149, 1, 2, 1, mX3_readNest), (152, 1, 2, 0, mX3_wasRight), (161, 1, 2, 1, mX3_sum), (164, 1, 2, 1, mX3_product), (167, 1, 2, 1, mX3_thing), (170, 1, 2, 1, mX3_held), (173, 1, 2, 1, mX3_need), (177, 1, 2, 1, mX3_number), (180, 0, 0, 1, mX3_letterOf), (187, 1, 2, 0, mX3_readRule), (193, 9, 2, 1, mJ11_init), (198, 9, 0, 2, mJ11_init), (202, 1, 2, 1, mX3_guests), (206, 0, 0, 1, mJ10_bitCount), (211, 1, 2, 6, mX3_oddOf), (215, 9, 1, 2, mJ11_init), (218, 1, 2, 0, mX3_lost), (221, 1, 2, 2, mX3_isInTime), (225, 1, 2, 2, mX3_oddNow), (229, 0, 0, 3, mX3_lay0), (233, 1, 2, 2, mX3_refusesAnnounce), (236, 1, 2, 1, mX3_remember), (240, 0, 0, 2, mX3_goAnnounce), (244, 1, 2, 1, mX3_notices), (247, 1, 2, 2, mX3_refusesReply), (250, 0, 0, 2, mX3_goReply), (253, 0, 0, 1, mX3_isColour), (256, 1, 2, 3, mX3_refusesLay), (260, 0, 0, 3, mX3_goLay), (264, 1, 2, 2, mX3_refusesTint), (267, 1, 2, 2, mX3_areTwo), (271, 0, 0, 3, mX3_goExchange), (274, 1, 2, 1, mX3_outs), (277, 0, 0, 2, mX3_has), (280, 1, 2, 1, mX3_goDay), (283, 1, 2, 2, mX3_goDays), (286, 1, 2, 1, mX3_tell), (290, 1, 2, 1, mX3_readAct), (293, 1, 2, 3, mX3_act), (296, 1, 2, 3, mX3_oddLaid), (299, 0, 0, 1, mX3_put), (302, 1, 2, 2, mX3_fliesIn), (308, 1, 2, 3, mX3_goPlace), (312, 1, 2, 0, mX3_openFree), (315, 1, 2, 2, mX3_oddTinted), (321, 1, 2, 2, mX3_daysBy), (324, 1, 2, 0, mX3_young), (327, 1, 2, 2, mX3_givenBy), (330, 1, 2, 2, mX3_worse), (333, 0, 0, 1, mJ10_numberOfTrailingZeros), (336, 1, 2, 2, mX3_wish), (339, 1, 2, 0, mX3_layLodgings), (342, 0, 0, 2, mX3_common), (346, 0, 0, 2, mX3_power), (350, 0, 0, 3, mX3_looks), (357, 1, 2, 3, mX3_fits_2), (360, 1, 2, 0, mX3_fitting), (363, 0, 0, 3, mX3_hostGets), (367, 0, 0, 3, mX3_guestGets), (370, 0, 0, 3, mX3_isRest), (373, 1, 2, 0, mX3_flownIn60), (380, 1, 2, 1, mX3_draw), (383, 1, 2, 0, mX3_allOwn)]
  | 4 => [(7, 5, 0, 0, mJ11_init)]
  | 5 => [(7, 4, 0, 1, mX4_init), (17, 6, 0, 0, mX5_value)]
  | 6 => [(7, 4, 0, 1, mX4_init)]
  | 7 => [(9, 4, 0, 1, mX4_init), (35, 9, 2, 1, mJ11_init), (44, 9, 0, 2, mJ11_init), (60, 2, 0, 2, mX1_guests), (64, 0, 0, 1, mJ10_bitCount)]
  | 8 => [(7, 4, 0, 1, mX4_init), (24, 6, 0, 0, mX5_value)]
  | 11 => [(335, 1, 16, 0, mJ1_coder), (492, 1, 16, 0, mJ1_isLatin1), (505, 1, 16, 0, mJ1_length), (633, 1, 16, 2, mJ1_indexOf_2), (637, 0, 0, 4, mJ2_indexOf)]
  | 12 => [(38, 9, 1, 2, mJ11_init), (88, 0, 0, 1, mJ2_canEncode), (92, 9, 0, 2, mJ11_init), (95, 0, 0, 4, mJ2_indexOfChar)]
  | _ => []
/-- what a method reference names: (kind, tag of the receiver, arguments, the method) -/
def am_CT (own idx : Nat) : Option (Nat × Nat × Nat × am_MI) := ((am_CTL own).find? (fun e => e.1 == idx)).map (fun e => e.2)
theorem co_0_7 : am_COK 0 7 1 0 2 mX1_nest := Or.inr (Or.inl ⟨rfl, gm_X1_nest, by decide +kernel, Or.inl ⟨by decide, rfl⟩, lw_V q975 q976 q977 q102 q978⟩)
theorem ct_0_7 : am_CT 0 7 = some (1, 0, 2, mX1_nest) := rfl
theorem co_0_15 : am_COK 0 15 1 0 2 mX1_guest := Or.inr (Or.inl ⟨rfl, gm_X1_guest, by decide +kernel, Or.inl ⟨by decide, rfl⟩, lw_V q1043 q1044 q1045 q102 q1046⟩)
theorem ct_0_15 : am_CT 0 15 = some (1, 0, 2, mX1_guest) := rfl
theorem co_0_18 : am_COK 0 18 1 0 1 mX1_row := Or.inr (Or.inl ⟨rfl, gm_X1_row, by decide +kernel, Or.inl ⟨by decide, rfl⟩, lw_V q1050 q1051 q1052 q102 q1053⟩)
theorem ct_0_18 : am_CT 0 18 = some (1, 0, 1, mX1_row) := rfl
theorem co_0_22 : am_COK 0 22 3 0 0 mX1_init := Or.inr (Or.inr (Or.inr (Or.inl ⟨rfl, gm_X1_init, by decide +kernel, rfl, rfl, q124, q125, q102, (lw_meth q126)⟩)))
theorem ct_0_22 : am_CT 0 22 = some (3, 0, 0, mX1_init) := rfl
theorem co_0_25 : am_COK 0 25 3 0 0 mX3_init := Or.inr (Or.inr (Or.inr (Or.inl ⟨rfl, gm_X3_init, by decide +kernel, rfl, rfl, q1056, q1057, q104, (lw_meth q1058)⟩)))
theorem ct_0_25 : am_CT 0 25 = some (3, 0, 0, mX3_init) := rfl
theorem co_0_26 : am_COK 0 26 1 0 1 mX1_sign := Or.inr (Or.inl ⟨rfl, gm_X1_sign, by decide +kernel, Or.inl ⟨by decide, rfl⟩, lw_V q327 q328 q329 q102 q330⟩)
theorem ct_0_26 : am_CT 0 26 = some (1, 0, 1, mX1_sign) := rfl
theorem co_0_30 : am_COK 0 30 1 2 1 mX3_sign := Or.inr (Or.inl ⟨rfl, gm_X3_sign, by decide +kernel, Or.inl ⟨by decide, rfl⟩, lw_V q1182 q1183 q1184 q104 q1185⟩)
theorem ct_0_30 : am_CT 0 30 = some (1, 2, 1, mX3_sign) := rfl
theorem co_0_31 : am_COK 0 31 1 0 1 mX1_end := Or.inr (Or.inl ⟨rfl, gm_X1_end, by decide +kernel, Or.inl ⟨by decide, rfl⟩, lw_V q331 q332 q333 q102 q334⟩)
theorem ct_0_31 : am_CT 0 31 = some (1, 0, 1, mX1_end) := rfl
theorem co_0_35 : am_COK 0 35 1 2 1 mX3_end := Or.inr (Or.inl ⟨rfl, gm_X3_end, by decide +kernel, Or.inl ⟨by decide, rfl⟩, lw_V q1186 q1187 q1188 q104 q1189⟩)
theorem ct_0_35 : am_CT 0 35 = some (1, 2, 1, mX3_end) := rfl
theorem co_0_36 : am_COK 0 36 1 0 0 mX1_nests := Or.inr (Or.inl ⟨rfl, gm_X1_nests, by decide +kernel, Or.inl ⟨by decide, rfl⟩, lw_V q338 q339 q340 q102 q341⟩)
theorem ct_0_36 : am_CT 0 36 = some (1, 0, 0, mX1_nests) := rfl
theorem co_0_40 : am_COK 0 40 1 2 0 mX3_nests := Or.inr (Or.inl ⟨rfl, gm_X3_nests, by decide +kernel, Or.inl ⟨by decide, rfl⟩, lw_V q1193 q1194 q1195 q104 q1196⟩)
theorem ct_0_40 : am_CT 0 40 = some (1, 2, 0, mX3_nests) := rfl
theorem co_0_41 : am_COK 0 41 1 0 0 mX1_rule := Or.inr (Or.inl ⟨rfl, gm_X1_rule, by decide +kernel, Or.inl ⟨by decide, rfl⟩, lw_V q479 q480 q481 q102 q482⟩)
theorem ct_0_41 : am_CT 0 41 = some (1, 0, 0, mX1_rule) := rfl
theorem co_0_44 : am_COK 0 44 1 2 0 mX3_rule := Or.inr (Or.inl ⟨rfl, gm_X3_rule, by decide +kernel, Or.inl ⟨by decide, rfl⟩, lw_V q1236 q1237 q1238 q104 q1239⟩)
theorem ct_0_44 : am_CT 0 44 = some (1, 2, 0, mX3_rule) := rfl
theorem co_0_45 : am_COK 0 45 8 0 4 mX1_nest := Or.inr (Or.inr (Or.inr (Or.inr (Or.inr (Or.inr (Or.inr (Or.inl ⟨rfl, rfl, gm_X1_nest, Or.inl ⟨rfl, rfl, rfl⟩⟩)))))))
theorem ct_0_45 : am_CT 0 45 = some (8, 0, 4, mX1_nest) := rfl
theorem co_0_50 : am_COK 0 50 1 2 2 mX3_nest := Or.inr (Or.inl ⟨rfl, gm_X3_nest, by decide +kernel, Or.inl ⟨by decide, rfl⟩, lw_V q1271 q1272 q1273 q104 q1274⟩)
theorem ct_0_50 : am_CT 0 50 = some (1, 2, 2, mX3_nest) := rfl
theorem co_0_51 : am_COK 0 51 1 2 0 mX3_thrown := Or.inr (Or.inl ⟨rfl, gm_X3_thrown, by decide +kernel, Or.inl ⟨by decide, rfl⟩, lw_V q1178 q1179 q1180 q104 q1181⟩)
theorem ct_0_51 : am_CT 0 51 = some (1, 2, 0, mX3_thrown) := rfl
theorem co_0_54 : am_COK 0 54 8 1 4 mX1_guest := Or.inr (Or.inr (Or.inr (Or.inr (Or.inr (Or.inr (Or.inr (Or.inl ⟨rfl, rfl, gm_X1_guest, Or.inr (Or.inl ⟨rfl, rfl, rfl⟩)⟩)))))))
theorem ct_0_54 : am_CT 0 54 = some (8, 1, 4, mX1_guest) := rfl
theorem co_0_56 : am_COK 0 56 1 2 2 mX3_guest := Or.inr (Or.inl ⟨rfl, gm_X3_guest, by decide +kernel, Or.inl ⟨by decide, rfl⟩, lw_V q1287 q1288 q1289 q104 q1290⟩)
theorem ct_0_56 : am_CT 0 56 = some (1, 2, 2, mX3_guest) := rfl
theorem co_0_57 : am_COK 0 57 1 0 1 mX1_clear := Or.inr (Or.inl ⟨rfl, gm_X1_clear, by decide +kernel, Or.inl ⟨by decide, rfl⟩, lw_V q569 q570 q571 q102 q572⟩)
theorem ct_0_57 : am_CT 0 57 = some (1, 0, 1, mX1_clear) := rfl
theorem co_0_60 : am_COK 0 60 1 2 1 mX3_clear := Or.inr (Or.inl ⟨rfl, gm_X3_clear, by decide +kernel, Or.inl ⟨by decide, rfl⟩, lw_V q1306 q1307 q1308 q104 q1309⟩)
theorem ct_0_60 : am_CT 0 60 = some (1, 2, 1, mX3_clear) := rfl
theorem co_0_61 : am_COK 0 61 1 0 4 mX1_sheet := Or.inr (Or.inl ⟨rfl, gm_X1_sheet, by decide +kernel, Or.inl ⟨by decide, rfl⟩, lw_V q574 q575 q576 q102 q577⟩)
theorem ct_0_61 : am_CT 0 61 = some (1, 0, 4, mX1_sheet) := rfl
theorem co_0_65 : am_COK 0 65 1 2 4 mX3_sheet := Or.inr (Or.inl ⟨rfl, gm_X3_sheet, by decide +kernel, Or.inl ⟨by decide, rfl⟩, lw_V q1310 q1311 q1312 q104 q1313⟩)
theorem ct_0_65 : am_CT 0 65 = some (1, 2, 4, mX3_sheet) := rfl
theorem co_0_66 : am_COK 0 66 1 0 1 mX1_announce := Or.inr (Or.inl ⟨rfl, gm_X1_announce, by decide +kernel, Or.inl ⟨by decide, rfl⟩, lw_V q595 q596 q597 q102 q598⟩)
theorem ct_0_66 : am_CT 0 66 = some (1, 0, 1, mX1_announce) := rfl
theorem co_0_69 : am_COK 0 69 1 2 1 mX3_announce := Or.inr (Or.inl ⟨rfl, gm_X3_announce, by decide +kernel, Or.inl ⟨by decide, rfl⟩, lw_V q1315 q1316 q1317 q104 q1318⟩)
theorem ct_0_69 : am_CT 0 69 = some (1, 2, 1, mX3_announce) := rfl
theorem co_0_70 : am_COK 0 70 1 0 1 mX1_reply := Or.inr (Or.inl ⟨rfl, gm_X1_reply, by decide +kernel, Or.inl ⟨by decide, rfl⟩, lw_V q629 q630 q631 q102 q632⟩)
theorem ct_0_70 : am_CT 0 70 = some (1, 0, 1, mX1_reply) := rfl
theorem co_0_73 : am_COK 0 73 1 2 1 mX3_reply := Or.inr (Or.inl ⟨rfl, gm_X3_reply, by decide +kernel, Or.inl ⟨by decide, rfl⟩, lw_V q1337 q1338 q1339 q104 q1340⟩)
theorem ct_0_73 : am_CT 0 73 = some (1, 2, 1, mX3_reply) := rfl
theorem co_0_74 : am_COK 0 74 1 0 2 mX1_lay := Or.inr (Or.inl ⟨rfl, gm_X1_lay, by decide +kernel, Or.inl ⟨by decide, rfl⟩, lw_V q637 q638 q639 q102 q640⟩)
theorem ct_0_74 : am_CT 0 74 = some (1, 0, 2, mX1_lay) := rfl
theorem co_0_77 : am_COK 0 77 1 2 2 mX3_lay := Or.inr (Or.inl ⟨rfl, gm_X3_lay, by decide +kernel, Or.inl ⟨by decide, rfl⟩, lw_V q1348 q1349 q1350 q104 q1351⟩)
theorem ct_0_77 : am_CT 0 77 = some (1, 2, 2, mX3_lay) := rfl
theorem co_0_78 : am_COK 0 78 1 0 2 mX1_tint := Or.inr (Or.inl ⟨rfl, gm_X1_tint, by decide +kernel, Or.inl ⟨by decide, rfl⟩, lw_V q688 q689 q690 q102 q691⟩)
theorem ct_0_78 : am_CT 0 78 = some (1, 0, 2, mX1_tint) := rfl
theorem co_0_81 : am_COK 0 81 1 2 2 mX3_tint := Or.inr (Or.inl ⟨rfl, gm_X3_tint, by decide +kernel, Or.inl ⟨by decide, rfl⟩, lw_V q1362 q1363 q1364 q104 q1365⟩)
theorem ct_0_81 : am_CT 0 81 = some (1, 2, 2, mX3_tint) := rfl
theorem co_0_82 : am_COK 0 82 1 0 2 mX1_exchange := Or.inr (Or.inl ⟨rfl, gm_X1_exchange, by decide +kernel, Or.inl ⟨by decide, rfl⟩, lw_V q696 q697 q698 q102 q699⟩)
theorem ct_0_82 : am_CT 0 82 = some (1, 0, 2, mX1_exchange) := rfl
theorem co_0_85 : am_COK 0 85 1 2 2 mX3_exchange := Or.inr (Or.inl ⟨rfl, gm_X3_exchange, by decide +kernel, Or.inl ⟨by decide, rfl⟩, lw_V q1370 q1371 q1372 q104 q1373⟩)
theorem ct_0_85 : am_CT 0 85 = some (1, 2, 2, mX3_exchange) := rfl
theorem co_0_86 : am_COK 0 86 1 0 1 mX1_days := Or.inr (Or.inl ⟨rfl, gm_X1_days, by decide +kernel, Or.inl ⟨by decide, rfl⟩, lw_V q711 q712 q713 q102 q714⟩)
theorem ct_0_86 : am_CT 0 86 = some (1, 0, 1, mX1_days) := rfl
theorem co_0_89 : am_COK 0 89 1 2 1 mX3_days := Or.inr (Or.inl ⟨rfl, gm_X3_days, by decide +kernel, Or.inl ⟨by decide, rfl⟩, lw_V q1381 q1382 q1383 q104 q1384⟩)
theorem ct_0_89 : am_CT 0 89 = some (1, 2, 1, mX3_days) := rfl
theorem co_0_90 : am_COK 0 90 1 0 0 mX1_spring := Or.inr (Or.inl ⟨rfl, gm_X1_spring, by decide +kernel, Or.inl ⟨by decide, rfl⟩, lw_V q733 q734 q735 q102 q736⟩)
theorem ct_0_90 : am_CT 0 90 = some (1, 0, 0, mX1_spring) := rfl
theorem co_0_93 : am_COK 0 93 1 2 0 mX3_spring := Or.inr (Or.inl ⟨rfl, gm_X3_spring, by decide +kernel, Or.inl ⟨by decide, rfl⟩, lw_V q1404 q1405 q1406 q104 q1407⟩)
theorem ct_0_93 : am_CT 0 93 = some (1, 2, 0, mX3_spring) := rfl
theorem co_0_94 : am_COK 0 94 1 0 0 mX1_undo := Or.inr (Or.inl ⟨rfl, gm_X1_undo, by decide +kernel, Or.inl ⟨by decide, rfl⟩, lw_V q584 q585 q586 q102 q587⟩)
theorem ct_0_94 : am_CT 0 94 = some (1, 0, 0, mX1_undo) := rfl
theorem co_0_97 : am_COK 0 97 1 2 0 mX3_undo := Or.inr (Or.inl ⟨rfl, gm_X3_undo, by decide +kernel, Or.inl ⟨by decide, rfl⟩, lw_V q1416 q1417 q1418 q104 q1419⟩)
theorem ct_0_97 : am_CT 0 97 = some (1, 2, 0, mX3_undo) := rfl
theorem co_0_98 : am_COK 0 98 1 0 2 mX1_odd := Or.inr (Or.inl ⟨rfl, gm_X1_odd, by decide +kernel, Or.inl ⟨by decide, rfl⟩, lw_V q746 q747 q748 q102 q749⟩)
theorem ct_0_98 : am_CT 0 98 = some (1, 0, 2, mX1_odd) := rfl
theorem co_0_101 : am_COK 0 101 1 2 2 mX3_odd := Or.inr (Or.inl ⟨rfl, gm_X3_odd, by decide +kernel, Or.inl ⟨by decide, rfl⟩, lw_V q1420 q1421 q1422 q104 q1423⟩)
theorem ct_0_101 : am_CT 0 101 = some (1, 2, 2, mX3_odd) := rfl
theorem co_0_102 : am_COK 0 102 1 0 1 mX1_colours := Or.inr (Or.inl ⟨rfl, gm_X1_colours, by decide +kernel, Or.inl ⟨by decide, rfl⟩, lw_V q757 q758 q759 q102 q760⟩)
theorem ct_0_102 : am_CT 0 102 = some (1, 0, 1, mX1_colours) := rfl
theorem co_0_105 : am_COK 0 105 1 2 1 mX3_colours := Or.inr (Or.inl ⟨rfl, gm_X3_colours, by decide +kernel, Or.inl ⟨by decide, rfl⟩, lw_V q1431 q1432 q1433 q104 q1434⟩)
theorem ct_0_105 : am_CT 0 105 = some (1, 2, 1, mX3_colours) := rfl
theorem co_0_106 : am_COK 0 106 1 0 1 mX1_where := Or.inr (Or.inl ⟨rfl, gm_X1_where, by decide +kernel, Or.inl ⟨by decide, rfl⟩, lw_V q761 q762 q763 q102 q764⟩)
theorem ct_0_106 : am_CT 0 106 = some (1, 0, 1, mX1_where) := rfl
theorem co_0_109 : am_COK 0 109 1 2 1 mX3_where := Or.inr (Or.inl ⟨rfl, gm_X3_where, by decide +kernel, Or.inl ⟨by decide, rfl⟩, lw_V q1435 q1436 q1437 q104 q1438⟩)
theorem ct_0_109 : am_CT 0 109 = some (1, 2, 1, mX3_where) := rfl
theorem co_0_110 : am_COK 0 110 1 0 2 mX1_flies := Or.inr (Or.inl ⟨rfl, gm_X1_flies, by decide +kernel, Or.inl ⟨by decide, rfl⟩, lw_V q769 q770 q771 q102 q772⟩)
theorem ct_0_110 : am_CT 0 110 = some (1, 0, 2, mX1_flies) := rfl
theorem co_0_113 : am_COK 0 113 1 2 2 mX3_flies := Or.inr (Or.inl ⟨rfl, gm_X3_flies, by decide +kernel, Or.inl ⟨by decide, rfl⟩, lw_V q1439 q1440 q1441 q104 q1442⟩)
theorem ct_0_113 : am_CT 0 113 = some (1, 2, 2, mX3_flies) := rfl
theorem co_0_114 : am_COK 0 114 1 0 1 mX1_later := Or.inr (Or.inl ⟨rfl, gm_X1_later, by decide +kernel, Or.inl ⟨by decide, rfl⟩, lw_V q777 q778 q779 q102 q780⟩)
theorem ct_0_114 : am_CT 0 114 = some (1, 0, 1, mX1_later) := rfl
theorem co_0_117 : am_COK 0 117 1 2 1 mX3_later := Or.inr (Or.inl ⟨rfl, gm_X3_later, by decide +kernel, Or.inl ⟨by decide, rfl⟩, lw_V q1447 q1448 q1449 q104 q1450⟩)
theorem ct_0_117 : am_CT 0 117 = some (1, 2, 1, mX3_later) := rfl
theorem co_0_118 : am_COK 0 118 1 0 0 mX1_place := Or.inr (Or.inl ⟨rfl, gm_X1_place, by decide +kernel, Or.inl ⟨by decide, rfl⟩, lw_V q782 q783 q784 q102 q785⟩)
theorem ct_0_118 : am_CT 0 118 = some (1, 0, 0, mX1_place) := rfl
theorem co_0_121 : am_COK 0 121 1 2 0 mX3_place := Or.inr (Or.inl ⟨rfl, gm_X3_place, by decide +kernel, Or.inl ⟨by decide, rfl⟩, lw_V q1451 q1452 q1453 q104 q1454⟩)
theorem ct_0_121 : am_CT 0 121 = some (1, 2, 0, mX3_place) := rfl
theorem co_0_122 : am_COK 0 122 1 0 0 mX1_suspects := Or.inr (Or.inl ⟨rfl, gm_X1_suspects, by decide +kernel, Or.inl ⟨by decide, rfl⟩, lw_V q791 q792 q793 q102 q794⟩)
theorem ct_0_122 : am_CT 0 122 = some (1, 0, 0, mX1_suspects) := rfl
theorem co_0_125 : am_COK 0 125 1 2 0 mX3_suspects := Or.inr (Or.inl ⟨rfl, gm_X3_suspects, by decide +kernel, Or.inl ⟨by decide, rfl⟩, lw_V q1463 q1464 q1465 q104 q1466⟩)
theorem ct_0_125 : am_CT 0 125 = some (1, 2, 0, mX3_suspects) := rfl
theorem co_0_126 : am_COK 0 126 1 0 1 mX1_tinting := Or.inr (Or.inl ⟨rfl, gm_X1_tinting, by decide +kernel, Or.inl ⟨by decide, rfl⟩, lw_V q795 q796 q797 q102 q798⟩)
theorem ct_0_126 : am_CT 0 126 = some (1, 0, 1, mX1_tinting) := rfl
theorem co_0_129 : am_COK 0 129 1 2 1 mX3_tinting := Or.inr (Or.inl ⟨rfl, gm_X3_tinting, by decide +kernel, Or.inl ⟨by decide, rfl⟩, lw_V q1467 q1468 q1469 q104 q1470⟩)
theorem ct_0_129 : am_CT 0 129 = some (1, 2, 1, mX3_tinting) := rfl
theorem co_0_130 : am_COK 0 130 1 0 2 mX1_waiting := Or.inr (Or.inl ⟨rfl, gm_X1_waiting, by decide +kernel, Or.inl ⟨by decide, rfl⟩, lw_V q799 q800 q801 q102 q802⟩)
theorem ct_0_130 : am_CT 0 130 = some (1, 0, 2, mX1_waiting) := rfl
theorem co_0_133 : am_COK 0 133 1 2 2 mX3_waiting := Or.inr (Or.inl ⟨rfl, gm_X3_waiting, by decide +kernel, Or.inl ⟨by decide, rfl⟩, lw_V q1475 q1476 q1477 q104 q1478⟩)
theorem ct_0_133 : am_CT 0 133 = some (1, 2, 2, mX3_waiting) := rfl
theorem co_0_134 : am_COK 0 134 1 0 0 mX1_exchanged := Or.inr (Or.inl ⟨rfl, gm_X1_exchanged, by decide +kernel, Or.inl ⟨by decide, rfl⟩, lw_V q803 q804 q805 q102 q806⟩)
theorem ct_0_134 : am_CT 0 134 = some (1, 0, 0, mX1_exchanged) := rfl
theorem co_0_137 : am_COK 0 137 1 2 0 mX3_exchanged := Or.inr (Or.inl ⟨rfl, gm_X3_exchanged, by decide +kernel, Or.inl ⟨by decide, rfl⟩, lw_V q1479 q1480 q1481 q104 q1482⟩)
theorem ct_0_137 : am_CT 0 137 = some (1, 2, 0, mX3_exchanged) := rfl
theorem co_0_138 : am_COK 0 138 1 0 0 mX1_eldest := Or.inr (Or.inl ⟨rfl, gm_X1_eldest, by decide +kernel, Or.inl ⟨by decide, rfl⟩, lw_V q812 q813 q814 q102 q815⟩)
theorem ct_0_138 : am_CT 0 138 = some (1, 0, 0, mX1_eldest) := rfl
theorem co_0_141 : am_COK 0 141 1 2 0 mX3_eldest := Or.inr (Or.inl ⟨rfl, gm_X3_eldest, by decide +kernel, Or.inl ⟨by decide, rfl⟩, lw_V q1484 q1485 q1486 q104 q1487⟩)
theorem ct_0_141 : am_CT 0 141 = some (1, 2, 0, mX3_eldest) := rfl
theorem co_0_142 : am_COK 0 142 1 0 2 mX1_waits := Or.inr (Or.inl ⟨rfl, gm_X1_waits, by decide +kernel, Or.inl ⟨by decide, rfl⟩, lw_V q816 q817 q818 q102 q819⟩)
theorem ct_0_142 : am_CT 0 142 = some (1, 0, 2, mX1_waits) := rfl
theorem co_0_145 : am_COK 0 145 1 2 2 mX3_waits := Or.inr (Or.inl ⟨rfl, gm_X3_waits, by decide +kernel, Or.inl ⟨by decide, rfl⟩, lw_V q1489 q1490 q1491 q104 q1492⟩)
theorem ct_0_145 : am_CT 0 145 = some (1, 2, 2, mX3_waits) := rfl
theorem co_0_146 : am_COK 0 146 1 0 2 mX1_spares := Or.inr (Or.inl ⟨rfl, gm_X1_spares, by decide +kernel, Or.inl ⟨by decide, rfl⟩, lw_V q824 q825 q826 q102 q827⟩)
theorem ct_0_146 : am_CT 0 146 = some (1, 0, 2, mX1_spares) := rfl
theorem co_0_149 : am_COK 0 149 1 2 2 mX3_spares := Or.inr (Or.inl ⟨rfl, gm_X3_spares, by decide +kernel, Or.inl ⟨by decide, rfl⟩, lw_V q1497 q1498 q1499 q104 q1500⟩)
theorem ct_0_149 : am_CT 0 149 = some (1, 2, 2, mX3_spares) := rfl
theorem co_0_150 : am_COK 0 150 1 0 0 mX1_open := Or.inr (Or.inl ⟨rfl, gm_X1_open, by decide +kernel, Or.inl ⟨by decide, rfl⟩, lw_V q829 q830 q831 q102 q832⟩)
theorem ct_0_150 : am_CT 0 150 = some (1, 0, 0, mX1_open) := rfl
theorem co_0_153 : am_COK 0 153 1 2 0 mX3_open := Or.inr (Or.inl ⟨rfl, gm_X3_open, by decide +kernel, Or.inl ⟨by decide, rfl⟩, lw_V q1501 q1502 q1503 q104 q1504⟩)
theorem ct_0_153 : am_CT 0 153 = some (1, 2, 0, mX3_open) := rfl
theorem co_0_154 : am_COK 0 154 1 0 1 mX1_kinds := Or.inr (Or.inl ⟨rfl, gm_X1_kinds, by decide +kernel, Or.inl ⟨by decide, rfl⟩, lw_V q837 q838 q839 q102 q840⟩)
theorem ct_0_154 : am_CT 0 154 = some (1, 0, 1, mX1_kinds) := rfl
theorem co_0_157 : am_COK 0 157 1 2 1 mX3_kinds := Or.inr (Or.inl ⟨rfl, gm_X3_kinds, by decide +kernel, Or.inl ⟨by decide, rfl⟩, lw_V q1505 q1506 q1507 q104 q1508⟩)
theorem ct_0_157 : am_CT 0 157 = some (1, 2, 1, mX3_kinds) := rfl
theorem co_0_158 : am_COK 0 158 1 0 1 mX1_feeds := Or.inr (Or.inl ⟨rfl, gm_X1_feeds, by decide +kernel, Or.inl ⟨by decide, rfl⟩, lw_V q841 q842 q843 q102 q844⟩)
theorem ct_0_158 : am_CT 0 158 = some (1, 0, 1, mX1_feeds) := rfl
theorem co_0_161 : am_COK 0 161 1 2 1 mX3_feeds := Or.inr (Or.inl ⟨rfl, gm_X3_feeds, by decide +kernel, Or.inl ⟨by decide, rfl⟩, lw_V q1509 q1510 q1511 q104 q1512⟩)
theorem ct_0_161 : am_CT 0 161 = some (1, 2, 1, mX3_feeds) := rfl
theorem co_0_162 : am_COK 0 162 1 0 0 mX1_enough := Or.inr (Or.inl ⟨rfl, gm_X1_enough, by decide +kernel, Or.inl ⟨by decide, rfl⟩, lw_V q858 q859 q860 q102 q861⟩)
theorem ct_0_162 : am_CT 0 162 = some (1, 0, 0, mX1_enough) := rfl
theorem co_0_165 : am_COK 0 165 1 2 0 mX3_enough := Or.inr (Or.inl ⟨rfl, gm_X3_enough, by decide +kernel, Or.inl ⟨by decide, rfl⟩, lw_V q1521 q1522 q1523 q104 q1524⟩)
theorem ct_0_165 : am_CT 0 165 = some (1, 2, 0, mX3_enough) := rfl
theorem co_0_166 : am_COK 0 166 1 0 1 mX1_needed := Or.inr (Or.inl ⟨rfl, gm_X1_needed, by decide +kernel, Or.inl ⟨by decide, rfl⟩, lw_V q862 q863 q864 q102 q865⟩)
theorem ct_0_166 : am_CT 0 166 = some (1, 0, 1, mX1_needed) := rfl
theorem co_0_169 : am_COK 0 169 1 2 1 mX3_needed := Or.inr (Or.inl ⟨rfl, gm_X3_needed, by decide +kernel, Or.inl ⟨by decide, rfl⟩, lw_V q1525 q1526 q1527 q104 q1528⟩)
theorem ct_0_169 : am_CT 0 169 = some (1, 2, 1, mX3_needed) := rfl
theorem co_0_170 : am_COK 0 170 1 0 0 mX1_lodgings := Or.inr (Or.inl ⟨rfl, gm_X1_lodgings, by decide +kernel, Or.inl ⟨by decide, rfl⟩, lw_V q866 q867 q868 q102 q869⟩)
theorem ct_0_170 : am_CT 0 170 = some (1, 0, 0, mX1_lodgings) := rfl
theorem co_0_173 : am_COK 0 173 1 2 0 mX3_lodgings := Or.inr (Or.inl ⟨rfl, gm_X3_lodgings, by decide +kernel, Or.inl ⟨by decide, rfl⟩, lw_V q1529 q1530 q1531 q104 q1532⟩)
theorem ct_0_173 : am_CT 0 173 = some (1, 2, 0, mX3_lodgings) := rfl
theorem co_0_174 : am_COK 0 174 1 0 0 mX1_movers := Or.inr (Or.inl ⟨rfl, gm_X1_movers, by decide +kernel, Or.inl ⟨by decide, rfl⟩, lw_V q886 q887 q888 q102 q889⟩)
theorem ct_0_174 : am_CT 0 174 = some (1, 0, 0, mX1_movers) := rfl
theorem co_0_177 : am_COK 0 177 1 2 0 mX3_movers := Or.inr (Or.inl ⟨rfl, gm_X3_movers, by decide +kernel, Or.inl ⟨by decide, rfl⟩, lw_V q1546 q1547 q1548 q104 q1549⟩)
theorem ct_0_177 : am_CT 0 177 = some (1, 2, 0, mX3_movers) := rfl
theorem co_0_178 : am_COK 0 178 1 0 0 mX1_leavers := Or.inr (Or.inl ⟨rfl, gm_X1_leavers, by decide +kernel, Or.inl ⟨by decide, rfl⟩, lw_V q890 q891 q892 q102 q893⟩)
theorem ct_0_178 : am_CT 0 178 = some (1, 0, 0, mX1_leavers) := rfl
theorem co_0_181 : am_COK 0 181 1 2 0 mX3_leavers := Or.inr (Or.inl ⟨rfl, gm_X3_leavers, by decide +kernel, Or.inl ⟨by decide, rfl⟩, lw_V q1550 q1551 q1552 q104 q1553⟩)
theorem ct_0_181 : am_CT 0 181 = some (1, 2, 0, mX3_leavers) := rfl
theorem co_0_182 : am_COK 0 182 1 0 5 mX1_whose := Or.inr (Or.inl ⟨rfl, gm_X1_whose, by decide +kernel, Or.inl ⟨by decide, rfl⟩, lw_V q898 q899 q900 q102 q901⟩)
theorem ct_0_182 : am_CT 0 182 = some (1, 0, 5, mX1_whose) := rfl
theorem co_0_186 : am_COK 0 186 1 2 5 mX3_whose := Or.inr (Or.inl ⟨rfl, gm_X3_whose, by decide +kernel, Or.inl ⟨by decide, rfl⟩, lw_V q1554 q1555 q1556 q104 q1557⟩)
theorem ct_0_186 : am_CT 0 186 = some (1, 2, 5, mX3_whose) := rfl
theorem co_0_187 : am_COK 0 187 1 0 2 mX1_wrote := Or.inr (Or.inl ⟨rfl, gm_X1_wrote, by decide +kernel, Or.inl ⟨by decide, rfl⟩, lw_V q910 q911 q912 q102 q913⟩)
theorem ct_0_187 : am_CT 0 187 = some (1, 0, 2, mX1_wrote) := rfl
theorem co_0_190 : am_COK 0 190 1 2 2 mX3_wrote := Or.inr (Or.inl ⟨rfl, gm_X3_wrote, by decide +kernel, Or.inl ⟨by decide, rfl⟩, lw_V q1567 q1568 q1569 q104 q1570⟩)
theorem ct_0_190 : am_CT 0 190 = some (1, 2, 2, mX3_wrote) := rfl
theorem co_0_191 : am_COK 0 191 1 0 0 mX1_burn := Or.inr (Or.inl ⟨rfl, gm_X1_burn, by decide +kernel, Or.inl ⟨by decide, rfl⟩, lw_V q915 q916 q917 q102 q918⟩)
theorem ct_0_191 : am_CT 0 191 = some (1, 0, 0, mX1_burn) := rfl
theorem co_0_194 : am_COK 0 194 1 2 0 mX3_burn := Or.inr (Or.inl ⟨rfl, gm_X3_burn, by decide +kernel, Or.inl ⟨by decide, rfl⟩, lw_V q1571 q1572 q1573 q104 q1574⟩)
theorem ct_0_194 : am_CT 0 194 = some (1, 2, 0, mX3_burn) := rfl
theorem co_0_195 : am_COK 0 195 1 0 0 mX1_fits := Or.inr (Or.inl ⟨rfl, gm_X1_fits, by decide +kernel, Or.inl ⟨by decide, rfl⟩, lw_V q919 q920 q921 q102 q922⟩)
theorem ct_0_195 : am_CT 0 195 = some (1, 0, 0, mX1_fits) := rfl
theorem co_0_198 : am_COK 0 198 1 2 0 mX3_fits := Or.inr (Or.inl ⟨rfl, gm_X3_fits, by decide +kernel, Or.inl ⟨by decide, rfl⟩, lw_V q1575 q1576 q1577 q104 q1578⟩)
theorem ct_0_198 : am_CT 0 198 = some (1, 2, 0, mX3_fits) := rfl
theorem co_0_199 : am_COK 0 199 1 0 0 mX1_ask := Or.inr (Or.inl ⟨rfl, gm_X1_ask, by decide +kernel, Or.inl ⟨by decide, rfl⟩, lw_V q931 q932 q933 q102 q934⟩)
theorem ct_0_199 : am_CT 0 199 = some (1, 0, 0, mX1_ask) := rfl
theorem co_0_202 : am_COK 0 202 1 2 0 mX3_ask := Or.inr (Or.inl ⟨rfl, gm_X3_ask, by decide +kernel, Or.inl ⟨by decide, rfl⟩, lw_V q1587 q1588 q1589 q104 q1590⟩)
theorem ct_0_202 : am_CT 0 202 = some (1, 2, 0, mX3_ask) := rfl
theorem co_0_203 : am_COK 0 203 1 0 1 mX1_rests := Or.inr (Or.inl ⟨rfl, gm_X1_rests, by decide +kernel, Or.inl ⟨by decide, rfl⟩, lw_V q935 q936 q937 q102 q938⟩)
theorem ct_0_203 : am_CT 0 203 = some (1, 0, 1, mX1_rests) := rfl
theorem co_0_206 : am_COK 0 206 1 2 1 mX3_rests := Or.inr (Or.inl ⟨rfl, gm_X3_rests, by decide +kernel, Or.inl ⟨by decide, rfl⟩, lw_V q1591 q1592 q1593 q104 q1594⟩)
theorem ct_0_206 : am_CT 0 206 = some (1, 2, 1, mX3_rests) := rfl
theorem co_0_207 : am_COK 0 207 1 0 0 mX1_law := Or.inr (Or.inl ⟨rfl, gm_X1_law, by decide +kernel, Or.inl ⟨by decide, rfl⟩, lw_V q942 q943 q944 q102 q945⟩)
theorem ct_0_207 : am_CT 0 207 = some (1, 0, 0, mX1_law) := rfl
theorem co_0_210 : am_COK 0 210 1 2 0 mX3_law := Or.inr (Or.inl ⟨rfl, gm_X3_law, by decide +kernel, Or.inl ⟨by decide, rfl⟩, lw_V q1604 q1605 q1606 q104 q1607⟩)
theorem ct_0_210 : am_CT 0 210 = some (1, 2, 0, mX3_law) := rfl
theorem co_0_211 : am_COK 0 211 1 0 2 mX1_years := Or.inr (Or.inl ⟨rfl, gm_X1_years, by decide +kernel, Or.inl ⟨by decide, rfl⟩, lw_V q950 q951 q952 q102 q953⟩)
theorem ct_0_211 : am_CT 0 211 = some (1, 0, 2, mX1_years) := rfl
theorem co_0_214 : am_COK 0 214 1 2 2 mX3_years := Or.inr (Or.inl ⟨rfl, gm_X3_years, by decide +kernel, Or.inl ⟨by decide, rfl⟩, lw_V q1612 q1613 q1614 q104 q1615⟩)
theorem ct_0_214 : am_CT 0 214 = some (1, 2, 2, mX3_years) := rfl
theorem co_0_215 : am_COK 0 215 1 0 1 mX1_keep := Or.inr (Or.inl ⟨rfl, gm_X1_keep, by decide +kernel, Or.inl ⟨by decide, rfl⟩, lw_V q959 q960 q961 q102 q962⟩)
theorem ct_0_215 : am_CT 0 215 = some (1, 0, 1, mX1_keep) := rfl
theorem co_0_218 : am_COK 0 218 1 2 1 mX3_keep := Or.inr (Or.inl ⟨rfl, gm_X3_keep, by decide +kernel, Or.inl ⟨by decide, rfl⟩, lw_V q1621 q1622 q1623 q104 q1624⟩)
theorem ct_0_218 : am_CT 0 218 = some (1, 2, 1, mX3_keep) := rfl
theorem co_0_219 : am_COK 0 219 1 0 1 mX1_again := Or.inr (Or.inl ⟨rfl, gm_X1_again, by decide +kernel, Or.inl ⟨by decide, rfl⟩, lw_V q963 q964 q965 q102 q966⟩)
theorem ct_0_219 : am_CT 0 219 = some (1, 0, 1, mX1_again) := rfl
theorem co_0_222 : am_COK 0 222 1 2 1 mX3_again := Or.inr (Or.inl ⟨rfl, gm_X3_again, by decide +kernel, Or.inl ⟨by decide, rfl⟩, lw_V q1625 q1626 q1627 q104 q1628⟩)
theorem ct_0_222 : am_CT 0 222 = some (1, 2, 1, mX3_again) := rfl
theorem co_0_223 : am_COK 0 223 1 0 1 mX1_count := Or.inr (Or.inl ⟨rfl, gm_X1_count, by decide +kernel, Or.inl ⟨by decide, rfl⟩, lw_V q967 q968 q969 q102 q970⟩)
theorem ct_0_223 : am_CT 0 223 = some (1, 0, 1, mX1_count) := rfl
theorem co_0_226 : am_COK 0 226 1 2 1 mX3_count := Or.inr (Or.inl ⟨rfl, gm_X3_count, by decide +kernel, Or.inl ⟨by decide, rfl⟩, lw_V q1629 q1630 q1631 q104 q1632⟩)
theorem ct_0_226 : am_CT 0 226 = some (1, 2, 1, mX3_count) := rfl
theorem co_0_227 : am_COK 0 227 8 2 3 mX1_row := Or.inr (Or.inr (Or.inr (Or.inr (Or.inr (Or.inr (Or.inr (Or.inl ⟨rfl, rfl, gm_X1_row, Or.inr (Or.inr ⟨rfl, rfl, rfl⟩)⟩)))))))
theorem ct_0_227 : am_CT 0 227 = some (8, 2, 3, mX1_row) := rfl
theorem co_0_230 : am_COK 0 230 1 2 1 mX3_row := Or.inr (Or.inl ⟨rfl, gm_X3_row, by decide +kernel, Or.inl ⟨by decide, rfl⟩, lw_V q1637 q1638 q1639 q104 q1640⟩)
theorem ct_0_230 : am_CT 0 230 = some (1, 2, 1, mX3_row) := rfl
theorem co_1_1 : am_COK 1 1 5 0 0 mJ11_init := Or.inr (Or.inr (Or.inr (Or.inr (Or.inr (Or.inr (Or.inr (Or.inr (Or.inl ⟨rfl, q127⟩))))))))
theorem ct_1_1 : am_CT 1 1 = some (5, 0, 0, mJ11_init) := rfl
theorem co_1_9 : am_COK 1 9 4 0 0 mX2_init := Or.inr (Or.inr (Or.inr (Or.inr (Or.inl ⟨rfl, gm_X2_init, by decide +kernel, rfl, rfl, (List.mem_of_getElem? (i := 0) rfl), q133, q103, (lw_meth q134)⟩))))
theorem ct_1_9 : am_CT 1 9 = some (4, 0, 0, mX2_init) := rfl
theorem co_1_90 : am_COK 1 90 0 0 2 mX1_common := Or.inl ⟨rfl, gm_X1_common, by decide +kernel, lw_S q907 q908 q102 q909⟩
theorem ct_1_90 : am_CT 1 90 = some (0, 0, 2, mX1_common) := rfl
theorem co_1_97 : am_COK 1 97 0 0 3 mX1_in := Or.inl ⟨rfl, gm_X1_in, by decide +kernel, lw_S q335 q336 q102 q337⟩
theorem ct_1_97 : am_CT 1 97 = some (0, 0, 3, mX1_in) := rfl
theorem co_1_101 : am_COK 1 101 1 0 1 mX1_isNest := Or.inr (Or.inl ⟨rfl, gm_X1_isNest, by decide +kernel, Or.inl ⟨by decide, rfl⟩, lw_V q603 q605 qs14 q102 q606⟩)
theorem ct_1_101 : am_CT 1 101 = some (1, 0, 1, mX1_isNest) := rfl
theorem co_1_107 : am_COK 1 107 1 1 1 mX2_isNoticed := Or.inr (Or.inl ⟨rfl, gm_X2_isNoticed, by decide +kernel, Or.inl ⟨by decide, rfl⟩, lw_V q607 q608 q609 q103 q610⟩)
theorem ct_1_107 : am_CT 1 107 = some (1, 1, 1, mX2_isNoticed) := rfl
theorem co_1_116 : am_COK 1 116 1 0 2 mX1_isInTime := Or.inr (Or.inl ⟨rfl, gm_X1_isInTime, by decide +kernel, Or.inl ⟨by decide, rfl⟩, lw_V q648 q650 qs20 q102 q651⟩)
theorem ct_1_116 : am_CT 1 116 = some (1, 0, 2, mX1_isInTime) := rfl
theorem co_1_129 : am_COK 1 129 9 1 2 mJ11_init := Or.inr (Or.inr (Or.inr (Or.inr (Or.inr (Or.inr (Or.inr (Or.inr (Or.inr ⟨rfl, Or.inr (Or.inl ⟨rfl, q346⟩)⟩))))))))
theorem ct_1_129 : am_CT 1 129 = some (9, 1, 2, mJ11_init) := rfl
theorem co_1_138 : am_COK 1 138 1 0 1 mX1_isAt := Or.inr (Or.inl ⟨rfl, gm_X1_isAt, by decide +kernel, Or.inl ⟨by decide, rfl⟩, lw_V q462 q464 qs7 q102 q465⟩)
theorem ct_1_138 : am_CT 1 138 = some (1, 0, 1, mX1_isAt) := rfl
theorem co_1_142 : am_COK 1 142 1 16 1 mJ1_indexOf := Or.inr (Or.inl ⟨rfl, gm_J1_indexOf, by decide +kernel, Or.inr ⟨rfl, rfl⟩, lw_V q362 q363 q364 q106 q365⟩)
theorem ct_1_142 : am_CT 1 142 = some (1, 16, 1, mJ1_indexOf) := rfl
theorem co_1_148 : am_COK 1 148 1 0 1 mX1_among := Or.inr (Or.inl ⟨rfl, gm_X1_among, by decide +kernel, Or.inl ⟨by decide, rfl⟩, lw_V q358 q360 qs3 q102 q361⟩)
theorem ct_1_148 : am_CT 1 148 = some (1, 0, 1, mX1_among) := rfl
theorem co_1_156 : am_COK 1 156 1 0 0 mX1_isDigit := Or.inr (Or.inl ⟨rfl, gm_X1_isDigit, by decide +kernel, Or.inl ⟨by decide, rfl⟩, lw_V q451 q453 qs5 q102 q454⟩)
theorem ct_1_156 : am_CT 1 156 = some (1, 0, 0, mX1_isDigit) := rfl
theorem co_1_165 : am_COK 1 165 1 0 1 mX1_takesOf := Or.inr (Or.inl ⟨rfl, gm_X1_takesOf, by decide +kernel, Or.inl ⟨by decide, rfl⟩, lw_V q354 q356 qs2 q102 q357⟩)
theorem ct_1_165 : am_CT 1 165 = some (1, 0, 1, mX1_takesOf) := rfl
theorem co_1_170 : am_COK 1 170 1 0 1 mX1_number := Or.inr (Or.inl ⟨rfl, gm_X1_number, by decide +kernel, Or.inl ⟨by decide, rfl⟩, lw_V q447 q449 qs4 q102 q450⟩)
theorem ct_1_170 : am_CT 1 170 = some (1, 0, 1, mX1_number) := rfl
theorem co_1_175 : am_COK 1 175 1 0 1 mX1_begins := Or.inr (Or.inl ⟨rfl, gm_X1_begins, by decide +kernel, Or.inl ⟨by decide, rfl⟩, lw_V q342 q344 qs0 q102 q345⟩)
theorem ct_1_175 : am_CT 1 175 = some (1, 0, 1, mX1_begins) := rfl
theorem co_1_178 : am_COK 1 178 1 0 0 mX1_readsNest := Or.inr (Or.inl ⟨rfl, gm_X1_readsNest, by decide +kernel, Or.inl ⟨by decide, rfl⟩, lw_V q349 q351 qs1 q102 q352⟩)
theorem ct_1_178 : am_CT 1 178 = some (1, 0, 0, mX1_readsNest) := rfl
theorem co_1_181 : am_COK 1 181 1 0 1 mX1_takes := Or.inr (Or.inl ⟨rfl, gm_X1_takes, by decide +kernel, Or.inl ⟨by decide, rfl⟩, lw_V q458 q460 qs6 q102 q461⟩)
theorem ct_1_181 : am_CT 1 181 = some (1, 0, 1, mX1_takes) := rfl
theorem co_1_184 : am_COK 1 184 1 0 2 mX1_faultOf := Or.inr (Or.inl ⟨rfl, gm_X1_faultOf, by decide +kernel, Or.inl ⟨by decide, rfl⟩, lw_V q466 q468 qs8 q102 q469⟩)
theorem ct_1_184 : am_CT 1 184 = some (1, 0, 2, mX1_faultOf) := rfl
theorem co_1_200 : am_COK 1 200 1 1 1 mX2_comes := Or.inr (Or.inl ⟨rfl, gm_X2_comes, by decide +kernel, Or.inl ⟨by decide, rfl⟩, lw_V q470 q471 q472 q103 q473⟩)
theorem ct_1_200 : am_CT 1 200 = some (1, 1, 1, mX2_comes) := rfl
theorem co_1_210 : am_COK 1 210 1 0 0 mX1_readsThing := Or.inr (Or.inl ⟨rfl, gm_X1_readsThing, by decide +kernel, Or.inl ⟨by decide, rfl⟩, lw_V q491 q493 qs11 q102 q494⟩)
theorem ct_1_210 : am_CT 1 210 = some (1, 0, 0, mX1_readsThing) := rfl
theorem co_1_216 : am_COK 1 216 3 0 2 mX5_init := Or.inr (Or.inr (Or.inr (Or.inl ⟨rfl, gm_X5_init, by decide +kernel, rfl, rfl, q497, q498, q112, (lw_meth q499)⟩)))
theorem ct_1_216 : am_CT 1 216 = some (3, 0, 2, mX5_init) := rfl
theorem co_1_221 : am_COK 1 221 3 0 2 mX6_init := Or.inr (Or.inr (Or.inr (Or.inl ⟨rfl, gm_X6_init, by decide +kernel, rfl, rfl, q516, q517, q113, (lw_meth q518)⟩)))
theorem ct_1_221 : am_CT 1 221 = some (3, 0, 2, mX6_init) := rfl
theorem co_1_228 : am_COK 1 228 3 0 2 mX7_init := Or.inr (Or.inr (Or.inr (Or.inl ⟨rfl, gm_X7_init, by decide +kernel, rfl, rfl, q531, q532, q114, (lw_meth q533)⟩)))
theorem ct_1_228 : am_CT 1 228 = some (3, 0, 2, mX7_init) := rfl
theorem co_1_229 : am_COK 1 229 1 0 1 mX1_reads := Or.inr (Or.inl ⟨rfl, gm_X1_reads, by decide +kernel, Or.inl ⟨by decide, rfl⟩, lw_V q487 q489 qs10 q102 q490⟩)
theorem ct_1_229 : am_CT 1 229 = some (1, 0, 1, mX1_reads) := rfl
theorem co_1_239 : am_COK 1 239 0 0 1 mX1_acts := Or.inl ⟨rfl, gm_X1_acts, by decide +kernel, lw_S q543 q544 q102 q545⟩
theorem ct_1_239 : am_CT 1 239 = some (0, 0, 1, mX1_acts) := rfl
theorem co_1_245 : am_COK 1 245 3 0 4 mX8_init := Or.inr (Or.inr (Or.inr (Or.inl ⟨rfl, gm_X8_init, by decide +kernel, rfl, rfl, q551, q552, q115, (lw_meth q553)⟩)))
theorem ct_1_245 : am_CT 1 245 = some (3, 0, 4, mX8_init) := rfl
theorem co_1_252 : am_COK 1 252 1 0 0 mX1_readsRule := Or.inr (Or.inl ⟨rfl, gm_X1_readsRule, by decide +kernel, Or.inl ⟨by decide, rfl⟩, lw_V q483 q485 qs9 q102 q486⟩)
theorem ct_1_252 : am_CT 1 252 = some (1, 0, 0, mX1_readsRule) := rfl
theorem co_1_262 : am_COK 1 262 9 2 1 mJ11_init := Or.inr (Or.inr (Or.inr (Or.inr (Or.inr (Or.inr (Or.inr (Or.inr (Or.inr ⟨rfl, Or.inr (Or.inr ⟨rfl, q661⟩)⟩))))))))
theorem ct_1_262 : am_CT 1 262 = some (9, 2, 1, mJ11_init) := rfl
theorem co_1_265 : am_COK 1 265 9 0 2 mJ11_init := Or.inr (Or.inr (Or.inr (Or.inr (Or.inr (Or.inr (Or.inr (Or.inr (Or.inr ⟨rfl, Or.inl ⟨rfl, q579⟩⟩))))))))
theorem ct_1_265 : am_CT 1 265 = some (9, 0, 2, mJ11_init) := rfl
theorem co_1_274 : am_COK 1 274 6 0 0 mX5_value := Or.inr (Or.inr (Or.inr (Or.inr (Or.inr (Or.inl ⟨rfl, rfl, fun t h1 h2 => by
    match t, h1, h2 with
    | 3, _, _ => exact ⟨gm_X6_value, lw_app (fun w hw => by first | (simp only [List.mem_cons, List.not_mem_nil, or_false] at hw; rcases hw with rfl | rfl | rfl | rfl | rfl <;> first | exact q664 | exact q666 | exact q686 | exact q674 | exact q113)) (lw_meth q675)⟩
    | 4, _, _ => exact ⟨gm_X7_value, lw_app (fun w hw => by first | (simp only [List.mem_cons, List.not_mem_nil, or_false] at hw; rcases hw with rfl | rfl | rfl | rfl | rfl <;> first | exact q664 | exact q666 | exact q687 | exact q676 | exact q114)) (lw_meth q677)⟩
    | 5, _, _ => exact ⟨gm_X5_value, lw_app (fun w hw => by first | (simp only [List.mem_cons, List.not_mem_nil, or_false] at hw; rcases hw with rfl | rfl | rfl | rfl | rfl <;> first | exact q664 | exact q666 | exact q685 | exact q671 | exact q112)) (lw_meth q672)⟩
    | 6, _, _ => exact ⟨gm_X8_value, lw_app (fun w hw => by first | (simp only [List.mem_cons, List.not_mem_nil, or_false] at hw; rcases hw with rfl | rfl | rfl | rfl | rfl <;> first | exact q664 | exact q666 | exact q667 | exact q668 | exact q115)) (lw_meth q669)⟩⟩)))))
theorem ct_1_274 : am_CT 1 274 = some (6, 0, 0, mX5_value) := rfl
theorem co_1_291 : am_COK 1 291 1 0 2 mX1_oddOf := Or.inr (Or.inl ⟨rfl, gm_X1_oddOf, by decide +kernel, Or.inl ⟨by decide, rfl⟩, lw_V q657 q659 qs21 q102 q660⟩)
theorem ct_1_291 : am_CT 1 291 = some (1, 0, 2, mX1_oddOf) := rfl
theorem co_1_297 : am_COK 1 297 1 0 1 mX1_sumOf := Or.inr (Or.inl ⟨rfl, gm_X1_sumOf, by decide +kernel, Or.inl ⟨by decide, rfl⟩, lw_V q580 q582 qs12 q102 q583⟩)
theorem ct_1_297 : am_CT 1 297 = some (1, 0, 1, mX1_sumOf) := rfl
theorem co_1_301 : am_COK 1 301 1 1 1 mX2_becomes := Or.inr (Or.inl ⟨rfl, gm_X2_becomes, by decide +kernel, Or.inl ⟨by decide, rfl⟩, lw_V q588 q589 q590 q103 q591⟩)
theorem ct_1_301 : am_CT 1 301 = some (1, 1, 1, mX2_becomes) := rfl
theorem co_1_305 : am_COK 1 305 1 0 1 mX1_putsBy := Or.inr (Or.inl ⟨rfl, gm_X1_putsBy, by decide +kernel, Or.inl ⟨by decide, rfl⟩, lw_V q625 q627 qs17 q102 q628⟩)
theorem ct_1_305 : am_CT 1 305 = some (1, 0, 1, mX1_putsBy) := rfl
theorem co_1_308 : am_COK 1 308 1 0 1 mX1_noticed := Or.inr (Or.inl ⟨rfl, gm_X1_noticed, by decide +kernel, Or.inl ⟨by decide, rfl⟩, lw_V q611 q613 qs15 q102 q614⟩)
theorem ct_1_308 : am_CT 1 308 = some (1, 0, 1, mX1_noticed) := rfl
theorem co_1_312 : am_COK 1 312 0 0 1 mJ10_bitCount := Or.inl ⟨rfl, gm_J10_bitCount, by decide +kernel, lw_S q615 q616 q120 q617⟩
theorem ct_1_312 : am_CT 1 312 = some (0, 0, 1, mJ10_bitCount) := rfl
theorem co_1_317 : am_COK 1 317 0 0 1 mX1_isColour := Or.inl ⟨rfl, gm_X1_isColour, by decide +kernel, lw_S q645 q646 q102 q647⟩
theorem ct_1_317 : am_CT 1 317 = some (0, 0, 1, mX1_isColour) := rfl
theorem co_1_320 : am_COK 1 320 1 1 2 mX2_lies := Or.inr (Or.inl ⟨rfl, gm_X2_lies, by decide +kernel, Or.inl ⟨by decide, rfl⟩, lw_V q652 q653 q654 q103 q655⟩)
theorem ct_1_320 : am_CT 1 320 = some (1, 1, 2, mX2_lies) := rfl
theorem co_1_324 : am_COK 1 324 1 0 2 mX1_isPair := Or.inr (Or.inl ⟨rfl, gm_X1_isPair, by decide +kernel, Or.inl ⟨by decide, rfl⟩, lw_V q704 q706 qs25 q102 q707⟩)
theorem ct_1_324 : am_CT 1 324 = some (1, 0, 2, mX1_isPair) := rfl
theorem co_1_328 : am_COK 1 328 0 0 3 mX1_swaps := Or.inl ⟨rfl, gm_X1_swaps, by decide +kernel, lw_S q708 q709 q102 q710⟩
theorem ct_1_328 : am_CT 1 328 = some (0, 0, 3, mX1_swaps) := rfl
theorem co_1_332 : am_COK 1 332 1 0 2 mX1_guests := Or.inr (Or.inl ⟨rfl, gm_X1_guests, by decide +kernel, Or.inl ⟨by decide, rfl⟩, lw_V q724 q682 qs22 q102 q683⟩)
theorem ct_1_332 : am_CT 1 332 = some (1, 0, 2, mX1_guests) := rfl
theorem co_1_335 : am_COK 1 335 1 1 1 mX2_leaves := Or.inr (Or.inl ⟨rfl, gm_X2_leaves, by decide +kernel, Or.inl ⟨by decide, rfl⟩, lw_V q725 q475 q476 q103 q477⟩)
theorem ct_1_335 : am_CT 1 335 = some (1, 1, 1, mX2_leaves) := rfl
theorem co_1_341 : am_COK 1 341 0 0 2 mX1_has := Or.inl ⟨rfl, gm_X1_has, by decide +kernel, lw_S q726 q727 q102 q728⟩
theorem ct_1_341 : am_CT 1 341 = some (0, 0, 2, mX1_has) := rfl
theorem co_1_350 : am_COK 1 350 1 0 1 mX1_dayGoes := Or.inr (Or.inl ⟨rfl, gm_X1_dayGoes, by decide +kernel, Or.inl ⟨by decide, rfl⟩, lw_V q720 q722 qs27 q102 q723⟩)
theorem ct_1_350 : am_CT 1 350 = some (1, 0, 1, mX1_dayGoes) := rfl
theorem co_1_353 : am_COK 1 353 1 0 2 mX1_announces := Or.inr (Or.inl ⟨rfl, gm_X1_announces, by decide +kernel, Or.inl ⟨by decide, rfl⟩, lw_V q599 q601 qs13 q102 q602⟩)
theorem ct_1_353 : am_CT 1 353 = some (1, 0, 2, mX1_announces) := rfl
theorem co_1_356 : am_COK 1 356 1 0 1 mX1_counts := Or.inr (Or.inl ⟨rfl, gm_X1_counts, by decide +kernel, Or.inl ⟨by decide, rfl⟩, lw_V q621 q623 qs16 q102 q624⟩)
theorem ct_1_356 : am_CT 1 356 = some (1, 0, 1, mX1_counts) := rfl
theorem co_1_359 : am_COK 1 359 1 0 2 mX1_repliesTo := Or.inr (Or.inl ⟨rfl, gm_X1_repliesTo, by decide +kernel, Or.inl ⟨by decide, rfl⟩, lw_V q633 q635 qs18 q102 q636⟩)
theorem ct_1_359 : am_CT 1 359 = some (1, 0, 2, mX1_repliesTo) := rfl
theorem co_1_362 : am_COK 1 362 1 0 3 mX1_lays := Or.inr (Or.inl ⟨rfl, gm_X1_lays, by decide +kernel, Or.inl ⟨by decide, rfl⟩, lw_V q641 q643 qs19 q102 q644⟩)
theorem ct_1_362 : am_CT 1 362 = some (1, 0, 3, mX1_lays) := rfl
theorem co_1_366 : am_COK 1 366 1 0 3 mX1_tints := Or.inr (Or.inl ⟨rfl, gm_X1_tints, by decide +kernel, Or.inl ⟨by decide, rfl⟩, lw_V q692 q694 qs23 q102 q695⟩)
theorem ct_1_366 : am_CT 1 366 = some (1, 0, 3, mX1_tints) := rfl
theorem co_1_369 : am_COK 1 369 1 0 3 mX1_exchanges := Or.inr (Or.inl ⟨rfl, gm_X1_exchanges, by decide +kernel, Or.inl ⟨by decide, rfl⟩, lw_V q700 q702 qs24 q102 q703⟩)
theorem ct_1_369 : am_CT 1 369 = some (1, 0, 3, mX1_exchanges) := rfl
theorem co_1_374 : am_COK 1 374 1 0 2 mX1_daysGo := Or.inr (Or.inl ⟨rfl, gm_X1_daysGo, by decide +kernel, Or.inl ⟨by decide, rfl⟩, lw_V q716 q718 qs26 q102 q719⟩)
theorem ct_1_374 : am_CT 1 374 = some (1, 0, 2, mX1_daysGo) := rfl
theorem co_1_381 : am_COK 1 381 1 0 1 mX1_tells := Or.inr (Or.inl ⟨rfl, gm_X1_tells, by decide +kernel, Or.inl ⟨by decide, rfl⟩, lw_V q729 q731 qs28 q102 q732⟩)
theorem ct_1_381 : am_CT 1 381 = some (1, 0, 1, mX1_tells) := rfl
theorem co_1_390 : am_COK 1 390 1 0 0 mX1_readsAct := Or.inr (Or.inl ⟨rfl, gm_X1_readsAct, by decide +kernel, Or.inl ⟨by decide, rfl⟩, lw_V q737 q739 qs29 q102 q740⟩)
theorem ct_1_390 : am_CT 1 390 = some (1, 0, 0, mX1_readsAct) := rfl
theorem co_1_393 : am_COK 1 393 1 0 1 mX1_does := Or.inr (Or.inl ⟨rfl, gm_X1_does, by decide +kernel, Or.inl ⟨by decide, rfl⟩, lw_V q742 q744 qs30 q102 q745⟩)
theorem ct_1_393 : am_CT 1 393 = some (1, 0, 1, mX1_does) := rfl
theorem co_1_396 : am_COK 1 396 1 0 2 mX1_oddIf := Or.inr (Or.inl ⟨rfl, gm_X1_oddIf, by decide +kernel, Or.inl ⟨by decide, rfl⟩, lw_V q750 q752 qs31 q102 q753⟩)
theorem ct_1_396 : am_CT 1 396 = some (1, 0, 2, mX1_oddIf) := rfl
theorem co_1_399 : am_COK 1 399 0 0 1 mX1_shown := Or.inl ⟨rfl, gm_X1_shown, by decide +kernel, lw_S q754 q755 q102 q756⟩
theorem ct_1_399 : am_CT 1 399 = some (0, 0, 1, mX1_shown) := rfl
theorem co_1_402 : am_COK 1 402 1 0 2 mX1_isFree := Or.inr (Or.inl ⟨rfl, gm_X1_isFree, by decide +kernel, Or.inl ⟨by decide, rfl⟩, lw_V q765 q767 qs32 q102 q768⟩)
theorem ct_1_402 : am_CT 1 402 = some (1, 0, 2, mX1_isFree) := rfl
theorem co_1_405 : am_COK 1 405 1 0 1 mX1_fliesIn := Or.inr (Or.inl ⟨rfl, gm_X1_fliesIn, by decide +kernel, Or.inl ⟨by decide, rfl⟩, lw_V q773 q775 qs33 q102 q776⟩)
theorem ct_1_405 : am_CT 1 405 = some (1, 0, 1, mX1_fliesIn) := rfl
theorem co_1_413 : am_COK 1 413 7 0 5 mJ11_init := Or.inr (Or.inr (Or.inr (Or.inr (Or.inr (Or.inr (Or.inl ⟨rfl, q790⟩))))))
theorem ct_1_413 : am_CT 1 413 = some (7, 0, 5, mJ11_init) := rfl
theorem co_1_419 : am_COK 1 419 1 0 3 mX1_placesFrom := Or.inr (Or.inl ⟨rfl, gm_X1_placesFrom, by decide +kernel, Or.inl ⟨by decide, rfl⟩, lw_V q786 q788 qs34 q102 q789⟩)
theorem ct_1_419 : am_CT 1 419 = some (1, 0, 3, mX1_placesFrom) := rfl
theorem co_1_424 : am_COK 1 424 1 0 0 mX1_turnedNow := Or.inr (Or.inl ⟨rfl, gm_X1_turnedNow, by decide +kernel, Or.inl ⟨by decide, rfl⟩, lw_V q808 q810 qs35 q102 q811⟩)
theorem ct_1_424 : am_CT 1 424 = some (1, 0, 0, mX1_turnedNow) := rfl
theorem co_1_427 : am_COK 1 427 1 0 2 mX1_waitsFor := Or.inr (Or.inl ⟨rfl, gm_X1_waitsFor, by decide +kernel, Or.inl ⟨by decide, rfl⟩, lw_V q820 q822 qs36 q102 q823⟩)
theorem ct_1_427 : am_CT 1 427 = some (1, 0, 2, mX1_waitsFor) := rfl
theorem co_1_432 : am_COK 1 432 1 0 1 mX1_inTime := Or.inr (Or.inl ⟨rfl, gm_X1_inTime, by decide +kernel, Or.inl ⟨by decide, rfl⟩, lw_V q833 q835 qs37 q102 q836⟩)
theorem ct_1_432 : am_CT 1 432 = some (1, 0, 1, mX1_inTime) := rfl
theorem co_1_435 : am_COK 1 435 1 0 1 mX1_beside := Or.inr (Or.inl ⟨rfl, gm_X1_beside, by decide +kernel, Or.inl ⟨by decide, rfl⟩, lw_V q854 q856 qs40 q102 q857⟩)
theorem ct_1_435 : am_CT 1 435 = some (1, 0, 1, mX1_beside) := rfl
theorem co_1_440 : am_COK 1 440 1 0 1 mX1_wanted := Or.inr (Or.inl ⟨rfl, gm_X1_wanted, by decide +kernel, Or.inl ⟨by decide, rfl⟩, lw_V q846 q848 qs38 q102 q849⟩)
theorem ct_1_440 : am_CT 1 440 = some (1, 0, 1, mX1_wanted) := rfl
theorem co_1_443 : am_COK 1 443 1 0 2 mX1_fedBy := Or.inr (Or.inl ⟨rfl, gm_X1_fedBy, by decide +kernel, Or.inl ⟨by decide, rfl⟩, lw_V q850 q852 qs39 q102 q853⟩)
theorem ct_1_443 : am_CT 1 443 = some (1, 0, 2, mX1_fedBy) := rfl
theorem co_1_446 : am_COK 1 446 1 0 2 mX1_dislikes := Or.inr (Or.inl ⟨rfl, gm_X1_dislikes, by decide +kernel, Or.inl ⟨by decide, rfl⟩, lw_V q882 q884 qs43 q102 q885⟩)
theorem ct_1_446 : am_CT 1 446 = some (1, 0, 2, mX1_dislikes) := rfl
theorem co_1_449 : am_COK 1 449 0 0 1 mJ10_numberOfTrailingZeros := Or.inl ⟨rfl, gm_J10_numberOfTrailingZeros, by decide +kernel, lw_S q874 q875 q120 q876⟩
theorem ct_1_449 : am_CT 1 449 = some (0, 0, 1, mJ10_numberOfTrailingZeros) := rfl
theorem co_1_452 : am_COK 1 452 1 0 2 mX1_pointsTo := Or.inr (Or.inl ⟨rfl, gm_X1_pointsTo, by decide +kernel, Or.inl ⟨by decide, rfl⟩, lw_V q878 q880 qs42 q102 q881⟩)
theorem ct_1_452 : am_CT 1 452 = some (1, 0, 2, mX1_pointsTo) := rfl
theorem co_1_455 : am_COK 1 455 1 0 0 mX1_laysLodgings := Or.inr (Or.inl ⟨rfl, gm_X1_laysLodgings, by decide +kernel, Or.inl ⟨by decide, rfl⟩, lw_V q870 q872 qs41 q102 q873⟩)
theorem ct_1_455 : am_CT 1 455 = some (1, 0, 0, mX1_laysLodgings) := rfl
theorem co_1_458 : am_COK 1 458 1 0 2 mX1_wouldHave := Or.inr (Or.inl ⟨rfl, gm_X1_wouldHave, by decide +kernel, Or.inl ⟨by decide, rfl⟩, lw_V q894 q896 qs44 q102 q897⟩)
theorem ct_1_458 : am_CT 1 458 = some (1, 0, 2, mX1_wouldHave) := rfl
theorem co_1_465 : am_COK 1 465 0 0 3 mX1_looks := Or.inl ⟨rfl, gm_X1_looks, by decide +kernel, lw_S q904 q905 q102 q906⟩
theorem ct_1_465 : am_CT 1 465 = some (0, 0, 3, mX1_looks) := rfl
theorem co_1_474 : am_COK 1 474 1 0 3 mX1_isSo := Or.inr (Or.inl ⟨rfl, gm_X1_isSo, by decide +kernel, Or.inl ⟨by decide, rfl⟩, lw_V q927 q929 qs46 q102 q930⟩)
theorem ct_1_474 : am_CT 1 474 = some (1, 0, 3, mX1_isSo) := rfl
theorem co_1_478 : am_COK 1 478 1 0 0 mX1_fitting := Or.inr (Or.inl ⟨rfl, gm_X1_fitting, by decide +kernel, Or.inl ⟨by decide, rfl⟩, lw_V q923 q925 qs45 q102 q926⟩)
theorem ct_1_478 : am_CT 1 478 = some (1, 0, 0, mX1_fitting) := rfl
theorem co_1_481 : am_COK 1 481 0 0 3 mX1_isRest := Or.inl ⟨rfl, gm_X1_isRest, by decide +kernel, lw_S q939 q940 q102 q941⟩
theorem ct_1_481 : am_CT 1 481 = some (0, 0, 3, mX1_isRest) := rfl
theorem co_1_484 : am_COK 1 484 1 0 1 mX1_flownIn := Or.inr (Or.inl ⟨rfl, gm_X1_flownIn, by decide +kernel, Or.inl ⟨by decide, rfl⟩, lw_V q946 q948 qs47 q102 q949⟩)
theorem ct_1_484 : am_CT 1 484 = some (1, 0, 1, mX1_flownIn) := rfl
theorem co_1_491 : am_COK 1 491 1 0 1 mX1_draws := Or.inr (Or.inl ⟨rfl, gm_X1_draws, by decide +kernel, Or.inl ⟨by decide, rfl⟩, lw_V q954 q956 qs48 q102 q957⟩)
theorem ct_1_491 : am_CT 1 491 = some (1, 0, 1, mX1_draws) := rfl
theorem co_2_3 : am_COK 2 3 5 0 0 mJ11_init := Or.inr (Or.inr (Or.inr (Or.inr (Or.inr (Or.inr (Or.inr (Or.inr (Or.inl ⟨rfl, q135⟩))))))))
theorem ct_2_3 : am_CT 2 3 = some (5, 0, 0, mJ11_init) := rfl
theorem co_2_42 : am_COK 2 42 7 0 5 mJ11_init := Or.inr (Or.inr (Or.inr (Or.inr (Or.inr (Or.inr (Or.inl ⟨rfl, q592⟩))))))
theorem ct_2_42 : am_CT 2 42 = some (7, 0, 5, mJ11_init) := rfl
theorem co_2_58 : am_COK 2 58 1 1 1 mX2_leaves := Or.inr (Or.inl ⟨rfl, gm_X2_leaves, by decide +kernel, Or.inl ⟨by decide, rfl⟩, lw_V q474 q475 q476 q103 q477⟩)
theorem ct_2_58 : am_CT 2 58 = some (1, 1, 1, mX2_leaves) := rfl
theorem co_2_62 : am_COK 2 62 9 0 2 mJ11_init := Or.inr (Or.inr (Or.inr (Or.inr (Or.inr (Or.inr (Or.inr (Or.inr (Or.inr ⟨rfl, Or.inl ⟨rfl, q656⟩⟩))))))))
theorem ct_2_62 : am_CT 2 62 = some (9, 0, 2, mJ11_init) := rfl
theorem co_3_3 : am_COK 3 3 5 0 0 mJ11_init := Or.inr (Or.inr (Or.inr (Or.inr (Or.inr (Or.inr (Or.inr (Or.inr (Or.inl ⟨rfl, q1059⟩))))))))
theorem ct_3_3 : am_CT 3 3 = some (5, 0, 0, mJ11_init) := rfl
theorem co_3_92 : am_COK 3 92 0 0 3 mX3_in := Or.inl ⟨rfl, gm_X3_in, by decide +kernel, lw_S q1190 q1191 q104 q1192⟩
theorem ct_3_92 : am_CT 3 92 = some (0, 0, 3, mX3_in) := rfl
theorem co_3_96 : am_COK 3 96 1 2 1 mX3_isNest := Or.inr (Or.inl ⟨rfl, gm_X3_isNest, by decide +kernel, Or.inl ⟨by decide, rfl⟩, lw_V q1275 q1277 qs66 q104 q1278⟩)
theorem ct_3_96 : am_CT 3 96 = some (1, 2, 1, mX3_isNest) := rfl
theorem co_3_118 : am_COK 3 118 1 2 3 mX3_begin := Or.inr (Or.inl ⟨rfl, gm_X3_begin, by decide +kernel, Or.inl ⟨by decide, rfl⟩, lw_V q1201 q1203 qs51 q104 q1204⟩)
theorem ct_3_118 : am_CT 3 118 = some (1, 2, 3, mX3_begin) := rfl
theorem co_3_122 : am_COK 3 122 1 2 0 mX3_fine := Or.inr (Or.inl ⟨rfl, gm_X3_fine, by decide +kernel, Or.inl ⟨by decide, rfl⟩, lw_V q1205 q1207 qs52 q104 q1208⟩)
theorem ct_3_122 : am_CT 3 122 = some (1, 2, 0, mX3_fine) := rfl
theorem co_3_126 : am_COK 3 126 1 2 0 mX3_here := Or.inr (Or.inl ⟨rfl, gm_X3_here, by decide +kernel, Or.inl ⟨by decide, rfl⟩, lw_V q1217 q1219 qs55 q104 q1220⟩)
theorem ct_3_126 : am_CT 3 126 = some (1, 2, 0, mX3_here) := rfl
theorem co_3_130 : am_COK 3 130 1 2 1 mX3_passes := Or.inr (Or.inl ⟨rfl, gm_X3_passes, by decide +kernel, Or.inl ⟨by decide, rfl⟩, lw_V q1228 q1230 qs57 q104 q1231⟩)
theorem ct_3_130 : am_CT 3 130 = some (1, 2, 1, mX3_passes) := rfl
theorem co_3_134 : am_COK 3 134 1 2 1 mX3_fault := Or.inr (Or.inl ⟨rfl, gm_X3_fault, by decide +kernel, Or.inl ⟨by decide, rfl⟩, lw_V q1209 q1211 qs53 q104 q1212⟩)
theorem ct_3_134 : am_CT 3 134 = some (1, 2, 1, mX3_fault) := rfl
theorem co_3_138 : am_COK 3 138 1 2 2 mX3_oneOf := Or.inr (Or.inl ⟨rfl, gm_X3_oneOf, by decide +kernel, Or.inl ⟨by decide, rfl⟩, lw_V q1224 q1226 qs56 q104 q1227⟩)
theorem ct_3_138 : am_CT 3 138 = some (1, 2, 2, mX3_oneOf) := rfl
theorem co_3_142 : am_COK 3 142 0 0 1 mX3_kindBy := Or.inl ⟨rfl, gm_X3_kindBy, by decide +kernel, lw_S q1221 q1222 q104 q1223⟩
theorem ct_3_142 : am_CT 3 142 = some (0, 0, 1, mX3_kindBy) := rfl
theorem co_3_146 : am_COK 3 146 1 2 1 mX3_beginText := Or.inr (Or.inl ⟨rfl, gm_X3_beginText, by decide +kernel, Or.inl ⟨by decide, rfl⟩, lw_V q1197 q1199 qs50 q104 q1200⟩)
theorem ct_3_146 : am_CT 3 146 = some (1, 2, 1, mX3_beginText) := rfl
theorem co_3_149 : am_COK 3 149 1 2 1 mX3_readNest := Or.inr (Or.inl ⟨rfl, gm_X3_readNest, by decide +kernel, Or.inl ⟨by decide, rfl⟩, lw_V q1213 q1215 qs54 q104 q1216⟩)
theorem ct_3_149 : am_CT 3 149 = some (1, 2, 1, mX3_readNest) := rfl
theorem co_3_152 : am_COK 3 152 1 2 0 mX3_wasRight := Or.inr (Or.inl ⟨rfl, gm_X3_wasRight, by decide +kernel, Or.inl ⟨by decide, rfl⟩, lw_V q1232 q1234 qs58 q104 q1235⟩)
theorem ct_3_152 : am_CT 3 152 = some (1, 2, 0, mX3_wasRight) := rfl
theorem co_3_161 : am_COK 3 161 1 2 1 mX3_sum := Or.inr (Or.inl ⟨rfl, gm_X3_sum, by decide +kernel, Or.inl ⟨by decide, rfl⟩, lw_V q1248 q1250 qs61 q104 q1251⟩)
theorem ct_3_161 : am_CT 3 161 = some (1, 2, 1, mX3_sum) := rfl
theorem co_3_164 : am_COK 3 164 1 2 1 mX3_product := Or.inr (Or.inl ⟨rfl, gm_X3_product, by decide +kernel, Or.inl ⟨by decide, rfl⟩, lw_V q1252 q1254 qs62 q104 q1255⟩)
theorem ct_3_164 : am_CT 3 164 = some (1, 2, 1, mX3_product) := rfl
theorem co_3_167 : am_COK 3 167 1 2 1 mX3_thing := Or.inr (Or.inl ⟨rfl, gm_X3_thing, by decide +kernel, Or.inl ⟨by decide, rfl⟩, lw_V q1256 q1258 qs63 q104 q1259⟩)
theorem ct_3_167 : am_CT 3 167 = some (1, 2, 1, mX3_thing) := rfl
theorem co_3_170 : am_COK 3 170 1 2 1 mX3_held := Or.inr (Or.inl ⟨rfl, gm_X3_held, by decide +kernel, Or.inl ⟨by decide, rfl⟩, lw_V q1244 q1246 qs60 q104 q1247⟩)
theorem ct_3_170 : am_CT 3 170 = some (1, 2, 1, mX3_held) := rfl
theorem co_3_173 : am_COK 3 173 1 2 1 mX3_need := Or.inr (Or.inl ⟨rfl, gm_X3_need, by decide +kernel, Or.inl ⟨by decide, rfl⟩, lw_V q1260 q1262 qs64 q104 q1263⟩)
theorem ct_3_173 : am_CT 3 173 = some (1, 2, 1, mX3_need) := rfl
theorem co_3_177 : am_COK 3 177 1 2 1 mX3_number := Or.inr (Or.inl ⟨rfl, gm_X3_number, by decide +kernel, Or.inl ⟨by decide, rfl⟩, lw_V q1264 q1266 qs65 q104 q1267⟩)
theorem ct_3_177 : am_CT 3 177 = some (1, 2, 1, mX3_number) := rfl
theorem co_3_180 : am_COK 3 180 0 0 1 mX3_letterOf := Or.inl ⟨rfl, gm_X3_letterOf, by decide +kernel, lw_S q1268 q1269 q104 q1270⟩
theorem ct_3_180 : am_CT 3 180 = some (0, 0, 1, mX3_letterOf) := rfl
theorem co_3_187 : am_COK 3 187 1 2 0 mX3_readRule := Or.inr (Or.inl ⟨rfl, gm_X3_readRule, by decide +kernel, Or.inl ⟨by decide, rfl⟩, lw_V q1240 q1242 qs59 q104 q1243⟩)
theorem ct_3_187 : am_CT 3 187 = some (1, 2, 0, mX3_readRule) := rfl
theorem co_3_193 : am_COK 3 193 9 2 1 mJ11_init := Or.inr (Or.inr (Or.inr (Or.inr (Or.inr (Or.inr (Or.inr (Or.inr (Or.inr ⟨rfl, Or.inr (Or.inr ⟨rfl, q1304⟩)⟩))))))))
theorem ct_3_193 : am_CT 3 193 = some (9, 2, 1, mJ11_init) := rfl
theorem co_3_198 : am_COK 3 198 9 0 2 mJ11_init := Or.inr (Or.inr (Or.inr (Or.inr (Or.inr (Or.inr (Or.inr (Or.inr (Or.inr ⟨rfl, Or.inl ⟨rfl, q1305⟩⟩))))))))
theorem ct_3_198 : am_CT 3 198 = some (9, 0, 2, mJ11_init) := rfl
theorem co_3_202 : am_COK 3 202 1 2 1 mX3_guests := Or.inr (Or.inl ⟨rfl, gm_X3_guests, by decide +kernel, Or.inl ⟨by decide, rfl⟩, lw_V q1295 q1297 qs70 q104 q1298⟩)
theorem ct_3_202 : am_CT 3 202 = some (1, 2, 1, mX3_guests) := rfl
theorem co_3_206 : am_COK 3 206 0 0 1 mJ10_bitCount := Or.inl ⟨rfl, gm_J10_bitCount, by decide +kernel, lw_S q1299 q616 q120 q617⟩
theorem ct_3_206 : am_CT 3 206 = some (0, 0, 1, mJ10_bitCount) := rfl
theorem co_3_211 : am_COK 3 211 1 2 6 mX3_oddOf := Or.inr (Or.inl ⟨rfl, gm_X3_oddOf, by decide +kernel, Or.inl ⟨by decide, rfl⟩, lw_V q1300 q1302 qs71 q104 q1303⟩)
theorem ct_3_211 : am_CT 3 211 = some (1, 2, 6, mX3_oddOf) := rfl
theorem co_3_215 : am_COK 3 215 9 1 2 mJ11_init := Or.inr (Or.inr (Or.inr (Or.inr (Or.inr (Or.inr (Or.inr (Or.inr (Or.inr ⟨rfl, Or.inr (Or.inl ⟨rfl, q1314⟩)⟩))))))))
theorem ct_3_215 : am_CT 3 215 = some (9, 1, 2, mJ11_init) := rfl
theorem co_3_218 : am_COK 3 218 1 2 0 mX3_lost := Or.inr (Or.inl ⟨rfl, gm_X3_lost, by decide +kernel, Or.inl ⟨by decide, rfl⟩, lw_V q1279 q1281 qs67 q104 q1282⟩)
theorem ct_3_218 : am_CT 3 218 = some (1, 2, 0, mX3_lost) := rfl
theorem co_3_221 : am_COK 3 221 1 2 2 mX3_isInTime := Or.inr (Or.inl ⟨rfl, gm_X3_isInTime, by decide +kernel, Or.inl ⟨by decide, rfl⟩, lw_V q1283 q1285 qs68 q104 q1286⟩)
theorem ct_3_221 : am_CT 3 221 = some (1, 2, 2, mX3_isInTime) := rfl
theorem co_3_225 : am_COK 3 225 1 2 2 mX3_oddNow := Or.inr (Or.inl ⟨rfl, gm_X3_oddNow, by decide +kernel, Or.inl ⟨by decide, rfl⟩, lw_V q1291 q1293 qs69 q104 q1294⟩)
theorem ct_3_225 : am_CT 3 225 = some (1, 2, 2, mX3_oddNow) := rfl
theorem co_3_229 : am_COK 3 229 0 0 3 mX3_lay0 := Or.inl ⟨rfl, gm_X3_lay0, by decide +kernel, lw_S q1327 q1328 q104 q1329⟩
theorem ct_3_229 : am_CT 3 229 = some (0, 0, 3, mX3_lay0) := rfl
theorem co_3_233 : am_COK 3 233 1 2 2 mX3_refusesAnnounce := Or.inr (Or.inl ⟨rfl, gm_X3_refusesAnnounce, by decide +kernel, Or.inl ⟨by decide, rfl⟩, lw_V q1319 q1321 qs72 q104 q1322⟩)
theorem ct_3_233 : am_CT 3 233 = some (1, 2, 2, mX3_refusesAnnounce) := rfl
theorem co_3_236 : am_COK 3 236 1 2 1 mX3_remember := Or.inr (Or.inl ⟨rfl, gm_X3_remember, by decide +kernel, Or.inl ⟨by decide, rfl⟩, lw_V q1323 q1325 qs73 q104 q1326⟩)
theorem ct_3_236 : am_CT 3 236 = some (1, 2, 1, mX3_remember) := rfl
theorem co_3_240 : am_COK 3 240 0 0 2 mX3_goAnnounce := Or.inl ⟨rfl, gm_X3_goAnnounce, by decide +kernel, lw_S q1330 q1331 q104 q1332⟩
theorem ct_3_240 : am_CT 3 240 = some (0, 0, 2, mX3_goAnnounce) := rfl
theorem co_3_244 : am_COK 3 244 1 2 1 mX3_notices := Or.inr (Or.inl ⟨rfl, gm_X3_notices, by decide +kernel, Or.inl ⟨by decide, rfl⟩, lw_V q1333 q1335 qs74 q104 q1336⟩)
theorem ct_3_244 : am_CT 3 244 = some (1, 2, 1, mX3_notices) := rfl
theorem co_3_247 : am_COK 3 247 1 2 2 mX3_refusesReply := Or.inr (Or.inl ⟨rfl, gm_X3_refusesReply, by decide +kernel, Or.inl ⟨by decide, rfl⟩, lw_V q1341 q1343 qs75 q104 q1344⟩)
theorem ct_3_247 : am_CT 3 247 = some (1, 2, 2, mX3_refusesReply) := rfl
theorem co_3_250 : am_COK 3 250 0 0 2 mX3_goReply := Or.inl ⟨rfl, gm_X3_goReply, by decide +kernel, lw_S q1345 q1346 q104 q1347⟩
theorem ct_3_250 : am_CT 3 250 = some (0, 0, 2, mX3_goReply) := rfl
theorem co_3_253 : am_COK 3 253 0 0 1 mX3_isColour := Or.inl ⟨rfl, gm_X3_isColour, by decide +kernel, lw_S q1356 q1357 q104 q1358⟩
theorem ct_3_253 : am_CT 3 253 = some (0, 0, 1, mX3_isColour) := rfl
theorem co_3_256 : am_COK 3 256 1 2 3 mX3_refusesLay := Or.inr (Or.inl ⟨rfl, gm_X3_refusesLay, by decide +kernel, Or.inl ⟨by decide, rfl⟩, lw_V q1352 q1354 qs76 q104 q1355⟩)
theorem ct_3_256 : am_CT 3 256 = some (1, 2, 3, mX3_refusesLay) := rfl
theorem co_3_260 : am_COK 3 260 0 0 3 mX3_goLay := Or.inl ⟨rfl, gm_X3_goLay, by decide +kernel, lw_S q1359 q1360 q104 q1361⟩
theorem ct_3_260 : am_CT 3 260 = some (0, 0, 3, mX3_goLay) := rfl
theorem co_3_264 : am_COK 3 264 1 2 2 mX3_refusesTint := Or.inr (Or.inl ⟨rfl, gm_X3_refusesTint, by decide +kernel, Or.inl ⟨by decide, rfl⟩, lw_V q1366 q1368 qs77 q104 q1369⟩)
theorem ct_3_264 : am_CT 3 264 = some (1, 2, 2, mX3_refusesTint) := rfl
theorem co_3_267 : am_COK 3 267 1 2 2 mX3_areTwo := Or.inr (Or.inl ⟨rfl, gm_X3_areTwo, by decide +kernel, Or.inl ⟨by decide, rfl⟩, lw_V q1374 q1376 qs78 q104 q1377⟩)
theorem ct_3_267 : am_CT 3 267 = some (1, 2, 2, mX3_areTwo) := rfl
theorem co_3_271 : am_COK 3 271 0 0 3 mX3_goExchange := Or.inl ⟨rfl, gm_X3_goExchange, by decide +kernel, lw_S q1378 q1379 q104 q1380⟩
theorem ct_3_271 : am_CT 3 271 = some (0, 0, 3, mX3_goExchange) := rfl
theorem co_3_274 : am_COK 3 274 1 2 1 mX3_outs := Or.inr (Or.inl ⟨rfl, gm_X3_outs, by decide +kernel, Or.inl ⟨by decide, rfl⟩, lw_V q1393 q1395 qs81 q104 q1396⟩)
theorem ct_3_274 : am_CT 3 274 = some (1, 2, 1, mX3_outs) := rfl
theorem co_3_277 : am_COK 3 277 0 0 2 mX3_has := Or.inl ⟨rfl, gm_X3_has, by decide +kernel, lw_S q1397 q1398 q104 q1399⟩
theorem ct_3_277 : am_CT 3 277 = some (0, 0, 2, mX3_has) := rfl
theorem co_3_280 : am_COK 3 280 1 2 1 mX3_goDay := Or.inr (Or.inl ⟨rfl, gm_X3_goDay, by decide +kernel, Or.inl ⟨by decide, rfl⟩, lw_V q1389 q1391 qs80 q104 q1392⟩)
theorem ct_3_280 : am_CT 3 280 = some (1, 2, 1, mX3_goDay) := rfl
theorem co_3_283 : am_COK 3 283 1 2 2 mX3_goDays := Or.inr (Or.inl ⟨rfl, gm_X3_goDays, by decide +kernel, Or.inl ⟨by decide, rfl⟩, lw_V q1385 q1387 qs79 q104 q1388⟩)
theorem ct_3_283 : am_CT 3 283 = some (1, 2, 2, mX3_goDays) := rfl
theorem co_3_286 : am_COK 3 286 1 2 1 mX3_tell := Or.inr (Or.inl ⟨rfl, gm_X3_tell, by decide +kernel, Or.inl ⟨by decide, rfl⟩, lw_V q1400 q1402 qs82 q104 q1403⟩)
theorem ct_3_286 : am_CT 3 286 = some (1, 2, 1, mX3_tell) := rfl
theorem co_3_290 : am_COK 3 290 1 2 1 mX3_readAct := Or.inr (Or.inl ⟨rfl, gm_X3_readAct, by decide +kernel, Or.inl ⟨by decide, rfl⟩, lw_V q1408 q1410 qs83 q104 q1411⟩)
theorem ct_3_290 : am_CT 3 290 = some (1, 2, 1, mX3_readAct) := rfl
theorem co_3_293 : am_COK 3 293 1 2 3 mX3_act := Or.inr (Or.inl ⟨rfl, gm_X3_act, by decide +kernel, Or.inl ⟨by decide, rfl⟩, lw_V q1412 q1414 qs84 q104 q1415⟩)
theorem ct_3_293 : am_CT 3 293 = some (1, 2, 3, mX3_act) := rfl
theorem co_3_296 : am_COK 3 296 1 2 3 mX3_oddLaid := Or.inr (Or.inl ⟨rfl, gm_X3_oddLaid, by decide +kernel, Or.inl ⟨by decide, rfl⟩, lw_V q1424 q1426 qs85 q104 q1427⟩)
theorem ct_3_296 : am_CT 3 296 = some (1, 2, 3, mX3_oddLaid) := rfl
theorem co_3_299 : am_COK 3 299 0 0 1 mX3_put := Or.inl ⟨rfl, gm_X3_put, by decide +kernel, lw_S q1428 q1429 q104 q1430⟩
theorem ct_3_299 : am_CT 3 299 = some (0, 0, 1, mX3_put) := rfl
theorem co_3_302 : am_COK 3 302 1 2 2 mX3_fliesIn := Or.inr (Or.inl ⟨rfl, gm_X3_fliesIn, by decide +kernel, Or.inl ⟨by decide, rfl⟩, lw_V q1443 q1445 qs86 q104 q1446⟩)
theorem ct_3_302 : am_CT 3 302 = some (1, 2, 2, mX3_fliesIn) := rfl
theorem co_3_308 : am_COK 3 308 1 2 3 mX3_goPlace := Or.inr (Or.inl ⟨rfl, gm_X3_goPlace, by decide +kernel, Or.inl ⟨by decide, rfl⟩, lw_V q1459 q1461 qs88 q104 q1462⟩)
theorem ct_3_308 : am_CT 3 308 = some (1, 2, 3, mX3_goPlace) := rfl
theorem co_3_312 : am_COK 3 312 1 2 0 mX3_openFree := Or.inr (Or.inl ⟨rfl, gm_X3_openFree, by decide +kernel, Or.inl ⟨by decide, rfl⟩, lw_V q1455 q1457 qs87 q104 q1458⟩)
theorem ct_3_312 : am_CT 3 312 = some (1, 2, 0, mX3_openFree) := rfl
theorem co_3_315 : am_COK 3 315 1 2 2 mX3_oddTinted := Or.inr (Or.inl ⟨rfl, gm_X3_oddTinted, by decide +kernel, Or.inl ⟨by decide, rfl⟩, lw_V q1471 q1473 qs89 q104 q1474⟩)
theorem ct_3_315 : am_CT 3 315 = some (1, 2, 2, mX3_oddTinted) := rfl
theorem co_3_321 : am_COK 3 321 1 2 2 mX3_daysBy := Or.inr (Or.inl ⟨rfl, gm_X3_daysBy, by decide +kernel, Or.inl ⟨by decide, rfl⟩, lw_V q1493 q1495 qs90 q104 q1496⟩)
theorem ct_3_321 : am_CT 3 321 = some (1, 2, 2, mX3_daysBy) := rfl
theorem co_3_324 : am_COK 3 324 1 2 0 mX3_young := Or.inr (Or.inl ⟨rfl, gm_X3_young, by decide +kernel, Or.inl ⟨by decide, rfl⟩, lw_V q1513 q1515 qs91 q104 q1516⟩)
theorem ct_3_324 : am_CT 3 324 = some (1, 2, 0, mX3_young) := rfl
theorem co_3_327 : am_COK 3 327 1 2 2 mX3_givenBy := Or.inr (Or.inl ⟨rfl, gm_X3_givenBy, by decide +kernel, Or.inl ⟨by decide, rfl⟩, lw_V q1517 q1519 qs92 q104 q1520⟩)
theorem ct_3_327 : am_CT 3 327 = some (1, 2, 2, mX3_givenBy) := rfl
theorem co_3_330 : am_COK 3 330 1 2 2 mX3_worse := Or.inr (Or.inl ⟨rfl, gm_X3_worse, by decide +kernel, Or.inl ⟨by decide, rfl⟩, lw_V q1542 q1544 qs95 q104 q1545⟩)
theorem ct_3_330 : am_CT 3 330 = some (1, 2, 2, mX3_worse) := rfl
theorem co_3_333 : am_COK 3 333 0 0 1 mJ10_numberOfTrailingZeros := Or.inl ⟨rfl, gm_J10_numberOfTrailingZeros, by decide +kernel, lw_S q1537 q875 q120 q876⟩
theorem ct_3_333 : am_CT 3 333 = some (0, 0, 1, mJ10_numberOfTrailingZeros) := rfl
theorem co_3_336 : am_COK 3 336 1 2 2 mX3_wish := Or.inr (Or.inl ⟨rfl, gm_X3_wish, by decide +kernel, Or.inl ⟨by decide, rfl⟩, lw_V q1538 q1540 qs94 q104 q1541⟩)
theorem ct_3_336 : am_CT 3 336 = some (1, 2, 2, mX3_wish) := rfl
theorem co_3_339 : am_COK 3 339 1 2 0 mX3_layLodgings := Or.inr (Or.inl ⟨rfl, gm_X3_layLodgings, by decide +kernel, Or.inl ⟨by decide, rfl⟩, lw_V q1533 q1535 qs93 q104 q1536⟩)
theorem ct_3_339 : am_CT 3 339 = some (1, 2, 0, mX3_layLodgings) := rfl
theorem co_3_342 : am_COK 3 342 0 0 2 mX3_common := Or.inl ⟨rfl, gm_X3_common, by decide +kernel, lw_S q1564 q1565 q104 q1566⟩
theorem ct_3_342 : am_CT 3 342 = some (0, 0, 2, mX3_common) := rfl
theorem co_3_346 : am_COK 3 346 0 0 2 mX3_power := Or.inl ⟨rfl, gm_X3_power, by decide +kernel, lw_S q1561 q1562 q104 q1563⟩
theorem ct_3_346 : am_CT 3 346 = some (0, 0, 2, mX3_power) := rfl
theorem co_3_350 : am_COK 3 350 0 0 3 mX3_looks := Or.inl ⟨rfl, gm_X3_looks, by decide +kernel, lw_S q1558 q1559 q104 q1560⟩
theorem ct_3_350 : am_CT 3 350 = some (0, 0, 3, mX3_looks) := rfl
theorem co_3_357 : am_COK 3 357 1 2 3 mX3_fits_2 := Or.inr (Or.inl ⟨rfl, gm_X3_fits_2, by decide +kernel, Or.inl ⟨by decide, rfl⟩, lw_V q1583 q1585 qs97 q104 q1586⟩)
theorem ct_3_357 : am_CT 3 357 = some (1, 2, 3, mX3_fits_2) := rfl
theorem co_3_360 : am_COK 3 360 1 2 0 mX3_fitting := Or.inr (Or.inl ⟨rfl, gm_X3_fitting, by decide +kernel, Or.inl ⟨by decide, rfl⟩, lw_V q1579 q1581 qs96 q104 q1582⟩)
theorem ct_3_360 : am_CT 3 360 = some (1, 2, 0, mX3_fitting) := rfl
theorem co_3_363 : am_COK 3 363 0 0 3 mX3_hostGets := Or.inl ⟨rfl, gm_X3_hostGets, by decide +kernel, lw_S q1598 q1599 q104 q1600⟩
theorem ct_3_363 : am_CT 3 363 = some (0, 0, 3, mX3_hostGets) := rfl
theorem co_3_367 : am_COK 3 367 0 0 3 mX3_guestGets := Or.inl ⟨rfl, gm_X3_guestGets, by decide +kernel, lw_S q1601 q1602 q104 q1603⟩
theorem ct_3_367 : am_CT 3 367 = some (0, 0, 3, mX3_guestGets) := rfl
theorem co_3_370 : am_COK 3 370 0 0 3 mX3_isRest := Or.inl ⟨rfl, gm_X3_isRest, by decide +kernel, lw_S q1595 q1596 q104 q1597⟩
theorem ct_3_370 : am_CT 3 370 = some (0, 0, 3, mX3_isRest) := rfl
theorem co_3_373 : am_COK 3 373 1 2 0 mX3_flownIn60 := Or.inr (Or.inl ⟨rfl, gm_X3_flownIn60, by decide +kernel, Or.inl ⟨by decide, rfl⟩, lw_V q1608 q1610 qs98 q104 q1611⟩)
theorem ct_3_373 : am_CT 3 373 = some (1, 2, 0, mX3_flownIn60) := rfl
theorem co_3_380 : am_COK 3 380 1 2 1 mX3_draw := Or.inr (Or.inl ⟨rfl, gm_X3_draw, by decide +kernel, Or.inl ⟨by decide, rfl⟩, lw_V q1616 q1618 qs99 q104 q1619⟩)
theorem ct_3_380 : am_CT 3 380 = some (1, 2, 1, mX3_draw) := rfl
theorem co_3_383 : am_COK 3 383 1 2 0 mX3_allOwn := Or.inr (Or.inl ⟨rfl, gm_X3_allOwn, by decide +kernel, Or.inl ⟨by decide, rfl⟩, lw_V q1633 q1635 qs100 q104 q1636⟩)
theorem ct_3_383 : am_CT 3 383 = some (1, 2, 0, mX3_allOwn) := rfl
theorem co_4_7 : am_COK 4 7 5 0 0 mJ11_init := Or.inr (Or.inr (Or.inr (Or.inr (Or.inr (Or.inr (Or.inr (Or.inr (Or.inl ⟨rfl, q503⟩))))))))
theorem ct_4_7 : am_CT 4 7 = some (5, 0, 0, mJ11_init) := rfl
theorem co_5_7 : am_COK 5 7 4 0 1 mX4_init := Or.inr (Or.inr (Or.inr (Or.inr (Or.inl ⟨rfl, gm_X4_init, by decide +kernel, rfl, rfl, (List.mem_of_getElem? (i := 14) rfl), q501, q111, (lw_meth q502)⟩))))
theorem ct_5_7 : am_CT 5 7 = some (4, 0, 1, mX4_init) := rfl
theorem co_5_17 : am_COK 5 17 6 0 0 mX5_value := Or.inr (Or.inr (Or.inr (Or.inr (Or.inr (Or.inl ⟨rfl, rfl, fun t h1 h2 => by
    match t, h1, h2 with
    | 3, _, _ => exact ⟨gm_X6_value, lw_app (fun w hw => by first | (simp only [List.mem_cons, List.not_mem_nil, or_false] at hw; rcases hw with rfl | rfl | rfl | rfl | rfl <;> first | exact q673 | exact q666 | exact q686 | exact q674 | exact q113)) (lw_meth q675)⟩
    | 4, _, _ => exact ⟨gm_X7_value, lw_app (fun w hw => by first | (simp only [List.mem_cons, List.not_mem_nil, or_false] at hw; rcases hw with rfl | rfl | rfl | rfl | rfl <;> first | exact q673 | exact q666 | exact q687 | exact q676 | exact q114)) (lw_meth q677)⟩
    | 5, _, _ => exact ⟨gm_X5_value, lw_app (fun w hw => by first | (simp only [List.mem_cons, List.not_mem_nil, or_false] at hw; rcases hw with rfl | rfl | rfl | rfl | rfl <;> first | exact q673 | exact q666 | exact q685 | exact q671 | exact q112)) (lw_meth q672)⟩
    | 6, _, _ => exact ⟨gm_X8_value, lw_app (fun w hw => by first | (simp only [List.mem_cons, List.not_mem_nil, or_false] at hw; rcases hw with rfl | rfl | rfl | rfl | rfl <;> first | exact q673 | exact q666 | exact q667 | exact q668 | exact q115)) (lw_meth q669)⟩⟩)))))
theorem ct_5_17 : am_CT 5 17 = some (6, 0, 0, mX5_value) := rfl
theorem co_6_7 : am_COK 6 7 4 0 1 mX4_init := Or.inr (Or.inr (Or.inr (Or.inr (Or.inl ⟨rfl, gm_X4_init, by decide +kernel, rfl, rfl, (List.mem_of_getElem? (i := 15) rfl), q501, q111, (lw_meth q502)⟩))))
theorem ct_6_7 : am_CT 6 7 = some (4, 0, 1, mX4_init) := rfl
theorem co_7_9 : am_COK 7 9 4 0 1 mX4_init := Or.inr (Or.inr (Or.inr (Or.inr (Or.inl ⟨rfl, gm_X4_init, by decide +kernel, rfl, rfl, (List.mem_of_getElem? (i := 26) rfl), q501, q111, (lw_meth q502)⟩))))
theorem ct_7_9 : am_CT 7 9 = some (4, 0, 1, mX4_init) := rfl
theorem co_7_35 : am_COK 7 35 9 2 1 mJ11_init := Or.inr (Or.inr (Or.inr (Or.inr (Or.inr (Or.inr (Or.inr (Or.inr (Or.inr ⟨rfl, Or.inr (Or.inr ⟨rfl, q678⟩)⟩))))))))
theorem ct_7_35 : am_CT 7 35 = some (9, 2, 1, mJ11_init) := rfl
theorem co_7_44 : am_COK 7 44 9 0 2 mJ11_init := Or.inr (Or.inr (Or.inr (Or.inr (Or.inr (Or.inr (Or.inr (Or.inr (Or.inr ⟨rfl, Or.inl ⟨rfl, q679⟩⟩))))))))
theorem ct_7_44 : am_CT 7 44 = some (9, 0, 2, mJ11_init) := rfl
theorem co_7_60 : am_COK 7 60 2 0 2 mX1_guests := Or.inr (Or.inr (Or.inl ⟨rfl, gm_X1_guests, by decide +kernel, by decide, rfl, (List.mem_of_getElem? (i := 27) rfl), q682, qs22, q102, (lw_meth q683)⟩))
theorem ct_7_60 : am_CT 7 60 = some (2, 0, 2, mX1_guests) := rfl
theorem co_7_64 : am_COK 7 64 0 0 1 mJ10_bitCount := Or.inl ⟨rfl, gm_J10_bitCount, by decide +kernel, lw_S q684 q616 q120 q617⟩
theorem ct_7_64 : am_CT 7 64 = some (0, 0, 1, mJ10_bitCount) := rfl
theorem co_8_7 : am_COK 8 7 4 0 1 mX4_init := Or.inr (Or.inr (Or.inr (Or.inr (Or.inl ⟨rfl, gm_X4_init, by decide +kernel, rfl, rfl, (List.mem_of_getElem? (i := 28) rfl), q501, q111, (lw_meth q502)⟩))))
theorem ct_8_7 : am_CT 8 7 = some (4, 0, 1, mX4_init) := rfl
theorem co_8_24 : am_COK 8 24 6 0 0 mX5_value := Or.inr (Or.inr (Or.inr (Or.inr (Or.inr (Or.inl ⟨rfl, rfl, fun t h1 h2 => by
    match t, h1, h2 with
    | 3, _, _ => exact ⟨gm_X6_value, lw_app (fun w hw => by first | (simp only [List.mem_cons, List.not_mem_nil, or_false] at hw; rcases hw with rfl | rfl | rfl | rfl | rfl <;> first | exact q670 | exact q666 | exact q686 | exact q674 | exact q113)) (lw_meth q675)⟩
    | 4, _, _ => exact ⟨gm_X7_value, lw_app (fun w hw => by first | (simp only [List.mem_cons, List.not_mem_nil, or_false] at hw; rcases hw with rfl | rfl | rfl | rfl | rfl <;> first | exact q670 | exact q666 | exact q687 | exact q676 | exact q114)) (lw_meth q677)⟩
    | 5, _, _ => exact ⟨gm_X5_value, lw_app (fun w hw => by first | (simp only [List.mem_cons, List.not_mem_nil, or_false] at hw; rcases hw with rfl | rfl | rfl | rfl | rfl <;> first | exact q670 | exact q666 | exact q685 | exact q671 | exact q112)) (lw_meth q672)⟩
    | 6, _, _ => exact ⟨gm_X8_value, lw_app (fun w hw => by first | (simp only [List.mem_cons, List.not_mem_nil, or_false] at hw; rcases hw with rfl | rfl | rfl | rfl | rfl <;> first | exact q670 | exact q666 | exact q667 | exact q668 | exact q115)) (lw_meth q669)⟩⟩)))))
theorem ct_8_24 : am_CT 8 24 = some (6, 0, 0, mX5_value) := rfl
theorem co_11_335 : am_COK 11 335 1 16 0 mJ1_coder := Or.inr (Or.inl ⟨rfl, gm_J1_coder, by decide +kernel, Or.inr ⟨rfl, rfl⟩, lw_V q380 q381 q382 q106 q383⟩)
theorem ct_11_335 : am_CT 11 335 = some (1, 16, 0, mJ1_coder) := rfl
theorem co_11_492 : am_COK 11 492 1 16 0 mJ1_isLatin1 := Or.inr (Or.inl ⟨rfl, gm_J1_isLatin1, by decide +kernel, Or.inr ⟨rfl, rfl⟩, lw_V q370 q371 q372 q106 q373⟩)
theorem ct_11_492 : am_CT 11 492 = some (1, 16, 0, mJ1_isLatin1) := rfl
theorem co_11_505 : am_COK 11 505 1 16 0 mJ1_length := Or.inr (Or.inl ⟨rfl, gm_J1_length, by decide +kernel, Or.inr ⟨rfl, rfl⟩, lw_V q376 q377 q378 q106 q379⟩)
theorem ct_11_505 : am_CT 11 505 = some (1, 16, 0, mJ1_length) := rfl
theorem co_11_633 : am_COK 11 633 1 16 2 mJ1_indexOf_2 := Or.inr (Or.inl ⟨rfl, gm_J1_indexOf_2, by decide +kernel, Or.inr ⟨rfl, rfl⟩, lw_V q366 q367 q368 q106 q369⟩)
theorem ct_11_633 : am_CT 11 633 = some (1, 16, 2, mJ1_indexOf_2) := rfl
theorem co_11_637 : am_COK 11 637 0 0 4 mJ2_indexOf := Or.inl ⟨rfl, gm_J2_indexOf, by decide +kernel, lw_S q384 q385 q107 q386⟩
theorem ct_11_637 : am_CT 11 637 = some (0, 0, 4, mJ2_indexOf) := rfl
theorem co_12_38 : am_COK 12 38 9 1 2 mJ11_init := Or.inr (Or.inr (Or.inr (Or.inr (Or.inr (Or.inr (Or.inr (Or.inr (Or.inr ⟨rfl, Or.inr (Or.inl ⟨rfl, q393⟩)⟩))))))))
theorem ct_12_38 : am_CT 12 38 = some (9, 1, 2, mJ11_init) := rfl
theorem co_12_88 : am_COK 12 88 0 0 1 mJ2_canEncode := Or.inl ⟨rfl, gm_J2_canEncode, by decide +kernel, lw_S q387 q388 q107 q389⟩
theorem ct_12_88 : am_CT 12 88 = some (0, 0, 1, mJ2_canEncode) := rfl
theorem co_12_92 : am_COK 12 92 9 0 2 mJ11_init := Or.inr (Or.inr (Or.inr (Or.inr (Or.inr (Or.inr (Or.inr (Or.inr (Or.inr ⟨rfl, Or.inl ⟨rfl, q390⟩⟩))))))))
theorem ct_12_92 : am_CT 12 92 = some (9, 0, 2, mJ11_init) := rfl
theorem co_12_95 : am_COK 12 95 0 0 4 mJ2_indexOfChar := Or.inl ⟨rfl, gm_J2_indexOfChar, by decide +kernel, lw_S q394 q395 q107 q396⟩
theorem ct_12_95 : am_CT 12 95 = some (0, 0, 4, mJ2_indexOfChar) := rfl
theorem am_CTL_ok0 : ∀ e ∈ am_CTL 0, am_COK 0 e.1 e.2.1 e.2.2.1 e.2.2.2.1 e.2.2.2.2 := List.forall_mem_cons.mpr ⟨co_0_7, List.forall_mem_cons.mpr ⟨co_0_15, List.forall_mem_cons.mpr ⟨co_0_18, List.forall_mem_cons.mpr ⟨co_0_22, List.forall_mem_cons.mpr ⟨co_0_25, List.forall_mem_cons.mpr ⟨co_0_26, List.forall_mem_cons.mpr ⟨co_0_30, List.forall_mem_cons.mpr ⟨co_0_31, List.forall_mem_cons.mpr ⟨co_0_35, List.forall_mem_cons.mpr ⟨co_0_36, List.forall_mem_cons.mpr ⟨co_0_40, List.forall_mem_cons.mpr ⟨co_0_41, List.forall_mem_cons.mpr ⟨co_0_44, List.forall_mem_cons.mpr ⟨co_0_45, List.forall_mem_cons.mpr ⟨co_0_50, List.forall_mem_cons.mpr ⟨co_0_51, List.forall_mem_cons.mpr ⟨co_0_54, List.forall_mem_cons.mpr ⟨co_0_56, List.forall_mem_cons.mpr ⟨co_0_57, List.forall_mem_cons.mpr ⟨co_0_60, List.forall_mem_cons.mpr ⟨co_0_61, List.forall_mem_cons.mpr ⟨co_0_65, List.forall_mem_cons.mpr ⟨co_0_66, List.forall_mem_cons.mpr ⟨co_0_69, List.forall_mem_cons.mpr ⟨co_0_70, List.forall_mem_cons.mpr ⟨co_0_73, List.forall_mem_cons.mpr ⟨co_0_74, List.forall_mem_cons.mpr ⟨co_0_77, List.forall_mem_cons.mpr ⟨co_0_78, List.forall_mem_cons.mpr ⟨co_0_81, List.forall_mem_cons.mpr ⟨co_0_82, List.forall_mem_cons.mpr ⟨co_0_85, List.forall_mem_cons.mpr ⟨co_0_86, List.forall_mem_cons.mpr ⟨co_0_89, List.forall_mem_cons.mpr ⟨co_0_90, List.forall_mem_cons.mpr ⟨co_0_93, List.forall_mem_cons.mpr ⟨co_0_94, List.forall_mem_cons.mpr ⟨co_0_97, List.forall_mem_cons.mpr ⟨co_0_98, List.forall_mem_cons.mpr ⟨co_0_101, List.forall_mem_cons.mpr ⟨co_0_102, List.forall_mem_cons.mpr ⟨co_0_105, List.forall_mem_cons.mpr ⟨co_0_106, List.forall_mem_cons.mpr ⟨co_0_109, List.forall_mem_cons.mpr ⟨co_0_110, List.forall_mem_cons.mpr ⟨co_0_113, List.forall_mem_cons.mpr ⟨co_0_114, List.forall_mem_cons.mpr ⟨co_0_117, List.forall_mem_cons.mpr ⟨co_0_118, List.forall_mem_cons.mpr ⟨co_0_121, List.forall_mem_cons.mpr ⟨co_0_122, List.forall_mem_cons.mpr ⟨co_0_125, List.forall_mem_cons.mpr ⟨co_0_126, List.forall_mem_cons.mpr ⟨co_0_129, List.forall_mem_cons.mpr ⟨co_0_130, List.forall_mem_cons.mpr ⟨co_0_133, List.forall_mem_cons.mpr ⟨co_0_134, List.forall_mem_cons.mpr ⟨co_0_137, List.forall_mem_cons.mpr ⟨co_0_138, List.forall_mem_cons.mpr ⟨co_0_141, List.forall_mem_cons.mpr ⟨co_0_142, List.forall_mem_cons.mpr ⟨co_0_145, List.forall_mem_cons.mpr ⟨co_0_146, List.forall_mem_cons.mpr ⟨co_0_149, List.forall_mem_cons.mpr ⟨co_0_150, List.forall_mem_cons.mpr ⟨co_0_153, List.forall_mem_cons.mpr ⟨co_0_154, List.forall_mem_cons.mpr ⟨co_0_157, List.forall_mem_cons.mpr ⟨co_0_158, List.forall_mem_cons.mpr ⟨co_0_161, List.forall_mem_cons.mpr ⟨co_0_162, List.forall_mem_cons.mpr ⟨co_0_165, List.forall_mem_cons.mpr ⟨co_0_166, List.forall_mem_cons.mpr ⟨co_0_169, List.forall_mem_cons.mpr ⟨co_0_170, List.forall_mem_cons.mpr ⟨co_0_173, List.forall_mem_cons.mpr ⟨co_0_174, List.forall_mem_cons.mpr ⟨co_0_177, List.forall_mem_cons.mpr ⟨co_0_178, List.forall_mem_cons.mpr ⟨co_0_181, List.forall_mem_cons.mpr ⟨co_0_182, List.forall_mem_cons.mpr ⟨co_0_186, List.forall_mem_cons.mpr ⟨co_0_187, List.forall_mem_cons.mpr ⟨co_0_190, List.forall_mem_cons.mpr ⟨co_0_191, List.forall_mem_cons.mpr ⟨co_0_194, List.forall_mem_cons.mpr ⟨co_0_195, List.forall_mem_cons.mpr ⟨co_0_198, List.forall_mem_cons.mpr ⟨co_0_199, List.forall_mem_cons.mpr ⟨co_0_202, List.forall_mem_cons.mpr ⟨co_0_203, List.forall_mem_cons.mpr ⟨co_0_206, List.forall_mem_cons.mpr ⟨co_0_207, List.forall_mem_cons.mpr ⟨co_0_210, List.forall_mem_cons.mpr ⟨co_0_211, List.forall_mem_cons.mpr ⟨co_0_214, List.forall_mem_cons.mpr ⟨co_0_215, List.forall_mem_cons.mpr ⟨co_0_218, List.forall_mem_cons.mpr ⟨co_0_219, List.forall_mem_cons.mpr ⟨co_0_222, List.forall_mem_cons.mpr ⟨co_0_223, List.forall_mem_cons.mpr ⟨co_0_226, List.forall_mem_cons.mpr ⟨co_0_227, List.forall_mem_cons.mpr ⟨co_0_230, fun _ h => absurd h List.not_mem_nil⟩⟩⟩⟩⟩⟩⟩⟩⟩⟩⟩⟩⟩⟩⟩⟩⟩⟩⟩⟩⟩⟩⟩⟩⟩⟩⟩⟩⟩⟩⟩⟩⟩⟩⟩⟩⟩⟩⟩⟩⟩⟩⟩⟩⟩⟩⟩⟩⟩⟩⟩⟩⟩⟩⟩⟩⟩⟩⟩⟩⟩⟩⟩⟩⟩⟩⟩⟩⟩⟩⟩⟩⟩⟩⟩⟩⟩⟩⟩⟩⟩⟩⟩⟩⟩⟩⟩⟩⟩⟩⟩⟩⟩⟩⟩⟩⟩⟩⟩⟩⟩⟩⟩⟩
theorem am_CTL_ok1 : ∀ e ∈ am_CTL 1, am_COK 1 e.1 e.2.1 e.2.2.1 e.2.2.2.1 e.2.2.2.2 := List.forall_mem_cons.mpr ⟨co_1_1, List.forall_mem_cons.mpr ⟨co_1_9, List.forall_mem_cons.mpr ⟨co_1_90, List.forall_mem_cons.mpr ⟨co_1_97, List.forall_mem_cons.mpr ⟨co_1_101, List.forall_mem_cons.mpr ⟨co_1_107, List.forall_mem_cons.mpr ⟨co_1_116, List.forall_mem_cons.mpr ⟨co_1_129, List.forall_mem_cons.mpr ⟨co_1_138, List.forall_mem_cons.mpr ⟨co_1_142, List.forall_mem_cons.mpr ⟨co_1_148, List.forall_mem_cons.mpr ⟨co_1_156, List.forall_mem_cons.mpr ⟨co_1_165, List.forall_mem_cons.mpr ⟨co_1_170, List.forall_mem_cons.mpr ⟨co_1_175, List.forall_mem_cons.mpr ⟨co_1_178, List.forall_mem_cons.mpr ⟨co_1_181, List.forall_mem_cons.mpr ⟨co_1_184, List.forall_mem_cons.mpr ⟨co_1_200, List.forall_mem_cons.mpr ⟨co_1_210, List.forall_mem_cons.mpr ⟨co_1_216, List.forall_mem_cons.mpr ⟨co_1_221, List.forall_mem_cons.mpr ⟨co_1_228, List.forall_mem_cons.mpr ⟨co_1_229, List.forall_mem_cons.mpr ⟨co_1_239, List.forall_mem_cons.mpr ⟨co_1_245, List.forall_mem_cons.mpr ⟨co_1_252, List.forall_mem_cons.mpr ⟨co_1_262, List.forall_mem_cons.mpr ⟨co_1_265, List.forall_mem_cons.mpr ⟨co_1_274, List.forall_mem_cons.mpr ⟨co_1_291, List.forall_mem_cons.mpr ⟨co_1_297, List.forall_mem_cons.mpr ⟨co_1_301, List.forall_mem_cons.mpr ⟨co_1_305, List.forall_mem_cons.mpr ⟨co_1_308, List.forall_mem_cons.mpr ⟨co_1_312, List.forall_mem_cons.mpr ⟨co_1_317, List.forall_mem_cons.mpr ⟨co_1_320, List.forall_mem_cons.mpr ⟨co_1_324, List.forall_mem_cons.mpr ⟨co_1_328, List.forall_mem_cons.mpr ⟨co_1_332, List.forall_mem_cons.mpr ⟨co_1_335, List.forall_mem_cons.mpr ⟨co_1_341, List.forall_mem_cons.mpr ⟨co_1_350, List.forall_mem_cons.mpr ⟨co_1_353, List.forall_mem_cons.mpr ⟨co_1_356, List.forall_mem_cons.mpr ⟨co_1_359, List.forall_mem_cons.mpr ⟨co_1_362, List.forall_mem_cons.mpr ⟨co_1_366, List.forall_mem_cons.mpr ⟨co_1_369, List.forall_mem_cons.mpr ⟨co_1_374, List.forall_mem_cons.mpr ⟨co_1_381, List.forall_mem_cons.mpr ⟨co_1_390, List.forall_mem_cons.mpr ⟨co_1_393, List.forall_mem_cons.mpr ⟨co_1_396, List.forall_mem_cons.mpr ⟨co_1_399, List.forall_mem_cons.mpr ⟨co_1_402, List.forall_mem_cons.mpr ⟨co_1_405, List.forall_mem_cons.mpr ⟨co_1_413, List.forall_mem_cons.mpr ⟨co_1_419, List.forall_mem_cons.mpr ⟨co_1_424, List.forall_mem_cons.mpr ⟨co_1_427, List.forall_mem_cons.mpr ⟨co_1_432, List.forall_mem_cons.mpr ⟨co_1_435, List.forall_mem_cons.mpr ⟨co_1_440, List.forall_mem_cons.mpr ⟨co_1_443, List.forall_mem_cons.mpr ⟨co_1_446, List.forall_mem_cons.mpr ⟨co_1_449, List.forall_mem_cons.mpr ⟨co_1_452, List.forall_mem_cons.mpr ⟨co_1_455, List.forall_mem_cons.mpr ⟨co_1_458, List.forall_mem_cons.mpr ⟨co_1_465, List.forall_mem_cons.mpr ⟨co_1_474, List.forall_mem_cons.mpr ⟨co_1_478, List.forall_mem_cons.mpr ⟨co_1_481, List.forall_mem_cons.mpr ⟨co_1_484, List.forall_mem_cons.mpr ⟨co_1_491, fun _ h => absurd h List.not_mem_nil⟩⟩⟩⟩⟩⟩⟩⟩⟩⟩⟩⟩⟩⟩⟩⟩⟩⟩⟩⟩⟩⟩⟩⟩⟩⟩⟩⟩⟩⟩⟩⟩⟩⟩⟩⟩⟩⟩⟩⟩⟩⟩⟩⟩⟩⟩⟩⟩⟩⟩⟩⟩⟩⟩⟩⟩⟩⟩⟩⟩⟩⟩⟩⟩⟩⟩⟩⟩⟩⟩⟩⟩⟩⟩⟩⟩⟩
theorem am_CTL_ok2 : ∀ e ∈ am_CTL 2, am_COK 2 e.1 e.2.1 e.2.2.1 e.2.2.2.1 e.2.2.2.2 := List.forall_mem_cons.mpr ⟨co_2_3, List.forall_mem_cons.mpr ⟨co_2_42, List.forall_mem_cons.mpr ⟨co_2_58, List.forall_mem_cons.mpr ⟨co_2_62, fun _ h => absurd h List.not_mem_nil⟩⟩⟩⟩
theorem am_CTL_ok3 : ∀ e ∈ am_CTL 3, am_COK 3 e.1 e.2.1 e.2.2.1 e.2.2.2.1 e.2.2.2.2 := List.forall_mem_cons.mpr ⟨co_3_3, List.forall_mem_cons.mpr ⟨co_3_92, List.forall_mem_cons.mpr ⟨co_3_96, List.forall_mem_cons.mpr ⟨co_3_118, List.forall_mem_cons.mpr ⟨co_3_122, List.forall_mem_cons.mpr ⟨co_3_126, List.forall_mem_cons.mpr ⟨co_3_130, List.forall_mem_cons.mpr ⟨co_3_134, List.forall_mem_cons.mpr ⟨co_3_138, List.forall_mem_cons.mpr ⟨co_3_142, List.forall_mem_cons.mpr ⟨co_3_146, List.forall_mem_cons.mpr ⟨co_3_149, List.forall_mem_cons.mpr ⟨co_3_152, List.forall_mem_cons.mpr ⟨co_3_161, List.forall_mem_cons.mpr ⟨co_3_164, List.forall_mem_cons.mpr ⟨co_3_167, List.forall_mem_cons.mpr ⟨co_3_170, List.forall_mem_cons.mpr ⟨co_3_173, List.forall_mem_cons.mpr ⟨co_3_177, List.forall_mem_cons.mpr ⟨co_3_180, List.forall_mem_cons.mpr ⟨co_3_187, List.forall_mem_cons.mpr ⟨co_3_193, List.forall_mem_cons.mpr ⟨co_3_198, List.forall_mem_cons.mpr ⟨co_3_202, List.forall_mem_cons.mpr ⟨co_3_206, List.forall_mem_cons.mpr ⟨co_3_211, List.forall_mem_cons.mpr ⟨co_3_215, List.forall_mem_cons.mpr ⟨co_3_218, List.forall_mem_cons.mpr ⟨co_3_221, List.forall_mem_cons.mpr ⟨co_3_225, List.forall_mem_cons.mpr ⟨co_3_229, List.forall_mem_cons.mpr ⟨co_3_233, List.forall_mem_cons.mpr ⟨co_3_236, List.forall_mem_cons.mpr ⟨co_3_240, List.forall_mem_cons.mpr ⟨co_3_244, List.forall_mem_cons.mpr ⟨co_3_247, List.forall_mem_cons.mpr ⟨co_3_250, List.forall_mem_cons.mpr ⟨co_3_253, List.forall_mem_cons.mpr ⟨co_3_256, List.forall_mem_cons.mpr ⟨co_3_260, List.forall_mem_cons.mpr ⟨co_3_264, List.forall_mem_cons.mpr ⟨co_3_267, List.forall_mem_cons.mpr ⟨co_3_271, List.forall_mem_cons.mpr ⟨co_3_274, List.forall_mem_cons.mpr ⟨co_3_277, List.forall_mem_cons.mpr ⟨co_3_280, List.forall_mem_cons.mpr ⟨co_3_283, List.forall_mem_cons.mpr ⟨co_3_286, List.forall_mem_cons.mpr ⟨co_3_290, List.forall_mem_cons.mpr ⟨co_3_293, List.forall_mem_cons.mpr ⟨co_3_296, List.forall_mem_cons.mpr ⟨co_3_299, List.forall_mem_cons.mpr ⟨co_3_302, List.forall_mem_cons.mpr ⟨co_3_308, List.forall_mem_cons.mpr ⟨co_3_312, List.forall_mem_cons.mpr ⟨co_3_315, List.forall_mem_cons.mpr ⟨co_3_321, List.forall_mem_cons.mpr ⟨co_3_324, List.forall_mem_cons.mpr ⟨co_3_327, List.forall_mem_cons.mpr ⟨co_3_330, List.forall_mem_cons.mpr ⟨co_3_333, List.forall_mem_cons.mpr ⟨co_3_336, List.forall_mem_cons.mpr ⟨co_3_339, List.forall_mem_cons.mpr ⟨co_3_342, List.forall_mem_cons.mpr ⟨co_3_346, List.forall_mem_cons.mpr ⟨co_3_350, List.forall_mem_cons.mpr ⟨co_3_357, List.forall_mem_cons.mpr ⟨co_3_360, List.forall_mem_cons.mpr ⟨co_3_363, List.forall_mem_cons.mpr ⟨co_3_367, List.forall_mem_cons.mpr ⟨co_3_370, List.forall_mem_cons.mpr ⟨co_3_373, List.forall_mem_cons.mpr ⟨co_3_380, List.forall_mem_cons.mpr ⟨co_3_383, fun _ h => absurd h List.not_mem_nil⟩⟩⟩⟩⟩⟩⟩⟩⟩⟩⟩⟩⟩⟩⟩⟩⟩⟩⟩⟩⟩⟩⟩⟩⟩⟩⟩⟩⟩⟩⟩⟩⟩⟩⟩⟩⟩⟩⟩⟩⟩⟩⟩⟩⟩⟩⟩⟩⟩⟩⟩⟩⟩⟩⟩⟩⟩⟩⟩⟩⟩⟩⟩⟩⟩⟩⟩⟩⟩⟩⟩⟩⟩⟩
theorem am_CTL_ok4 : ∀ e ∈ am_CTL 4, am_COK 4 e.1 e.2.1 e.2.2.1 e.2.2.2.1 e.2.2.2.2 := List.forall_mem_cons.mpr ⟨co_4_7, fun _ h => absurd h List.not_mem_nil⟩
theorem am_CTL_ok5 : ∀ e ∈ am_CTL 5, am_COK 5 e.1 e.2.1 e.2.2.1 e.2.2.2.1 e.2.2.2.2 := List.forall_mem_cons.mpr ⟨co_5_7, List.forall_mem_cons.mpr ⟨co_5_17, fun _ h => absurd h List.not_mem_nil⟩⟩
theorem am_CTL_ok6 : ∀ e ∈ am_CTL 6, am_COK 6 e.1 e.2.1 e.2.2.1 e.2.2.2.1 e.2.2.2.2 := List.forall_mem_cons.mpr ⟨co_6_7, fun _ h => absurd h List.not_mem_nil⟩
theorem am_CTL_ok7 : ∀ e ∈ am_CTL 7, am_COK 7 e.1 e.2.1 e.2.2.1 e.2.2.2.1 e.2.2.2.2 := List.forall_mem_cons.mpr ⟨co_7_9, List.forall_mem_cons.mpr ⟨co_7_35, List.forall_mem_cons.mpr ⟨co_7_44, List.forall_mem_cons.mpr ⟨co_7_60, List.forall_mem_cons.mpr ⟨co_7_64, fun _ h => absurd h List.not_mem_nil⟩⟩⟩⟩⟩
theorem am_CTL_ok8 : ∀ e ∈ am_CTL 8, am_COK 8 e.1 e.2.1 e.2.2.1 e.2.2.2.1 e.2.2.2.2 := List.forall_mem_cons.mpr ⟨co_8_7, List.forall_mem_cons.mpr ⟨co_8_24, fun _ h => absurd h List.not_mem_nil⟩⟩
theorem am_CTL_ok11 : ∀ e ∈ am_CTL 11, am_COK 11 e.1 e.2.1 e.2.2.1 e.2.2.2.1 e.2.2.2.2 := List.forall_mem_cons.mpr ⟨co_11_335, List.forall_mem_cons.mpr ⟨co_11_492, List.forall_mem_cons.mpr ⟨co_11_505, List.forall_mem_cons.mpr ⟨co_11_633, List.forall_mem_cons.mpr ⟨co_11_637, fun _ h => absurd h List.not_mem_nil⟩⟩⟩⟩⟩
theorem am_CTL_ok12 : ∀ e ∈ am_CTL 12, am_COK 12 e.1 e.2.1 e.2.2.1 e.2.2.2.1 e.2.2.2.2 := List.forall_mem_cons.mpr ⟨co_12_38, List.forall_mem_cons.mpr ⟨co_12_88, List.forall_mem_cons.mpr ⟨co_12_92, List.forall_mem_cons.mpr ⟨co_12_95, fun _ h => absurd h List.not_mem_nil⟩⟩⟩⟩
theorem am_CTL_ok (own : Nat) : ∀ e ∈ am_CTL own, am_COK own e.1 e.2.1 e.2.2.1 e.2.2.2.1 e.2.2.2.2 := by
  match own with
  | 0 => exact am_CTL_ok0
  | 1 => exact am_CTL_ok1
  | 2 => exact am_CTL_ok2
  | 3 => exact am_CTL_ok3
  | 4 => exact am_CTL_ok4
  | 5 => exact am_CTL_ok5
  | 6 => exact am_CTL_ok6
  | 7 => exact am_CTL_ok7
  | 8 => exact am_CTL_ok8
  | 9 => exact fun _ h => absurd h List.not_mem_nil
  | 10 => exact fun _ h => absurd h List.not_mem_nil
  | 11 => exact am_CTL_ok11
  | 12 => exact am_CTL_ok12
  | n + 13 => exact fun _ h => absurd h List.not_mem_nil
theorem am_CT_ok {own idx kind tag n : Nat} {mi : am_MI} (h : am_CT own idx = some (kind, tag, n, mi)) : am_COK own idx kind tag n mi := by
  unfold am_CT at h
  rw [Option.map_eq_some_iff] at h
  obtain ⟨e, he, h2⟩ := h
  have h3 := List.find?_some he
  have h4 := am_CTL_ok own e (List.mem_of_find?_eq_some he)
  have h5 : e.1 = idx := eq_of_beq h3
  rw [h5, h2] at h4
  exact h4
/-- new: class tag -/
def am_NTL : Nat → List (Nat × Nat)
  | 0 => [(8, 0), (23, 2)]
  | 1 => [(7, 1), (214, 5), (219, 3), (226, 4), (243, 6)]
  | _ => []
def am_NT (own idx : Nat) : Option Nat := ((am_NTL own).find? (fun e => e.1 == idx)).map (fun e => e.2)
def am_NOK (own idx t : Nat) : Prop := t < 7 ∧ Cond.classLink (am_CN own) idx (am_RX t) ∈ lw_all ∧ Cond.instantiable (am_RX t) (am_NS t) ∈ lw_all ∧ Cond.initialized (am_RX t) ∈ lw_all
theorem am_NTL_ok (own : Nat) : ∀ e ∈ am_NTL own, am_NOK own e.1 e.2 := by
  match own with
  | 0 => exact List.forall_mem_cons.mpr ⟨⟨by decide, q122, q123, q102⟩, List.forall_mem_cons.mpr ⟨⟨by decide, q1054, q1055, q104⟩, fun _ h => absurd h List.not_mem_nil⟩⟩
  | 1 => exact List.forall_mem_cons.mpr ⟨⟨by decide, q130, q131, q103⟩, List.forall_mem_cons.mpr ⟨⟨by decide, q495, q496, q112⟩, List.forall_mem_cons.mpr ⟨⟨by decide, q514, q515, q113⟩, List.forall_mem_cons.mpr ⟨⟨by decide, q529, q530, q114⟩, List.forall_mem_cons.mpr ⟨⟨by decide, q549, q550, q115⟩, fun _ h => absurd h List.not_mem_nil⟩⟩⟩⟩⟩
  | n + 2 => exact fun _ h => absurd h List.not_mem_nil
theorem am_NT_ok {own idx t : Nat} (h : am_NT own idx = some t) : am_NOK own idx t := by
  unfold am_NT at h
  rw [Option.map_eq_some_iff] at h
  obtain ⟨e, he, h2⟩ := h
  have h3 := List.find?_some he
  have h4 := am_NTL_ok own e (List.mem_of_find?_eq_some he)
  have h5 : e.1 = idx := eq_of_beq h3
  rw [h5, h2] at h4
  exact h4
theorem nt_0_8 : am_NT 0 8 = some 0 := rfl
theorem nt_0_23 : am_NT 0 23 = some 2 := rfl
theorem nt_1_7 : am_NT 1 7 = some 1 := rfl
theorem nt_1_214 : am_NT 1 214 = some 5 := rfl
theorem nt_1_219 : am_NT 1 219 = some 3 := rfl
theorem nt_1_226 : am_NT 1 226 = some 4 := rfl
theorem nt_1_243 : am_NT 1 243 = some 6 := rfl
