/-! CuckooByPost -/
set_option maxRecDepth 100000
def RX1 : String := "CuckooByPost"
def TX1 : u_T := fun k => match k with
  | 0 => ("CuckooByPost", "now", "LCuckooByPost$Spring;", true)
  | 1 => ("CuckooByPost", "tried", "LCuckooByPost$Spring;", true)
  | 2 => ("CuckooByPost", "nests", "I", false)
  | 3 => ("CuckooByPost", "clear", "I", false)
  | 4 => ("CuckooByPost", "changes", "I", false)
  | 5 => ("CuckooByPost", "text", "[I", true)
  | 6 => ("CuckooByPost", "signMany", "I", false)
  | 7 => ("CuckooByPost", "at", "I", false)
  | 8 => ("CuckooByPost", "end", "I", false)
  | 9 => ("CuckooByPost", "nest", "I", false)
  | 10 => ("CuckooByPost", "readKind", "[I", true)
  | 11 => ("CuckooByPost", "readStrength", "[I", true)
  | 12 => ("CuckooByPost", "readColour", "[I", true)
  | 13 => ("CuckooByPost", "readOwn", "[I", true)
  | 14 => ("CuckooByPost", "readMany", "I", false)
  | 15 => ("CuckooByPost", "askedSpring", "LCuckooByPost$Spring;", false)
  | 16 => ("CuckooByPost", "askedNest", "I", false)
  | 17 => ("CuckooByPost", "rule", "LCuckooByPost$Node;", false)
  | 18 => ("CuckooByPost", "readRule", "LCuckooByPost$Node;", false)
  | 19 => ("CuckooByPost", "undone", "[LCuckooByPost$Spring;", true)
  | 20 => ("CuckooByPost", "wasAhead", "LCuckooByPost$Spring;", true)
  | 21 => ("CuckooByPost", "undoMany", "I", false)
  | 22 => ("CuckooByPost", "isOut", "[Z", true)
  | 23 => ("CuckooByPost", "actSign", "[I", true)
  | 24 => ("CuckooByPost", "actOne", "[I", true)
  | 25 => ("CuckooByPost", "actTwo", "[I", true)
  | 26 => ("CuckooByPost", "actMany", "I", false)
  | 27 => ("CuckooByPost", "laidColour", "[I", true)
  | 28 => ("CuckooByPost", "laidIn", "[I", true)
  | 29 => ("CuckooByPost", "bestIn", "[I", true)
  | 30 => ("CuckooByPost", "bestFlown", "I", false)
  | 31 => ("CuckooByPost", "lodging", "[I", true)
  | 32 => ("CuckooByPost", "told", "[I", true)
  | 33 => ("CuckooByPost", "writtenMany", "I", false)
  | 34 => ("CuckooByPost", "writtenWhat", "[I", true)
  | 35 => ("CuckooByPost", "writtenOf", "[I", true)
  | 36 => ("CuckooByPost", "random", "I", false)
  | 37 => ("CuckooByPost", "kept", "[LCuckooByPost$Spring;", true)
  | 38 => ("CuckooByPost", "keptChanges", "[I", true)
  | 39 => ("CuckooByPost", "row", "[J", true)
  | _ => ("CuckooByPost", "rowMany", "I", false)
def tyX1 : Nat → FieldType := fun k => match k with
  | 0 => .object "CuckooByPost$Spring"
  | 1 => .object "CuckooByPost$Spring"
  | 2 => .int
  | 3 => .int
  | 4 => .int
  | 5 => .array .int
  | 6 => .int
  | 7 => .int
  | 8 => .int
  | 9 => .int
  | 10 => .array .int
  | 11 => .array .int
  | 12 => .array .int
  | 13 => .array .int
  | 14 => .int
  | 15 => .object "CuckooByPost$Spring"
  | 16 => .int
  | 17 => .object "CuckooByPost$Node"
  | 18 => .object "CuckooByPost$Node"
  | 19 => .array (.object "CuckooByPost$Spring")
  | 20 => .object "CuckooByPost$Spring"
  | 21 => .int
  | 22 => .array .boolean
  | 23 => .array .int
  | 24 => .array .int
  | 25 => .array .int
  | 26 => .int
  | 27 => .array .int
  | 28 => .array .int
  | 29 => .array .int
  | 30 => .int
  | 31 => .array .int
  | 32 => .array .int
  | 33 => .int
  | 34 => .array .int
  | 35 => .array .int
  | 36 => .int
  | 37 => .array (.object "CuckooByPost$Spring")
  | 38 => .array .int
  | 39 => .array .long
  | _ => .int
abbrev wsX10 : List Cond := u_ws RX1 TX1 41
set_option maxRecDepth 100000 in
theorem nmX1 : ∀ a, a < 41 → ∀ b, b < 41 → a ≠ b → (TX1 a).2.1 ≠ (TX1 b).2.1 := by decide +kernel
set_option maxRecDepth 100000 in
theorem tyX1_ok : ∀ k, k < 41 → parseFieldDescriptor (TX1 k).2.2.1 = some (tyX1 k) := by decide +kernel
abbrev cX1_init : ByteArray := prog_1_method_1_code
def yX1_init : MethodName := ⟨RX1, "<init>", "()V"⟩
def dkwX1_init_8 : List UInt8 := [181, 0, 83, 42, 16, 16, 188, 11, 181, 0, 86, 177]
abbrev dktX1_init_8 : List UInt8 := dkwX1_init_8 ++ []
def dkwX1_init_7 : List UInt8 := [181, 0, 74, 42, 16, 12, 188, 10, 181, 0, 77, 42, 5, 189, 0, 7, 181, 0, 80, 42, 5, 188, 10]
abbrev dktX1_init_7 : List UInt8 := dkwX1_init_7 ++ dktX1_init_8
def dkwX1_init_6 : List UInt8 := [181, 0, 65, 42, 16, 8, 188, 10, 181, 0, 68, 42, 16, 8, 188, 10, 181, 0, 71, 42, 16, 12, 188, 10]
abbrev dktX1_init_6 : List UInt8 := dkwX1_init_6 ++ dktX1_init_7
def dkwX1_init_5 : List UInt8 := [188, 10, 181, 0, 56, 42, 7, 188, 10, 181, 0, 59, 42, 7, 188, 10, 181, 0, 62, 42, 7, 188, 10]
abbrev dktX1_init_5 : List UInt8 := dkwX1_init_5 ++ dktX1_init_6
def dkwX1_init_4 : List UInt8 := [188, 4, 181, 0, 46, 42, 16, 60, 188, 10, 181, 0, 50, 42, 16, 60, 188, 10, 181, 0, 53, 42, 16, 60]
abbrev dktX1_init_4 : List UInt8 := dkwX1_init_4 ++ dktX1_init_5
def dkwX1_init_3 : List UInt8 := [42, 16, 12, 189, 0, 7, 181, 0, 39, 42, 187, 0, 7, 89, 183, 0, 9, 181, 0, 43, 42, 16, 8]
abbrev dktX1_init_3 : List UInt8 := dkwX1_init_3 ++ dktX1_init_4
def dkwX1_init_2 : List UInt8 := [42, 16, 8, 188, 10, 181, 0, 30, 42, 16, 8, 188, 10, 181, 0, 33, 42, 16, 8, 188, 10, 181, 0, 36]
abbrev dktX1_init_2 : List UInt8 := dkwX1_init_2 ++ dktX1_init_3
def dkwX1_init_1 : List UInt8 := [181, 0, 16, 42, 6, 181, 0, 19, 42, 16, 80, 188, 10, 181, 0, 23, 42, 16, 8, 188, 10, 181, 0, 27]
abbrev dktX1_init_1 : List UInt8 := dkwX1_init_1 ++ dktX1_init_2
def dkwX1_init_0 : List UInt8 := [42, 183, 0, 1, 42, 187, 0, 7, 89, 183, 0, 9, 181, 0, 10, 42, 187, 0, 7, 89, 183, 0, 9]
abbrev dktX1_init_0 : List UInt8 := dkwX1_init_0 ++ dktX1_init_1
theorem dksX1_init_0 : cX1_init.data.toList.drop 0 = dktX1_init_0 := by decide +kernel
theorem dksX1_init_1 : cX1_init.data.toList.drop 23 = dktX1_init_1 := dk_seg dksX1_init_0 23 rfl rfl
theorem dksX1_init_2 : cX1_init.data.toList.drop 47 = dktX1_init_2 := dk_seg dksX1_init_1 24 rfl rfl
theorem dksX1_init_3 : cX1_init.data.toList.drop 71 = dktX1_init_3 := dk_seg dksX1_init_2 24 rfl rfl
theorem dksX1_init_4 : cX1_init.data.toList.drop 94 = dktX1_init_4 := dk_seg dksX1_init_3 23 rfl rfl
theorem dksX1_init_5 : cX1_init.data.toList.drop 118 = dktX1_init_5 := dk_seg dksX1_init_4 24 rfl rfl
theorem dksX1_init_6 : cX1_init.data.toList.drop 141 = dktX1_init_6 := dk_seg dksX1_init_5 23 rfl rfl
theorem dksX1_init_7 : cX1_init.data.toList.drop 165 = dktX1_init_7 := dk_seg dksX1_init_6 24 rfl rfl
theorem dksX1_init_8 : cX1_init.data.toList.drop 188 = dktX1_init_8 := dk_seg dksX1_init_7 23 rfl rfl
theorem dX1_init_0 : decode cX1_init 0 = .ok (.aload_n 0, 1) := dk_42 (dk_at dksX1_init_0 0 rfl rfl)
theorem dX1_init_1 : decode cX1_init 1 = .ok (.invokespecial 1, 3) := dk_183 0 1 (dk_at dksX1_init_0 1 rfl rfl)
theorem dX1_init_4 : decode cX1_init 4 = .ok (.aload_n 0, 1) := dk_42 (dk_at dksX1_init_0 4 rfl rfl)
theorem dX1_init_5 : decode cX1_init 5 = .ok (.new 7, 3) := dk_187 0 7 (dk_at dksX1_init_0 5 rfl rfl)
theorem dX1_init_8 : decode cX1_init 8 = .ok (.dup, 1) := dk_89 (dk_at dksX1_init_0 8 rfl rfl)
theorem dX1_init_9 : decode cX1_init 9 = .ok (.invokespecial 9, 3) := dk_183 0 9 (dk_at dksX1_init_0 9 rfl rfl)
theorem dX1_init_12 : decode cX1_init 12 = .ok (.putfield 10, 3) := dk_181 0 10 (dk_at dksX1_init_0 12 rfl rfl)
theorem dX1_init_15 : decode cX1_init 15 = .ok (.aload_n 0, 1) := dk_42 (dk_at dksX1_init_0 15 rfl rfl)
theorem dX1_init_16 : decode cX1_init 16 = .ok (.new 7, 3) := dk_187 0 7 (dk_at dksX1_init_0 16 rfl rfl)
theorem dX1_init_19 : decode cX1_init 19 = .ok (.dup, 1) := dk_89 (dk_at dksX1_init_0 19 rfl rfl)
theorem dX1_init_20 : decode cX1_init 20 = .ok (.invokespecial 9, 3) := dk_183 0 9 (dk_at dksX1_init_0 20 rfl rfl)
theorem dX1_init_23 : decode cX1_init 23 = .ok (.putfield 16, 3) := dk_181 0 16 (dk_at dksX1_init_1 0 rfl rfl)
theorem dX1_init_26 : decode cX1_init 26 = .ok (.aload_n 0, 1) := dk_42 (dk_at dksX1_init_1 3 rfl rfl)
theorem dX1_init_27 : decode cX1_init 27 = .ok (.iconst 3, 1) := dk_6 (dk_at dksX1_init_1 4 rfl rfl)
theorem dX1_init_28 : decode cX1_init 28 = .ok (.putfield 19, 3) := dk_181 0 19 (dk_at dksX1_init_1 5 rfl rfl)
theorem dX1_init_31 : decode cX1_init 31 = .ok (.aload_n 0, 1) := dk_42 (dk_at dksX1_init_1 8 rfl rfl)
theorem dX1_init_32 : decode cX1_init 32 = .ok (.bipush 80, 2) := dk_16 80 (dk_at dksX1_init_1 9 rfl rfl)
theorem dX1_init_34 : decode cX1_init 34 = .ok (.newarray .int, 2) := dk_188_10 (dk_at dksX1_init_1 11 rfl rfl)
theorem dX1_init_36 : decode cX1_init 36 = .ok (.putfield 23, 3) := dk_181 0 23 (dk_at dksX1_init_1 13 rfl rfl)
theorem dX1_init_39 : decode cX1_init 39 = .ok (.aload_n 0, 1) := dk_42 (dk_at dksX1_init_1 16 rfl rfl)
theorem dX1_init_40 : decode cX1_init 40 = .ok (.bipush 8, 2) := dk_16 8 (dk_at dksX1_init_1 17 rfl rfl)
theorem dX1_init_42 : decode cX1_init 42 = .ok (.newarray .int, 2) := dk_188_10 (dk_at dksX1_init_1 19 rfl rfl)
theorem dX1_init_44 : decode cX1_init 44 = .ok (.putfield 27, 3) := dk_181 0 27 (dk_at dksX1_init_1 21 rfl rfl)
theorem dX1_init_47 : decode cX1_init 47 = .ok (.aload_n 0, 1) := dk_42 (dk_at dksX1_init_2 0 rfl rfl)
theorem dX1_init_48 : decode cX1_init 48 = .ok (.bipush 8, 2) := dk_16 8 (dk_at dksX1_init_2 1 rfl rfl)
theorem dX1_init_50 : decode cX1_init 50 = .ok (.newarray .int, 2) := dk_188_10 (dk_at dksX1_init_2 3 rfl rfl)
theorem dX1_init_52 : decode cX1_init 52 = .ok (.putfield 30, 3) := dk_181 0 30 (dk_at dksX1_init_2 5 rfl rfl)
theorem dX1_init_55 : decode cX1_init 55 = .ok (.aload_n 0, 1) := dk_42 (dk_at dksX1_init_2 8 rfl rfl)
theorem dX1_init_56 : decode cX1_init 56 = .ok (.bipush 8, 2) := dk_16 8 (dk_at dksX1_init_2 9 rfl rfl)
theorem dX1_init_58 : decode cX1_init 58 = .ok (.newarray .int, 2) := dk_188_10 (dk_at dksX1_init_2 11 rfl rfl)
theorem dX1_init_60 : decode cX1_init 60 = .ok (.putfield 33, 3) := dk_181 0 33 (dk_at dksX1_init_2 13 rfl rfl)
theorem dX1_init_63 : decode cX1_init 63 = .ok (.aload_n 0, 1) := dk_42 (dk_at dksX1_init_2 16 rfl rfl)
theorem dX1_init_64 : decode cX1_init 64 = .ok (.bipush 8, 2) := dk_16 8 (dk_at dksX1_init_2 17 rfl rfl)
theorem dX1_init_66 : decode cX1_init 66 = .ok (.newarray .int, 2) := dk_188_10 (dk_at dksX1_init_2 19 rfl rfl)
theorem dX1_init_68 : decode cX1_init 68 = .ok (.putfield 36, 3) := dk_181 0 36 (dk_at dksX1_init_2 21 rfl rfl)
theorem dX1_init_71 : decode cX1_init 71 = .ok (.aload_n 0, 1) := dk_42 (dk_at dksX1_init_3 0 rfl rfl)
theorem dX1_init_72 : decode cX1_init 72 = .ok (.bipush 12, 2) := dk_16 12 (dk_at dksX1_init_3 1 rfl rfl)
theorem dX1_init_74 : decode cX1_init 74 = .ok (.anewarray 7, 3) := dk_189 0 7 (dk_at dksX1_init_3 3 rfl rfl)
theorem dX1_init_77 : decode cX1_init 77 = .ok (.putfield 39, 3) := dk_181 0 39 (dk_at dksX1_init_3 6 rfl rfl)
theorem dX1_init_80 : decode cX1_init 80 = .ok (.aload_n 0, 1) := dk_42 (dk_at dksX1_init_3 9 rfl rfl)
theorem dX1_init_81 : decode cX1_init 81 = .ok (.new 7, 3) := dk_187 0 7 (dk_at dksX1_init_3 10 rfl rfl)
theorem dX1_init_84 : decode cX1_init 84 = .ok (.dup, 1) := dk_89 (dk_at dksX1_init_3 13 rfl rfl)
theorem dX1_init_85 : decode cX1_init 85 = .ok (.invokespecial 9, 3) := dk_183 0 9 (dk_at dksX1_init_3 14 rfl rfl)
theorem dX1_init_88 : decode cX1_init 88 = .ok (.putfield 43, 3) := dk_181 0 43 (dk_at dksX1_init_3 17 rfl rfl)
theorem dX1_init_91 : decode cX1_init 91 = .ok (.aload_n 0, 1) := dk_42 (dk_at dksX1_init_3 20 rfl rfl)
theorem dX1_init_92 : decode cX1_init 92 = .ok (.bipush 8, 2) := dk_16 8 (dk_at dksX1_init_3 21 rfl rfl)
theorem dX1_init_94 : decode cX1_init 94 = .ok (.newarray .boolean, 2) := dk_188_4 (dk_at dksX1_init_4 0 rfl rfl)
theorem dX1_init_96 : decode cX1_init 96 = .ok (.putfield 46, 3) := dk_181 0 46 (dk_at dksX1_init_4 2 rfl rfl)
theorem dX1_init_99 : decode cX1_init 99 = .ok (.aload_n 0, 1) := dk_42 (dk_at dksX1_init_4 5 rfl rfl)
theorem dX1_init_100 : decode cX1_init 100 = .ok (.bipush 60, 2) := dk_16 60 (dk_at dksX1_init_4 6 rfl rfl)
theorem dX1_init_102 : decode cX1_init 102 = .ok (.newarray .int, 2) := dk_188_10 (dk_at dksX1_init_4 8 rfl rfl)
theorem dX1_init_104 : decode cX1_init 104 = .ok (.putfield 50, 3) := dk_181 0 50 (dk_at dksX1_init_4 10 rfl rfl)
theorem dX1_init_107 : decode cX1_init 107 = .ok (.aload_n 0, 1) := dk_42 (dk_at dksX1_init_4 13 rfl rfl)
theorem dX1_init_108 : decode cX1_init 108 = .ok (.bipush 60, 2) := dk_16 60 (dk_at dksX1_init_4 14 rfl rfl)
theorem dX1_init_110 : decode cX1_init 110 = .ok (.newarray .int, 2) := dk_188_10 (dk_at dksX1_init_4 16 rfl rfl)
theorem dX1_init_112 : decode cX1_init 112 = .ok (.putfield 53, 3) := dk_181 0 53 (dk_at dksX1_init_4 18 rfl rfl)
theorem dX1_init_115 : decode cX1_init 115 = .ok (.aload_n 0, 1) := dk_42 (dk_at dksX1_init_4 21 rfl rfl)
theorem dX1_init_116 : decode cX1_init 116 = .ok (.bipush 60, 2) := dk_16 60 (dk_at dksX1_init_4 22 rfl rfl)
theorem dX1_init_118 : decode cX1_init 118 = .ok (.newarray .int, 2) := dk_188_10 (dk_at dksX1_init_5 0 rfl rfl)
theorem dX1_init_120 : decode cX1_init 120 = .ok (.putfield 56, 3) := dk_181 0 56 (dk_at dksX1_init_5 2 rfl rfl)
theorem dX1_init_123 : decode cX1_init 123 = .ok (.aload_n 0, 1) := dk_42 (dk_at dksX1_init_5 5 rfl rfl)
theorem dX1_init_124 : decode cX1_init 124 = .ok (.iconst 4, 1) := dk_7 (dk_at dksX1_init_5 6 rfl rfl)
theorem dX1_init_125 : decode cX1_init 125 = .ok (.newarray .int, 2) := dk_188_10 (dk_at dksX1_init_5 7 rfl rfl)
theorem dX1_init_127 : decode cX1_init 127 = .ok (.putfield 59, 3) := dk_181 0 59 (dk_at dksX1_init_5 9 rfl rfl)
theorem dX1_init_130 : decode cX1_init 130 = .ok (.aload_n 0, 1) := dk_42 (dk_at dksX1_init_5 12 rfl rfl)
theorem dX1_init_131 : decode cX1_init 131 = .ok (.iconst 4, 1) := dk_7 (dk_at dksX1_init_5 13 rfl rfl)
theorem dX1_init_132 : decode cX1_init 132 = .ok (.newarray .int, 2) := dk_188_10 (dk_at dksX1_init_5 14 rfl rfl)
theorem dX1_init_134 : decode cX1_init 134 = .ok (.putfield 62, 3) := dk_181 0 62 (dk_at dksX1_init_5 16 rfl rfl)
theorem dX1_init_137 : decode cX1_init 137 = .ok (.aload_n 0, 1) := dk_42 (dk_at dksX1_init_5 19 rfl rfl)
theorem dX1_init_138 : decode cX1_init 138 = .ok (.iconst 4, 1) := dk_7 (dk_at dksX1_init_5 20 rfl rfl)
theorem dX1_init_139 : decode cX1_init 139 = .ok (.newarray .int, 2) := dk_188_10 (dk_at dksX1_init_5 21 rfl rfl)
theorem dX1_init_141 : decode cX1_init 141 = .ok (.putfield 65, 3) := dk_181 0 65 (dk_at dksX1_init_6 0 rfl rfl)
theorem dX1_init_144 : decode cX1_init 144 = .ok (.aload_n 0, 1) := dk_42 (dk_at dksX1_init_6 3 rfl rfl)
theorem dX1_init_145 : decode cX1_init 145 = .ok (.bipush 8, 2) := dk_16 8 (dk_at dksX1_init_6 4 rfl rfl)
theorem dX1_init_147 : decode cX1_init 147 = .ok (.newarray .int, 2) := dk_188_10 (dk_at dksX1_init_6 6 rfl rfl)
theorem dX1_init_149 : decode cX1_init 149 = .ok (.putfield 68, 3) := dk_181 0 68 (dk_at dksX1_init_6 8 rfl rfl)
theorem dX1_init_152 : decode cX1_init 152 = .ok (.aload_n 0, 1) := dk_42 (dk_at dksX1_init_6 11 rfl rfl)
theorem dX1_init_153 : decode cX1_init 153 = .ok (.bipush 8, 2) := dk_16 8 (dk_at dksX1_init_6 12 rfl rfl)
theorem dX1_init_155 : decode cX1_init 155 = .ok (.newarray .int, 2) := dk_188_10 (dk_at dksX1_init_6 14 rfl rfl)
theorem dX1_init_157 : decode cX1_init 157 = .ok (.putfield 71, 3) := dk_181 0 71 (dk_at dksX1_init_6 16 rfl rfl)
theorem dX1_init_160 : decode cX1_init 160 = .ok (.aload_n 0, 1) := dk_42 (dk_at dksX1_init_6 19 rfl rfl)
theorem dX1_init_161 : decode cX1_init 161 = .ok (.bipush 12, 2) := dk_16 12 (dk_at dksX1_init_6 20 rfl rfl)
theorem dX1_init_163 : decode cX1_init 163 = .ok (.newarray .int, 2) := dk_188_10 (dk_at dksX1_init_6 22 rfl rfl)
theorem dX1_init_165 : decode cX1_init 165 = .ok (.putfield 74, 3) := dk_181 0 74 (dk_at dksX1_init_7 0 rfl rfl)
theorem dX1_init_168 : decode cX1_init 168 = .ok (.aload_n 0, 1) := dk_42 (dk_at dksX1_init_7 3 rfl rfl)
theorem dX1_init_169 : decode cX1_init 169 = .ok (.bipush 12, 2) := dk_16 12 (dk_at dksX1_init_7 4 rfl rfl)
theorem dX1_init_171 : decode cX1_init 171 = .ok (.newarray .int, 2) := dk_188_10 (dk_at dksX1_init_7 6 rfl rfl)
theorem dX1_init_173 : decode cX1_init 173 = .ok (.putfield 77, 3) := dk_181 0 77 (dk_at dksX1_init_7 8 rfl rfl)
theorem dX1_init_176 : decode cX1_init 176 = .ok (.aload_n 0, 1) := dk_42 (dk_at dksX1_init_7 11 rfl rfl)
theorem dX1_init_177 : decode cX1_init 177 = .ok (.iconst 2, 1) := dk_5 (dk_at dksX1_init_7 12 rfl rfl)
theorem dX1_init_178 : decode cX1_init 178 = .ok (.anewarray 7, 3) := dk_189 0 7 (dk_at dksX1_init_7 13 rfl rfl)
theorem dX1_init_181 : decode cX1_init 181 = .ok (.putfield 80, 3) := dk_181 0 80 (dk_at dksX1_init_7 16 rfl rfl)
theorem dX1_init_184 : decode cX1_init 184 = .ok (.aload_n 0, 1) := dk_42 (dk_at dksX1_init_7 19 rfl rfl)
theorem dX1_init_185 : decode cX1_init 185 = .ok (.iconst 2, 1) := dk_5 (dk_at dksX1_init_7 20 rfl rfl)
theorem dX1_init_186 : decode cX1_init 186 = .ok (.newarray .int, 2) := dk_188_10 (dk_at dksX1_init_7 21 rfl rfl)
theorem dX1_init_188 : decode cX1_init 188 = .ok (.putfield 83, 3) := dk_181 0 83 (dk_at dksX1_init_8 0 rfl rfl)
theorem dX1_init_191 : decode cX1_init 191 = .ok (.aload_n 0, 1) := dk_42 (dk_at dksX1_init_8 3 rfl rfl)
theorem dX1_init_192 : decode cX1_init 192 = .ok (.bipush 16, 2) := dk_16 16 (dk_at dksX1_init_8 4 rfl rfl)
theorem dX1_init_194 : decode cX1_init 194 = .ok (.newarray .long, 2) := dk_188_11 (dk_at dksX1_init_8 6 rfl rfl)
theorem dX1_init_196 : decode cX1_init 196 = .ok (.putfield 86, 3) := dk_181 0 86 (dk_at dksX1_init_8 8 rfl rfl)
theorem dX1_init_199 : decode cX1_init 199 = .ok (.return_, 1) := dk_177 (dk_at dksX1_init_8 11 rfl rfl)
abbrev cX1_sign : ByteArray := prog_1_method_13_code
def yX1_sign : MethodName := ⟨RX1, "sign", "(I)I"⟩
def dkwX1_sign_2 : List UInt8 := [167, 255, 224, 42, 89, 180, 0, 120, 7, 96, 181, 0, 120, 42, 180, 0, 120, 172]
abbrev dktX1_sign_2 : List UInt8 := dkwX1_sign_2 ++ []
def dkwX1_sign_1 : List UInt8 := [180, 0, 120, 28, 96, 27, 16, 24, 16, 8, 28, 104, 100, 122, 17, 0, 255, 126, 79, 132, 2, 1]
abbrev dktX1_sign_1 : List UInt8 := dkwX1_sign_1 ++ dktX1_sign_2
def dkwX1_sign_0 : List UInt8 := [42, 180, 0, 120, 16, 76, 164, 0, 5, 2, 172, 3, 61, 28, 7, 162, 0, 33, 42, 180, 0, 23, 42]
abbrev dktX1_sign_0 : List UInt8 := dkwX1_sign_0 ++ dktX1_sign_1
theorem dksX1_sign_0 : cX1_sign.data.toList.drop 0 = dktX1_sign_0 := by decide +kernel
theorem dksX1_sign_1 : cX1_sign.data.toList.drop 23 = dktX1_sign_1 := dk_seg dksX1_sign_0 23 rfl rfl
theorem dksX1_sign_2 : cX1_sign.data.toList.drop 45 = dktX1_sign_2 := dk_seg dksX1_sign_1 22 rfl rfl
theorem dX1_sign_0 : decode cX1_sign 0 = .ok (.aload_n 0, 1) := dk_42 (dk_at dksX1_sign_0 0 rfl rfl)
theorem dX1_sign_1 : decode cX1_sign 1 = .ok (.getfield 120, 3) := dk_180 0 120 (dk_at dksX1_sign_0 1 rfl rfl)
theorem dX1_sign_4 : decode cX1_sign 4 = .ok (.bipush 76, 2) := dk_16 76 (dk_at dksX1_sign_0 4 rfl rfl)
theorem dX1_sign_6 : decode cX1_sign 6 = .ok (.if_icmp .le 5, 3) := dk_164 0 5 (dk_at dksX1_sign_0 6 rfl rfl)
theorem dX1_sign_9 : decode cX1_sign 9 = .ok (.iconst (-1), 1) := dk_2 (dk_at dksX1_sign_0 9 rfl rfl)
theorem dX1_sign_10 : decode cX1_sign 10 = .ok (.ireturn, 1) := dk_172 (dk_at dksX1_sign_0 10 rfl rfl)
theorem dX1_sign_11 : decode cX1_sign 11 = .ok (.iconst 0, 1) := dk_3 (dk_at dksX1_sign_0 11 rfl rfl)
theorem dX1_sign_12 : decode cX1_sign 12 = .ok (.istore_n 2, 1) := dk_61 (dk_at dksX1_sign_0 12 rfl rfl)
theorem dX1_sign_13 : decode cX1_sign 13 = .ok (.iload_n 2, 1) := dk_28 (dk_at dksX1_sign_0 13 rfl rfl)
theorem dX1_sign_14 : decode cX1_sign 14 = .ok (.iconst 4, 1) := dk_7 (dk_at dksX1_sign_0 14 rfl rfl)
theorem dX1_sign_15 : decode cX1_sign 15 = .ok (.if_icmp .ge 33, 3) := dk_162 0 33 (dk_at dksX1_sign_0 15 rfl rfl)
theorem dX1_sign_18 : decode cX1_sign 18 = .ok (.aload_n 0, 1) := dk_42 (dk_at dksX1_sign_0 18 rfl rfl)
theorem dX1_sign_19 : decode cX1_sign 19 = .ok (.getfield 23, 3) := dk_180 0 23 (dk_at dksX1_sign_0 19 rfl rfl)
theorem dX1_sign_22 : decode cX1_sign 22 = .ok (.aload_n 0, 1) := dk_42 (dk_at dksX1_sign_0 22 rfl rfl)
theorem dX1_sign_23 : decode cX1_sign 23 = .ok (.getfield 120, 3) := dk_180 0 120 (dk_at dksX1_sign_1 0 rfl rfl)
theorem dX1_sign_26 : decode cX1_sign 26 = .ok (.iload_n 2, 1) := dk_28 (dk_at dksX1_sign_1 3 rfl rfl)
theorem dX1_sign_27 : decode cX1_sign 27 = .ok (.iadd, 1) := dk_96 (dk_at dksX1_sign_1 4 rfl rfl)
theorem dX1_sign_28 : decode cX1_sign 28 = .ok (.iload_n 1, 1) := dk_27 (dk_at dksX1_sign_1 5 rfl rfl)
theorem dX1_sign_29 : decode cX1_sign 29 = .ok (.bipush 24, 2) := dk_16 24 (dk_at dksX1_sign_1 6 rfl rfl)
theorem dX1_sign_31 : decode cX1_sign 31 = .ok (.bipush 8, 2) := dk_16 8 (dk_at dksX1_sign_1 8 rfl rfl)
theorem dX1_sign_33 : decode cX1_sign 33 = .ok (.iload_n 2, 1) := dk_28 (dk_at dksX1_sign_1 10 rfl rfl)
theorem dX1_sign_34 : decode cX1_sign 34 = .ok (.imul, 1) := dk_104 (dk_at dksX1_sign_1 11 rfl rfl)
theorem dX1_sign_35 : decode cX1_sign 35 = .ok (.isub, 1) := dk_100 (dk_at dksX1_sign_1 12 rfl rfl)
theorem dX1_sign_36 : decode cX1_sign 36 = .ok (.ishr, 1) := dk_122 (dk_at dksX1_sign_1 13 rfl rfl)
theorem dX1_sign_37 : decode cX1_sign 37 = .ok (.sipush 255, 3) := dk_17 0 255 (dk_at dksX1_sign_1 14 rfl rfl)
theorem dX1_sign_40 : decode cX1_sign 40 = .ok (.iand, 1) := dk_126 (dk_at dksX1_sign_1 17 rfl rfl)
theorem dX1_sign_41 : decode cX1_sign 41 = .ok (.iastore, 1) := dk_79 (dk_at dksX1_sign_1 18 rfl rfl)
theorem dX1_sign_42 : decode cX1_sign 42 = .ok (.iinc 2 1, 3) := dk_132 2 1 (dk_at dksX1_sign_1 19 rfl rfl)
theorem dX1_sign_45 : decode cX1_sign 45 = .ok (.goto (-32), 3) := dk_167 255 224 (dk_at dksX1_sign_2 0 rfl rfl)
theorem dX1_sign_48 : decode cX1_sign 48 = .ok (.aload_n 0, 1) := dk_42 (dk_at dksX1_sign_2 3 rfl rfl)
theorem dX1_sign_49 : decode cX1_sign 49 = .ok (.dup, 1) := dk_89 (dk_at dksX1_sign_2 4 rfl rfl)
theorem dX1_sign_50 : decode cX1_sign 50 = .ok (.getfield 120, 3) := dk_180 0 120 (dk_at dksX1_sign_2 5 rfl rfl)
theorem dX1_sign_53 : decode cX1_sign 53 = .ok (.iconst 4, 1) := dk_7 (dk_at dksX1_sign_2 8 rfl rfl)
theorem dX1_sign_54 : decode cX1_sign 54 = .ok (.iadd, 1) := dk_96 (dk_at dksX1_sign_2 9 rfl rfl)
theorem dX1_sign_55 : decode cX1_sign 55 = .ok (.putfield 120, 3) := dk_181 0 120 (dk_at dksX1_sign_2 10 rfl rfl)
theorem dX1_sign_58 : decode cX1_sign 58 = .ok (.aload_n 0, 1) := dk_42 (dk_at dksX1_sign_2 13 rfl rfl)
theorem dX1_sign_59 : decode cX1_sign 59 = .ok (.getfield 120, 3) := dk_180 0 120 (dk_at dksX1_sign_2 14 rfl rfl)
theorem dX1_sign_62 : decode cX1_sign 62 = .ok (.ireturn, 1) := dk_172 (dk_at dksX1_sign_2 17 rfl rfl)
abbrev cX1_end : ByteArray := prog_1_method_14_code
def yX1_end : MethodName := ⟨RX1, "end", "(I)Z"⟩
def dkwX1_end_0 : List UInt8 := [27, 133, 9, 42, 180, 0, 120, 133, 184, 0, 97, 154, 0, 5, 3, 172, 42, 27, 181, 0, 120, 4, 172]
abbrev dktX1_end_0 : List UInt8 := dkwX1_end_0 ++ []
theorem dksX1_end_0 : cX1_end.data.toList.drop 0 = dktX1_end_0 := by decide +kernel
theorem dX1_end_0 : decode cX1_end 0 = .ok (.iload_n 1, 1) := dk_27 (dk_at dksX1_end_0 0 rfl rfl)
theorem dX1_end_1 : decode cX1_end 1 = .ok (.i2l, 1) := dk_133 (dk_at dksX1_end_0 1 rfl rfl)
theorem dX1_end_2 : decode cX1_end 2 = .ok (.lconst 0, 1) := dk_9 (dk_at dksX1_end_0 2 rfl rfl)
theorem dX1_end_3 : decode cX1_end 3 = .ok (.aload_n 0, 1) := dk_42 (dk_at dksX1_end_0 3 rfl rfl)
theorem dX1_end_4 : decode cX1_end 4 = .ok (.getfield 120, 3) := dk_180 0 120 (dk_at dksX1_end_0 4 rfl rfl)
theorem dX1_end_7 : decode cX1_end 7 = .ok (.i2l, 1) := dk_133 (dk_at dksX1_end_0 7 rfl rfl)
theorem dX1_end_8 : decode cX1_end 8 = .ok (.invokestatic 97, 3) := dk_184 0 97 (dk_at dksX1_end_0 8 rfl rfl)
theorem dX1_end_11 : decode cX1_end 11 = .ok (.ifCond .ne 5, 3) := dk_154 0 5 (dk_at dksX1_end_0 11 rfl rfl)
theorem dX1_end_14 : decode cX1_end 14 = .ok (.iconst 0, 1) := dk_3 (dk_at dksX1_end_0 14 rfl rfl)
theorem dX1_end_15 : decode cX1_end 15 = .ok (.ireturn, 1) := dk_172 (dk_at dksX1_end_0 15 rfl rfl)
theorem dX1_end_16 : decode cX1_end 16 = .ok (.aload_n 0, 1) := dk_42 (dk_at dksX1_end_0 16 rfl rfl)
theorem dX1_end_17 : decode cX1_end 17 = .ok (.iload_n 1, 1) := dk_27 (dk_at dksX1_end_0 17 rfl rfl)
theorem dX1_end_18 : decode cX1_end 18 = .ok (.putfield 120, 3) := dk_181 0 120 (dk_at dksX1_end_0 18 rfl rfl)
theorem dX1_end_21 : decode cX1_end 21 = .ok (.iconst 1, 1) := dk_4 (dk_at dksX1_end_0 21 rfl rfl)
theorem dX1_end_22 : decode cX1_end 22 = .ok (.ireturn, 1) := dk_172 (dk_at dksX1_end_0 22 rfl rfl)
abbrev cX1_in : ByteArray := prog_1_method_2_code
def yX1_in : MethodName := ⟨RX1, "in", "(JJJ)Z"⟩
def dkwX1_in_0 : List UInt8 := [30, 32, 148, 155, 0, 14, 30, 22, 4, 148, 157, 0, 7, 4, 167, 0, 4, 3, 172]
abbrev dktX1_in_0 : List UInt8 := dkwX1_in_0 ++ []
theorem dksX1_in_0 : cX1_in.data.toList.drop 0 = dktX1_in_0 := by decide +kernel
theorem dX1_in_0 : decode cX1_in 0 = .ok (.lload_n 0, 1) := dk_30 (dk_at dksX1_in_0 0 rfl rfl)
theorem dX1_in_1 : decode cX1_in 1 = .ok (.lload_n 2, 1) := dk_32 (dk_at dksX1_in_0 1 rfl rfl)
theorem dX1_in_2 : decode cX1_in 2 = .ok (.lcmp, 1) := dk_148 (dk_at dksX1_in_0 2 rfl rfl)
theorem dX1_in_3 : decode cX1_in 3 = .ok (.ifCond .lt 14, 3) := dk_155 0 14 (dk_at dksX1_in_0 3 rfl rfl)
theorem dX1_in_6 : decode cX1_in 6 = .ok (.lload_n 0, 1) := dk_30 (dk_at dksX1_in_0 6 rfl rfl)
theorem dX1_in_7 : decode cX1_in 7 = .ok (.lload 4, 2) := dk_22 4 (dk_at dksX1_in_0 7 rfl rfl)
theorem dX1_in_9 : decode cX1_in 9 = .ok (.lcmp, 1) := dk_148 (dk_at dksX1_in_0 9 rfl rfl)
theorem dX1_in_10 : decode cX1_in 10 = .ok (.ifCond .gt 7, 3) := dk_157 0 7 (dk_at dksX1_in_0 10 rfl rfl)
theorem dX1_in_13 : decode cX1_in 13 = .ok (.iconst 1, 1) := dk_4 (dk_at dksX1_in_0 13 rfl rfl)
theorem dX1_in_14 : decode cX1_in 14 = .ok (.goto 4, 3) := dk_167 0 4 (dk_at dksX1_in_0 14 rfl rfl)
theorem dX1_in_17 : decode cX1_in 17 = .ok (.iconst 0, 1) := dk_3 (dk_at dksX1_in_0 17 rfl rfl)
theorem dX1_in_18 : decode cX1_in 18 = .ok (.ireturn, 1) := dk_172 (dk_at dksX1_in_0 18 rfl rfl)
abbrev cX1_nests : ByteArray := prog_1_method_24_code
def yX1_nests : MethodName := ⟨RX1, "nests", "()I"⟩
def dkwX1_nests_9 : List UInt8 := [96, 181, 0, 207, 21, 5, 172]
abbrev dktX1_nests_9 : List UInt8 := dkwX1_nests_9 ++ []
def dkwX1_nests_8 : List UInt8 := [42, 89, 180, 0, 94, 4, 96, 181, 0, 94, 167, 255, 140, 42, 3, 181, 0, 204, 42, 89, 180, 0, 207, 4]
abbrev dktX1_nests_8 : List UInt8 := dkwX1_nests_8 ++ dktX1_nests_9
def dkwX1_nests_7 : List UInt8 := [180, 0, 94, 42, 180, 0, 36, 42, 180, 0, 94, 46, 79, 42, 180, 0, 10, 42, 180, 0, 94, 182, 0, 200]
abbrev dktX1_nests_7 : List UInt8 := dkwX1_nests_7 ++ dktX1_nests_8
def dkwX1_nests_6 : List UInt8 := [42, 180, 0, 94, 42, 180, 0, 33, 42, 180, 0, 94, 46, 79, 42, 180, 0, 10, 180, 0, 197, 42]
abbrev dktX1_nests_6 : List UInt8 := dkwX1_nests_6 ++ dktX1_nests_7
def dkwX1_nests_5 : List UInt8 := [180, 0, 191, 42, 180, 0, 94, 42, 180, 0, 30, 42, 180, 0, 94, 46, 79, 42, 180, 0, 10, 180, 0, 194]
abbrev dktX1_nests_5 : List UInt8 := dkwX1_nests_5 ++ dktX1_nests_6
def dkwX1_nests_4 : List UInt8 := [180, 0, 10, 180, 0, 188, 42, 180, 0, 94, 42, 180, 0, 27, 42, 180, 0, 94, 46, 79, 42, 180, 0, 10]
abbrev dktX1_nests_4 : List UInt8 := dkwX1_nests_4 ++ dktX1_nests_5
def dkwX1_nests_3 : List UInt8 := [42, 180, 0, 160, 42, 180, 0, 94, 100, 54, 5, 42, 180, 0, 94, 42, 180, 0, 160, 162, 0, 111, 42]
abbrev dktX1_nests_3 : List UInt8 := dkwX1_nests_3 ++ dktX1_nests_4
def dkwX1_nests_2 : List UInt8 := [167, 0, 4, 3, 62, 167, 255, 228, 42, 27, 28, 182, 0, 184, 54, 4, 21, 4, 156, 0, 6, 21, 4, 172]
abbrev dktX1_nests_2 : List UInt8 := dkwX1_nests_2 ++ dktX1_nests_3
def dkwX1_nests_1 : List UInt8 := [62, 29, 153, 0, 30, 42, 182, 0, 178, 61, 28, 153, 0, 16, 42, 16, 59, 182, 0, 181, 153, 0, 7, 4]
abbrev dktX1_nests_1 : List UInt8 := dkwX1_nests_1 ++ dktX1_nests_2
def dkwX1_nests_0 : List UInt8 := [42, 16, 39, 182, 0, 175, 60, 27, 154, 0, 5, 3, 172, 42, 42, 180, 0, 94, 181, 0, 160, 4, 61, 4]
abbrev dktX1_nests_0 : List UInt8 := dkwX1_nests_0 ++ dktX1_nests_1
theorem dksX1_nests_0 : cX1_nests.data.toList.drop 0 = dktX1_nests_0 := by decide +kernel
theorem dksX1_nests_1 : cX1_nests.data.toList.drop 24 = dktX1_nests_1 := dk_seg dksX1_nests_0 24 rfl rfl
theorem dksX1_nests_2 : cX1_nests.data.toList.drop 48 = dktX1_nests_2 := dk_seg dksX1_nests_1 24 rfl rfl
theorem dksX1_nests_3 : cX1_nests.data.toList.drop 72 = dktX1_nests_3 := dk_seg dksX1_nests_2 24 rfl rfl
theorem dksX1_nests_4 : cX1_nests.data.toList.drop 95 = dktX1_nests_4 := dk_seg dksX1_nests_3 23 rfl rfl
theorem dksX1_nests_5 : cX1_nests.data.toList.drop 119 = dktX1_nests_5 := dk_seg dksX1_nests_4 24 rfl rfl
theorem dksX1_nests_6 : cX1_nests.data.toList.drop 143 = dktX1_nests_6 := dk_seg dksX1_nests_5 24 rfl rfl
theorem dksX1_nests_7 : cX1_nests.data.toList.drop 165 = dktX1_nests_7 := dk_seg dksX1_nests_6 22 rfl rfl
theorem dksX1_nests_8 : cX1_nests.data.toList.drop 189 = dktX1_nests_8 := dk_seg dksX1_nests_7 24 rfl rfl
theorem dksX1_nests_9 : cX1_nests.data.toList.drop 213 = dktX1_nests_9 := dk_seg dksX1_nests_8 24 rfl rfl
theorem dX1_nests_0 : decode cX1_nests 0 = .ok (.aload_n 0, 1) := dk_42 (dk_at dksX1_nests_0 0 rfl rfl)
theorem dX1_nests_1 : decode cX1_nests 1 = .ok (.bipush 39, 2) := dk_16 39 (dk_at dksX1_nests_0 1 rfl rfl)
theorem dX1_nests_3 : decode cX1_nests 3 = .ok (.invokevirtual 175, 3) := dk_182 0 175 (dk_at dksX1_nests_0 3 rfl rfl)
theorem dX1_nests_6 : decode cX1_nests 6 = .ok (.istore_n 1, 1) := dk_60 (dk_at dksX1_nests_0 6 rfl rfl)
theorem dX1_nests_7 : decode cX1_nests 7 = .ok (.iload_n 1, 1) := dk_27 (dk_at dksX1_nests_0 7 rfl rfl)
theorem dX1_nests_8 : decode cX1_nests 8 = .ok (.ifCond .ne 5, 3) := dk_154 0 5 (dk_at dksX1_nests_0 8 rfl rfl)
theorem dX1_nests_11 : decode cX1_nests 11 = .ok (.iconst 0, 1) := dk_3 (dk_at dksX1_nests_0 11 rfl rfl)
theorem dX1_nests_12 : decode cX1_nests 12 = .ok (.ireturn, 1) := dk_172 (dk_at dksX1_nests_0 12 rfl rfl)
theorem dX1_nests_13 : decode cX1_nests 13 = .ok (.aload_n 0, 1) := dk_42 (dk_at dksX1_nests_0 13 rfl rfl)
theorem dX1_nests_14 : decode cX1_nests 14 = .ok (.aload_n 0, 1) := dk_42 (dk_at dksX1_nests_0 14 rfl rfl)
theorem dX1_nests_15 : decode cX1_nests 15 = .ok (.getfield 94, 3) := dk_180 0 94 (dk_at dksX1_nests_0 15 rfl rfl)
theorem dX1_nests_18 : decode cX1_nests 18 = .ok (.putfield 160, 3) := dk_181 0 160 (dk_at dksX1_nests_0 18 rfl rfl)
theorem dX1_nests_21 : decode cX1_nests 21 = .ok (.iconst 1, 1) := dk_4 (dk_at dksX1_nests_0 21 rfl rfl)
theorem dX1_nests_22 : decode cX1_nests 22 = .ok (.istore_n 2, 1) := dk_61 (dk_at dksX1_nests_0 22 rfl rfl)
theorem dX1_nests_23 : decode cX1_nests 23 = .ok (.iconst 1, 1) := dk_4 (dk_at dksX1_nests_0 23 rfl rfl)
theorem dX1_nests_24 : decode cX1_nests 24 = .ok (.istore_n 3, 1) := dk_62 (dk_at dksX1_nests_1 0 rfl rfl)
theorem dX1_nests_25 : decode cX1_nests 25 = .ok (.iload_n 3, 1) := dk_29 (dk_at dksX1_nests_1 1 rfl rfl)
theorem dX1_nests_26 : decode cX1_nests 26 = .ok (.ifCond .eq 30, 3) := dk_153 0 30 (dk_at dksX1_nests_1 2 rfl rfl)
theorem dX1_nests_29 : decode cX1_nests 29 = .ok (.aload_n 0, 1) := dk_42 (dk_at dksX1_nests_1 5 rfl rfl)
theorem dX1_nests_30 : decode cX1_nests 30 = .ok (.invokevirtual 178, 3) := dk_182 0 178 (dk_at dksX1_nests_1 6 rfl rfl)
theorem dX1_nests_33 : decode cX1_nests 33 = .ok (.istore_n 2, 1) := dk_61 (dk_at dksX1_nests_1 9 rfl rfl)
theorem dX1_nests_34 : decode cX1_nests 34 = .ok (.iload_n 2, 1) := dk_28 (dk_at dksX1_nests_1 10 rfl rfl)
theorem dX1_nests_35 : decode cX1_nests 35 = .ok (.ifCond .eq 16, 3) := dk_153 0 16 (dk_at dksX1_nests_1 11 rfl rfl)
theorem dX1_nests_38 : decode cX1_nests 38 = .ok (.aload_n 0, 1) := dk_42 (dk_at dksX1_nests_1 14 rfl rfl)
theorem dX1_nests_39 : decode cX1_nests 39 = .ok (.bipush 59, 2) := dk_16 59 (dk_at dksX1_nests_1 15 rfl rfl)
theorem dX1_nests_41 : decode cX1_nests 41 = .ok (.invokevirtual 181, 3) := dk_182 0 181 (dk_at dksX1_nests_1 17 rfl rfl)
theorem dX1_nests_44 : decode cX1_nests 44 = .ok (.ifCond .eq 7, 3) := dk_153 0 7 (dk_at dksX1_nests_1 20 rfl rfl)
theorem dX1_nests_47 : decode cX1_nests 47 = .ok (.iconst 1, 1) := dk_4 (dk_at dksX1_nests_1 23 rfl rfl)
theorem dX1_nests_48 : decode cX1_nests 48 = .ok (.goto 4, 3) := dk_167 0 4 (dk_at dksX1_nests_2 0 rfl rfl)
theorem dX1_nests_51 : decode cX1_nests 51 = .ok (.iconst 0, 1) := dk_3 (dk_at dksX1_nests_2 3 rfl rfl)
theorem dX1_nests_52 : decode cX1_nests 52 = .ok (.istore_n 3, 1) := dk_62 (dk_at dksX1_nests_2 4 rfl rfl)
theorem dX1_nests_53 : decode cX1_nests 53 = .ok (.goto (-28), 3) := dk_167 255 228 (dk_at dksX1_nests_2 5 rfl rfl)
theorem dX1_nests_56 : decode cX1_nests 56 = .ok (.aload_n 0, 1) := dk_42 (dk_at dksX1_nests_2 8 rfl rfl)
theorem dX1_nests_57 : decode cX1_nests 57 = .ok (.iload_n 1, 1) := dk_27 (dk_at dksX1_nests_2 9 rfl rfl)
theorem dX1_nests_58 : decode cX1_nests 58 = .ok (.iload_n 2, 1) := dk_28 (dk_at dksX1_nests_2 10 rfl rfl)
theorem dX1_nests_59 : decode cX1_nests 59 = .ok (.invokevirtual 184, 3) := dk_182 0 184 (dk_at dksX1_nests_2 11 rfl rfl)
theorem dX1_nests_62 : decode cX1_nests 62 = .ok (.istore 4, 2) := dk_54 4 (dk_at dksX1_nests_2 14 rfl rfl)
theorem dX1_nests_64 : decode cX1_nests 64 = .ok (.iload 4, 2) := dk_21 4 (dk_at dksX1_nests_2 16 rfl rfl)
theorem dX1_nests_66 : decode cX1_nests 66 = .ok (.ifCond .ge 6, 3) := dk_156 0 6 (dk_at dksX1_nests_2 18 rfl rfl)
theorem dX1_nests_69 : decode cX1_nests 69 = .ok (.iload 4, 2) := dk_21 4 (dk_at dksX1_nests_2 21 rfl rfl)
theorem dX1_nests_71 : decode cX1_nests 71 = .ok (.ireturn, 1) := dk_172 (dk_at dksX1_nests_2 23 rfl rfl)
theorem dX1_nests_72 : decode cX1_nests 72 = .ok (.aload_n 0, 1) := dk_42 (dk_at dksX1_nests_3 0 rfl rfl)
theorem dX1_nests_73 : decode cX1_nests 73 = .ok (.getfield 160, 3) := dk_180 0 160 (dk_at dksX1_nests_3 1 rfl rfl)
theorem dX1_nests_76 : decode cX1_nests 76 = .ok (.aload_n 0, 1) := dk_42 (dk_at dksX1_nests_3 4 rfl rfl)
theorem dX1_nests_77 : decode cX1_nests 77 = .ok (.getfield 94, 3) := dk_180 0 94 (dk_at dksX1_nests_3 5 rfl rfl)
theorem dX1_nests_80 : decode cX1_nests 80 = .ok (.isub, 1) := dk_100 (dk_at dksX1_nests_3 8 rfl rfl)
theorem dX1_nests_81 : decode cX1_nests 81 = .ok (.istore 5, 2) := dk_54 5 (dk_at dksX1_nests_3 9 rfl rfl)
theorem dX1_nests_83 : decode cX1_nests 83 = .ok (.aload_n 0, 1) := dk_42 (dk_at dksX1_nests_3 11 rfl rfl)
theorem dX1_nests_84 : decode cX1_nests 84 = .ok (.getfield 94, 3) := dk_180 0 94 (dk_at dksX1_nests_3 12 rfl rfl)
theorem dX1_nests_87 : decode cX1_nests 87 = .ok (.aload_n 0, 1) := dk_42 (dk_at dksX1_nests_3 15 rfl rfl)
theorem dX1_nests_88 : decode cX1_nests 88 = .ok (.getfield 160, 3) := dk_180 0 160 (dk_at dksX1_nests_3 16 rfl rfl)
theorem dX1_nests_91 : decode cX1_nests 91 = .ok (.if_icmp .ge 111, 3) := dk_162 0 111 (dk_at dksX1_nests_3 19 rfl rfl)
theorem dX1_nests_94 : decode cX1_nests 94 = .ok (.aload_n 0, 1) := dk_42 (dk_at dksX1_nests_3 22 rfl rfl)
theorem dX1_nests_95 : decode cX1_nests 95 = .ok (.getfield 10, 3) := dk_180 0 10 (dk_at dksX1_nests_4 0 rfl rfl)
theorem dX1_nests_98 : decode cX1_nests 98 = .ok (.getfield 188, 3) := dk_180 0 188 (dk_at dksX1_nests_4 3 rfl rfl)
theorem dX1_nests_101 : decode cX1_nests 101 = .ok (.aload_n 0, 1) := dk_42 (dk_at dksX1_nests_4 6 rfl rfl)
theorem dX1_nests_102 : decode cX1_nests 102 = .ok (.getfield 94, 3) := dk_180 0 94 (dk_at dksX1_nests_4 7 rfl rfl)
theorem dX1_nests_105 : decode cX1_nests 105 = .ok (.aload_n 0, 1) := dk_42 (dk_at dksX1_nests_4 10 rfl rfl)
theorem dX1_nests_106 : decode cX1_nests 106 = .ok (.getfield 27, 3) := dk_180 0 27 (dk_at dksX1_nests_4 11 rfl rfl)
theorem dX1_nests_109 : decode cX1_nests 109 = .ok (.aload_n 0, 1) := dk_42 (dk_at dksX1_nests_4 14 rfl rfl)
theorem dX1_nests_110 : decode cX1_nests 110 = .ok (.getfield 94, 3) := dk_180 0 94 (dk_at dksX1_nests_4 15 rfl rfl)
theorem dX1_nests_113 : decode cX1_nests 113 = .ok (.iaload, 1) := dk_46 (dk_at dksX1_nests_4 18 rfl rfl)
theorem dX1_nests_114 : decode cX1_nests 114 = .ok (.iastore, 1) := dk_79 (dk_at dksX1_nests_4 19 rfl rfl)
theorem dX1_nests_115 : decode cX1_nests 115 = .ok (.aload_n 0, 1) := dk_42 (dk_at dksX1_nests_4 20 rfl rfl)
theorem dX1_nests_116 : decode cX1_nests 116 = .ok (.getfield 10, 3) := dk_180 0 10 (dk_at dksX1_nests_4 21 rfl rfl)
theorem dX1_nests_119 : decode cX1_nests 119 = .ok (.getfield 191, 3) := dk_180 0 191 (dk_at dksX1_nests_5 0 rfl rfl)
theorem dX1_nests_122 : decode cX1_nests 122 = .ok (.aload_n 0, 1) := dk_42 (dk_at dksX1_nests_5 3 rfl rfl)
theorem dX1_nests_123 : decode cX1_nests 123 = .ok (.getfield 94, 3) := dk_180 0 94 (dk_at dksX1_nests_5 4 rfl rfl)
theorem dX1_nests_126 : decode cX1_nests 126 = .ok (.aload_n 0, 1) := dk_42 (dk_at dksX1_nests_5 7 rfl rfl)
theorem dX1_nests_127 : decode cX1_nests 127 = .ok (.getfield 30, 3) := dk_180 0 30 (dk_at dksX1_nests_5 8 rfl rfl)
theorem dX1_nests_130 : decode cX1_nests 130 = .ok (.aload_n 0, 1) := dk_42 (dk_at dksX1_nests_5 11 rfl rfl)
theorem dX1_nests_131 : decode cX1_nests 131 = .ok (.getfield 94, 3) := dk_180 0 94 (dk_at dksX1_nests_5 12 rfl rfl)
theorem dX1_nests_134 : decode cX1_nests 134 = .ok (.iaload, 1) := dk_46 (dk_at dksX1_nests_5 15 rfl rfl)
theorem dX1_nests_135 : decode cX1_nests 135 = .ok (.iastore, 1) := dk_79 (dk_at dksX1_nests_5 16 rfl rfl)
theorem dX1_nests_136 : decode cX1_nests 136 = .ok (.aload_n 0, 1) := dk_42 (dk_at dksX1_nests_5 17 rfl rfl)
theorem dX1_nests_137 : decode cX1_nests 137 = .ok (.getfield 10, 3) := dk_180 0 10 (dk_at dksX1_nests_5 18 rfl rfl)
theorem dX1_nests_140 : decode cX1_nests 140 = .ok (.getfield 194, 3) := dk_180 0 194 (dk_at dksX1_nests_5 21 rfl rfl)
theorem dX1_nests_143 : decode cX1_nests 143 = .ok (.aload_n 0, 1) := dk_42 (dk_at dksX1_nests_6 0 rfl rfl)
theorem dX1_nests_144 : decode cX1_nests 144 = .ok (.getfield 94, 3) := dk_180 0 94 (dk_at dksX1_nests_6 1 rfl rfl)
theorem dX1_nests_147 : decode cX1_nests 147 = .ok (.aload_n 0, 1) := dk_42 (dk_at dksX1_nests_6 4 rfl rfl)
theorem dX1_nests_148 : decode cX1_nests 148 = .ok (.getfield 33, 3) := dk_180 0 33 (dk_at dksX1_nests_6 5 rfl rfl)
theorem dX1_nests_151 : decode cX1_nests 151 = .ok (.aload_n 0, 1) := dk_42 (dk_at dksX1_nests_6 8 rfl rfl)
theorem dX1_nests_152 : decode cX1_nests 152 = .ok (.getfield 94, 3) := dk_180 0 94 (dk_at dksX1_nests_6 9 rfl rfl)
theorem dX1_nests_155 : decode cX1_nests 155 = .ok (.iaload, 1) := dk_46 (dk_at dksX1_nests_6 12 rfl rfl)
theorem dX1_nests_156 : decode cX1_nests 156 = .ok (.iastore, 1) := dk_79 (dk_at dksX1_nests_6 13 rfl rfl)
theorem dX1_nests_157 : decode cX1_nests 157 = .ok (.aload_n 0, 1) := dk_42 (dk_at dksX1_nests_6 14 rfl rfl)
theorem dX1_nests_158 : decode cX1_nests 158 = .ok (.getfield 10, 3) := dk_180 0 10 (dk_at dksX1_nests_6 15 rfl rfl)
theorem dX1_nests_161 : decode cX1_nests 161 = .ok (.getfield 197, 3) := dk_180 0 197 (dk_at dksX1_nests_6 18 rfl rfl)
theorem dX1_nests_164 : decode cX1_nests 164 = .ok (.aload_n 0, 1) := dk_42 (dk_at dksX1_nests_6 21 rfl rfl)
theorem dX1_nests_165 : decode cX1_nests 165 = .ok (.getfield 94, 3) := dk_180 0 94 (dk_at dksX1_nests_7 0 rfl rfl)
theorem dX1_nests_168 : decode cX1_nests 168 = .ok (.aload_n 0, 1) := dk_42 (dk_at dksX1_nests_7 3 rfl rfl)
theorem dX1_nests_169 : decode cX1_nests 169 = .ok (.getfield 36, 3) := dk_180 0 36 (dk_at dksX1_nests_7 4 rfl rfl)
theorem dX1_nests_172 : decode cX1_nests 172 = .ok (.aload_n 0, 1) := dk_42 (dk_at dksX1_nests_7 7 rfl rfl)
theorem dX1_nests_173 : decode cX1_nests 173 = .ok (.getfield 94, 3) := dk_180 0 94 (dk_at dksX1_nests_7 8 rfl rfl)
theorem dX1_nests_176 : decode cX1_nests 176 = .ok (.iaload, 1) := dk_46 (dk_at dksX1_nests_7 11 rfl rfl)
theorem dX1_nests_177 : decode cX1_nests 177 = .ok (.iastore, 1) := dk_79 (dk_at dksX1_nests_7 12 rfl rfl)
theorem dX1_nests_178 : decode cX1_nests 178 = .ok (.aload_n 0, 1) := dk_42 (dk_at dksX1_nests_7 13 rfl rfl)
theorem dX1_nests_179 : decode cX1_nests 179 = .ok (.getfield 10, 3) := dk_180 0 10 (dk_at dksX1_nests_7 14 rfl rfl)
theorem dX1_nests_182 : decode cX1_nests 182 = .ok (.aload_n 0, 1) := dk_42 (dk_at dksX1_nests_7 17 rfl rfl)
theorem dX1_nests_183 : decode cX1_nests 183 = .ok (.getfield 94, 3) := dk_180 0 94 (dk_at dksX1_nests_7 18 rfl rfl)
theorem dX1_nests_186 : decode cX1_nests 186 = .ok (.invokevirtual 200, 3) := dk_182 0 200 (dk_at dksX1_nests_7 21 rfl rfl)
theorem dX1_nests_189 : decode cX1_nests 189 = .ok (.aload_n 0, 1) := dk_42 (dk_at dksX1_nests_8 0 rfl rfl)
theorem dX1_nests_190 : decode cX1_nests 190 = .ok (.dup, 1) := dk_89 (dk_at dksX1_nests_8 1 rfl rfl)
theorem dX1_nests_191 : decode cX1_nests 191 = .ok (.getfield 94, 3) := dk_180 0 94 (dk_at dksX1_nests_8 2 rfl rfl)
theorem dX1_nests_194 : decode cX1_nests 194 = .ok (.iconst 1, 1) := dk_4 (dk_at dksX1_nests_8 5 rfl rfl)
theorem dX1_nests_195 : decode cX1_nests 195 = .ok (.iadd, 1) := dk_96 (dk_at dksX1_nests_8 6 rfl rfl)
theorem dX1_nests_196 : decode cX1_nests 196 = .ok (.putfield 94, 3) := dk_181 0 94 (dk_at dksX1_nests_8 7 rfl rfl)
theorem dX1_nests_199 : decode cX1_nests 199 = .ok (.goto (-116), 3) := dk_167 255 140 (dk_at dksX1_nests_8 10 rfl rfl)
theorem dX1_nests_202 : decode cX1_nests 202 = .ok (.aload_n 0, 1) := dk_42 (dk_at dksX1_nests_8 13 rfl rfl)
theorem dX1_nests_203 : decode cX1_nests 203 = .ok (.iconst 0, 1) := dk_3 (dk_at dksX1_nests_8 14 rfl rfl)
theorem dX1_nests_204 : decode cX1_nests 204 = .ok (.putfield 204, 3) := dk_181 0 204 (dk_at dksX1_nests_8 15 rfl rfl)
theorem dX1_nests_207 : decode cX1_nests 207 = .ok (.aload_n 0, 1) := dk_42 (dk_at dksX1_nests_8 18 rfl rfl)
theorem dX1_nests_208 : decode cX1_nests 208 = .ok (.dup, 1) := dk_89 (dk_at dksX1_nests_8 19 rfl rfl)
theorem dX1_nests_209 : decode cX1_nests 209 = .ok (.getfield 207, 3) := dk_180 0 207 (dk_at dksX1_nests_8 20 rfl rfl)
theorem dX1_nests_212 : decode cX1_nests 212 = .ok (.iconst 1, 1) := dk_4 (dk_at dksX1_nests_8 23 rfl rfl)
theorem dX1_nests_213 : decode cX1_nests 213 = .ok (.iadd, 1) := dk_96 (dk_at dksX1_nests_9 0 rfl rfl)
theorem dX1_nests_214 : decode cX1_nests 214 = .ok (.putfield 207, 3) := dk_181 0 207 (dk_at dksX1_nests_9 1 rfl rfl)
theorem dX1_nests_217 : decode cX1_nests 217 = .ok (.iload 5, 2) := dk_21 5 (dk_at dksX1_nests_9 4 rfl rfl)
theorem dX1_nests_219 : decode cX1_nests 219 = .ok (.ireturn, 1) := dk_172 (dk_at dksX1_nests_9 6 rfl rfl)
abbrev cX1_begins : ByteArray := prog_1_method_15_code
def yX1_begins : MethodName := ⟨RX1, "begins", "(I)I"⟩
def dkwX1_begins_1 : List UInt8 := [184, 0, 129, 181, 0, 135, 28, 172]
abbrev dktX1_begins_1 : List UInt8 := dkwX1_begins_1 ++ []
def dkwX1_begins_0 : List UInt8 := [42, 180, 0, 120, 61, 42, 3, 181, 0, 120, 42, 3, 181, 0, 123, 42, 3, 181, 0, 126, 42, 28, 27]
abbrev dktX1_begins_0 : List UInt8 := dkwX1_begins_0 ++ dktX1_begins_1
theorem dksX1_begins_0 : cX1_begins.data.toList.drop 0 = dktX1_begins_0 := by decide +kernel
theorem dksX1_begins_1 : cX1_begins.data.toList.drop 23 = dktX1_begins_1 := dk_seg dksX1_begins_0 23 rfl rfl
theorem dX1_begins_0 : decode cX1_begins 0 = .ok (.aload_n 0, 1) := dk_42 (dk_at dksX1_begins_0 0 rfl rfl)
theorem dX1_begins_1 : decode cX1_begins 1 = .ok (.getfield 120, 3) := dk_180 0 120 (dk_at dksX1_begins_0 1 rfl rfl)
theorem dX1_begins_4 : decode cX1_begins 4 = .ok (.istore_n 2, 1) := dk_61 (dk_at dksX1_begins_0 4 rfl rfl)
theorem dX1_begins_5 : decode cX1_begins 5 = .ok (.aload_n 0, 1) := dk_42 (dk_at dksX1_begins_0 5 rfl rfl)
theorem dX1_begins_6 : decode cX1_begins 6 = .ok (.iconst 0, 1) := dk_3 (dk_at dksX1_begins_0 6 rfl rfl)
theorem dX1_begins_7 : decode cX1_begins 7 = .ok (.putfield 120, 3) := dk_181 0 120 (dk_at dksX1_begins_0 7 rfl rfl)
theorem dX1_begins_10 : decode cX1_begins 10 = .ok (.aload_n 0, 1) := dk_42 (dk_at dksX1_begins_0 10 rfl rfl)
theorem dX1_begins_11 : decode cX1_begins 11 = .ok (.iconst 0, 1) := dk_3 (dk_at dksX1_begins_0 11 rfl rfl)
theorem dX1_begins_12 : decode cX1_begins 12 = .ok (.putfield 123, 3) := dk_181 0 123 (dk_at dksX1_begins_0 12 rfl rfl)
theorem dX1_begins_15 : decode cX1_begins 15 = .ok (.aload_n 0, 1) := dk_42 (dk_at dksX1_begins_0 15 rfl rfl)
theorem dX1_begins_16 : decode cX1_begins 16 = .ok (.iconst 0, 1) := dk_3 (dk_at dksX1_begins_0 16 rfl rfl)
theorem dX1_begins_17 : decode cX1_begins 17 = .ok (.putfield 126, 3) := dk_181 0 126 (dk_at dksX1_begins_0 17 rfl rfl)
theorem dX1_begins_20 : decode cX1_begins 20 = .ok (.aload_n 0, 1) := dk_42 (dk_at dksX1_begins_0 20 rfl rfl)
theorem dX1_begins_21 : decode cX1_begins 21 = .ok (.iload_n 2, 1) := dk_28 (dk_at dksX1_begins_0 21 rfl rfl)
theorem dX1_begins_22 : decode cX1_begins 22 = .ok (.iload_n 1, 1) := dk_27 (dk_at dksX1_begins_0 22 rfl rfl)
theorem dX1_begins_23 : decode cX1_begins 23 = .ok (.invokestatic 129, 3) := dk_184 0 129 (dk_at dksX1_begins_1 0 rfl rfl)
theorem dX1_begins_26 : decode cX1_begins 26 = .ok (.putfield 135, 3) := dk_181 0 135 (dk_at dksX1_begins_1 3 rfl rfl)
theorem dX1_begins_29 : decode cX1_begins 29 = .ok (.iload_n 2, 1) := dk_28 (dk_at dksX1_begins_1 6 rfl rfl)
theorem dX1_begins_30 : decode cX1_begins 30 = .ok (.ireturn, 1) := dk_172 (dk_at dksX1_begins_1 7 rfl rfl)
abbrev cX1_readsNest : ByteArray := prog_1_method_23_code
def yX1_readsNest : MethodName := ⟨RX1, "readsNest", "()Z"⟩
def dkwX1_readsNest_4 : List UInt8 := [89, 180, 0, 160, 4, 96, 181, 0, 160, 42, 180, 0, 36, 27, 46, 155, 0, 7, 4, 167, 0, 4, 3, 172]
abbrev dktX1_readsNest_4 : List UInt8 := dkwX1_readsNest_4 ++ []
def dkwX1_readsNest_3 : List UInt8 := [42, 180, 0, 33, 27, 46, 156, 0, 5, 3, 172, 42, 180, 0, 36, 27, 42, 18, 173, 182, 0, 165, 79, 42]
abbrev dktX1_readsNest_3 : List UInt8 := dkwX1_readsNest_3 ++ dktX1_readsNest_4
def dkwX1_readsNest_2 : List UInt8 := [96, 79, 42, 180, 0, 30, 27, 46, 154, 0, 5, 3, 172, 42, 180, 0, 33, 27, 42, 4, 182, 0, 170, 79]
abbrev dktX1_readsNest_2 : List UInt8 := dkwX1_readsNest_2 ++ dktX1_readsNest_3
def dkwX1_readsNest_1 : List UInt8 := [79, 42, 180, 0, 27, 27, 46, 156, 0, 5, 3, 172, 42, 180, 0, 30, 27, 4, 42, 18, 168, 182, 0, 165]
abbrev dktX1_readsNest_1 : List UInt8 := dkwX1_readsNest_1 ++ dktX1_readsNest_2
def dkwX1_readsNest_0 : List UInt8 := [42, 180, 0, 160, 60, 27, 16, 8, 160, 0, 5, 3, 172, 42, 180, 0, 27, 27, 42, 18, 163, 182, 0, 165]
abbrev dktX1_readsNest_0 : List UInt8 := dkwX1_readsNest_0 ++ dktX1_readsNest_1
theorem dksX1_readsNest_0 : cX1_readsNest.data.toList.drop 0 = dktX1_readsNest_0 := by decide +kernel
theorem dksX1_readsNest_1 : cX1_readsNest.data.toList.drop 24 = dktX1_readsNest_1 := dk_seg dksX1_readsNest_0 24 rfl rfl
theorem dksX1_readsNest_2 : cX1_readsNest.data.toList.drop 48 = dktX1_readsNest_2 := dk_seg dksX1_readsNest_1 24 rfl rfl
theorem dksX1_readsNest_3 : cX1_readsNest.data.toList.drop 72 = dktX1_readsNest_3 := dk_seg dksX1_readsNest_2 24 rfl rfl
theorem dksX1_readsNest_4 : cX1_readsNest.data.toList.drop 96 = dktX1_readsNest_4 := dk_seg dksX1_readsNest_3 24 rfl rfl
theorem dX1_readsNest_0 : decode cX1_readsNest 0 = .ok (.aload_n 0, 1) := dk_42 (dk_at dksX1_readsNest_0 0 rfl rfl)
theorem dX1_readsNest_1 : decode cX1_readsNest 1 = .ok (.getfield 160, 3) := dk_180 0 160 (dk_at dksX1_readsNest_0 1 rfl rfl)
theorem dX1_readsNest_4 : decode cX1_readsNest 4 = .ok (.istore_n 1, 1) := dk_60 (dk_at dksX1_readsNest_0 4 rfl rfl)
theorem dX1_readsNest_5 : decode cX1_readsNest 5 = .ok (.iload_n 1, 1) := dk_27 (dk_at dksX1_readsNest_0 5 rfl rfl)
theorem dX1_readsNest_6 : decode cX1_readsNest 6 = .ok (.bipush 8, 2) := dk_16 8 (dk_at dksX1_readsNest_0 6 rfl rfl)
theorem dX1_readsNest_8 : decode cX1_readsNest 8 = .ok (.if_icmp .ne 5, 3) := dk_160 0 5 (dk_at dksX1_readsNest_0 8 rfl rfl)
theorem dX1_readsNest_11 : decode cX1_readsNest 11 = .ok (.iconst 0, 1) := dk_3 (dk_at dksX1_readsNest_0 11 rfl rfl)
theorem dX1_readsNest_12 : decode cX1_readsNest 12 = .ok (.ireturn, 1) := dk_172 (dk_at dksX1_readsNest_0 12 rfl rfl)
theorem dX1_readsNest_13 : decode cX1_readsNest 13 = .ok (.aload_n 0, 1) := dk_42 (dk_at dksX1_readsNest_0 13 rfl rfl)
theorem dX1_readsNest_14 : decode cX1_readsNest 14 = .ok (.getfield 27, 3) := dk_180 0 27 (dk_at dksX1_readsNest_0 14 rfl rfl)
theorem dX1_readsNest_17 : decode cX1_readsNest 17 = .ok (.iload_n 1, 1) := dk_27 (dk_at dksX1_readsNest_0 17 rfl rfl)
theorem dX1_readsNest_18 : decode cX1_readsNest 18 = .ok (.aload_n 0, 1) := dk_42 (dk_at dksX1_readsNest_0 18 rfl rfl)
theorem dX1_readsNest_19 : decode cX1_readsNest 19 = .ok (.ldc 163, 2) := dk_18 163 (dk_at dksX1_readsNest_0 19 rfl rfl)
theorem dX1_readsNest_21 : decode cX1_readsNest 21 = .ok (.invokevirtual 165, 3) := dk_182 0 165 (dk_at dksX1_readsNest_0 21 rfl rfl)
theorem dX1_readsNest_24 : decode cX1_readsNest 24 = .ok (.iastore, 1) := dk_79 (dk_at dksX1_readsNest_1 0 rfl rfl)
theorem dX1_readsNest_25 : decode cX1_readsNest 25 = .ok (.aload_n 0, 1) := dk_42 (dk_at dksX1_readsNest_1 1 rfl rfl)
theorem dX1_readsNest_26 : decode cX1_readsNest 26 = .ok (.getfield 27, 3) := dk_180 0 27 (dk_at dksX1_readsNest_1 2 rfl rfl)
theorem dX1_readsNest_29 : decode cX1_readsNest 29 = .ok (.iload_n 1, 1) := dk_27 (dk_at dksX1_readsNest_1 5 rfl rfl)
theorem dX1_readsNest_30 : decode cX1_readsNest 30 = .ok (.iaload, 1) := dk_46 (dk_at dksX1_readsNest_1 6 rfl rfl)
theorem dX1_readsNest_31 : decode cX1_readsNest 31 = .ok (.ifCond .ge 5, 3) := dk_156 0 5 (dk_at dksX1_readsNest_1 7 rfl rfl)
theorem dX1_readsNest_34 : decode cX1_readsNest 34 = .ok (.iconst 0, 1) := dk_3 (dk_at dksX1_readsNest_1 10 rfl rfl)
theorem dX1_readsNest_35 : decode cX1_readsNest 35 = .ok (.ireturn, 1) := dk_172 (dk_at dksX1_readsNest_1 11 rfl rfl)
theorem dX1_readsNest_36 : decode cX1_readsNest 36 = .ok (.aload_n 0, 1) := dk_42 (dk_at dksX1_readsNest_1 12 rfl rfl)
theorem dX1_readsNest_37 : decode cX1_readsNest 37 = .ok (.getfield 30, 3) := dk_180 0 30 (dk_at dksX1_readsNest_1 13 rfl rfl)
theorem dX1_readsNest_40 : decode cX1_readsNest 40 = .ok (.iload_n 1, 1) := dk_27 (dk_at dksX1_readsNest_1 16 rfl rfl)
theorem dX1_readsNest_41 : decode cX1_readsNest 41 = .ok (.iconst 1, 1) := dk_4 (dk_at dksX1_readsNest_1 17 rfl rfl)
theorem dX1_readsNest_42 : decode cX1_readsNest 42 = .ok (.aload_n 0, 1) := dk_42 (dk_at dksX1_readsNest_1 18 rfl rfl)
theorem dX1_readsNest_43 : decode cX1_readsNest 43 = .ok (.ldc 168, 2) := dk_18 168 (dk_at dksX1_readsNest_1 19 rfl rfl)
theorem dX1_readsNest_45 : decode cX1_readsNest 45 = .ok (.invokevirtual 165, 3) := dk_182 0 165 (dk_at dksX1_readsNest_1 21 rfl rfl)
theorem dX1_readsNest_48 : decode cX1_readsNest 48 = .ok (.iadd, 1) := dk_96 (dk_at dksX1_readsNest_2 0 rfl rfl)
theorem dX1_readsNest_49 : decode cX1_readsNest 49 = .ok (.iastore, 1) := dk_79 (dk_at dksX1_readsNest_2 1 rfl rfl)
theorem dX1_readsNest_50 : decode cX1_readsNest 50 = .ok (.aload_n 0, 1) := dk_42 (dk_at dksX1_readsNest_2 2 rfl rfl)
theorem dX1_readsNest_51 : decode cX1_readsNest 51 = .ok (.getfield 30, 3) := dk_180 0 30 (dk_at dksX1_readsNest_2 3 rfl rfl)
theorem dX1_readsNest_54 : decode cX1_readsNest 54 = .ok (.iload_n 1, 1) := dk_27 (dk_at dksX1_readsNest_2 6 rfl rfl)
theorem dX1_readsNest_55 : decode cX1_readsNest 55 = .ok (.iaload, 1) := dk_46 (dk_at dksX1_readsNest_2 7 rfl rfl)
theorem dX1_readsNest_56 : decode cX1_readsNest 56 = .ok (.ifCond .ne 5, 3) := dk_154 0 5 (dk_at dksX1_readsNest_2 8 rfl rfl)
theorem dX1_readsNest_59 : decode cX1_readsNest 59 = .ok (.iconst 0, 1) := dk_3 (dk_at dksX1_readsNest_2 11 rfl rfl)
theorem dX1_readsNest_60 : decode cX1_readsNest 60 = .ok (.ireturn, 1) := dk_172 (dk_at dksX1_readsNest_2 12 rfl rfl)
theorem dX1_readsNest_61 : decode cX1_readsNest 61 = .ok (.aload_n 0, 1) := dk_42 (dk_at dksX1_readsNest_2 13 rfl rfl)
theorem dX1_readsNest_62 : decode cX1_readsNest 62 = .ok (.getfield 33, 3) := dk_180 0 33 (dk_at dksX1_readsNest_2 14 rfl rfl)
theorem dX1_readsNest_65 : decode cX1_readsNest 65 = .ok (.iload_n 1, 1) := dk_27 (dk_at dksX1_readsNest_2 17 rfl rfl)
theorem dX1_readsNest_66 : decode cX1_readsNest 66 = .ok (.aload_n 0, 1) := dk_42 (dk_at dksX1_readsNest_2 18 rfl rfl)
theorem dX1_readsNest_67 : decode cX1_readsNest 67 = .ok (.iconst 1, 1) := dk_4 (dk_at dksX1_readsNest_2 19 rfl rfl)
theorem dX1_readsNest_68 : decode cX1_readsNest 68 = .ok (.invokevirtual 170, 3) := dk_182 0 170 (dk_at dksX1_readsNest_2 20 rfl rfl)
theorem dX1_readsNest_71 : decode cX1_readsNest 71 = .ok (.iastore, 1) := dk_79 (dk_at dksX1_readsNest_2 23 rfl rfl)
theorem dX1_readsNest_72 : decode cX1_readsNest 72 = .ok (.aload_n 0, 1) := dk_42 (dk_at dksX1_readsNest_3 0 rfl rfl)
theorem dX1_readsNest_73 : decode cX1_readsNest 73 = .ok (.getfield 33, 3) := dk_180 0 33 (dk_at dksX1_readsNest_3 1 rfl rfl)
theorem dX1_readsNest_76 : decode cX1_readsNest 76 = .ok (.iload_n 1, 1) := dk_27 (dk_at dksX1_readsNest_3 4 rfl rfl)
theorem dX1_readsNest_77 : decode cX1_readsNest 77 = .ok (.iaload, 1) := dk_46 (dk_at dksX1_readsNest_3 5 rfl rfl)
theorem dX1_readsNest_78 : decode cX1_readsNest 78 = .ok (.ifCond .ge 5, 3) := dk_156 0 5 (dk_at dksX1_readsNest_3 6 rfl rfl)
theorem dX1_readsNest_81 : decode cX1_readsNest 81 = .ok (.iconst 0, 1) := dk_3 (dk_at dksX1_readsNest_3 9 rfl rfl)
theorem dX1_readsNest_82 : decode cX1_readsNest 82 = .ok (.ireturn, 1) := dk_172 (dk_at dksX1_readsNest_3 10 rfl rfl)
theorem dX1_readsNest_83 : decode cX1_readsNest 83 = .ok (.aload_n 0, 1) := dk_42 (dk_at dksX1_readsNest_3 11 rfl rfl)
theorem dX1_readsNest_84 : decode cX1_readsNest 84 = .ok (.getfield 36, 3) := dk_180 0 36 (dk_at dksX1_readsNest_3 12 rfl rfl)
theorem dX1_readsNest_87 : decode cX1_readsNest 87 = .ok (.iload_n 1, 1) := dk_27 (dk_at dksX1_readsNest_3 15 rfl rfl)
theorem dX1_readsNest_88 : decode cX1_readsNest 88 = .ok (.aload_n 0, 1) := dk_42 (dk_at dksX1_readsNest_3 16 rfl rfl)
theorem dX1_readsNest_89 : decode cX1_readsNest 89 = .ok (.ldc 173, 2) := dk_18 173 (dk_at dksX1_readsNest_3 17 rfl rfl)
theorem dX1_readsNest_91 : decode cX1_readsNest 91 = .ok (.invokevirtual 165, 3) := dk_182 0 165 (dk_at dksX1_readsNest_3 19 rfl rfl)
theorem dX1_readsNest_94 : decode cX1_readsNest 94 = .ok (.iastore, 1) := dk_79 (dk_at dksX1_readsNest_3 22 rfl rfl)
theorem dX1_readsNest_95 : decode cX1_readsNest 95 = .ok (.aload_n 0, 1) := dk_42 (dk_at dksX1_readsNest_3 23 rfl rfl)
theorem dX1_readsNest_96 : decode cX1_readsNest 96 = .ok (.dup, 1) := dk_89 (dk_at dksX1_readsNest_4 0 rfl rfl)
theorem dX1_readsNest_97 : decode cX1_readsNest 97 = .ok (.getfield 160, 3) := dk_180 0 160 (dk_at dksX1_readsNest_4 1 rfl rfl)
theorem dX1_readsNest_100 : decode cX1_readsNest 100 = .ok (.iconst 1, 1) := dk_4 (dk_at dksX1_readsNest_4 4 rfl rfl)
theorem dX1_readsNest_101 : decode cX1_readsNest 101 = .ok (.iadd, 1) := dk_96 (dk_at dksX1_readsNest_4 5 rfl rfl)
theorem dX1_readsNest_102 : decode cX1_readsNest 102 = .ok (.putfield 160, 3) := dk_181 0 160 (dk_at dksX1_readsNest_4 6 rfl rfl)
theorem dX1_readsNest_105 : decode cX1_readsNest 105 = .ok (.aload_n 0, 1) := dk_42 (dk_at dksX1_readsNest_4 9 rfl rfl)
theorem dX1_readsNest_106 : decode cX1_readsNest 106 = .ok (.getfield 36, 3) := dk_180 0 36 (dk_at dksX1_readsNest_4 10 rfl rfl)
theorem dX1_readsNest_109 : decode cX1_readsNest 109 = .ok (.iload_n 1, 1) := dk_27 (dk_at dksX1_readsNest_4 13 rfl rfl)
theorem dX1_readsNest_110 : decode cX1_readsNest 110 = .ok (.iaload, 1) := dk_46 (dk_at dksX1_readsNest_4 14 rfl rfl)
theorem dX1_readsNest_111 : decode cX1_readsNest 111 = .ok (.ifCond .lt 7, 3) := dk_155 0 7 (dk_at dksX1_readsNest_4 15 rfl rfl)
theorem dX1_readsNest_114 : decode cX1_readsNest 114 = .ok (.iconst 1, 1) := dk_4 (dk_at dksX1_readsNest_4 18 rfl rfl)
theorem dX1_readsNest_115 : decode cX1_readsNest 115 = .ok (.goto 4, 3) := dk_167 0 4 (dk_at dksX1_readsNest_4 19 rfl rfl)
theorem dX1_readsNest_118 : decode cX1_readsNest 118 = .ok (.iconst 0, 1) := dk_3 (dk_at dksX1_readsNest_4 22 rfl rfl)
theorem dX1_readsNest_119 : decode cX1_readsNest 119 = .ok (.ireturn, 1) := dk_172 (dk_at dksX1_readsNest_4 23 rfl rfl)
abbrev cX1_takesOf : ByteArray := prog_1_method_19_code
def yX1_takesOf : MethodName := ⟨RX1, "takesOf", "(Ljava/lang/String;)I"⟩
def dkwX1_takesOf_1 : List UInt8 := [28, 172]
abbrev dktX1_takesOf_1 : List UInt8 := dkwX1_takesOf_1 ++ []
def dkwX1_takesOf_0 : List UInt8 := [42, 43, 182, 0, 148, 61, 42, 89, 180, 0, 123, 28, 155, 0, 7, 4, 167, 0, 4, 3, 96, 181, 0, 123]
abbrev dktX1_takesOf_0 : List UInt8 := dkwX1_takesOf_0 ++ dktX1_takesOf_1
theorem dksX1_takesOf_0 : cX1_takesOf.data.toList.drop 0 = dktX1_takesOf_0 := by decide +kernel
theorem dksX1_takesOf_1 : cX1_takesOf.data.toList.drop 24 = dktX1_takesOf_1 := dk_seg dksX1_takesOf_0 24 rfl rfl
theorem dX1_takesOf_0 : decode cX1_takesOf 0 = .ok (.aload_n 0, 1) := dk_42 (dk_at dksX1_takesOf_0 0 rfl rfl)
theorem dX1_takesOf_1 : decode cX1_takesOf 1 = .ok (.aload_n 1, 1) := dk_43 (dk_at dksX1_takesOf_0 1 rfl rfl)
theorem dX1_takesOf_2 : decode cX1_takesOf 2 = .ok (.invokevirtual 148, 3) := dk_182 0 148 (dk_at dksX1_takesOf_0 2 rfl rfl)
theorem dX1_takesOf_5 : decode cX1_takesOf 5 = .ok (.istore_n 2, 1) := dk_61 (dk_at dksX1_takesOf_0 5 rfl rfl)
theorem dX1_takesOf_6 : decode cX1_takesOf 6 = .ok (.aload_n 0, 1) := dk_42 (dk_at dksX1_takesOf_0 6 rfl rfl)
theorem dX1_takesOf_7 : decode cX1_takesOf 7 = .ok (.dup, 1) := dk_89 (dk_at dksX1_takesOf_0 7 rfl rfl)
theorem dX1_takesOf_8 : decode cX1_takesOf 8 = .ok (.getfield 123, 3) := dk_180 0 123 (dk_at dksX1_takesOf_0 8 rfl rfl)
theorem dX1_takesOf_11 : decode cX1_takesOf 11 = .ok (.iload_n 2, 1) := dk_28 (dk_at dksX1_takesOf_0 11 rfl rfl)
theorem dX1_takesOf_12 : decode cX1_takesOf 12 = .ok (.ifCond .lt 7, 3) := dk_155 0 7 (dk_at dksX1_takesOf_0 12 rfl rfl)
theorem dX1_takesOf_15 : decode cX1_takesOf 15 = .ok (.iconst 1, 1) := dk_4 (dk_at dksX1_takesOf_0 15 rfl rfl)
theorem dX1_takesOf_16 : decode cX1_takesOf 16 = .ok (.goto 4, 3) := dk_167 0 4 (dk_at dksX1_takesOf_0 16 rfl rfl)
theorem dX1_takesOf_19 : decode cX1_takesOf 19 = .ok (.iconst 0, 1) := dk_3 (dk_at dksX1_takesOf_0 19 rfl rfl)
theorem dX1_takesOf_20 : decode cX1_takesOf 20 = .ok (.iadd, 1) := dk_96 (dk_at dksX1_takesOf_0 20 rfl rfl)
theorem dX1_takesOf_21 : decode cX1_takesOf 21 = .ok (.putfield 123, 3) := dk_181 0 123 (dk_at dksX1_takesOf_0 21 rfl rfl)
theorem dX1_takesOf_24 : decode cX1_takesOf 24 = .ok (.iload_n 2, 1) := dk_28 (dk_at dksX1_takesOf_1 0 rfl rfl)
theorem dX1_takesOf_25 : decode cX1_takesOf 25 = .ok (.ireturn, 1) := dk_172 (dk_at dksX1_takesOf_1 1 rfl rfl)
abbrev cX1_among : ByteArray := prog_1_method_18_code
def yX1_among : MethodName := ⟨RX1, "among", "(Ljava/lang/String;)I"⟩
def dkwX1_among_1 : List UInt8 := [42, 180, 0, 23, 42, 180, 0, 123, 46, 182, 0, 142, 167, 0, 4, 2, 172]
abbrev dktX1_among_1 : List UInt8 := dkwX1_among_1 ++ []
def dkwX1_among_0 : List UInt8 := [42, 180, 0, 123, 42, 180, 0, 135, 162, 0, 31, 42, 180, 0, 23, 42, 180, 0, 123, 46, 158, 0, 19, 43]
abbrev dktX1_among_0 : List UInt8 := dkwX1_among_0 ++ dktX1_among_1
theorem dksX1_among_0 : cX1_among.data.toList.drop 0 = dktX1_among_0 := by decide +kernel
theorem dksX1_among_1 : cX1_among.data.toList.drop 24 = dktX1_among_1 := dk_seg dksX1_among_0 24 rfl rfl
theorem dX1_among_0 : decode cX1_among 0 = .ok (.aload_n 0, 1) := dk_42 (dk_at dksX1_among_0 0 rfl rfl)
theorem dX1_among_1 : decode cX1_among 1 = .ok (.getfield 123, 3) := dk_180 0 123 (dk_at dksX1_among_0 1 rfl rfl)
theorem dX1_among_4 : decode cX1_among 4 = .ok (.aload_n 0, 1) := dk_42 (dk_at dksX1_among_0 4 rfl rfl)
theorem dX1_among_5 : decode cX1_among 5 = .ok (.getfield 135, 3) := dk_180 0 135 (dk_at dksX1_among_0 5 rfl rfl)
theorem dX1_among_8 : decode cX1_among 8 = .ok (.if_icmp .ge 31, 3) := dk_162 0 31 (dk_at dksX1_among_0 8 rfl rfl)
theorem dX1_among_11 : decode cX1_among 11 = .ok (.aload_n 0, 1) := dk_42 (dk_at dksX1_among_0 11 rfl rfl)
theorem dX1_among_12 : decode cX1_among 12 = .ok (.getfield 23, 3) := dk_180 0 23 (dk_at dksX1_among_0 12 rfl rfl)
theorem dX1_among_15 : decode cX1_among 15 = .ok (.aload_n 0, 1) := dk_42 (dk_at dksX1_among_0 15 rfl rfl)
theorem dX1_among_16 : decode cX1_among 16 = .ok (.getfield 123, 3) := dk_180 0 123 (dk_at dksX1_among_0 16 rfl rfl)
theorem dX1_among_19 : decode cX1_among 19 = .ok (.iaload, 1) := dk_46 (dk_at dksX1_among_0 19 rfl rfl)
theorem dX1_among_20 : decode cX1_among 20 = .ok (.ifCond .le 19, 3) := dk_158 0 19 (dk_at dksX1_among_0 20 rfl rfl)
theorem dX1_among_23 : decode cX1_among 23 = .ok (.aload_n 1, 1) := dk_43 (dk_at dksX1_among_0 23 rfl rfl)
theorem dX1_among_24 : decode cX1_among 24 = .ok (.aload_n 0, 1) := dk_42 (dk_at dksX1_among_1 0 rfl rfl)
theorem dX1_among_25 : decode cX1_among 25 = .ok (.getfield 23, 3) := dk_180 0 23 (dk_at dksX1_among_1 1 rfl rfl)
theorem dX1_among_28 : decode cX1_among 28 = .ok (.aload_n 0, 1) := dk_42 (dk_at dksX1_among_1 4 rfl rfl)
theorem dX1_among_29 : decode cX1_among 29 = .ok (.getfield 123, 3) := dk_180 0 123 (dk_at dksX1_among_1 5 rfl rfl)
theorem dX1_among_32 : decode cX1_among 32 = .ok (.iaload, 1) := dk_46 (dk_at dksX1_among_1 8 rfl rfl)
theorem dX1_among_33 : decode cX1_among 33 = .ok (.invokevirtual 142, 3) := dk_182 0 142 (dk_at dksX1_among_1 9 rfl rfl)
theorem dX1_among_36 : decode cX1_among 36 = .ok (.goto 4, 3) := dk_167 0 4 (dk_at dksX1_among_1 12 rfl rfl)
theorem dX1_among_39 : decode cX1_among 39 = .ok (.iconst (-1), 1) := dk_2 (dk_at dksX1_among_1 15 rfl rfl)
theorem dX1_among_40 : decode cX1_among 40 = .ok (.ireturn, 1) := dk_172 (dk_at dksX1_among_1 16 rfl rfl)
abbrev cX1_number : ByteArray := prog_1_method_21_code
def yX1_number : MethodName := ⟨RX1, "number", "(I)I"⟩
def dkwX1_number_2 : List UInt8 := [180, 0, 123, 4, 96, 181, 0, 123, 132, 3, 1, 167, 255, 213, 28, 172]
abbrev dktX1_number_2 : List UInt8 := dkwX1_number_2 ++ []
def dkwX1_number_1 : List UInt8 := [153, 0, 37, 16, 10, 28, 104, 42, 180, 0, 23, 42, 180, 0, 123, 46, 96, 16, 48, 100, 61, 42, 89]
abbrev dktX1_number_1 : List UInt8 := dkwX1_number_1 ++ dktX1_number_2
def dkwX1_number_0 : List UInt8 := [42, 182, 0, 156, 154, 0, 5, 2, 172, 3, 61, 3, 62, 29, 27, 162, 0, 44, 42, 182, 0, 156]
abbrev dktX1_number_0 : List UInt8 := dkwX1_number_0 ++ dktX1_number_1
theorem dksX1_number_0 : cX1_number.data.toList.drop 0 = dktX1_number_0 := by decide +kernel
theorem dksX1_number_1 : cX1_number.data.toList.drop 22 = dktX1_number_1 := dk_seg dksX1_number_0 22 rfl rfl
theorem dksX1_number_2 : cX1_number.data.toList.drop 45 = dktX1_number_2 := dk_seg dksX1_number_1 23 rfl rfl
theorem dX1_number_0 : decode cX1_number 0 = .ok (.aload_n 0, 1) := dk_42 (dk_at dksX1_number_0 0 rfl rfl)
theorem dX1_number_1 : decode cX1_number 1 = .ok (.invokevirtual 156, 3) := dk_182 0 156 (dk_at dksX1_number_0 1 rfl rfl)
theorem dX1_number_4 : decode cX1_number 4 = .ok (.ifCond .ne 5, 3) := dk_154 0 5 (dk_at dksX1_number_0 4 rfl rfl)
theorem dX1_number_7 : decode cX1_number 7 = .ok (.iconst (-1), 1) := dk_2 (dk_at dksX1_number_0 7 rfl rfl)
theorem dX1_number_8 : decode cX1_number 8 = .ok (.ireturn, 1) := dk_172 (dk_at dksX1_number_0 8 rfl rfl)
theorem dX1_number_9 : decode cX1_number 9 = .ok (.iconst 0, 1) := dk_3 (dk_at dksX1_number_0 9 rfl rfl)
theorem dX1_number_10 : decode cX1_number 10 = .ok (.istore_n 2, 1) := dk_61 (dk_at dksX1_number_0 10 rfl rfl)
theorem dX1_number_11 : decode cX1_number 11 = .ok (.iconst 0, 1) := dk_3 (dk_at dksX1_number_0 11 rfl rfl)
theorem dX1_number_12 : decode cX1_number 12 = .ok (.istore_n 3, 1) := dk_62 (dk_at dksX1_number_0 12 rfl rfl)
theorem dX1_number_13 : decode cX1_number 13 = .ok (.iload_n 3, 1) := dk_29 (dk_at dksX1_number_0 13 rfl rfl)
theorem dX1_number_14 : decode cX1_number 14 = .ok (.iload_n 1, 1) := dk_27 (dk_at dksX1_number_0 14 rfl rfl)
theorem dX1_number_15 : decode cX1_number 15 = .ok (.if_icmp .ge 44, 3) := dk_162 0 44 (dk_at dksX1_number_0 15 rfl rfl)
theorem dX1_number_18 : decode cX1_number 18 = .ok (.aload_n 0, 1) := dk_42 (dk_at dksX1_number_0 18 rfl rfl)
theorem dX1_number_19 : decode cX1_number 19 = .ok (.invokevirtual 156, 3) := dk_182 0 156 (dk_at dksX1_number_0 19 rfl rfl)
theorem dX1_number_22 : decode cX1_number 22 = .ok (.ifCond .eq 37, 3) := dk_153 0 37 (dk_at dksX1_number_1 0 rfl rfl)
theorem dX1_number_25 : decode cX1_number 25 = .ok (.bipush 10, 2) := dk_16 10 (dk_at dksX1_number_1 3 rfl rfl)
theorem dX1_number_27 : decode cX1_number 27 = .ok (.iload_n 2, 1) := dk_28 (dk_at dksX1_number_1 5 rfl rfl)
theorem dX1_number_28 : decode cX1_number 28 = .ok (.imul, 1) := dk_104 (dk_at dksX1_number_1 6 rfl rfl)
theorem dX1_number_29 : decode cX1_number 29 = .ok (.aload_n 0, 1) := dk_42 (dk_at dksX1_number_1 7 rfl rfl)
theorem dX1_number_30 : decode cX1_number 30 = .ok (.getfield 23, 3) := dk_180 0 23 (dk_at dksX1_number_1 8 rfl rfl)
theorem dX1_number_33 : decode cX1_number 33 = .ok (.aload_n 0, 1) := dk_42 (dk_at dksX1_number_1 11 rfl rfl)
theorem dX1_number_34 : decode cX1_number 34 = .ok (.getfield 123, 3) := dk_180 0 123 (dk_at dksX1_number_1 12 rfl rfl)
theorem dX1_number_37 : decode cX1_number 37 = .ok (.iaload, 1) := dk_46 (dk_at dksX1_number_1 15 rfl rfl)
theorem dX1_number_38 : decode cX1_number 38 = .ok (.iadd, 1) := dk_96 (dk_at dksX1_number_1 16 rfl rfl)
theorem dX1_number_39 : decode cX1_number 39 = .ok (.bipush 48, 2) := dk_16 48 (dk_at dksX1_number_1 17 rfl rfl)
theorem dX1_number_41 : decode cX1_number 41 = .ok (.isub, 1) := dk_100 (dk_at dksX1_number_1 19 rfl rfl)
theorem dX1_number_42 : decode cX1_number 42 = .ok (.istore_n 2, 1) := dk_61 (dk_at dksX1_number_1 20 rfl rfl)
theorem dX1_number_43 : decode cX1_number 43 = .ok (.aload_n 0, 1) := dk_42 (dk_at dksX1_number_1 21 rfl rfl)
theorem dX1_number_44 : decode cX1_number 44 = .ok (.dup, 1) := dk_89 (dk_at dksX1_number_1 22 rfl rfl)
theorem dX1_number_45 : decode cX1_number 45 = .ok (.getfield 123, 3) := dk_180 0 123 (dk_at dksX1_number_2 0 rfl rfl)
theorem dX1_number_48 : decode cX1_number 48 = .ok (.iconst 1, 1) := dk_4 (dk_at dksX1_number_2 3 rfl rfl)
theorem dX1_number_49 : decode cX1_number 49 = .ok (.iadd, 1) := dk_96 (dk_at dksX1_number_2 4 rfl rfl)
theorem dX1_number_50 : decode cX1_number 50 = .ok (.putfield 123, 3) := dk_181 0 123 (dk_at dksX1_number_2 5 rfl rfl)
theorem dX1_number_53 : decode cX1_number 53 = .ok (.iinc 3 1, 3) := dk_132 3 1 (dk_at dksX1_number_2 8 rfl rfl)
theorem dX1_number_56 : decode cX1_number 56 = .ok (.goto (-43), 3) := dk_167 255 213 (dk_at dksX1_number_2 11 rfl rfl)
theorem dX1_number_59 : decode cX1_number 59 = .ok (.iload_n 2, 1) := dk_28 (dk_at dksX1_number_2 14 rfl rfl)
theorem dX1_number_60 : decode cX1_number 60 = .ok (.ireturn, 1) := dk_172 (dk_at dksX1_number_2 15 rfl rfl)
abbrev cX1_isDigit : ByteArray := prog_1_method_20_code
def yX1_isDigit : MethodName := ⟨RX1, "isDigit", "()Z"⟩
def dkwX1_isDigit_1 : List UInt8 := [20, 0, 154, 184, 0, 97, 153, 0, 7, 4, 167, 0, 4, 3, 172]
abbrev dktX1_isDigit_1 : List UInt8 := dkwX1_isDigit_1 ++ []
def dkwX1_isDigit_0 : List UInt8 := [42, 180, 0, 123, 42, 180, 0, 135, 162, 0, 29, 42, 180, 0, 23, 42, 180, 0, 123, 46, 133, 20, 0, 152]
abbrev dktX1_isDigit_0 : List UInt8 := dkwX1_isDigit_0 ++ dktX1_isDigit_1
theorem dksX1_isDigit_0 : cX1_isDigit.data.toList.drop 0 = dktX1_isDigit_0 := by decide +kernel
theorem dksX1_isDigit_1 : cX1_isDigit.data.toList.drop 24 = dktX1_isDigit_1 := dk_seg dksX1_isDigit_0 24 rfl rfl
theorem dX1_isDigit_0 : decode cX1_isDigit 0 = .ok (.aload_n 0, 1) := dk_42 (dk_at dksX1_isDigit_0 0 rfl rfl)
theorem dX1_isDigit_1 : decode cX1_isDigit 1 = .ok (.getfield 123, 3) := dk_180 0 123 (dk_at dksX1_isDigit_0 1 rfl rfl)
theorem dX1_isDigit_4 : decode cX1_isDigit 4 = .ok (.aload_n 0, 1) := dk_42 (dk_at dksX1_isDigit_0 4 rfl rfl)
theorem dX1_isDigit_5 : decode cX1_isDigit 5 = .ok (.getfield 135, 3) := dk_180 0 135 (dk_at dksX1_isDigit_0 5 rfl rfl)
theorem dX1_isDigit_8 : decode cX1_isDigit 8 = .ok (.if_icmp .ge 29, 3) := dk_162 0 29 (dk_at dksX1_isDigit_0 8 rfl rfl)
theorem dX1_isDigit_11 : decode cX1_isDigit 11 = .ok (.aload_n 0, 1) := dk_42 (dk_at dksX1_isDigit_0 11 rfl rfl)
theorem dX1_isDigit_12 : decode cX1_isDigit 12 = .ok (.getfield 23, 3) := dk_180 0 23 (dk_at dksX1_isDigit_0 12 rfl rfl)
theorem dX1_isDigit_15 : decode cX1_isDigit 15 = .ok (.aload_n 0, 1) := dk_42 (dk_at dksX1_isDigit_0 15 rfl rfl)
theorem dX1_isDigit_16 : decode cX1_isDigit 16 = .ok (.getfield 123, 3) := dk_180 0 123 (dk_at dksX1_isDigit_0 16 rfl rfl)
theorem dX1_isDigit_19 : decode cX1_isDigit 19 = .ok (.iaload, 1) := dk_46 (dk_at dksX1_isDigit_0 19 rfl rfl)
theorem dX1_isDigit_20 : decode cX1_isDigit 20 = .ok (.i2l, 1) := dk_133 (dk_at dksX1_isDigit_0 20 rfl rfl)
theorem dX1_isDigit_21 : decode cX1_isDigit 21 = .ok (.ldc2_w 152, 3) := dk_20 0 152 (dk_at dksX1_isDigit_0 21 rfl rfl)
theorem dX1_isDigit_24 : decode cX1_isDigit 24 = .ok (.ldc2_w 154, 3) := dk_20 0 154 (dk_at dksX1_isDigit_1 0 rfl rfl)
theorem dX1_isDigit_27 : decode cX1_isDigit 27 = .ok (.invokestatic 97, 3) := dk_184 0 97 (dk_at dksX1_isDigit_1 3 rfl rfl)
theorem dX1_isDigit_30 : decode cX1_isDigit 30 = .ok (.ifCond .eq 7, 3) := dk_153 0 7 (dk_at dksX1_isDigit_1 6 rfl rfl)
theorem dX1_isDigit_33 : decode cX1_isDigit 33 = .ok (.iconst 1, 1) := dk_4 (dk_at dksX1_isDigit_1 9 rfl rfl)
theorem dX1_isDigit_34 : decode cX1_isDigit 34 = .ok (.goto 4, 3) := dk_167 0 4 (dk_at dksX1_isDigit_1 10 rfl rfl)
theorem dX1_isDigit_37 : decode cX1_isDigit 37 = .ok (.iconst 0, 1) := dk_3 (dk_at dksX1_isDigit_1 13 rfl rfl)
theorem dX1_isDigit_38 : decode cX1_isDigit 38 = .ok (.ireturn, 1) := dk_172 (dk_at dksX1_isDigit_1 14 rfl rfl)
abbrev cX1_takes : ByteArray := prog_1_method_17_code
def yX1_takes : MethodName := ⟨RX1, "takes", "(C)Z"⟩
def dkwX1_takes_1 : List UInt8 := [28, 172]
abbrev dktX1_takes_1 : List UInt8 := dkwX1_takes_1 ++ []
def dkwX1_takes_0 : List UInt8 := [42, 27, 182, 0, 138, 61, 42, 89, 180, 0, 123, 28, 153, 0, 7, 4, 167, 0, 4, 3, 96, 181, 0, 123]
abbrev dktX1_takes_0 : List UInt8 := dkwX1_takes_0 ++ dktX1_takes_1
theorem dksX1_takes_0 : cX1_takes.data.toList.drop 0 = dktX1_takes_0 := by decide +kernel
theorem dksX1_takes_1 : cX1_takes.data.toList.drop 24 = dktX1_takes_1 := dk_seg dksX1_takes_0 24 rfl rfl
theorem dX1_takes_0 : decode cX1_takes 0 = .ok (.aload_n 0, 1) := dk_42 (dk_at dksX1_takes_0 0 rfl rfl)
theorem dX1_takes_1 : decode cX1_takes 1 = .ok (.iload_n 1, 1) := dk_27 (dk_at dksX1_takes_0 1 rfl rfl)
theorem dX1_takes_2 : decode cX1_takes 2 = .ok (.invokevirtual 138, 3) := dk_182 0 138 (dk_at dksX1_takes_0 2 rfl rfl)
theorem dX1_takes_5 : decode cX1_takes 5 = .ok (.istore_n 2, 1) := dk_61 (dk_at dksX1_takes_0 5 rfl rfl)
theorem dX1_takes_6 : decode cX1_takes 6 = .ok (.aload_n 0, 1) := dk_42 (dk_at dksX1_takes_0 6 rfl rfl)
theorem dX1_takes_7 : decode cX1_takes 7 = .ok (.dup, 1) := dk_89 (dk_at dksX1_takes_0 7 rfl rfl)
theorem dX1_takes_8 : decode cX1_takes 8 = .ok (.getfield 123, 3) := dk_180 0 123 (dk_at dksX1_takes_0 8 rfl rfl)
theorem dX1_takes_11 : decode cX1_takes 11 = .ok (.iload_n 2, 1) := dk_28 (dk_at dksX1_takes_0 11 rfl rfl)
theorem dX1_takes_12 : decode cX1_takes 12 = .ok (.ifCond .eq 7, 3) := dk_153 0 7 (dk_at dksX1_takes_0 12 rfl rfl)
theorem dX1_takes_15 : decode cX1_takes 15 = .ok (.iconst 1, 1) := dk_4 (dk_at dksX1_takes_0 15 rfl rfl)
theorem dX1_takes_16 : decode cX1_takes 16 = .ok (.goto 4, 3) := dk_167 0 4 (dk_at dksX1_takes_0 16 rfl rfl)
theorem dX1_takes_19 : decode cX1_takes 19 = .ok (.iconst 0, 1) := dk_3 (dk_at dksX1_takes_0 19 rfl rfl)
theorem dX1_takes_20 : decode cX1_takes 20 = .ok (.iadd, 1) := dk_96 (dk_at dksX1_takes_0 20 rfl rfl)
theorem dX1_takes_21 : decode cX1_takes 21 = .ok (.putfield 123, 3) := dk_181 0 123 (dk_at dksX1_takes_0 21 rfl rfl)
theorem dX1_takes_24 : decode cX1_takes 24 = .ok (.iload_n 2, 1) := dk_28 (dk_at dksX1_takes_1 0 rfl rfl)
theorem dX1_takes_25 : decode cX1_takes 25 = .ok (.ireturn, 1) := dk_172 (dk_at dksX1_takes_1 1 rfl rfl)
abbrev cX1_isAt : ByteArray := prog_1_method_16_code
def yX1_isAt : MethodName := ⟨RX1, "isAt", "(C)Z"⟩
def dkwX1_isAt_1 : List UInt8 := [4, 167, 0, 4, 3, 172]
abbrev dktX1_isAt_1 : List UInt8 := dkwX1_isAt_1 ++ []
def dkwX1_isAt_0 : List UInt8 := [42, 180, 0, 123, 42, 180, 0, 135, 162, 0, 20, 42, 180, 0, 23, 42, 180, 0, 123, 46, 27, 160, 0, 7]
abbrev dktX1_isAt_0 : List UInt8 := dkwX1_isAt_0 ++ dktX1_isAt_1
theorem dksX1_isAt_0 : cX1_isAt.data.toList.drop 0 = dktX1_isAt_0 := by decide +kernel
theorem dksX1_isAt_1 : cX1_isAt.data.toList.drop 24 = dktX1_isAt_1 := dk_seg dksX1_isAt_0 24 rfl rfl
theorem dX1_isAt_0 : decode cX1_isAt 0 = .ok (.aload_n 0, 1) := dk_42 (dk_at dksX1_isAt_0 0 rfl rfl)
theorem dX1_isAt_1 : decode cX1_isAt 1 = .ok (.getfield 123, 3) := dk_180 0 123 (dk_at dksX1_isAt_0 1 rfl rfl)
theorem dX1_isAt_4 : decode cX1_isAt 4 = .ok (.aload_n 0, 1) := dk_42 (dk_at dksX1_isAt_0 4 rfl rfl)
theorem dX1_isAt_5 : decode cX1_isAt 5 = .ok (.getfield 135, 3) := dk_180 0 135 (dk_at dksX1_isAt_0 5 rfl rfl)
theorem dX1_isAt_8 : decode cX1_isAt 8 = .ok (.if_icmp .ge 20, 3) := dk_162 0 20 (dk_at dksX1_isAt_0 8 rfl rfl)
theorem dX1_isAt_11 : decode cX1_isAt 11 = .ok (.aload_n 0, 1) := dk_42 (dk_at dksX1_isAt_0 11 rfl rfl)
theorem dX1_isAt_12 : decode cX1_isAt 12 = .ok (.getfield 23, 3) := dk_180 0 23 (dk_at dksX1_isAt_0 12 rfl rfl)
theorem dX1_isAt_15 : decode cX1_isAt 15 = .ok (.aload_n 0, 1) := dk_42 (dk_at dksX1_isAt_0 15 rfl rfl)
theorem dX1_isAt_16 : decode cX1_isAt 16 = .ok (.getfield 123, 3) := dk_180 0 123 (dk_at dksX1_isAt_0 16 rfl rfl)
theorem dX1_isAt_19 : decode cX1_isAt 19 = .ok (.iaload, 1) := dk_46 (dk_at dksX1_isAt_0 19 rfl rfl)
theorem dX1_isAt_20 : decode cX1_isAt 20 = .ok (.iload_n 1, 1) := dk_27 (dk_at dksX1_isAt_0 20 rfl rfl)
theorem dX1_isAt_21 : decode cX1_isAt 21 = .ok (.if_icmp .ne 7, 3) := dk_160 0 7 (dk_at dksX1_isAt_0 21 rfl rfl)
theorem dX1_isAt_24 : decode cX1_isAt 24 = .ok (.iconst 1, 1) := dk_4 (dk_at dksX1_isAt_1 0 rfl rfl)
theorem dX1_isAt_25 : decode cX1_isAt 25 = .ok (.goto 4, 3) := dk_167 0 4 (dk_at dksX1_isAt_1 1 rfl rfl)
theorem dX1_isAt_28 : decode cX1_isAt 28 = .ok (.iconst 0, 1) := dk_3 (dk_at dksX1_isAt_1 4 rfl rfl)
theorem dX1_isAt_29 : decode cX1_isAt 29 = .ok (.ireturn, 1) := dk_172 (dk_at dksX1_isAt_1 5 rfl rfl)
abbrev cX1_faultOf : ByteArray := prog_1_method_22_code
def yX1_faultOf : MethodName := ⟨RX1, "faultOf", "(IZ)I"⟩
def dkwX1_faultOf_2 : List UInt8 := [180, 0, 135, 100, 172, 29, 153, 0, 7, 3, 167, 0, 9, 2, 42, 180, 0, 123, 100, 172]
abbrev dktX1_faultOf_2 : List UInt8 := dkwX1_faultOf_2 ++ []
def dkwX1_faultOf_1 : List UInt8 := [180, 0, 135, 164, 0, 25, 29, 154, 0, 14, 42, 180, 0, 123, 42, 180, 0, 135, 160, 0, 10, 2, 42]
abbrev dktX1_faultOf_1 : List UInt8 := dkwX1_faultOf_1 ++ dktX1_faultOf_2
def dkwX1_faultOf_0 : List UInt8 := [28, 153, 0, 18, 42, 180, 0, 123, 42, 180, 0, 135, 160, 0, 7, 4, 167, 0, 4, 3, 62, 27, 42]
abbrev dktX1_faultOf_0 : List UInt8 := dkwX1_faultOf_0 ++ dktX1_faultOf_1
theorem dksX1_faultOf_0 : cX1_faultOf.data.toList.drop 0 = dktX1_faultOf_0 := by decide +kernel
theorem dksX1_faultOf_1 : cX1_faultOf.data.toList.drop 23 = dktX1_faultOf_1 := dk_seg dksX1_faultOf_0 23 rfl rfl
theorem dksX1_faultOf_2 : cX1_faultOf.data.toList.drop 46 = dktX1_faultOf_2 := dk_seg dksX1_faultOf_1 23 rfl rfl
theorem dX1_faultOf_0 : decode cX1_faultOf 0 = .ok (.iload_n 2, 1) := dk_28 (dk_at dksX1_faultOf_0 0 rfl rfl)
theorem dX1_faultOf_1 : decode cX1_faultOf 1 = .ok (.ifCond .eq 18, 3) := dk_153 0 18 (dk_at dksX1_faultOf_0 1 rfl rfl)
theorem dX1_faultOf_4 : decode cX1_faultOf 4 = .ok (.aload_n 0, 1) := dk_42 (dk_at dksX1_faultOf_0 4 rfl rfl)
theorem dX1_faultOf_5 : decode cX1_faultOf 5 = .ok (.getfield 123, 3) := dk_180 0 123 (dk_at dksX1_faultOf_0 5 rfl rfl)
theorem dX1_faultOf_8 : decode cX1_faultOf 8 = .ok (.aload_n 0, 1) := dk_42 (dk_at dksX1_faultOf_0 8 rfl rfl)
theorem dX1_faultOf_9 : decode cX1_faultOf 9 = .ok (.getfield 135, 3) := dk_180 0 135 (dk_at dksX1_faultOf_0 9 rfl rfl)
theorem dX1_faultOf_12 : decode cX1_faultOf 12 = .ok (.if_icmp .ne 7, 3) := dk_160 0 7 (dk_at dksX1_faultOf_0 12 rfl rfl)
theorem dX1_faultOf_15 : decode cX1_faultOf 15 = .ok (.iconst 1, 1) := dk_4 (dk_at dksX1_faultOf_0 15 rfl rfl)
theorem dX1_faultOf_16 : decode cX1_faultOf 16 = .ok (.goto 4, 3) := dk_167 0 4 (dk_at dksX1_faultOf_0 16 rfl rfl)
theorem dX1_faultOf_19 : decode cX1_faultOf 19 = .ok (.iconst 0, 1) := dk_3 (dk_at dksX1_faultOf_0 19 rfl rfl)
theorem dX1_faultOf_20 : decode cX1_faultOf 20 = .ok (.istore_n 3, 1) := dk_62 (dk_at dksX1_faultOf_0 20 rfl rfl)
theorem dX1_faultOf_21 : decode cX1_faultOf 21 = .ok (.iload_n 1, 1) := dk_27 (dk_at dksX1_faultOf_0 21 rfl rfl)
theorem dX1_faultOf_22 : decode cX1_faultOf 22 = .ok (.aload_n 0, 1) := dk_42 (dk_at dksX1_faultOf_0 22 rfl rfl)
theorem dX1_faultOf_23 : decode cX1_faultOf 23 = .ok (.getfield 135, 3) := dk_180 0 135 (dk_at dksX1_faultOf_1 0 rfl rfl)
theorem dX1_faultOf_26 : decode cX1_faultOf 26 = .ok (.if_icmp .le 25, 3) := dk_164 0 25 (dk_at dksX1_faultOf_1 3 rfl rfl)
theorem dX1_faultOf_29 : decode cX1_faultOf 29 = .ok (.iload_n 3, 1) := dk_29 (dk_at dksX1_faultOf_1 6 rfl rfl)
theorem dX1_faultOf_30 : decode cX1_faultOf 30 = .ok (.ifCond .ne 14, 3) := dk_154 0 14 (dk_at dksX1_faultOf_1 7 rfl rfl)
theorem dX1_faultOf_33 : decode cX1_faultOf 33 = .ok (.aload_n 0, 1) := dk_42 (dk_at dksX1_faultOf_1 10 rfl rfl)
theorem dX1_faultOf_34 : decode cX1_faultOf 34 = .ok (.getfield 123, 3) := dk_180 0 123 (dk_at dksX1_faultOf_1 11 rfl rfl)
theorem dX1_faultOf_37 : decode cX1_faultOf 37 = .ok (.aload_n 0, 1) := dk_42 (dk_at dksX1_faultOf_1 14 rfl rfl)
theorem dX1_faultOf_38 : decode cX1_faultOf 38 = .ok (.getfield 135, 3) := dk_180 0 135 (dk_at dksX1_faultOf_1 15 rfl rfl)
theorem dX1_faultOf_41 : decode cX1_faultOf 41 = .ok (.if_icmp .ne 10, 3) := dk_160 0 10 (dk_at dksX1_faultOf_1 18 rfl rfl)
theorem dX1_faultOf_44 : decode cX1_faultOf 44 = .ok (.iconst (-1), 1) := dk_2 (dk_at dksX1_faultOf_1 21 rfl rfl)
theorem dX1_faultOf_45 : decode cX1_faultOf 45 = .ok (.aload_n 0, 1) := dk_42 (dk_at dksX1_faultOf_1 22 rfl rfl)
theorem dX1_faultOf_46 : decode cX1_faultOf 46 = .ok (.getfield 135, 3) := dk_180 0 135 (dk_at dksX1_faultOf_2 0 rfl rfl)
theorem dX1_faultOf_49 : decode cX1_faultOf 49 = .ok (.isub, 1) := dk_100 (dk_at dksX1_faultOf_2 3 rfl rfl)
theorem dX1_faultOf_50 : decode cX1_faultOf 50 = .ok (.ireturn, 1) := dk_172 (dk_at dksX1_faultOf_2 4 rfl rfl)
theorem dX1_faultOf_51 : decode cX1_faultOf 51 = .ok (.iload_n 3, 1) := dk_29 (dk_at dksX1_faultOf_2 5 rfl rfl)
theorem dX1_faultOf_52 : decode cX1_faultOf 52 = .ok (.ifCond .eq 7, 3) := dk_153 0 7 (dk_at dksX1_faultOf_2 6 rfl rfl)
theorem dX1_faultOf_55 : decode cX1_faultOf 55 = .ok (.iconst 0, 1) := dk_3 (dk_at dksX1_faultOf_2 9 rfl rfl)
theorem dX1_faultOf_56 : decode cX1_faultOf 56 = .ok (.goto 9, 3) := dk_167 0 9 (dk_at dksX1_faultOf_2 10 rfl rfl)
theorem dX1_faultOf_59 : decode cX1_faultOf 59 = .ok (.iconst (-1), 1) := dk_2 (dk_at dksX1_faultOf_2 13 rfl rfl)
theorem dX1_faultOf_60 : decode cX1_faultOf 60 = .ok (.aload_n 0, 1) := dk_42 (dk_at dksX1_faultOf_2 14 rfl rfl)
theorem dX1_faultOf_61 : decode cX1_faultOf 61 = .ok (.getfield 123, 3) := dk_180 0 123 (dk_at dksX1_faultOf_2 15 rfl rfl)
theorem dX1_faultOf_64 : decode cX1_faultOf 64 = .ok (.isub, 1) := dk_100 (dk_at dksX1_faultOf_2 18 rfl rfl)
theorem dX1_faultOf_65 : decode cX1_faultOf 65 = .ok (.ireturn, 1) := dk_172 (dk_at dksX1_faultOf_2 19 rfl rfl)
abbrev cX1_rule : ByteArray := prog_1_method_29_code
def yX1_rule : MethodName := ⟨RX1, "rule", "()I"⟩
def dkwX1_rule_0 : List UInt8 := [42, 182, 0, 252, 60, 27, 154, 0, 11, 42, 42, 180, 0, 248, 181, 1, 0, 27, 172]
abbrev dktX1_rule_0 : List UInt8 := dkwX1_rule_0 ++ []
theorem dksX1_rule_0 : cX1_rule.data.toList.drop 0 = dktX1_rule_0 := by decide +kernel
theorem dX1_rule_0 : decode cX1_rule 0 = .ok (.aload_n 0, 1) := dk_42 (dk_at dksX1_rule_0 0 rfl rfl)
theorem dX1_rule_1 : decode cX1_rule 1 = .ok (.invokevirtual 252, 3) := dk_182 0 252 (dk_at dksX1_rule_0 1 rfl rfl)
theorem dX1_rule_4 : decode cX1_rule 4 = .ok (.istore_n 1, 1) := dk_60 (dk_at dksX1_rule_0 4 rfl rfl)
theorem dX1_rule_5 : decode cX1_rule 5 = .ok (.iload_n 1, 1) := dk_27 (dk_at dksX1_rule_0 5 rfl rfl)
theorem dX1_rule_6 : decode cX1_rule 6 = .ok (.ifCond .ne 11, 3) := dk_154 0 11 (dk_at dksX1_rule_0 6 rfl rfl)
theorem dX1_rule_9 : decode cX1_rule 9 = .ok (.aload_n 0, 1) := dk_42 (dk_at dksX1_rule_0 9 rfl rfl)
theorem dX1_rule_10 : decode cX1_rule 10 = .ok (.aload_n 0, 1) := dk_42 (dk_at dksX1_rule_0 10 rfl rfl)
theorem dX1_rule_11 : decode cX1_rule 11 = .ok (.getfield 248, 3) := dk_180 0 248 (dk_at dksX1_rule_0 11 rfl rfl)
theorem dX1_rule_14 : decode cX1_rule 14 = .ok (.putfield 256, 3) := dk_181 1 0 (dk_at dksX1_rule_0 14 rfl rfl)
theorem dX1_rule_17 : decode cX1_rule 17 = .ok (.iload_n 1, 1) := dk_27 (dk_at dksX1_rule_0 17 rfl rfl)
theorem dX1_rule_18 : decode cX1_rule 18 = .ok (.ireturn, 1) := dk_172 (dk_at dksX1_rule_0 18 rfl rfl)
abbrev cX1_readsRule : ByteArray := prog_1_method_28_code
def yX1_readsRule : MethodName := ⟨RX1, "readsRule", "()I"⟩
def dkwX1_readsRule_2 : List UInt8 := [182, 0, 184, 172]
abbrev dktX1_readsRule_2 : List UInt8 := dkwX1_readsRule_2 ++ []
def dkwX1_readsRule_1 : List UInt8 := [27, 154, 0, 7, 3, 167, 0, 20, 42, 27, 42, 180, 0, 248, 198, 0, 7, 4, 167, 0, 4, 3]
abbrev dktX1_readsRule_1 : List UInt8 := dkwX1_readsRule_1 ++ dktX1_readsRule_2
def dkwX1_readsRule_0 : List UInt8 := [42, 16, 40, 182, 0, 175, 60, 42, 27, 154, 0, 7, 1, 167, 0, 8, 42, 3, 182, 0, 229, 181, 0, 248]
abbrev dktX1_readsRule_0 : List UInt8 := dkwX1_readsRule_0 ++ dktX1_readsRule_1
theorem dksX1_readsRule_0 : cX1_readsRule.data.toList.drop 0 = dktX1_readsRule_0 := by decide +kernel
theorem dksX1_readsRule_1 : cX1_readsRule.data.toList.drop 24 = dktX1_readsRule_1 := dk_seg dksX1_readsRule_0 24 rfl rfl
theorem dksX1_readsRule_2 : cX1_readsRule.data.toList.drop 46 = dktX1_readsRule_2 := dk_seg dksX1_readsRule_1 22 rfl rfl
theorem dX1_readsRule_0 : decode cX1_readsRule 0 = .ok (.aload_n 0, 1) := dk_42 (dk_at dksX1_readsRule_0 0 rfl rfl)
theorem dX1_readsRule_1 : decode cX1_readsRule 1 = .ok (.bipush 40, 2) := dk_16 40 (dk_at dksX1_readsRule_0 1 rfl rfl)
theorem dX1_readsRule_3 : decode cX1_readsRule 3 = .ok (.invokevirtual 175, 3) := dk_182 0 175 (dk_at dksX1_readsRule_0 3 rfl rfl)
theorem dX1_readsRule_6 : decode cX1_readsRule 6 = .ok (.istore_n 1, 1) := dk_60 (dk_at dksX1_readsRule_0 6 rfl rfl)
theorem dX1_readsRule_7 : decode cX1_readsRule 7 = .ok (.aload_n 0, 1) := dk_42 (dk_at dksX1_readsRule_0 7 rfl rfl)
theorem dX1_readsRule_8 : decode cX1_readsRule 8 = .ok (.iload_n 1, 1) := dk_27 (dk_at dksX1_readsRule_0 8 rfl rfl)
theorem dX1_readsRule_9 : decode cX1_readsRule 9 = .ok (.ifCond .ne 7, 3) := dk_154 0 7 (dk_at dksX1_readsRule_0 9 rfl rfl)
theorem dX1_readsRule_12 : decode cX1_readsRule 12 = .ok (.aconst_null, 1) := dk_1 (dk_at dksX1_readsRule_0 12 rfl rfl)
theorem dX1_readsRule_13 : decode cX1_readsRule 13 = .ok (.goto 8, 3) := dk_167 0 8 (dk_at dksX1_readsRule_0 13 rfl rfl)
theorem dX1_readsRule_16 : decode cX1_readsRule 16 = .ok (.aload_n 0, 1) := dk_42 (dk_at dksX1_readsRule_0 16 rfl rfl)
theorem dX1_readsRule_17 : decode cX1_readsRule 17 = .ok (.iconst 0, 1) := dk_3 (dk_at dksX1_readsRule_0 17 rfl rfl)
theorem dX1_readsRule_18 : decode cX1_readsRule 18 = .ok (.invokevirtual 229, 3) := dk_182 0 229 (dk_at dksX1_readsRule_0 18 rfl rfl)
theorem dX1_readsRule_21 : decode cX1_readsRule 21 = .ok (.putfield 248, 3) := dk_181 0 248 (dk_at dksX1_readsRule_0 21 rfl rfl)
theorem dX1_readsRule_24 : decode cX1_readsRule 24 = .ok (.iload_n 1, 1) := dk_27 (dk_at dksX1_readsRule_1 0 rfl rfl)
theorem dX1_readsRule_25 : decode cX1_readsRule 25 = .ok (.ifCond .ne 7, 3) := dk_154 0 7 (dk_at dksX1_readsRule_1 1 rfl rfl)
theorem dX1_readsRule_28 : decode cX1_readsRule 28 = .ok (.iconst 0, 1) := dk_3 (dk_at dksX1_readsRule_1 4 rfl rfl)
theorem dX1_readsRule_29 : decode cX1_readsRule 29 = .ok (.goto 20, 3) := dk_167 0 20 (dk_at dksX1_readsRule_1 5 rfl rfl)
theorem dX1_readsRule_32 : decode cX1_readsRule 32 = .ok (.aload_n 0, 1) := dk_42 (dk_at dksX1_readsRule_1 8 rfl rfl)
theorem dX1_readsRule_33 : decode cX1_readsRule 33 = .ok (.iload_n 1, 1) := dk_27 (dk_at dksX1_readsRule_1 9 rfl rfl)
theorem dX1_readsRule_34 : decode cX1_readsRule 34 = .ok (.aload_n 0, 1) := dk_42 (dk_at dksX1_readsRule_1 10 rfl rfl)
theorem dX1_readsRule_35 : decode cX1_readsRule 35 = .ok (.getfield 248, 3) := dk_180 0 248 (dk_at dksX1_readsRule_1 11 rfl rfl)
theorem dX1_readsRule_38 : decode cX1_readsRule 38 = .ok (.ifnull 7, 3) := dk_198 0 7 (dk_at dksX1_readsRule_1 14 rfl rfl)
theorem dX1_readsRule_41 : decode cX1_readsRule 41 = .ok (.iconst 1, 1) := dk_4 (dk_at dksX1_readsRule_1 17 rfl rfl)
theorem dX1_readsRule_42 : decode cX1_readsRule 42 = .ok (.goto 4, 3) := dk_167 0 4 (dk_at dksX1_readsRule_1 18 rfl rfl)
theorem dX1_readsRule_45 : decode cX1_readsRule 45 = .ok (.iconst 0, 1) := dk_3 (dk_at dksX1_readsRule_1 21 rfl rfl)
theorem dX1_readsRule_46 : decode cX1_readsRule 46 = .ok (.invokevirtual 184, 3) := dk_182 0 184 (dk_at dksX1_readsRule_2 0 rfl rfl)
theorem dX1_readsRule_49 : decode cX1_readsRule 49 = .ok (.ireturn, 1) := dk_172 (dk_at dksX1_readsRule_2 3 rfl rfl)
abbrev cX1_reads : ByteArray := prog_1_method_27_code
def yX1_reads : MethodName := ⟨RX1, "reads", "(I)LCuckooByPost$Node;"⟩
def dkwX1_reads_4 : List UInt8 := [158, 0, 7, 4, 167, 0, 4, 3, 62, 167, 255, 173, 44, 176]
abbrev dktX1_reads_4 : List UInt8 := dkwX1_reads_4 ++ []
def dkwX1_reads_3 : List UInt8 := [199, 0, 7, 1, 167, 0, 16, 187, 0, 243, 89, 42, 21, 4, 44, 25, 5, 183, 0, 245, 77, 27]
abbrev dktX1_reads_3 : List UInt8 := dkwX1_reads_3 ++ dktX1_reads_4
def dkwX1_reads_2 : List UInt8 := [146, 54, 4, 42, 89, 180, 0, 123, 4, 96, 181, 0, 123, 42, 27, 4, 96, 182, 0, 229, 58, 5, 25, 5]
abbrev dktX1_reads_2 : List UInt8 := dkwX1_reads_2 ++ dktX1_reads_3
def dkwX1_reads_1 : List UInt8 := [29, 153, 0, 81, 42, 27, 184, 0, 239, 182, 0, 148, 155, 0, 70, 42, 180, 0, 23, 42, 180, 0, 123, 46]
abbrev dktX1_reads_1 : List UInt8 := dkwX1_reads_1 ++ dktX1_reads_2
def dkwX1_reads_0 : List UInt8 := [27, 6, 160, 0, 8, 42, 182, 0, 210, 176, 42, 27, 4, 96, 182, 0, 229, 77, 4, 62, 44, 198, 0, 85]
abbrev dktX1_reads_0 : List UInt8 := dkwX1_reads_0 ++ dktX1_reads_1
theorem dksX1_reads_0 : cX1_reads.data.toList.drop 0 = dktX1_reads_0 := by decide +kernel
theorem dksX1_reads_1 : cX1_reads.data.toList.drop 24 = dktX1_reads_1 := dk_seg dksX1_reads_0 24 rfl rfl
theorem dksX1_reads_2 : cX1_reads.data.toList.drop 48 = dktX1_reads_2 := dk_seg dksX1_reads_1 24 rfl rfl
theorem dksX1_reads_3 : cX1_reads.data.toList.drop 72 = dktX1_reads_3 := dk_seg dksX1_reads_2 24 rfl rfl
theorem dksX1_reads_4 : cX1_reads.data.toList.drop 94 = dktX1_reads_4 := dk_seg dksX1_reads_3 22 rfl rfl
theorem dX1_reads_0 : decode cX1_reads 0 = .ok (.iload_n 1, 1) := dk_27 (dk_at dksX1_reads_0 0 rfl rfl)
theorem dX1_reads_1 : decode cX1_reads 1 = .ok (.iconst 3, 1) := dk_6 (dk_at dksX1_reads_0 1 rfl rfl)
theorem dX1_reads_2 : decode cX1_reads 2 = .ok (.if_icmp .ne 8, 3) := dk_160 0 8 (dk_at dksX1_reads_0 2 rfl rfl)
theorem dX1_reads_5 : decode cX1_reads 5 = .ok (.aload_n 0, 1) := dk_42 (dk_at dksX1_reads_0 5 rfl rfl)
theorem dX1_reads_6 : decode cX1_reads 6 = .ok (.invokevirtual 210, 3) := dk_182 0 210 (dk_at dksX1_reads_0 6 rfl rfl)
theorem dX1_reads_9 : decode cX1_reads 9 = .ok (.areturn, 1) := dk_176 (dk_at dksX1_reads_0 9 rfl rfl)
theorem dX1_reads_10 : decode cX1_reads 10 = .ok (.aload_n 0, 1) := dk_42 (dk_at dksX1_reads_0 10 rfl rfl)
theorem dX1_reads_11 : decode cX1_reads 11 = .ok (.iload_n 1, 1) := dk_27 (dk_at dksX1_reads_0 11 rfl rfl)
theorem dX1_reads_12 : decode cX1_reads 12 = .ok (.iconst 1, 1) := dk_4 (dk_at dksX1_reads_0 12 rfl rfl)
theorem dX1_reads_13 : decode cX1_reads 13 = .ok (.iadd, 1) := dk_96 (dk_at dksX1_reads_0 13 rfl rfl)
theorem dX1_reads_14 : decode cX1_reads 14 = .ok (.invokevirtual 229, 3) := dk_182 0 229 (dk_at dksX1_reads_0 14 rfl rfl)
theorem dX1_reads_17 : decode cX1_reads 17 = .ok (.astore_n 2, 1) := dk_77 (dk_at dksX1_reads_0 17 rfl rfl)
theorem dX1_reads_18 : decode cX1_reads 18 = .ok (.iconst 1, 1) := dk_4 (dk_at dksX1_reads_0 18 rfl rfl)
theorem dX1_reads_19 : decode cX1_reads 19 = .ok (.istore_n 3, 1) := dk_62 (dk_at dksX1_reads_0 19 rfl rfl)
theorem dX1_reads_20 : decode cX1_reads 20 = .ok (.aload_n 2, 1) := dk_44 (dk_at dksX1_reads_0 20 rfl rfl)
theorem dX1_reads_21 : decode cX1_reads 21 = .ok (.ifnull 85, 3) := dk_198 0 85 (dk_at dksX1_reads_0 21 rfl rfl)
theorem dX1_reads_24 : decode cX1_reads 24 = .ok (.iload_n 3, 1) := dk_29 (dk_at dksX1_reads_1 0 rfl rfl)
theorem dX1_reads_25 : decode cX1_reads 25 = .ok (.ifCond .eq 81, 3) := dk_153 0 81 (dk_at dksX1_reads_1 1 rfl rfl)
theorem dX1_reads_28 : decode cX1_reads 28 = .ok (.aload_n 0, 1) := dk_42 (dk_at dksX1_reads_1 4 rfl rfl)
theorem dX1_reads_29 : decode cX1_reads 29 = .ok (.iload_n 1, 1) := dk_27 (dk_at dksX1_reads_1 5 rfl rfl)
theorem dX1_reads_30 : decode cX1_reads 30 = .ok (.invokestatic 239, 3) := dk_184 0 239 (dk_at dksX1_reads_1 6 rfl rfl)
theorem dX1_reads_33 : decode cX1_reads 33 = .ok (.invokevirtual 148, 3) := dk_182 0 148 (dk_at dksX1_reads_1 9 rfl rfl)
theorem dX1_reads_36 : decode cX1_reads 36 = .ok (.ifCond .lt 70, 3) := dk_155 0 70 (dk_at dksX1_reads_1 12 rfl rfl)
theorem dX1_reads_39 : decode cX1_reads 39 = .ok (.aload_n 0, 1) := dk_42 (dk_at dksX1_reads_1 15 rfl rfl)
theorem dX1_reads_40 : decode cX1_reads 40 = .ok (.getfield 23, 3) := dk_180 0 23 (dk_at dksX1_reads_1 16 rfl rfl)
theorem dX1_reads_43 : decode cX1_reads 43 = .ok (.aload_n 0, 1) := dk_42 (dk_at dksX1_reads_1 19 rfl rfl)
theorem dX1_reads_44 : decode cX1_reads 44 = .ok (.getfield 123, 3) := dk_180 0 123 (dk_at dksX1_reads_1 20 rfl rfl)
theorem dX1_reads_47 : decode cX1_reads 47 = .ok (.iaload, 1) := dk_46 (dk_at dksX1_reads_1 23 rfl rfl)
theorem dX1_reads_48 : decode cX1_reads 48 = .ok (.i2c, 1) := dk_146 (dk_at dksX1_reads_2 0 rfl rfl)
theorem dX1_reads_49 : decode cX1_reads 49 = .ok (.istore 4, 2) := dk_54 4 (dk_at dksX1_reads_2 1 rfl rfl)
theorem dX1_reads_51 : decode cX1_reads 51 = .ok (.aload_n 0, 1) := dk_42 (dk_at dksX1_reads_2 3 rfl rfl)
theorem dX1_reads_52 : decode cX1_reads 52 = .ok (.dup, 1) := dk_89 (dk_at dksX1_reads_2 4 rfl rfl)
theorem dX1_reads_53 : decode cX1_reads 53 = .ok (.getfield 123, 3) := dk_180 0 123 (dk_at dksX1_reads_2 5 rfl rfl)
theorem dX1_reads_56 : decode cX1_reads 56 = .ok (.iconst 1, 1) := dk_4 (dk_at dksX1_reads_2 8 rfl rfl)
theorem dX1_reads_57 : decode cX1_reads 57 = .ok (.iadd, 1) := dk_96 (dk_at dksX1_reads_2 9 rfl rfl)
theorem dX1_reads_58 : decode cX1_reads 58 = .ok (.putfield 123, 3) := dk_181 0 123 (dk_at dksX1_reads_2 10 rfl rfl)
theorem dX1_reads_61 : decode cX1_reads 61 = .ok (.aload_n 0, 1) := dk_42 (dk_at dksX1_reads_2 13 rfl rfl)
theorem dX1_reads_62 : decode cX1_reads 62 = .ok (.iload_n 1, 1) := dk_27 (dk_at dksX1_reads_2 14 rfl rfl)
theorem dX1_reads_63 : decode cX1_reads 63 = .ok (.iconst 1, 1) := dk_4 (dk_at dksX1_reads_2 15 rfl rfl)
theorem dX1_reads_64 : decode cX1_reads 64 = .ok (.iadd, 1) := dk_96 (dk_at dksX1_reads_2 16 rfl rfl)
theorem dX1_reads_65 : decode cX1_reads 65 = .ok (.invokevirtual 229, 3) := dk_182 0 229 (dk_at dksX1_reads_2 17 rfl rfl)
theorem dX1_reads_68 : decode cX1_reads 68 = .ok (.astore 5, 2) := dk_58 5 (dk_at dksX1_reads_2 20 rfl rfl)
theorem dX1_reads_70 : decode cX1_reads 70 = .ok (.aload 5, 2) := dk_25 5 (dk_at dksX1_reads_2 22 rfl rfl)
theorem dX1_reads_72 : decode cX1_reads 72 = .ok (.ifnonnull 7, 3) := dk_199 0 7 (dk_at dksX1_reads_3 0 rfl rfl)
theorem dX1_reads_75 : decode cX1_reads 75 = .ok (.aconst_null, 1) := dk_1 (dk_at dksX1_reads_3 3 rfl rfl)
theorem dX1_reads_76 : decode cX1_reads 76 = .ok (.goto 16, 3) := dk_167 0 16 (dk_at dksX1_reads_3 4 rfl rfl)
theorem dX1_reads_79 : decode cX1_reads 79 = .ok (.new 243, 3) := dk_187 0 243 (dk_at dksX1_reads_3 7 rfl rfl)
theorem dX1_reads_82 : decode cX1_reads 82 = .ok (.dup, 1) := dk_89 (dk_at dksX1_reads_3 10 rfl rfl)
theorem dX1_reads_83 : decode cX1_reads 83 = .ok (.aload_n 0, 1) := dk_42 (dk_at dksX1_reads_3 11 rfl rfl)
theorem dX1_reads_84 : decode cX1_reads 84 = .ok (.iload 4, 2) := dk_21 4 (dk_at dksX1_reads_3 12 rfl rfl)
theorem dX1_reads_86 : decode cX1_reads 86 = .ok (.aload_n 2, 1) := dk_44 (dk_at dksX1_reads_3 14 rfl rfl)
theorem dX1_reads_87 : decode cX1_reads 87 = .ok (.aload 5, 2) := dk_25 5 (dk_at dksX1_reads_3 15 rfl rfl)
theorem dX1_reads_89 : decode cX1_reads 89 = .ok (.invokespecial 245, 3) := dk_183 0 245 (dk_at dksX1_reads_3 17 rfl rfl)
theorem dX1_reads_92 : decode cX1_reads 92 = .ok (.astore_n 2, 1) := dk_77 (dk_at dksX1_reads_3 20 rfl rfl)
theorem dX1_reads_93 : decode cX1_reads 93 = .ok (.iload_n 1, 1) := dk_27 (dk_at dksX1_reads_3 21 rfl rfl)
theorem dX1_reads_94 : decode cX1_reads 94 = .ok (.ifCond .le 7, 3) := dk_158 0 7 (dk_at dksX1_reads_4 0 rfl rfl)
theorem dX1_reads_97 : decode cX1_reads 97 = .ok (.iconst 1, 1) := dk_4 (dk_at dksX1_reads_4 3 rfl rfl)
theorem dX1_reads_98 : decode cX1_reads 98 = .ok (.goto 4, 3) := dk_167 0 4 (dk_at dksX1_reads_4 4 rfl rfl)
theorem dX1_reads_101 : decode cX1_reads 101 = .ok (.iconst 0, 1) := dk_3 (dk_at dksX1_reads_4 7 rfl rfl)
theorem dX1_reads_102 : decode cX1_reads 102 = .ok (.istore_n 3, 1) := dk_62 (dk_at dksX1_reads_4 8 rfl rfl)
theorem dX1_reads_103 : decode cX1_reads 103 = .ok (.goto (-83), 3) := dk_167 255 173 (dk_at dksX1_reads_4 9 rfl rfl)
theorem dX1_reads_106 : decode cX1_reads 106 = .ok (.aload_n 2, 1) := dk_44 (dk_at dksX1_reads_4 12 rfl rfl)
theorem dX1_reads_107 : decode cX1_reads 107 = .ok (.areturn, 1) := dk_176 (dk_at dksX1_reads_4 13 rfl rfl)
abbrev cX1_readsThing : ByteArray := prog_1_method_25_code
def yX1_readsThing : MethodName := ⟨RX1, "readsThing", "()LCuckooByPost$Node;"⟩
def dkwX1_readsThing_6 : List UInt8 := [42, 16, 41, 182, 0, 181, 154, 0, 5, 1, 176, 42, 89, 180, 0, 126, 4, 100, 181, 0, 126, 43, 176]
abbrev dktX1_readsThing_6 : List UInt8 := dkwX1_readsThing_6 ++ []
def dkwX1_readsThing_5 : List UInt8 := [96, 181, 0, 123, 42, 89, 180, 0, 126, 4, 96, 181, 0, 126, 42, 3, 182, 0, 229, 76, 43, 198, 0, 12]
abbrev dktX1_readsThing_5 : List UInt8 := dkwX1_readsThing_5 ++ dktX1_readsThing_6
def dkwX1_readsThing_4 : List UInt8 := [16, 40, 182, 0, 138, 153, 0, 11, 42, 180, 0, 126, 7, 160, 0, 5, 1, 176, 42, 89, 180, 0, 123, 4]
abbrev dktX1_readsThing_4 : List UInt8 := dkwX1_readsThing_4 ++ dktX1_readsThing_5
def dkwX1_readsThing_3 : List UInt8 := [181, 0, 123, 187, 0, 226, 89, 42, 42, 180, 0, 23, 42, 180, 0, 123, 4, 100, 46, 183, 0, 228, 176, 42]
abbrev dktX1_readsThing_3 : List UInt8 := dkwX1_readsThing_3 ++ dktX1_readsThing_4
def dkwX1_readsThing_2 : List UInt8 := [182, 0, 170, 183, 0, 221, 176, 42, 18, 224, 182, 0, 148, 155, 0, 33, 42, 89, 180, 0, 123, 4, 96]
abbrev dktX1_readsThing_2 : List UInt8 := dkwX1_readsThing_2 ++ dktX1_readsThing_3
def dkwX1_readsThing_1 : List UInt8 := [187, 0, 214, 89, 42, 43, 183, 0, 216, 176, 42, 182, 0, 156, 153, 0, 17, 187, 0, 219, 89, 42, 42, 6]
abbrev dktX1_readsThing_1 : List UInt8 := dkwX1_readsThing_1 ++ dktX1_readsThing_2
def dkwX1_readsThing_0 : List UInt8 := [42, 16, 45, 182, 0, 181, 153, 0, 26, 42, 182, 0, 210, 76, 43, 199, 0, 7, 1, 167, 0, 12]
abbrev dktX1_readsThing_0 : List UInt8 := dkwX1_readsThing_0 ++ dktX1_readsThing_1
theorem dksX1_readsThing_0 : cX1_readsThing.data.toList.drop 0 = dktX1_readsThing_0 := by decide +kernel
theorem dksX1_readsThing_1 : cX1_readsThing.data.toList.drop 22 = dktX1_readsThing_1 := dk_seg dksX1_readsThing_0 22 rfl rfl
theorem dksX1_readsThing_2 : cX1_readsThing.data.toList.drop 46 = dktX1_readsThing_2 := dk_seg dksX1_readsThing_1 24 rfl rfl
theorem dksX1_readsThing_3 : cX1_readsThing.data.toList.drop 69 = dktX1_readsThing_3 := dk_seg dksX1_readsThing_2 23 rfl rfl
theorem dksX1_readsThing_4 : cX1_readsThing.data.toList.drop 93 = dktX1_readsThing_4 := dk_seg dksX1_readsThing_3 24 rfl rfl
theorem dksX1_readsThing_5 : cX1_readsThing.data.toList.drop 117 = dktX1_readsThing_5 := dk_seg dksX1_readsThing_4 24 rfl rfl
theorem dksX1_readsThing_6 : cX1_readsThing.data.toList.drop 141 = dktX1_readsThing_6 := dk_seg dksX1_readsThing_5 24 rfl rfl
theorem dX1_readsThing_0 : decode cX1_readsThing 0 = .ok (.aload_n 0, 1) := dk_42 (dk_at dksX1_readsThing_0 0 rfl rfl)
theorem dX1_readsThing_1 : decode cX1_readsThing 1 = .ok (.bipush 45, 2) := dk_16 45 (dk_at dksX1_readsThing_0 1 rfl rfl)
theorem dX1_readsThing_3 : decode cX1_readsThing 3 = .ok (.invokevirtual 181, 3) := dk_182 0 181 (dk_at dksX1_readsThing_0 3 rfl rfl)
theorem dX1_readsThing_6 : decode cX1_readsThing 6 = .ok (.ifCond .eq 26, 3) := dk_153 0 26 (dk_at dksX1_readsThing_0 6 rfl rfl)
theorem dX1_readsThing_9 : decode cX1_readsThing 9 = .ok (.aload_n 0, 1) := dk_42 (dk_at dksX1_readsThing_0 9 rfl rfl)
theorem dX1_readsThing_10 : decode cX1_readsThing 10 = .ok (.invokevirtual 210, 3) := dk_182 0 210 (dk_at dksX1_readsThing_0 10 rfl rfl)
theorem dX1_readsThing_13 : decode cX1_readsThing 13 = .ok (.astore_n 1, 1) := dk_76 (dk_at dksX1_readsThing_0 13 rfl rfl)
theorem dX1_readsThing_14 : decode cX1_readsThing 14 = .ok (.aload_n 1, 1) := dk_43 (dk_at dksX1_readsThing_0 14 rfl rfl)
theorem dX1_readsThing_15 : decode cX1_readsThing 15 = .ok (.ifnonnull 7, 3) := dk_199 0 7 (dk_at dksX1_readsThing_0 15 rfl rfl)
theorem dX1_readsThing_18 : decode cX1_readsThing 18 = .ok (.aconst_null, 1) := dk_1 (dk_at dksX1_readsThing_0 18 rfl rfl)
theorem dX1_readsThing_19 : decode cX1_readsThing 19 = .ok (.goto 12, 3) := dk_167 0 12 (dk_at dksX1_readsThing_0 19 rfl rfl)
theorem dX1_readsThing_22 : decode cX1_readsThing 22 = .ok (.new 214, 3) := dk_187 0 214 (dk_at dksX1_readsThing_1 0 rfl rfl)
theorem dX1_readsThing_25 : decode cX1_readsThing 25 = .ok (.dup, 1) := dk_89 (dk_at dksX1_readsThing_1 3 rfl rfl)
theorem dX1_readsThing_26 : decode cX1_readsThing 26 = .ok (.aload_n 0, 1) := dk_42 (dk_at dksX1_readsThing_1 4 rfl rfl)
theorem dX1_readsThing_27 : decode cX1_readsThing 27 = .ok (.aload_n 1, 1) := dk_43 (dk_at dksX1_readsThing_1 5 rfl rfl)
theorem dX1_readsThing_28 : decode cX1_readsThing 28 = .ok (.invokespecial 216, 3) := dk_183 0 216 (dk_at dksX1_readsThing_1 6 rfl rfl)
theorem dX1_readsThing_31 : decode cX1_readsThing 31 = .ok (.areturn, 1) := dk_176 (dk_at dksX1_readsThing_1 9 rfl rfl)
theorem dX1_readsThing_32 : decode cX1_readsThing 32 = .ok (.aload_n 0, 1) := dk_42 (dk_at dksX1_readsThing_1 10 rfl rfl)
theorem dX1_readsThing_33 : decode cX1_readsThing 33 = .ok (.invokevirtual 156, 3) := dk_182 0 156 (dk_at dksX1_readsThing_1 11 rfl rfl)
theorem dX1_readsThing_36 : decode cX1_readsThing 36 = .ok (.ifCond .eq 17, 3) := dk_153 0 17 (dk_at dksX1_readsThing_1 14 rfl rfl)
theorem dX1_readsThing_39 : decode cX1_readsThing 39 = .ok (.new 219, 3) := dk_187 0 219 (dk_at dksX1_readsThing_1 17 rfl rfl)
theorem dX1_readsThing_42 : decode cX1_readsThing 42 = .ok (.dup, 1) := dk_89 (dk_at dksX1_readsThing_1 20 rfl rfl)
theorem dX1_readsThing_43 : decode cX1_readsThing 43 = .ok (.aload_n 0, 1) := dk_42 (dk_at dksX1_readsThing_1 21 rfl rfl)
theorem dX1_readsThing_44 : decode cX1_readsThing 44 = .ok (.aload_n 0, 1) := dk_42 (dk_at dksX1_readsThing_1 22 rfl rfl)
theorem dX1_readsThing_45 : decode cX1_readsThing 45 = .ok (.iconst 3, 1) := dk_6 (dk_at dksX1_readsThing_1 23 rfl rfl)
theorem dX1_readsThing_46 : decode cX1_readsThing 46 = .ok (.invokevirtual 170, 3) := dk_182 0 170 (dk_at dksX1_readsThing_2 0 rfl rfl)
theorem dX1_readsThing_49 : decode cX1_readsThing 49 = .ok (.invokespecial 221, 3) := dk_183 0 221 (dk_at dksX1_readsThing_2 3 rfl rfl)
theorem dX1_readsThing_52 : decode cX1_readsThing 52 = .ok (.areturn, 1) := dk_176 (dk_at dksX1_readsThing_2 6 rfl rfl)
theorem dX1_readsThing_53 : decode cX1_readsThing 53 = .ok (.aload_n 0, 1) := dk_42 (dk_at dksX1_readsThing_2 7 rfl rfl)
theorem dX1_readsThing_54 : decode cX1_readsThing 54 = .ok (.ldc 224, 2) := dk_18 224 (dk_at dksX1_readsThing_2 8 rfl rfl)
theorem dX1_readsThing_56 : decode cX1_readsThing 56 = .ok (.invokevirtual 148, 3) := dk_182 0 148 (dk_at dksX1_readsThing_2 10 rfl rfl)
theorem dX1_readsThing_59 : decode cX1_readsThing 59 = .ok (.ifCond .lt 33, 3) := dk_155 0 33 (dk_at dksX1_readsThing_2 13 rfl rfl)
theorem dX1_readsThing_62 : decode cX1_readsThing 62 = .ok (.aload_n 0, 1) := dk_42 (dk_at dksX1_readsThing_2 16 rfl rfl)
theorem dX1_readsThing_63 : decode cX1_readsThing 63 = .ok (.dup, 1) := dk_89 (dk_at dksX1_readsThing_2 17 rfl rfl)
theorem dX1_readsThing_64 : decode cX1_readsThing 64 = .ok (.getfield 123, 3) := dk_180 0 123 (dk_at dksX1_readsThing_2 18 rfl rfl)
theorem dX1_readsThing_67 : decode cX1_readsThing 67 = .ok (.iconst 1, 1) := dk_4 (dk_at dksX1_readsThing_2 21 rfl rfl)
theorem dX1_readsThing_68 : decode cX1_readsThing 68 = .ok (.iadd, 1) := dk_96 (dk_at dksX1_readsThing_2 22 rfl rfl)
theorem dX1_readsThing_69 : decode cX1_readsThing 69 = .ok (.putfield 123, 3) := dk_181 0 123 (dk_at dksX1_readsThing_3 0 rfl rfl)
theorem dX1_readsThing_72 : decode cX1_readsThing 72 = .ok (.new 226, 3) := dk_187 0 226 (dk_at dksX1_readsThing_3 3 rfl rfl)
theorem dX1_readsThing_75 : decode cX1_readsThing 75 = .ok (.dup, 1) := dk_89 (dk_at dksX1_readsThing_3 6 rfl rfl)
theorem dX1_readsThing_76 : decode cX1_readsThing 76 = .ok (.aload_n 0, 1) := dk_42 (dk_at dksX1_readsThing_3 7 rfl rfl)
theorem dX1_readsThing_77 : decode cX1_readsThing 77 = .ok (.aload_n 0, 1) := dk_42 (dk_at dksX1_readsThing_3 8 rfl rfl)
theorem dX1_readsThing_78 : decode cX1_readsThing 78 = .ok (.getfield 23, 3) := dk_180 0 23 (dk_at dksX1_readsThing_3 9 rfl rfl)
theorem dX1_readsThing_81 : decode cX1_readsThing 81 = .ok (.aload_n 0, 1) := dk_42 (dk_at dksX1_readsThing_3 12 rfl rfl)
theorem dX1_readsThing_82 : decode cX1_readsThing 82 = .ok (.getfield 123, 3) := dk_180 0 123 (dk_at dksX1_readsThing_3 13 rfl rfl)
theorem dX1_readsThing_85 : decode cX1_readsThing 85 = .ok (.iconst 1, 1) := dk_4 (dk_at dksX1_readsThing_3 16 rfl rfl)
theorem dX1_readsThing_86 : decode cX1_readsThing 86 = .ok (.isub, 1) := dk_100 (dk_at dksX1_readsThing_3 17 rfl rfl)
theorem dX1_readsThing_87 : decode cX1_readsThing 87 = .ok (.iaload, 1) := dk_46 (dk_at dksX1_readsThing_3 18 rfl rfl)
theorem dX1_readsThing_88 : decode cX1_readsThing 88 = .ok (.invokespecial 228, 3) := dk_183 0 228 (dk_at dksX1_readsThing_3 19 rfl rfl)
theorem dX1_readsThing_91 : decode cX1_readsThing 91 = .ok (.areturn, 1) := dk_176 (dk_at dksX1_readsThing_3 22 rfl rfl)
theorem dX1_readsThing_92 : decode cX1_readsThing 92 = .ok (.aload_n 0, 1) := dk_42 (dk_at dksX1_readsThing_3 23 rfl rfl)
theorem dX1_readsThing_93 : decode cX1_readsThing 93 = .ok (.bipush 40, 2) := dk_16 40 (dk_at dksX1_readsThing_4 0 rfl rfl)
theorem dX1_readsThing_95 : decode cX1_readsThing 95 = .ok (.invokevirtual 138, 3) := dk_182 0 138 (dk_at dksX1_readsThing_4 2 rfl rfl)
theorem dX1_readsThing_98 : decode cX1_readsThing 98 = .ok (.ifCond .eq 11, 3) := dk_153 0 11 (dk_at dksX1_readsThing_4 5 rfl rfl)
theorem dX1_readsThing_101 : decode cX1_readsThing 101 = .ok (.aload_n 0, 1) := dk_42 (dk_at dksX1_readsThing_4 8 rfl rfl)
theorem dX1_readsThing_102 : decode cX1_readsThing 102 = .ok (.getfield 126, 3) := dk_180 0 126 (dk_at dksX1_readsThing_4 9 rfl rfl)
theorem dX1_readsThing_105 : decode cX1_readsThing 105 = .ok (.iconst 4, 1) := dk_7 (dk_at dksX1_readsThing_4 12 rfl rfl)
theorem dX1_readsThing_106 : decode cX1_readsThing 106 = .ok (.if_icmp .ne 5, 3) := dk_160 0 5 (dk_at dksX1_readsThing_4 13 rfl rfl)
theorem dX1_readsThing_109 : decode cX1_readsThing 109 = .ok (.aconst_null, 1) := dk_1 (dk_at dksX1_readsThing_4 16 rfl rfl)
theorem dX1_readsThing_110 : decode cX1_readsThing 110 = .ok (.areturn, 1) := dk_176 (dk_at dksX1_readsThing_4 17 rfl rfl)
theorem dX1_readsThing_111 : decode cX1_readsThing 111 = .ok (.aload_n 0, 1) := dk_42 (dk_at dksX1_readsThing_4 18 rfl rfl)
theorem dX1_readsThing_112 : decode cX1_readsThing 112 = .ok (.dup, 1) := dk_89 (dk_at dksX1_readsThing_4 19 rfl rfl)
theorem dX1_readsThing_113 : decode cX1_readsThing 113 = .ok (.getfield 123, 3) := dk_180 0 123 (dk_at dksX1_readsThing_4 20 rfl rfl)
theorem dX1_readsThing_116 : decode cX1_readsThing 116 = .ok (.iconst 1, 1) := dk_4 (dk_at dksX1_readsThing_4 23 rfl rfl)
theorem dX1_readsThing_117 : decode cX1_readsThing 117 = .ok (.iadd, 1) := dk_96 (dk_at dksX1_readsThing_5 0 rfl rfl)
theorem dX1_readsThing_118 : decode cX1_readsThing 118 = .ok (.putfield 123, 3) := dk_181 0 123 (dk_at dksX1_readsThing_5 1 rfl rfl)
theorem dX1_readsThing_121 : decode cX1_readsThing 121 = .ok (.aload_n 0, 1) := dk_42 (dk_at dksX1_readsThing_5 4 rfl rfl)
theorem dX1_readsThing_122 : decode cX1_readsThing 122 = .ok (.dup, 1) := dk_89 (dk_at dksX1_readsThing_5 5 rfl rfl)
theorem dX1_readsThing_123 : decode cX1_readsThing 123 = .ok (.getfield 126, 3) := dk_180 0 126 (dk_at dksX1_readsThing_5 6 rfl rfl)
theorem dX1_readsThing_126 : decode cX1_readsThing 126 = .ok (.iconst 1, 1) := dk_4 (dk_at dksX1_readsThing_5 9 rfl rfl)
theorem dX1_readsThing_127 : decode cX1_readsThing 127 = .ok (.iadd, 1) := dk_96 (dk_at dksX1_readsThing_5 10 rfl rfl)
theorem dX1_readsThing_128 : decode cX1_readsThing 128 = .ok (.putfield 126, 3) := dk_181 0 126 (dk_at dksX1_readsThing_5 11 rfl rfl)
theorem dX1_readsThing_131 : decode cX1_readsThing 131 = .ok (.aload_n 0, 1) := dk_42 (dk_at dksX1_readsThing_5 14 rfl rfl)
theorem dX1_readsThing_132 : decode cX1_readsThing 132 = .ok (.iconst 0, 1) := dk_3 (dk_at dksX1_readsThing_5 15 rfl rfl)
theorem dX1_readsThing_133 : decode cX1_readsThing 133 = .ok (.invokevirtual 229, 3) := dk_182 0 229 (dk_at dksX1_readsThing_5 16 rfl rfl)
theorem dX1_readsThing_136 : decode cX1_readsThing 136 = .ok (.astore_n 1, 1) := dk_76 (dk_at dksX1_readsThing_5 19 rfl rfl)
theorem dX1_readsThing_137 : decode cX1_readsThing 137 = .ok (.aload_n 1, 1) := dk_43 (dk_at dksX1_readsThing_5 20 rfl rfl)
theorem dX1_readsThing_138 : decode cX1_readsThing 138 = .ok (.ifnull 12, 3) := dk_198 0 12 (dk_at dksX1_readsThing_5 21 rfl rfl)
theorem dX1_readsThing_141 : decode cX1_readsThing 141 = .ok (.aload_n 0, 1) := dk_42 (dk_at dksX1_readsThing_6 0 rfl rfl)
theorem dX1_readsThing_142 : decode cX1_readsThing 142 = .ok (.bipush 41, 2) := dk_16 41 (dk_at dksX1_readsThing_6 1 rfl rfl)
theorem dX1_readsThing_144 : decode cX1_readsThing 144 = .ok (.invokevirtual 181, 3) := dk_182 0 181 (dk_at dksX1_readsThing_6 3 rfl rfl)
theorem dX1_readsThing_147 : decode cX1_readsThing 147 = .ok (.ifCond .ne 5, 3) := dk_154 0 5 (dk_at dksX1_readsThing_6 6 rfl rfl)
theorem dX1_readsThing_150 : decode cX1_readsThing 150 = .ok (.aconst_null, 1) := dk_1 (dk_at dksX1_readsThing_6 9 rfl rfl)
theorem dX1_readsThing_151 : decode cX1_readsThing 151 = .ok (.areturn, 1) := dk_176 (dk_at dksX1_readsThing_6 10 rfl rfl)
theorem dX1_readsThing_152 : decode cX1_readsThing 152 = .ok (.aload_n 0, 1) := dk_42 (dk_at dksX1_readsThing_6 11 rfl rfl)
theorem dX1_readsThing_153 : decode cX1_readsThing 153 = .ok (.dup, 1) := dk_89 (dk_at dksX1_readsThing_6 12 rfl rfl)
theorem dX1_readsThing_154 : decode cX1_readsThing 154 = .ok (.getfield 126, 3) := dk_180 0 126 (dk_at dksX1_readsThing_6 13 rfl rfl)
theorem dX1_readsThing_157 : decode cX1_readsThing 157 = .ok (.iconst 1, 1) := dk_4 (dk_at dksX1_readsThing_6 16 rfl rfl)
theorem dX1_readsThing_158 : decode cX1_readsThing 158 = .ok (.isub, 1) := dk_100 (dk_at dksX1_readsThing_6 17 rfl rfl)
theorem dX1_readsThing_159 : decode cX1_readsThing 159 = .ok (.putfield 126, 3) := dk_181 0 126 (dk_at dksX1_readsThing_6 18 rfl rfl)
theorem dX1_readsThing_162 : decode cX1_readsThing 162 = .ok (.aload_n 1, 1) := dk_43 (dk_at dksX1_readsThing_6 21 rfl rfl)
theorem dX1_readsThing_163 : decode cX1_readsThing 163 = .ok (.areturn, 1) := dk_176 (dk_at dksX1_readsThing_6 22 rfl rfl)
abbrev cX1_acts : ByteArray := prog_1_method_26_code
def yX1_acts : MethodName := ⟨RX1, "acts", "(I)Ljava/lang/String;"⟩
def dkwX1_acts_0 : List UInt8 := [26, 154, 0, 8, 18, 233, 167, 0, 15, 26, 4, 160, 0, 8, 18, 235, 167, 0, 5, 18, 237, 176]
abbrev dktX1_acts_0 : List UInt8 := dkwX1_acts_0 ++ []
theorem dksX1_acts_0 : cX1_acts.data.toList.drop 0 = dktX1_acts_0 := by decide +kernel
theorem dX1_acts_0 : decode cX1_acts 0 = .ok (.iload_n 0, 1) := dk_26 (dk_at dksX1_acts_0 0 rfl rfl)
theorem dX1_acts_1 : decode cX1_acts 1 = .ok (.ifCond .ne 8, 3) := dk_154 0 8 (dk_at dksX1_acts_0 1 rfl rfl)
theorem dX1_acts_4 : decode cX1_acts 4 = .ok (.ldc 233, 2) := dk_18 233 (dk_at dksX1_acts_0 4 rfl rfl)
theorem dX1_acts_6 : decode cX1_acts 6 = .ok (.goto 15, 3) := dk_167 0 15 (dk_at dksX1_acts_0 6 rfl rfl)
theorem dX1_acts_9 : decode cX1_acts 9 = .ok (.iload_n 0, 1) := dk_26 (dk_at dksX1_acts_0 9 rfl rfl)
theorem dX1_acts_10 : decode cX1_acts 10 = .ok (.iconst 1, 1) := dk_4 (dk_at dksX1_acts_0 10 rfl rfl)
theorem dX1_acts_11 : decode cX1_acts 11 = .ok (.if_icmp .ne 8, 3) := dk_160 0 8 (dk_at dksX1_acts_0 11 rfl rfl)
theorem dX1_acts_14 : decode cX1_acts 14 = .ok (.ldc 235, 2) := dk_18 235 (dk_at dksX1_acts_0 14 rfl rfl)
theorem dX1_acts_16 : decode cX1_acts 16 = .ok (.goto 5, 3) := dk_167 0 5 (dk_at dksX1_acts_0 16 rfl rfl)
theorem dX1_acts_19 : decode cX1_acts 19 = .ok (.ldc 237, 2) := dk_18 237 (dk_at dksX1_acts_0 19 rfl rfl)
theorem dX1_acts_21 : decode cX1_acts 21 = .ok (.areturn, 1) := dk_176 (dk_at dksX1_acts_0 21 rfl rfl)
abbrev cX1_clear : ByteArray := prog_1_method_33_code
def yX1_clear : MethodName := ⟨RX1, "clear", "(I)I"⟩
def dkwX1_clear_1 : List UInt8 := [28, 172]
abbrev dktX1_clear_1 : List UInt8 := dkwX1_clear_1 ++ []
def dkwX1_clear_0 : List UInt8 := [27, 133, 9, 20, 0, 105, 184, 0, 97, 154, 0, 5, 2, 172, 42, 180, 0, 19, 61, 42, 27, 181, 0, 19]
abbrev dktX1_clear_0 : List UInt8 := dkwX1_clear_0 ++ dktX1_clear_1
theorem dksX1_clear_0 : cX1_clear.data.toList.drop 0 = dktX1_clear_0 := by decide +kernel
theorem dksX1_clear_1 : cX1_clear.data.toList.drop 24 = dktX1_clear_1 := dk_seg dksX1_clear_0 24 rfl rfl
theorem dX1_clear_0 : decode cX1_clear 0 = .ok (.iload_n 1, 1) := dk_27 (dk_at dksX1_clear_0 0 rfl rfl)
theorem dX1_clear_1 : decode cX1_clear 1 = .ok (.i2l, 1) := dk_133 (dk_at dksX1_clear_0 1 rfl rfl)
theorem dX1_clear_2 : decode cX1_clear 2 = .ok (.lconst 0, 1) := dk_9 (dk_at dksX1_clear_0 2 rfl rfl)
theorem dX1_clear_3 : decode cX1_clear 3 = .ok (.ldc2_w 105, 3) := dk_20 0 105 (dk_at dksX1_clear_0 3 rfl rfl)
theorem dX1_clear_6 : decode cX1_clear 6 = .ok (.invokestatic 97, 3) := dk_184 0 97 (dk_at dksX1_clear_0 6 rfl rfl)
theorem dX1_clear_9 : decode cX1_clear 9 = .ok (.ifCond .ne 5, 3) := dk_154 0 5 (dk_at dksX1_clear_0 9 rfl rfl)
theorem dX1_clear_12 : decode cX1_clear 12 = .ok (.iconst (-1), 1) := dk_2 (dk_at dksX1_clear_0 12 rfl rfl)
theorem dX1_clear_13 : decode cX1_clear 13 = .ok (.ireturn, 1) := dk_172 (dk_at dksX1_clear_0 13 rfl rfl)
theorem dX1_clear_14 : decode cX1_clear 14 = .ok (.aload_n 0, 1) := dk_42 (dk_at dksX1_clear_0 14 rfl rfl)
theorem dX1_clear_15 : decode cX1_clear 15 = .ok (.getfield 19, 3) := dk_180 0 19 (dk_at dksX1_clear_0 15 rfl rfl)
theorem dX1_clear_18 : decode cX1_clear 18 = .ok (.istore_n 2, 1) := dk_61 (dk_at dksX1_clear_0 18 rfl rfl)
theorem dX1_clear_19 : decode cX1_clear 19 = .ok (.aload_n 0, 1) := dk_42 (dk_at dksX1_clear_0 19 rfl rfl)
theorem dX1_clear_20 : decode cX1_clear 20 = .ok (.iload_n 1, 1) := dk_27 (dk_at dksX1_clear_0 20 rfl rfl)
theorem dX1_clear_21 : decode cX1_clear 21 = .ok (.putfield 19, 3) := dk_181 0 19 (dk_at dksX1_clear_0 21 rfl rfl)
theorem dX1_clear_24 : decode cX1_clear 24 = .ok (.iload_n 2, 1) := dk_28 (dk_at dksX1_clear_1 0 rfl rfl)
theorem dX1_clear_25 : decode cX1_clear 25 = .ok (.ireturn, 1) := dk_172 (dk_at dksX1_clear_1 1 rfl rfl)
abbrev cX1_sheet : ByteArray := prog_1_method_34_code
def yX1_sheet : MethodName := ⟨RX1, "sheet", "(IIII)I"⟩
def dkwX1_sheet_6 : List UInt8 := [182, 1, 41, 172]
abbrev dktX1_sheet_6 : List UInt8 := dkwX1_sheet_6 ++ []
def dkwX1_sheet_5 : List UInt8 := [132, 6, 1, 167, 255, 176, 27, 6, 160, 0, 8, 16, 253, 167, 0, 14, 42, 42, 180, 0, 10, 180, 0, 191]
abbrev dktX1_sheet_5 : List UInt8 := dkwX1_sheet_5 ++ dktX1_sheet_6
def dkwX1_sheet_4 : List UInt8 := [4, 167, 0, 14, 4, 16, 9, 21, 7, 184, 0, 129, 184, 1, 9, 79, 21, 5, 21, 4, 96, 54, 5]
abbrev dktX1_sheet_4 : List UInt8 := dkwX1_sheet_4 ++ dktX1_sheet_5
def dkwX1_sheet_3 : List UInt8 := [21, 5, 54, 7, 42, 180, 0, 10, 180, 0, 191, 21, 6, 27, 6, 159, 0, 9, 21, 6, 28, 161, 0, 7]
abbrev dktX1_sheet_3 : List UInt8 := dkwX1_sheet_3 ++ dktX1_sheet_4
def dkwX1_sheet_2 : List UInt8 := [162, 0, 77, 27, 154, 0, 9, 21, 5, 145, 167, 0, 16, 27, 4, 160, 0, 9, 21, 5, 147, 167, 0, 5]
abbrev dktX1_sheet_2 : List UInt8 := dkwX1_sheet_2 ++ dktX1_sheet_3
def dkwX1_sheet_1 : List UInt8 := [159, 0, 10, 28, 156, 0, 6, 16, 254, 172, 29, 54, 5, 3, 54, 6, 21, 6, 42, 180, 0, 94]
abbrev dktX1_sheet_1 : List UInt8 := dkwX1_sheet_1 ++ dktX1_sheet_2
def dkwX1_sheet_0 : List UInt8 := [27, 133, 9, 20, 1, 39, 184, 0, 97, 153, 0, 9, 28, 16, 8, 164, 0, 5, 2, 172, 27, 6]
abbrev dktX1_sheet_0 : List UInt8 := dkwX1_sheet_0 ++ dktX1_sheet_1
theorem dksX1_sheet_0 : cX1_sheet.data.toList.drop 0 = dktX1_sheet_0 := by decide +kernel
theorem dksX1_sheet_1 : cX1_sheet.data.toList.drop 22 = dktX1_sheet_1 := dk_seg dksX1_sheet_0 22 rfl rfl
theorem dksX1_sheet_2 : cX1_sheet.data.toList.drop 44 = dktX1_sheet_2 := dk_seg dksX1_sheet_1 22 rfl rfl
theorem dksX1_sheet_3 : cX1_sheet.data.toList.drop 68 = dktX1_sheet_3 := dk_seg dksX1_sheet_2 24 rfl rfl
theorem dksX1_sheet_4 : cX1_sheet.data.toList.drop 92 = dktX1_sheet_4 := dk_seg dksX1_sheet_3 24 rfl rfl
theorem dksX1_sheet_5 : cX1_sheet.data.toList.drop 115 = dktX1_sheet_5 := dk_seg dksX1_sheet_4 23 rfl rfl
theorem dksX1_sheet_6 : cX1_sheet.data.toList.drop 139 = dktX1_sheet_6 := dk_seg dksX1_sheet_5 24 rfl rfl
theorem dX1_sheet_0 : decode cX1_sheet 0 = .ok (.iload_n 1, 1) := dk_27 (dk_at dksX1_sheet_0 0 rfl rfl)
theorem dX1_sheet_1 : decode cX1_sheet 1 = .ok (.i2l, 1) := dk_133 (dk_at dksX1_sheet_0 1 rfl rfl)
theorem dX1_sheet_2 : decode cX1_sheet 2 = .ok (.lconst 0, 1) := dk_9 (dk_at dksX1_sheet_0 2 rfl rfl)
theorem dX1_sheet_3 : decode cX1_sheet 3 = .ok (.ldc2_w 295, 3) := dk_20 1 39 (dk_at dksX1_sheet_0 3 rfl rfl)
theorem dX1_sheet_6 : decode cX1_sheet 6 = .ok (.invokestatic 97, 3) := dk_184 0 97 (dk_at dksX1_sheet_0 6 rfl rfl)
theorem dX1_sheet_9 : decode cX1_sheet 9 = .ok (.ifCond .eq 9, 3) := dk_153 0 9 (dk_at dksX1_sheet_0 9 rfl rfl)
theorem dX1_sheet_12 : decode cX1_sheet 12 = .ok (.iload_n 2, 1) := dk_28 (dk_at dksX1_sheet_0 12 rfl rfl)
theorem dX1_sheet_13 : decode cX1_sheet 13 = .ok (.bipush 8, 2) := dk_16 8 (dk_at dksX1_sheet_0 13 rfl rfl)
theorem dX1_sheet_15 : decode cX1_sheet 15 = .ok (.if_icmp .le 5, 3) := dk_164 0 5 (dk_at dksX1_sheet_0 15 rfl rfl)
theorem dX1_sheet_18 : decode cX1_sheet 18 = .ok (.iconst (-1), 1) := dk_2 (dk_at dksX1_sheet_0 18 rfl rfl)
theorem dX1_sheet_19 : decode cX1_sheet 19 = .ok (.ireturn, 1) := dk_172 (dk_at dksX1_sheet_0 19 rfl rfl)
theorem dX1_sheet_20 : decode cX1_sheet 20 = .ok (.iload_n 1, 1) := dk_27 (dk_at dksX1_sheet_0 20 rfl rfl)
theorem dX1_sheet_21 : decode cX1_sheet 21 = .ok (.iconst 3, 1) := dk_6 (dk_at dksX1_sheet_0 21 rfl rfl)
theorem dX1_sheet_22 : decode cX1_sheet 22 = .ok (.if_icmp .eq 10, 3) := dk_159 0 10 (dk_at dksX1_sheet_1 0 rfl rfl)
theorem dX1_sheet_25 : decode cX1_sheet 25 = .ok (.iload_n 2, 1) := dk_28 (dk_at dksX1_sheet_1 3 rfl rfl)
theorem dX1_sheet_26 : decode cX1_sheet 26 = .ok (.ifCond .ge 6, 3) := dk_156 0 6 (dk_at dksX1_sheet_1 4 rfl rfl)
theorem dX1_sheet_29 : decode cX1_sheet 29 = .ok (.bipush (-2), 2) := dk_16 254 (dk_at dksX1_sheet_1 7 rfl rfl)
theorem dX1_sheet_31 : decode cX1_sheet 31 = .ok (.ireturn, 1) := dk_172 (dk_at dksX1_sheet_1 9 rfl rfl)
theorem dX1_sheet_32 : decode cX1_sheet 32 = .ok (.iload_n 3, 1) := dk_29 (dk_at dksX1_sheet_1 10 rfl rfl)
theorem dX1_sheet_33 : decode cX1_sheet 33 = .ok (.istore 5, 2) := dk_54 5 (dk_at dksX1_sheet_1 11 rfl rfl)
theorem dX1_sheet_35 : decode cX1_sheet 35 = .ok (.iconst 0, 1) := dk_3 (dk_at dksX1_sheet_1 13 rfl rfl)
theorem dX1_sheet_36 : decode cX1_sheet 36 = .ok (.istore 6, 2) := dk_54 6 (dk_at dksX1_sheet_1 14 rfl rfl)
theorem dX1_sheet_38 : decode cX1_sheet 38 = .ok (.iload 6, 2) := dk_21 6 (dk_at dksX1_sheet_1 16 rfl rfl)
theorem dX1_sheet_40 : decode cX1_sheet 40 = .ok (.aload_n 0, 1) := dk_42 (dk_at dksX1_sheet_1 18 rfl rfl)
theorem dX1_sheet_41 : decode cX1_sheet 41 = .ok (.getfield 94, 3) := dk_180 0 94 (dk_at dksX1_sheet_1 19 rfl rfl)
theorem dX1_sheet_44 : decode cX1_sheet 44 = .ok (.if_icmp .ge 77, 3) := dk_162 0 77 (dk_at dksX1_sheet_2 0 rfl rfl)
theorem dX1_sheet_47 : decode cX1_sheet 47 = .ok (.iload_n 1, 1) := dk_27 (dk_at dksX1_sheet_2 3 rfl rfl)
theorem dX1_sheet_48 : decode cX1_sheet 48 = .ok (.ifCond .ne 9, 3) := dk_154 0 9 (dk_at dksX1_sheet_2 4 rfl rfl)
theorem dX1_sheet_51 : decode cX1_sheet 51 = .ok (.iload 5, 2) := dk_21 5 (dk_at dksX1_sheet_2 7 rfl rfl)
theorem dX1_sheet_53 : decode cX1_sheet 53 = .ok (.i2b, 1) := dk_145 (dk_at dksX1_sheet_2 9 rfl rfl)
theorem dX1_sheet_54 : decode cX1_sheet 54 = .ok (.goto 16, 3) := dk_167 0 16 (dk_at dksX1_sheet_2 10 rfl rfl)
theorem dX1_sheet_57 : decode cX1_sheet 57 = .ok (.iload_n 1, 1) := dk_27 (dk_at dksX1_sheet_2 13 rfl rfl)
theorem dX1_sheet_58 : decode cX1_sheet 58 = .ok (.iconst 1, 1) := dk_4 (dk_at dksX1_sheet_2 14 rfl rfl)
theorem dX1_sheet_59 : decode cX1_sheet 59 = .ok (.if_icmp .ne 9, 3) := dk_160 0 9 (dk_at dksX1_sheet_2 15 rfl rfl)
theorem dX1_sheet_62 : decode cX1_sheet 62 = .ok (.iload 5, 2) := dk_21 5 (dk_at dksX1_sheet_2 18 rfl rfl)
theorem dX1_sheet_64 : decode cX1_sheet 64 = .ok (.i2s, 1) := dk_147 (dk_at dksX1_sheet_2 20 rfl rfl)
theorem dX1_sheet_65 : decode cX1_sheet 65 = .ok (.goto 5, 3) := dk_167 0 5 (dk_at dksX1_sheet_2 21 rfl rfl)
theorem dX1_sheet_68 : decode cX1_sheet 68 = .ok (.iload 5, 2) := dk_21 5 (dk_at dksX1_sheet_3 0 rfl rfl)
theorem dX1_sheet_70 : decode cX1_sheet 70 = .ok (.istore 7, 2) := dk_54 7 (dk_at dksX1_sheet_3 2 rfl rfl)
theorem dX1_sheet_72 : decode cX1_sheet 72 = .ok (.aload_n 0, 1) := dk_42 (dk_at dksX1_sheet_3 4 rfl rfl)
theorem dX1_sheet_73 : decode cX1_sheet 73 = .ok (.getfield 10, 3) := dk_180 0 10 (dk_at dksX1_sheet_3 5 rfl rfl)
theorem dX1_sheet_76 : decode cX1_sheet 76 = .ok (.getfield 191, 3) := dk_180 0 191 (dk_at dksX1_sheet_3 8 rfl rfl)
theorem dX1_sheet_79 : decode cX1_sheet 79 = .ok (.iload 6, 2) := dk_21 6 (dk_at dksX1_sheet_3 11 rfl rfl)
theorem dX1_sheet_81 : decode cX1_sheet 81 = .ok (.iload_n 1, 1) := dk_27 (dk_at dksX1_sheet_3 13 rfl rfl)
theorem dX1_sheet_82 : decode cX1_sheet 82 = .ok (.iconst 3, 1) := dk_6 (dk_at dksX1_sheet_3 14 rfl rfl)
theorem dX1_sheet_83 : decode cX1_sheet 83 = .ok (.if_icmp .eq 9, 3) := dk_159 0 9 (dk_at dksX1_sheet_3 15 rfl rfl)
theorem dX1_sheet_86 : decode cX1_sheet 86 = .ok (.iload 6, 2) := dk_21 6 (dk_at dksX1_sheet_3 18 rfl rfl)
theorem dX1_sheet_88 : decode cX1_sheet 88 = .ok (.iload_n 2, 1) := dk_28 (dk_at dksX1_sheet_3 20 rfl rfl)
theorem dX1_sheet_89 : decode cX1_sheet 89 = .ok (.if_icmp .lt 7, 3) := dk_161 0 7 (dk_at dksX1_sheet_3 21 rfl rfl)
theorem dX1_sheet_92 : decode cX1_sheet 92 = .ok (.iconst 1, 1) := dk_4 (dk_at dksX1_sheet_4 0 rfl rfl)
theorem dX1_sheet_93 : decode cX1_sheet 93 = .ok (.goto 14, 3) := dk_167 0 14 (dk_at dksX1_sheet_4 1 rfl rfl)
theorem dX1_sheet_96 : decode cX1_sheet 96 = .ok (.iconst 1, 1) := dk_4 (dk_at dksX1_sheet_4 4 rfl rfl)
theorem dX1_sheet_97 : decode cX1_sheet 97 = .ok (.bipush 9, 2) := dk_16 9 (dk_at dksX1_sheet_4 5 rfl rfl)
theorem dX1_sheet_99 : decode cX1_sheet 99 = .ok (.iload 7, 2) := dk_21 7 (dk_at dksX1_sheet_4 7 rfl rfl)
theorem dX1_sheet_101 : decode cX1_sheet 101 = .ok (.invokestatic 129, 3) := dk_184 0 129 (dk_at dksX1_sheet_4 9 rfl rfl)
theorem dX1_sheet_104 : decode cX1_sheet 104 = .ok (.invokestatic 265, 3) := dk_184 1 9 (dk_at dksX1_sheet_4 12 rfl rfl)
theorem dX1_sheet_107 : decode cX1_sheet 107 = .ok (.iastore, 1) := dk_79 (dk_at dksX1_sheet_4 15 rfl rfl)
theorem dX1_sheet_108 : decode cX1_sheet 108 = .ok (.iload 5, 2) := dk_21 5 (dk_at dksX1_sheet_4 16 rfl rfl)
theorem dX1_sheet_110 : decode cX1_sheet 110 = .ok (.iload 4, 2) := dk_21 4 (dk_at dksX1_sheet_4 18 rfl rfl)
theorem dX1_sheet_112 : decode cX1_sheet 112 = .ok (.iadd, 1) := dk_96 (dk_at dksX1_sheet_4 20 rfl rfl)
theorem dX1_sheet_113 : decode cX1_sheet 113 = .ok (.istore 5, 2) := dk_54 5 (dk_at dksX1_sheet_4 21 rfl rfl)
theorem dX1_sheet_115 : decode cX1_sheet 115 = .ok (.iinc 6 1, 3) := dk_132 6 1 (dk_at dksX1_sheet_5 0 rfl rfl)
theorem dX1_sheet_118 : decode cX1_sheet 118 = .ok (.goto (-80), 3) := dk_167 255 176 (dk_at dksX1_sheet_5 3 rfl rfl)
theorem dX1_sheet_121 : decode cX1_sheet 121 = .ok (.iload_n 1, 1) := dk_27 (dk_at dksX1_sheet_5 6 rfl rfl)
theorem dX1_sheet_122 : decode cX1_sheet 122 = .ok (.iconst 3, 1) := dk_6 (dk_at dksX1_sheet_5 7 rfl rfl)
theorem dX1_sheet_123 : decode cX1_sheet 123 = .ok (.if_icmp .ne 8, 3) := dk_160 0 8 (dk_at dksX1_sheet_5 8 rfl rfl)
theorem dX1_sheet_126 : decode cX1_sheet 126 = .ok (.bipush (-3), 2) := dk_16 253 (dk_at dksX1_sheet_5 11 rfl rfl)
theorem dX1_sheet_128 : decode cX1_sheet 128 = .ok (.goto 14, 3) := dk_167 0 14 (dk_at dksX1_sheet_5 13 rfl rfl)
theorem dX1_sheet_131 : decode cX1_sheet 131 = .ok (.aload_n 0, 1) := dk_42 (dk_at dksX1_sheet_5 16 rfl rfl)
theorem dX1_sheet_132 : decode cX1_sheet 132 = .ok (.aload_n 0, 1) := dk_42 (dk_at dksX1_sheet_5 17 rfl rfl)
theorem dX1_sheet_133 : decode cX1_sheet 133 = .ok (.getfield 10, 3) := dk_180 0 10 (dk_at dksX1_sheet_5 18 rfl rfl)
theorem dX1_sheet_136 : decode cX1_sheet 136 = .ok (.getfield 191, 3) := dk_180 0 191 (dk_at dksX1_sheet_5 21 rfl rfl)
theorem dX1_sheet_139 : decode cX1_sheet 139 = .ok (.invokevirtual 297, 3) := dk_182 1 41 (dk_at dksX1_sheet_6 0 rfl rfl)
theorem dX1_sheet_142 : decode cX1_sheet 142 = .ok (.ireturn, 1) := dk_172 (dk_at dksX1_sheet_6 3 rfl rfl)
abbrev cX1_sumOf : ByteArray := prog_1_method_12_code
def yX1_sumOf : MethodName := ⟨RX1, "sumOf", "([I)I"⟩
def dkwX1_sumOf_1 : List UInt8 := [28, 172]
abbrev dktX1_sumOf_1 : List UInt8 := dkwX1_sumOf_1 ++ []
def dkwX1_sumOf_0 : List UInt8 := [3, 61, 3, 62, 29, 42, 180, 0, 94, 162, 0, 15, 28, 43, 29, 46, 96, 61, 132, 3, 1, 167, 255, 239]
abbrev dktX1_sumOf_0 : List UInt8 := dkwX1_sumOf_0 ++ dktX1_sumOf_1
theorem dksX1_sumOf_0 : cX1_sumOf.data.toList.drop 0 = dktX1_sumOf_0 := by decide +kernel
theorem dksX1_sumOf_1 : cX1_sumOf.data.toList.drop 24 = dktX1_sumOf_1 := dk_seg dksX1_sumOf_0 24 rfl rfl
theorem dX1_sumOf_0 : decode cX1_sumOf 0 = .ok (.iconst 0, 1) := dk_3 (dk_at dksX1_sumOf_0 0 rfl rfl)
theorem dX1_sumOf_1 : decode cX1_sumOf 1 = .ok (.istore_n 2, 1) := dk_61 (dk_at dksX1_sumOf_0 1 rfl rfl)
theorem dX1_sumOf_2 : decode cX1_sumOf 2 = .ok (.iconst 0, 1) := dk_3 (dk_at dksX1_sumOf_0 2 rfl rfl)
theorem dX1_sumOf_3 : decode cX1_sumOf 3 = .ok (.istore_n 3, 1) := dk_62 (dk_at dksX1_sumOf_0 3 rfl rfl)
theorem dX1_sumOf_4 : decode cX1_sumOf 4 = .ok (.iload_n 3, 1) := dk_29 (dk_at dksX1_sumOf_0 4 rfl rfl)
theorem dX1_sumOf_5 : decode cX1_sumOf 5 = .ok (.aload_n 0, 1) := dk_42 (dk_at dksX1_sumOf_0 5 rfl rfl)
theorem dX1_sumOf_6 : decode cX1_sumOf 6 = .ok (.getfield 94, 3) := dk_180 0 94 (dk_at dksX1_sumOf_0 6 rfl rfl)
theorem dX1_sumOf_9 : decode cX1_sumOf 9 = .ok (.if_icmp .ge 15, 3) := dk_162 0 15 (dk_at dksX1_sumOf_0 9 rfl rfl)
theorem dX1_sumOf_12 : decode cX1_sumOf 12 = .ok (.iload_n 2, 1) := dk_28 (dk_at dksX1_sumOf_0 12 rfl rfl)
theorem dX1_sumOf_13 : decode cX1_sumOf 13 = .ok (.aload_n 1, 1) := dk_43 (dk_at dksX1_sumOf_0 13 rfl rfl)
theorem dX1_sumOf_14 : decode cX1_sumOf 14 = .ok (.iload_n 3, 1) := dk_29 (dk_at dksX1_sumOf_0 14 rfl rfl)
theorem dX1_sumOf_15 : decode cX1_sumOf 15 = .ok (.iaload, 1) := dk_46 (dk_at dksX1_sumOf_0 15 rfl rfl)
theorem dX1_sumOf_16 : decode cX1_sumOf 16 = .ok (.iadd, 1) := dk_96 (dk_at dksX1_sumOf_0 16 rfl rfl)
theorem dX1_sumOf_17 : decode cX1_sumOf 17 = .ok (.istore_n 2, 1) := dk_61 (dk_at dksX1_sumOf_0 17 rfl rfl)
theorem dX1_sumOf_18 : decode cX1_sumOf 18 = .ok (.iinc 3 1, 3) := dk_132 3 1 (dk_at dksX1_sumOf_0 18 rfl rfl)
theorem dX1_sumOf_21 : decode cX1_sumOf 21 = .ok (.goto (-17), 3) := dk_167 255 239 (dk_at dksX1_sumOf_0 21 rfl rfl)
theorem dX1_sumOf_24 : decode cX1_sumOf 24 = .ok (.iload_n 2, 1) := dk_28 (dk_at dksX1_sumOf_1 0 rfl rfl)
theorem dX1_sumOf_25 : decode cX1_sumOf 25 = .ok (.ireturn, 1) := dk_172 (dk_at dksX1_sumOf_1 1 rfl rfl)
abbrev cX1_undo : ByteArray := prog_1_method_36_code
def yX1_undo : MethodName := ⟨RX1, "undo", "()I"⟩
def dkwX1_undo_1 : List UInt8 := [180, 0, 39, 42, 180, 0, 204, 50, 182, 1, 45, 42, 180, 0, 204, 172]
abbrev dktX1_undo_1 : List UInt8 := dkwX1_undo_1 ++ []
def dkwX1_undo_0 : List UInt8 := [42, 180, 0, 204, 154, 0, 5, 2, 172, 42, 89, 180, 0, 204, 4, 100, 181, 0, 204, 42, 180, 0, 10, 42]
abbrev dktX1_undo_0 : List UInt8 := dkwX1_undo_0 ++ dktX1_undo_1
theorem dksX1_undo_0 : cX1_undo.data.toList.drop 0 = dktX1_undo_0 := by decide +kernel
theorem dksX1_undo_1 : cX1_undo.data.toList.drop 24 = dktX1_undo_1 := dk_seg dksX1_undo_0 24 rfl rfl
theorem dX1_undo_0 : decode cX1_undo 0 = .ok (.aload_n 0, 1) := dk_42 (dk_at dksX1_undo_0 0 rfl rfl)
theorem dX1_undo_1 : decode cX1_undo 1 = .ok (.getfield 204, 3) := dk_180 0 204 (dk_at dksX1_undo_0 1 rfl rfl)
theorem dX1_undo_4 : decode cX1_undo 4 = .ok (.ifCond .ne 5, 3) := dk_154 0 5 (dk_at dksX1_undo_0 4 rfl rfl)
theorem dX1_undo_7 : decode cX1_undo 7 = .ok (.iconst (-1), 1) := dk_2 (dk_at dksX1_undo_0 7 rfl rfl)
theorem dX1_undo_8 : decode cX1_undo 8 = .ok (.ireturn, 1) := dk_172 (dk_at dksX1_undo_0 8 rfl rfl)
theorem dX1_undo_9 : decode cX1_undo 9 = .ok (.aload_n 0, 1) := dk_42 (dk_at dksX1_undo_0 9 rfl rfl)
theorem dX1_undo_10 : decode cX1_undo 10 = .ok (.dup, 1) := dk_89 (dk_at dksX1_undo_0 10 rfl rfl)
theorem dX1_undo_11 : decode cX1_undo 11 = .ok (.getfield 204, 3) := dk_180 0 204 (dk_at dksX1_undo_0 11 rfl rfl)
theorem dX1_undo_14 : decode cX1_undo 14 = .ok (.iconst 1, 1) := dk_4 (dk_at dksX1_undo_0 14 rfl rfl)
theorem dX1_undo_15 : decode cX1_undo 15 = .ok (.isub, 1) := dk_100 (dk_at dksX1_undo_0 15 rfl rfl)
theorem dX1_undo_16 : decode cX1_undo 16 = .ok (.putfield 204, 3) := dk_181 0 204 (dk_at dksX1_undo_0 16 rfl rfl)
theorem dX1_undo_19 : decode cX1_undo 19 = .ok (.aload_n 0, 1) := dk_42 (dk_at dksX1_undo_0 19 rfl rfl)
theorem dX1_undo_20 : decode cX1_undo 20 = .ok (.getfield 10, 3) := dk_180 0 10 (dk_at dksX1_undo_0 20 rfl rfl)
theorem dX1_undo_23 : decode cX1_undo 23 = .ok (.aload_n 0, 1) := dk_42 (dk_at dksX1_undo_0 23 rfl rfl)
theorem dX1_undo_24 : decode cX1_undo 24 = .ok (.getfield 39, 3) := dk_180 0 39 (dk_at dksX1_undo_1 0 rfl rfl)
theorem dX1_undo_27 : decode cX1_undo 27 = .ok (.aload_n 0, 1) := dk_42 (dk_at dksX1_undo_1 3 rfl rfl)
theorem dX1_undo_28 : decode cX1_undo 28 = .ok (.getfield 204, 3) := dk_180 0 204 (dk_at dksX1_undo_1 4 rfl rfl)
theorem dX1_undo_31 : decode cX1_undo 31 = .ok (.aaload, 1) := dk_50 (dk_at dksX1_undo_1 7 rfl rfl)
theorem dX1_undo_32 : decode cX1_undo 32 = .ok (.invokevirtual 301, 3) := dk_182 1 45 (dk_at dksX1_undo_1 8 rfl rfl)
theorem dX1_undo_35 : decode cX1_undo 35 = .ok (.aload_n 0, 1) := dk_42 (dk_at dksX1_undo_1 11 rfl rfl)
theorem dX1_undo_36 : decode cX1_undo 36 = .ok (.getfield 204, 3) := dk_180 0 204 (dk_at dksX1_undo_1 12 rfl rfl)
theorem dX1_undo_39 : decode cX1_undo 39 = .ok (.ireturn, 1) := dk_172 (dk_at dksX1_undo_1 15 rfl rfl)
abbrev cX1_announce : ByteArray := prog_1_method_46_code
def yX1_announce : MethodName := ⟨RX1, "announce", "(I)I"⟩
def dkwX1_announce_1 : List UInt8 := [172]
abbrev dktX1_announce_1 : List UInt8 := dkwX1_announce_1 ++ []
def dkwX1_announce_0 : List UInt8 := [42, 180, 0, 43, 42, 180, 0, 10, 182, 1, 45, 42, 42, 42, 180, 0, 10, 27, 182, 1, 97, 182, 1, 100]
abbrev dktX1_announce_0 : List UInt8 := dkwX1_announce_0 ++ dktX1_announce_1
theorem dksX1_announce_0 : cX1_announce.data.toList.drop 0 = dktX1_announce_0 := by decide +kernel
theorem dksX1_announce_1 : cX1_announce.data.toList.drop 24 = dktX1_announce_1 := dk_seg dksX1_announce_0 24 rfl rfl
theorem dX1_announce_0 : decode cX1_announce 0 = .ok (.aload_n 0, 1) := dk_42 (dk_at dksX1_announce_0 0 rfl rfl)
theorem dX1_announce_1 : decode cX1_announce 1 = .ok (.getfield 43, 3) := dk_180 0 43 (dk_at dksX1_announce_0 1 rfl rfl)
theorem dX1_announce_4 : decode cX1_announce 4 = .ok (.aload_n 0, 1) := dk_42 (dk_at dksX1_announce_0 4 rfl rfl)
theorem dX1_announce_5 : decode cX1_announce 5 = .ok (.getfield 10, 3) := dk_180 0 10 (dk_at dksX1_announce_0 5 rfl rfl)
theorem dX1_announce_8 : decode cX1_announce 8 = .ok (.invokevirtual 301, 3) := dk_182 1 45 (dk_at dksX1_announce_0 8 rfl rfl)
theorem dX1_announce_11 : decode cX1_announce 11 = .ok (.aload_n 0, 1) := dk_42 (dk_at dksX1_announce_0 11 rfl rfl)
theorem dX1_announce_12 : decode cX1_announce 12 = .ok (.aload_n 0, 1) := dk_42 (dk_at dksX1_announce_0 12 rfl rfl)
theorem dX1_announce_13 : decode cX1_announce 13 = .ok (.aload_n 0, 1) := dk_42 (dk_at dksX1_announce_0 13 rfl rfl)
theorem dX1_announce_14 : decode cX1_announce 14 = .ok (.getfield 10, 3) := dk_180 0 10 (dk_at dksX1_announce_0 14 rfl rfl)
theorem dX1_announce_17 : decode cX1_announce 17 = .ok (.iload_n 1, 1) := dk_27 (dk_at dksX1_announce_0 17 rfl rfl)
theorem dX1_announce_18 : decode cX1_announce 18 = .ok (.invokevirtual 353, 3) := dk_182 1 97 (dk_at dksX1_announce_0 18 rfl rfl)
theorem dX1_announce_21 : decode cX1_announce 21 = .ok (.invokevirtual 356, 3) := dk_182 1 100 (dk_at dksX1_announce_0 21 rfl rfl)
theorem dX1_announce_24 : decode cX1_announce 24 = .ok (.ireturn, 1) := dk_172 (dk_at dksX1_announce_1 0 rfl rfl)
abbrev cX1_announces : ByteArray := prog_1_method_38_code
def yX1_announces : MethodName := ⟨RX1, "announces", "(LCuckooByPost$Spring;I)I"⟩
def dkwX1_announces_1 : List UInt8 := [180, 0, 110, 28, 3, 79, 43, 180, 1, 26, 28, 3, 79, 42, 43, 182, 1, 52, 184, 1, 56, 172]
abbrev dktX1_announces_1 : List UInt8 := dkwX1_announces_1 ++ []
def dkwX1_announces_0 : List UInt8 := [42, 28, 182, 0, 101, 154, 0, 5, 2, 172, 43, 28, 182, 0, 107, 153, 0, 6, 16, 254, 172, 43]
abbrev dktX1_announces_0 : List UInt8 := dkwX1_announces_0 ++ dktX1_announces_1
theorem dksX1_announces_0 : cX1_announces.data.toList.drop 0 = dktX1_announces_0 := by decide +kernel
theorem dksX1_announces_1 : cX1_announces.data.toList.drop 22 = dktX1_announces_1 := dk_seg dksX1_announces_0 22 rfl rfl
theorem dX1_announces_0 : decode cX1_announces 0 = .ok (.aload_n 0, 1) := dk_42 (dk_at dksX1_announces_0 0 rfl rfl)
theorem dX1_announces_1 : decode cX1_announces 1 = .ok (.iload_n 2, 1) := dk_28 (dk_at dksX1_announces_0 1 rfl rfl)
theorem dX1_announces_2 : decode cX1_announces 2 = .ok (.invokevirtual 101, 3) := dk_182 0 101 (dk_at dksX1_announces_0 2 rfl rfl)
theorem dX1_announces_5 : decode cX1_announces 5 = .ok (.ifCond .ne 5, 3) := dk_154 0 5 (dk_at dksX1_announces_0 5 rfl rfl)
theorem dX1_announces_8 : decode cX1_announces 8 = .ok (.iconst (-1), 1) := dk_2 (dk_at dksX1_announces_0 8 rfl rfl)
theorem dX1_announces_9 : decode cX1_announces 9 = .ok (.ireturn, 1) := dk_172 (dk_at dksX1_announces_0 9 rfl rfl)
theorem dX1_announces_10 : decode cX1_announces 10 = .ok (.aload_n 1, 1) := dk_43 (dk_at dksX1_announces_0 10 rfl rfl)
theorem dX1_announces_11 : decode cX1_announces 11 = .ok (.iload_n 2, 1) := dk_28 (dk_at dksX1_announces_0 11 rfl rfl)
theorem dX1_announces_12 : decode cX1_announces 12 = .ok (.invokevirtual 107, 3) := dk_182 0 107 (dk_at dksX1_announces_0 12 rfl rfl)
theorem dX1_announces_15 : decode cX1_announces 15 = .ok (.ifCond .eq 6, 3) := dk_153 0 6 (dk_at dksX1_announces_0 15 rfl rfl)
theorem dX1_announces_18 : decode cX1_announces 18 = .ok (.bipush (-2), 2) := dk_16 254 (dk_at dksX1_announces_0 18 rfl rfl)
theorem dX1_announces_20 : decode cX1_announces 20 = .ok (.ireturn, 1) := dk_172 (dk_at dksX1_announces_0 20 rfl rfl)
theorem dX1_announces_21 : decode cX1_announces 21 = .ok (.aload_n 1, 1) := dk_43 (dk_at dksX1_announces_0 21 rfl rfl)
theorem dX1_announces_22 : decode cX1_announces 22 = .ok (.getfield 110, 3) := dk_180 0 110 (dk_at dksX1_announces_1 0 rfl rfl)
theorem dX1_announces_25 : decode cX1_announces 25 = .ok (.iload_n 2, 1) := dk_28 (dk_at dksX1_announces_1 3 rfl rfl)
theorem dX1_announces_26 : decode cX1_announces 26 = .ok (.iconst 0, 1) := dk_3 (dk_at dksX1_announces_1 4 rfl rfl)
theorem dX1_announces_27 : decode cX1_announces 27 = .ok (.iastore, 1) := dk_79 (dk_at dksX1_announces_1 5 rfl rfl)
theorem dX1_announces_28 : decode cX1_announces 28 = .ok (.aload_n 1, 1) := dk_43 (dk_at dksX1_announces_1 6 rfl rfl)
theorem dX1_announces_29 : decode cX1_announces 29 = .ok (.getfield 282, 3) := dk_180 1 26 (dk_at dksX1_announces_1 7 rfl rfl)
theorem dX1_announces_32 : decode cX1_announces 32 = .ok (.iload_n 2, 1) := dk_28 (dk_at dksX1_announces_1 10 rfl rfl)
theorem dX1_announces_33 : decode cX1_announces 33 = .ok (.iconst 0, 1) := dk_3 (dk_at dksX1_announces_1 11 rfl rfl)
theorem dX1_announces_34 : decode cX1_announces 34 = .ok (.iastore, 1) := dk_79 (dk_at dksX1_announces_1 12 rfl rfl)
theorem dX1_announces_35 : decode cX1_announces 35 = .ok (.aload_n 0, 1) := dk_42 (dk_at dksX1_announces_1 13 rfl rfl)
theorem dX1_announces_36 : decode cX1_announces 36 = .ok (.aload_n 1, 1) := dk_43 (dk_at dksX1_announces_1 14 rfl rfl)
theorem dX1_announces_37 : decode cX1_announces 37 = .ok (.invokevirtual 308, 3) := dk_182 1 52 (dk_at dksX1_announces_1 15 rfl rfl)
theorem dX1_announces_40 : decode cX1_announces 40 = .ok (.invokestatic 312, 3) := dk_184 1 56 (dk_at dksX1_announces_1 18 rfl rfl)
theorem dX1_announces_43 : decode cX1_announces 43 = .ok (.ireturn, 1) := dk_172 (dk_at dksX1_announces_1 21 rfl rfl)
abbrev cX1_isNest : ByteArray := prog_1_method_5_code
def yX1_isNest : MethodName := ⟨RX1, "isNest", "(I)Z"⟩
def dkwX1_isNest_0 : List UInt8 := [27, 133, 9, 42, 180, 0, 94, 4, 100, 133, 184, 0, 97, 172]
abbrev dktX1_isNest_0 : List UInt8 := dkwX1_isNest_0 ++ []
theorem dksX1_isNest_0 : cX1_isNest.data.toList.drop 0 = dktX1_isNest_0 := by decide +kernel
theorem dX1_isNest_0 : decode cX1_isNest 0 = .ok (.iload_n 1, 1) := dk_27 (dk_at dksX1_isNest_0 0 rfl rfl)
theorem dX1_isNest_1 : decode cX1_isNest 1 = .ok (.i2l, 1) := dk_133 (dk_at dksX1_isNest_0 1 rfl rfl)
theorem dX1_isNest_2 : decode cX1_isNest 2 = .ok (.lconst 0, 1) := dk_9 (dk_at dksX1_isNest_0 2 rfl rfl)
theorem dX1_isNest_3 : decode cX1_isNest 3 = .ok (.aload_n 0, 1) := dk_42 (dk_at dksX1_isNest_0 3 rfl rfl)
theorem dX1_isNest_4 : decode cX1_isNest 4 = .ok (.getfield 94, 3) := dk_180 0 94 (dk_at dksX1_isNest_0 4 rfl rfl)
theorem dX1_isNest_7 : decode cX1_isNest 7 = .ok (.iconst 1, 1) := dk_4 (dk_at dksX1_isNest_0 7 rfl rfl)
theorem dX1_isNest_8 : decode cX1_isNest 8 = .ok (.isub, 1) := dk_100 (dk_at dksX1_isNest_0 8 rfl rfl)
theorem dX1_isNest_9 : decode cX1_isNest 9 = .ok (.i2l, 1) := dk_133 (dk_at dksX1_isNest_0 9 rfl rfl)
theorem dX1_isNest_10 : decode cX1_isNest 10 = .ok (.invokestatic 97, 3) := dk_184 0 97 (dk_at dksX1_isNest_0 10 rfl rfl)
theorem dX1_isNest_13 : decode cX1_isNest 13 = .ok (.ireturn, 1) := dk_172 (dk_at dksX1_isNest_0 13 rfl rfl)
abbrev cX1_noticed : ByteArray := prog_1_method_10_code
def yX1_noticed : MethodName := ⟨RX1, "noticed", "(LCuckooByPost$Spring;)I"⟩
def dkwX1_noticed_1 : List UInt8 := [167, 0, 4, 3, 128, 61, 132, 3, 1, 167, 255, 227, 28, 172]
abbrev dktX1_noticed_1 : List UInt8 := dkwX1_noticed_1 ++ []
def dkwX1_noticed_0 : List UInt8 := [3, 61, 3, 62, 29, 42, 180, 0, 94, 162, 0, 27, 28, 43, 29, 182, 0, 107, 153, 0, 9, 4, 29, 120]
abbrev dktX1_noticed_0 : List UInt8 := dkwX1_noticed_0 ++ dktX1_noticed_1
theorem dksX1_noticed_0 : cX1_noticed.data.toList.drop 0 = dktX1_noticed_0 := by decide +kernel
theorem dksX1_noticed_1 : cX1_noticed.data.toList.drop 24 = dktX1_noticed_1 := dk_seg dksX1_noticed_0 24 rfl rfl
theorem dX1_noticed_0 : decode cX1_noticed 0 = .ok (.iconst 0, 1) := dk_3 (dk_at dksX1_noticed_0 0 rfl rfl)
theorem dX1_noticed_1 : decode cX1_noticed 1 = .ok (.istore_n 2, 1) := dk_61 (dk_at dksX1_noticed_0 1 rfl rfl)
theorem dX1_noticed_2 : decode cX1_noticed 2 = .ok (.iconst 0, 1) := dk_3 (dk_at dksX1_noticed_0 2 rfl rfl)
theorem dX1_noticed_3 : decode cX1_noticed 3 = .ok (.istore_n 3, 1) := dk_62 (dk_at dksX1_noticed_0 3 rfl rfl)
theorem dX1_noticed_4 : decode cX1_noticed 4 = .ok (.iload_n 3, 1) := dk_29 (dk_at dksX1_noticed_0 4 rfl rfl)
theorem dX1_noticed_5 : decode cX1_noticed 5 = .ok (.aload_n 0, 1) := dk_42 (dk_at dksX1_noticed_0 5 rfl rfl)
theorem dX1_noticed_6 : decode cX1_noticed 6 = .ok (.getfield 94, 3) := dk_180 0 94 (dk_at dksX1_noticed_0 6 rfl rfl)
theorem dX1_noticed_9 : decode cX1_noticed 9 = .ok (.if_icmp .ge 27, 3) := dk_162 0 27 (dk_at dksX1_noticed_0 9 rfl rfl)
theorem dX1_noticed_12 : decode cX1_noticed 12 = .ok (.iload_n 2, 1) := dk_28 (dk_at dksX1_noticed_0 12 rfl rfl)
theorem dX1_noticed_13 : decode cX1_noticed 13 = .ok (.aload_n 1, 1) := dk_43 (dk_at dksX1_noticed_0 13 rfl rfl)
theorem dX1_noticed_14 : decode cX1_noticed 14 = .ok (.iload_n 3, 1) := dk_29 (dk_at dksX1_noticed_0 14 rfl rfl)
theorem dX1_noticed_15 : decode cX1_noticed 15 = .ok (.invokevirtual 107, 3) := dk_182 0 107 (dk_at dksX1_noticed_0 15 rfl rfl)
theorem dX1_noticed_18 : decode cX1_noticed 18 = .ok (.ifCond .eq 9, 3) := dk_153 0 9 (dk_at dksX1_noticed_0 18 rfl rfl)
theorem dX1_noticed_21 : decode cX1_noticed 21 = .ok (.iconst 1, 1) := dk_4 (dk_at dksX1_noticed_0 21 rfl rfl)
theorem dX1_noticed_22 : decode cX1_noticed 22 = .ok (.iload_n 3, 1) := dk_29 (dk_at dksX1_noticed_0 22 rfl rfl)
theorem dX1_noticed_23 : decode cX1_noticed 23 = .ok (.ishl, 1) := dk_120 (dk_at dksX1_noticed_0 23 rfl rfl)
theorem dX1_noticed_24 : decode cX1_noticed 24 = .ok (.goto 4, 3) := dk_167 0 4 (dk_at dksX1_noticed_1 0 rfl rfl)
theorem dX1_noticed_27 : decode cX1_noticed 27 = .ok (.iconst 0, 1) := dk_3 (dk_at dksX1_noticed_1 3 rfl rfl)
theorem dX1_noticed_28 : decode cX1_noticed 28 = .ok (.ior, 1) := dk_128 (dk_at dksX1_noticed_1 4 rfl rfl)
theorem dX1_noticed_29 : decode cX1_noticed 29 = .ok (.istore_n 2, 1) := dk_61 (dk_at dksX1_noticed_1 5 rfl rfl)
theorem dX1_noticed_30 : decode cX1_noticed 30 = .ok (.iinc 3 1, 3) := dk_132 3 1 (dk_at dksX1_noticed_1 6 rfl rfl)
theorem dX1_noticed_33 : decode cX1_noticed 33 = .ok (.goto (-29), 3) := dk_167 255 227 (dk_at dksX1_noticed_1 9 rfl rfl)
theorem dX1_noticed_36 : decode cX1_noticed 36 = .ok (.iload_n 2, 1) := dk_28 (dk_at dksX1_noticed_1 12 rfl rfl)
theorem dX1_noticed_37 : decode cX1_noticed 37 = .ok (.ireturn, 1) := dk_172 (dk_at dksX1_noticed_1 13 rfl rfl)
abbrev cX1_counts : ByteArray := prog_1_method_37_code
def yX1_counts : MethodName := ⟨RX1, "counts", "(I)I"⟩
def dkwX1_counts_0 : List UInt8 := [27, 155, 0, 11, 42, 42, 180, 0, 43, 182, 1, 49, 27, 172]
abbrev dktX1_counts_0 : List UInt8 := dkwX1_counts_0 ++ []
theorem dksX1_counts_0 : cX1_counts.data.toList.drop 0 = dktX1_counts_0 := by decide +kernel
theorem dX1_counts_0 : decode cX1_counts 0 = .ok (.iload_n 1, 1) := dk_27 (dk_at dksX1_counts_0 0 rfl rfl)
theorem dX1_counts_1 : decode cX1_counts 1 = .ok (.ifCond .lt 11, 3) := dk_155 0 11 (dk_at dksX1_counts_0 1 rfl rfl)
theorem dX1_counts_4 : decode cX1_counts 4 = .ok (.aload_n 0, 1) := dk_42 (dk_at dksX1_counts_0 4 rfl rfl)
theorem dX1_counts_5 : decode cX1_counts 5 = .ok (.aload_n 0, 1) := dk_42 (dk_at dksX1_counts_0 5 rfl rfl)
theorem dX1_counts_6 : decode cX1_counts 6 = .ok (.getfield 43, 3) := dk_180 0 43 (dk_at dksX1_counts_0 6 rfl rfl)
theorem dX1_counts_9 : decode cX1_counts 9 = .ok (.invokevirtual 305, 3) := dk_182 1 49 (dk_at dksX1_counts_0 9 rfl rfl)
theorem dX1_counts_12 : decode cX1_counts 12 = .ok (.iload_n 1, 1) := dk_27 (dk_at dksX1_counts_0 12 rfl rfl)
theorem dX1_counts_13 : decode cX1_counts 13 = .ok (.ireturn, 1) := dk_172 (dk_at dksX1_counts_0 13 rfl rfl)
abbrev cX1_putsBy : ByteArray := prog_1_method_35_code
def yX1_putsBy : MethodName := ⟨RX1, "putsBy", "(LCuckooByPost$Spring;)V"⟩
def dkwX1_putsBy_4 : List UInt8 := [180, 0, 204, 50, 43, 182, 1, 45, 42, 89, 180, 0, 204, 4, 96, 181, 0, 204, 177]
abbrev dktX1_putsBy_4 : List UInt8 := dkwX1_putsBy_4 ++ []
def dkwX1_putsBy_3 : List UInt8 := [199, 0, 19, 42, 180, 0, 39, 42, 180, 0, 204, 187, 0, 7, 89, 183, 0, 9, 83, 42, 180, 0, 39, 42]
abbrev dktX1_putsBy_3 : List UInt8 := dkwX1_putsBy_3 ++ dktX1_putsBy_4
def dkwX1_putsBy_2 : List UInt8 := [16, 11, 44, 83, 42, 89, 180, 0, 204, 4, 100, 181, 0, 204, 42, 180, 0, 39, 42, 180, 0, 204, 50]
abbrev dktX1_putsBy_2 : List UInt8 := dkwX1_putsBy_2 ++ dktX1_putsBy_3
def dkwX1_putsBy_1 : List UInt8 := [42, 180, 0, 39, 29, 4, 100, 42, 180, 0, 39, 29, 50, 83, 132, 3, 1, 167, 255, 233, 42, 180, 0, 39]
abbrev dktX1_putsBy_1 : List UInt8 := dkwX1_putsBy_1 ++ dktX1_putsBy_2
def dkwX1_putsBy_0 : List UInt8 := [42, 180, 0, 204, 16, 12, 160, 0, 56, 42, 180, 0, 39, 3, 50, 77, 4, 62, 29, 16, 12, 162, 0, 23]
abbrev dktX1_putsBy_0 : List UInt8 := dkwX1_putsBy_0 ++ dktX1_putsBy_1
theorem dksX1_putsBy_0 : cX1_putsBy.data.toList.drop 0 = dktX1_putsBy_0 := by decide +kernel
theorem dksX1_putsBy_1 : cX1_putsBy.data.toList.drop 24 = dktX1_putsBy_1 := dk_seg dksX1_putsBy_0 24 rfl rfl
theorem dksX1_putsBy_2 : cX1_putsBy.data.toList.drop 48 = dktX1_putsBy_2 := dk_seg dksX1_putsBy_1 24 rfl rfl
theorem dksX1_putsBy_3 : cX1_putsBy.data.toList.drop 71 = dktX1_putsBy_3 := dk_seg dksX1_putsBy_2 23 rfl rfl
theorem dksX1_putsBy_4 : cX1_putsBy.data.toList.drop 95 = dktX1_putsBy_4 := dk_seg dksX1_putsBy_3 24 rfl rfl
theorem dX1_putsBy_0 : decode cX1_putsBy 0 = .ok (.aload_n 0, 1) := dk_42 (dk_at dksX1_putsBy_0 0 rfl rfl)
theorem dX1_putsBy_1 : decode cX1_putsBy 1 = .ok (.getfield 204, 3) := dk_180 0 204 (dk_at dksX1_putsBy_0 1 rfl rfl)
theorem dX1_putsBy_4 : decode cX1_putsBy 4 = .ok (.bipush 12, 2) := dk_16 12 (dk_at dksX1_putsBy_0 4 rfl rfl)
theorem dX1_putsBy_6 : decode cX1_putsBy 6 = .ok (.if_icmp .ne 56, 3) := dk_160 0 56 (dk_at dksX1_putsBy_0 6 rfl rfl)
theorem dX1_putsBy_9 : decode cX1_putsBy 9 = .ok (.aload_n 0, 1) := dk_42 (dk_at dksX1_putsBy_0 9 rfl rfl)
theorem dX1_putsBy_10 : decode cX1_putsBy 10 = .ok (.getfield 39, 3) := dk_180 0 39 (dk_at dksX1_putsBy_0 10 rfl rfl)
theorem dX1_putsBy_13 : decode cX1_putsBy 13 = .ok (.iconst 0, 1) := dk_3 (dk_at dksX1_putsBy_0 13 rfl rfl)
theorem dX1_putsBy_14 : decode cX1_putsBy 14 = .ok (.aaload, 1) := dk_50 (dk_at dksX1_putsBy_0 14 rfl rfl)
theorem dX1_putsBy_15 : decode cX1_putsBy 15 = .ok (.astore_n 2, 1) := dk_77 (dk_at dksX1_putsBy_0 15 rfl rfl)
theorem dX1_putsBy_16 : decode cX1_putsBy 16 = .ok (.iconst 1, 1) := dk_4 (dk_at dksX1_putsBy_0 16 rfl rfl)
theorem dX1_putsBy_17 : decode cX1_putsBy 17 = .ok (.istore_n 3, 1) := dk_62 (dk_at dksX1_putsBy_0 17 rfl rfl)
theorem dX1_putsBy_18 : decode cX1_putsBy 18 = .ok (.iload_n 3, 1) := dk_29 (dk_at dksX1_putsBy_0 18 rfl rfl)
theorem dX1_putsBy_19 : decode cX1_putsBy 19 = .ok (.bipush 12, 2) := dk_16 12 (dk_at dksX1_putsBy_0 19 rfl rfl)
theorem dX1_putsBy_21 : decode cX1_putsBy 21 = .ok (.if_icmp .ge 23, 3) := dk_162 0 23 (dk_at dksX1_putsBy_0 21 rfl rfl)
theorem dX1_putsBy_24 : decode cX1_putsBy 24 = .ok (.aload_n 0, 1) := dk_42 (dk_at dksX1_putsBy_1 0 rfl rfl)
theorem dX1_putsBy_25 : decode cX1_putsBy 25 = .ok (.getfield 39, 3) := dk_180 0 39 (dk_at dksX1_putsBy_1 1 rfl rfl)
theorem dX1_putsBy_28 : decode cX1_putsBy 28 = .ok (.iload_n 3, 1) := dk_29 (dk_at dksX1_putsBy_1 4 rfl rfl)
theorem dX1_putsBy_29 : decode cX1_putsBy 29 = .ok (.iconst 1, 1) := dk_4 (dk_at dksX1_putsBy_1 5 rfl rfl)
theorem dX1_putsBy_30 : decode cX1_putsBy 30 = .ok (.isub, 1) := dk_100 (dk_at dksX1_putsBy_1 6 rfl rfl)
theorem dX1_putsBy_31 : decode cX1_putsBy 31 = .ok (.aload_n 0, 1) := dk_42 (dk_at dksX1_putsBy_1 7 rfl rfl)
theorem dX1_putsBy_32 : decode cX1_putsBy 32 = .ok (.getfield 39, 3) := dk_180 0 39 (dk_at dksX1_putsBy_1 8 rfl rfl)
theorem dX1_putsBy_35 : decode cX1_putsBy 35 = .ok (.iload_n 3, 1) := dk_29 (dk_at dksX1_putsBy_1 11 rfl rfl)
theorem dX1_putsBy_36 : decode cX1_putsBy 36 = .ok (.aaload, 1) := dk_50 (dk_at dksX1_putsBy_1 12 rfl rfl)
theorem dX1_putsBy_37 : decode cX1_putsBy 37 = .ok (.aastore, 1) := dk_83 (dk_at dksX1_putsBy_1 13 rfl rfl)
theorem dX1_putsBy_38 : decode cX1_putsBy 38 = .ok (.iinc 3 1, 3) := dk_132 3 1 (dk_at dksX1_putsBy_1 14 rfl rfl)
theorem dX1_putsBy_41 : decode cX1_putsBy 41 = .ok (.goto (-23), 3) := dk_167 255 233 (dk_at dksX1_putsBy_1 17 rfl rfl)
theorem dX1_putsBy_44 : decode cX1_putsBy 44 = .ok (.aload_n 0, 1) := dk_42 (dk_at dksX1_putsBy_1 20 rfl rfl)
theorem dX1_putsBy_45 : decode cX1_putsBy 45 = .ok (.getfield 39, 3) := dk_180 0 39 (dk_at dksX1_putsBy_1 21 rfl rfl)
theorem dX1_putsBy_48 : decode cX1_putsBy 48 = .ok (.bipush 11, 2) := dk_16 11 (dk_at dksX1_putsBy_2 0 rfl rfl)
theorem dX1_putsBy_50 : decode cX1_putsBy 50 = .ok (.aload_n 2, 1) := dk_44 (dk_at dksX1_putsBy_2 2 rfl rfl)
theorem dX1_putsBy_51 : decode cX1_putsBy 51 = .ok (.aastore, 1) := dk_83 (dk_at dksX1_putsBy_2 3 rfl rfl)
theorem dX1_putsBy_52 : decode cX1_putsBy 52 = .ok (.aload_n 0, 1) := dk_42 (dk_at dksX1_putsBy_2 4 rfl rfl)
theorem dX1_putsBy_53 : decode cX1_putsBy 53 = .ok (.dup, 1) := dk_89 (dk_at dksX1_putsBy_2 5 rfl rfl)
theorem dX1_putsBy_54 : decode cX1_putsBy 54 = .ok (.getfield 204, 3) := dk_180 0 204 (dk_at dksX1_putsBy_2 6 rfl rfl)
theorem dX1_putsBy_57 : decode cX1_putsBy 57 = .ok (.iconst 1, 1) := dk_4 (dk_at dksX1_putsBy_2 9 rfl rfl)
theorem dX1_putsBy_58 : decode cX1_putsBy 58 = .ok (.isub, 1) := dk_100 (dk_at dksX1_putsBy_2 10 rfl rfl)
theorem dX1_putsBy_59 : decode cX1_putsBy 59 = .ok (.putfield 204, 3) := dk_181 0 204 (dk_at dksX1_putsBy_2 11 rfl rfl)
theorem dX1_putsBy_62 : decode cX1_putsBy 62 = .ok (.aload_n 0, 1) := dk_42 (dk_at dksX1_putsBy_2 14 rfl rfl)
theorem dX1_putsBy_63 : decode cX1_putsBy 63 = .ok (.getfield 39, 3) := dk_180 0 39 (dk_at dksX1_putsBy_2 15 rfl rfl)
theorem dX1_putsBy_66 : decode cX1_putsBy 66 = .ok (.aload_n 0, 1) := dk_42 (dk_at dksX1_putsBy_2 18 rfl rfl)
theorem dX1_putsBy_67 : decode cX1_putsBy 67 = .ok (.getfield 204, 3) := dk_180 0 204 (dk_at dksX1_putsBy_2 19 rfl rfl)
theorem dX1_putsBy_70 : decode cX1_putsBy 70 = .ok (.aaload, 1) := dk_50 (dk_at dksX1_putsBy_2 22 rfl rfl)
theorem dX1_putsBy_71 : decode cX1_putsBy 71 = .ok (.ifnonnull 19, 3) := dk_199 0 19 (dk_at dksX1_putsBy_3 0 rfl rfl)
theorem dX1_putsBy_74 : decode cX1_putsBy 74 = .ok (.aload_n 0, 1) := dk_42 (dk_at dksX1_putsBy_3 3 rfl rfl)
theorem dX1_putsBy_75 : decode cX1_putsBy 75 = .ok (.getfield 39, 3) := dk_180 0 39 (dk_at dksX1_putsBy_3 4 rfl rfl)
theorem dX1_putsBy_78 : decode cX1_putsBy 78 = .ok (.aload_n 0, 1) := dk_42 (dk_at dksX1_putsBy_3 7 rfl rfl)
theorem dX1_putsBy_79 : decode cX1_putsBy 79 = .ok (.getfield 204, 3) := dk_180 0 204 (dk_at dksX1_putsBy_3 8 rfl rfl)
theorem dX1_putsBy_82 : decode cX1_putsBy 82 = .ok (.new 7, 3) := dk_187 0 7 (dk_at dksX1_putsBy_3 11 rfl rfl)
theorem dX1_putsBy_85 : decode cX1_putsBy 85 = .ok (.dup, 1) := dk_89 (dk_at dksX1_putsBy_3 14 rfl rfl)
theorem dX1_putsBy_86 : decode cX1_putsBy 86 = .ok (.invokespecial 9, 3) := dk_183 0 9 (dk_at dksX1_putsBy_3 15 rfl rfl)
theorem dX1_putsBy_89 : decode cX1_putsBy 89 = .ok (.aastore, 1) := dk_83 (dk_at dksX1_putsBy_3 18 rfl rfl)
theorem dX1_putsBy_90 : decode cX1_putsBy 90 = .ok (.aload_n 0, 1) := dk_42 (dk_at dksX1_putsBy_3 19 rfl rfl)
theorem dX1_putsBy_91 : decode cX1_putsBy 91 = .ok (.getfield 39, 3) := dk_180 0 39 (dk_at dksX1_putsBy_3 20 rfl rfl)
theorem dX1_putsBy_94 : decode cX1_putsBy 94 = .ok (.aload_n 0, 1) := dk_42 (dk_at dksX1_putsBy_3 23 rfl rfl)
theorem dX1_putsBy_95 : decode cX1_putsBy 95 = .ok (.getfield 204, 3) := dk_180 0 204 (dk_at dksX1_putsBy_4 0 rfl rfl)
theorem dX1_putsBy_98 : decode cX1_putsBy 98 = .ok (.aaload, 1) := dk_50 (dk_at dksX1_putsBy_4 3 rfl rfl)
theorem dX1_putsBy_99 : decode cX1_putsBy 99 = .ok (.aload_n 1, 1) := dk_43 (dk_at dksX1_putsBy_4 4 rfl rfl)
theorem dX1_putsBy_100 : decode cX1_putsBy 100 = .ok (.invokevirtual 301, 3) := dk_182 1 45 (dk_at dksX1_putsBy_4 5 rfl rfl)
theorem dX1_putsBy_103 : decode cX1_putsBy 103 = .ok (.aload_n 0, 1) := dk_42 (dk_at dksX1_putsBy_4 8 rfl rfl)
theorem dX1_putsBy_104 : decode cX1_putsBy 104 = .ok (.dup, 1) := dk_89 (dk_at dksX1_putsBy_4 9 rfl rfl)
theorem dX1_putsBy_105 : decode cX1_putsBy 105 = .ok (.getfield 204, 3) := dk_180 0 204 (dk_at dksX1_putsBy_4 10 rfl rfl)
theorem dX1_putsBy_108 : decode cX1_putsBy 108 = .ok (.iconst 1, 1) := dk_4 (dk_at dksX1_putsBy_4 13 rfl rfl)
theorem dX1_putsBy_109 : decode cX1_putsBy 109 = .ok (.iadd, 1) := dk_96 (dk_at dksX1_putsBy_4 14 rfl rfl)
theorem dX1_putsBy_110 : decode cX1_putsBy 110 = .ok (.putfield 204, 3) := dk_181 0 204 (dk_at dksX1_putsBy_4 15 rfl rfl)
theorem dX1_putsBy_113 : decode cX1_putsBy 113 = .ok (.return_, 1) := dk_177 (dk_at dksX1_putsBy_4 18 rfl rfl)
abbrev cX1_reply : ByteArray := prog_1_method_47_code
def yX1_reply : MethodName := ⟨RX1, "reply", "(I)I"⟩
def dkwX1_reply_1 : List UInt8 := [172]
abbrev dktX1_reply_1 : List UInt8 := dkwX1_reply_1 ++ []
def dkwX1_reply_0 : List UInt8 := [42, 180, 0, 43, 42, 180, 0, 10, 182, 1, 45, 42, 42, 42, 180, 0, 10, 27, 182, 1, 103, 182, 1, 100]
abbrev dktX1_reply_0 : List UInt8 := dkwX1_reply_0 ++ dktX1_reply_1
theorem dksX1_reply_0 : cX1_reply.data.toList.drop 0 = dktX1_reply_0 := by decide +kernel
theorem dksX1_reply_1 : cX1_reply.data.toList.drop 24 = dktX1_reply_1 := dk_seg dksX1_reply_0 24 rfl rfl
theorem dX1_reply_0 : decode cX1_reply 0 = .ok (.aload_n 0, 1) := dk_42 (dk_at dksX1_reply_0 0 rfl rfl)
theorem dX1_reply_1 : decode cX1_reply 1 = .ok (.getfield 43, 3) := dk_180 0 43 (dk_at dksX1_reply_0 1 rfl rfl)
theorem dX1_reply_4 : decode cX1_reply 4 = .ok (.aload_n 0, 1) := dk_42 (dk_at dksX1_reply_0 4 rfl rfl)
theorem dX1_reply_5 : decode cX1_reply 5 = .ok (.getfield 10, 3) := dk_180 0 10 (dk_at dksX1_reply_0 5 rfl rfl)
theorem dX1_reply_8 : decode cX1_reply 8 = .ok (.invokevirtual 301, 3) := dk_182 1 45 (dk_at dksX1_reply_0 8 rfl rfl)
theorem dX1_reply_11 : decode cX1_reply 11 = .ok (.aload_n 0, 1) := dk_42 (dk_at dksX1_reply_0 11 rfl rfl)
theorem dX1_reply_12 : decode cX1_reply 12 = .ok (.aload_n 0, 1) := dk_42 (dk_at dksX1_reply_0 12 rfl rfl)
theorem dX1_reply_13 : decode cX1_reply 13 = .ok (.aload_n 0, 1) := dk_42 (dk_at dksX1_reply_0 13 rfl rfl)
theorem dX1_reply_14 : decode cX1_reply 14 = .ok (.getfield 10, 3) := dk_180 0 10 (dk_at dksX1_reply_0 14 rfl rfl)
theorem dX1_reply_17 : decode cX1_reply 17 = .ok (.iload_n 1, 1) := dk_27 (dk_at dksX1_reply_0 17 rfl rfl)
theorem dX1_reply_18 : decode cX1_reply 18 = .ok (.invokevirtual 359, 3) := dk_182 1 103 (dk_at dksX1_reply_0 18 rfl rfl)
theorem dX1_reply_21 : decode cX1_reply 21 = .ok (.invokevirtual 356, 3) := dk_182 1 100 (dk_at dksX1_reply_0 21 rfl rfl)
theorem dX1_reply_24 : decode cX1_reply 24 = .ok (.ireturn, 1) := dk_172 (dk_at dksX1_reply_1 0 rfl rfl)
abbrev cX1_repliesTo : ByteArray := prog_1_method_39_code
def yX1_repliesTo : MethodName := ⟨RX1, "repliesTo", "(LCuckooByPost$Spring;I)I"⟩
def dkwX1_repliesTo_2 : List UInt8 := [5, 100, 184, 1, 9, 79, 43, 180, 1, 26, 28, 92, 46, 4, 96, 79, 43, 180, 1, 26, 28, 46, 172]
abbrev dktX1_repliesTo_2 : List UInt8 := dkwX1_repliesTo_2 ++ []
def dkwX1_repliesTo_1 : List UInt8 := [180, 1, 26, 28, 46, 6, 160, 0, 6, 16, 253, 172, 43, 180, 0, 110, 28, 3, 43, 180, 0, 110, 28, 46]
abbrev dktX1_repliesTo_1 : List UInt8 := dkwX1_repliesTo_1 ++ dktX1_repliesTo_2
def dkwX1_repliesTo_0 : List UInt8 := [42, 28, 182, 0, 101, 154, 0, 5, 2, 172, 43, 28, 182, 0, 107, 154, 0, 6, 16, 254, 172, 43]
abbrev dktX1_repliesTo_0 : List UInt8 := dkwX1_repliesTo_0 ++ dktX1_repliesTo_1
theorem dksX1_repliesTo_0 : cX1_repliesTo.data.toList.drop 0 = dktX1_repliesTo_0 := by decide +kernel
theorem dksX1_repliesTo_1 : cX1_repliesTo.data.toList.drop 22 = dktX1_repliesTo_1 := dk_seg dksX1_repliesTo_0 22 rfl rfl
theorem dksX1_repliesTo_2 : cX1_repliesTo.data.toList.drop 46 = dktX1_repliesTo_2 := dk_seg dksX1_repliesTo_1 24 rfl rfl
theorem dX1_repliesTo_0 : decode cX1_repliesTo 0 = .ok (.aload_n 0, 1) := dk_42 (dk_at dksX1_repliesTo_0 0 rfl rfl)
theorem dX1_repliesTo_1 : decode cX1_repliesTo 1 = .ok (.iload_n 2, 1) := dk_28 (dk_at dksX1_repliesTo_0 1 rfl rfl)
theorem dX1_repliesTo_2 : decode cX1_repliesTo 2 = .ok (.invokevirtual 101, 3) := dk_182 0 101 (dk_at dksX1_repliesTo_0 2 rfl rfl)
theorem dX1_repliesTo_5 : decode cX1_repliesTo 5 = .ok (.ifCond .ne 5, 3) := dk_154 0 5 (dk_at dksX1_repliesTo_0 5 rfl rfl)
theorem dX1_repliesTo_8 : decode cX1_repliesTo 8 = .ok (.iconst (-1), 1) := dk_2 (dk_at dksX1_repliesTo_0 8 rfl rfl)
theorem dX1_repliesTo_9 : decode cX1_repliesTo 9 = .ok (.ireturn, 1) := dk_172 (dk_at dksX1_repliesTo_0 9 rfl rfl)
theorem dX1_repliesTo_10 : decode cX1_repliesTo 10 = .ok (.aload_n 1, 1) := dk_43 (dk_at dksX1_repliesTo_0 10 rfl rfl)
theorem dX1_repliesTo_11 : decode cX1_repliesTo 11 = .ok (.iload_n 2, 1) := dk_28 (dk_at dksX1_repliesTo_0 11 rfl rfl)
theorem dX1_repliesTo_12 : decode cX1_repliesTo 12 = .ok (.invokevirtual 107, 3) := dk_182 0 107 (dk_at dksX1_repliesTo_0 12 rfl rfl)
theorem dX1_repliesTo_15 : decode cX1_repliesTo 15 = .ok (.ifCond .ne 6, 3) := dk_154 0 6 (dk_at dksX1_repliesTo_0 15 rfl rfl)
theorem dX1_repliesTo_18 : decode cX1_repliesTo 18 = .ok (.bipush (-2), 2) := dk_16 254 (dk_at dksX1_repliesTo_0 18 rfl rfl)
theorem dX1_repliesTo_20 : decode cX1_repliesTo 20 = .ok (.ireturn, 1) := dk_172 (dk_at dksX1_repliesTo_0 20 rfl rfl)
theorem dX1_repliesTo_21 : decode cX1_repliesTo 21 = .ok (.aload_n 1, 1) := dk_43 (dk_at dksX1_repliesTo_0 21 rfl rfl)
theorem dX1_repliesTo_22 : decode cX1_repliesTo 22 = .ok (.getfield 282, 3) := dk_180 1 26 (dk_at dksX1_repliesTo_1 0 rfl rfl)
theorem dX1_repliesTo_25 : decode cX1_repliesTo 25 = .ok (.iload_n 2, 1) := dk_28 (dk_at dksX1_repliesTo_1 3 rfl rfl)
theorem dX1_repliesTo_26 : decode cX1_repliesTo 26 = .ok (.iaload, 1) := dk_46 (dk_at dksX1_repliesTo_1 4 rfl rfl)
theorem dX1_repliesTo_27 : decode cX1_repliesTo 27 = .ok (.iconst 3, 1) := dk_6 (dk_at dksX1_repliesTo_1 5 rfl rfl)
theorem dX1_repliesTo_28 : decode cX1_repliesTo 28 = .ok (.if_icmp .ne 6, 3) := dk_160 0 6 (dk_at dksX1_repliesTo_1 6 rfl rfl)
theorem dX1_repliesTo_31 : decode cX1_repliesTo 31 = .ok (.bipush (-3), 2) := dk_16 253 (dk_at dksX1_repliesTo_1 9 rfl rfl)
theorem dX1_repliesTo_33 : decode cX1_repliesTo 33 = .ok (.ireturn, 1) := dk_172 (dk_at dksX1_repliesTo_1 11 rfl rfl)
theorem dX1_repliesTo_34 : decode cX1_repliesTo 34 = .ok (.aload_n 1, 1) := dk_43 (dk_at dksX1_repliesTo_1 12 rfl rfl)
theorem dX1_repliesTo_35 : decode cX1_repliesTo 35 = .ok (.getfield 110, 3) := dk_180 0 110 (dk_at dksX1_repliesTo_1 13 rfl rfl)
theorem dX1_repliesTo_38 : decode cX1_repliesTo 38 = .ok (.iload_n 2, 1) := dk_28 (dk_at dksX1_repliesTo_1 16 rfl rfl)
theorem dX1_repliesTo_39 : decode cX1_repliesTo 39 = .ok (.iconst 0, 1) := dk_3 (dk_at dksX1_repliesTo_1 17 rfl rfl)
theorem dX1_repliesTo_40 : decode cX1_repliesTo 40 = .ok (.aload_n 1, 1) := dk_43 (dk_at dksX1_repliesTo_1 18 rfl rfl)
theorem dX1_repliesTo_41 : decode cX1_repliesTo 41 = .ok (.getfield 110, 3) := dk_180 0 110 (dk_at dksX1_repliesTo_1 19 rfl rfl)
theorem dX1_repliesTo_44 : decode cX1_repliesTo 44 = .ok (.iload_n 2, 1) := dk_28 (dk_at dksX1_repliesTo_1 22 rfl rfl)
theorem dX1_repliesTo_45 : decode cX1_repliesTo 45 = .ok (.iaload, 1) := dk_46 (dk_at dksX1_repliesTo_1 23 rfl rfl)
theorem dX1_repliesTo_46 : decode cX1_repliesTo 46 = .ok (.iconst 2, 1) := dk_5 (dk_at dksX1_repliesTo_2 0 rfl rfl)
theorem dX1_repliesTo_47 : decode cX1_repliesTo 47 = .ok (.isub, 1) := dk_100 (dk_at dksX1_repliesTo_2 1 rfl rfl)
theorem dX1_repliesTo_48 : decode cX1_repliesTo 48 = .ok (.invokestatic 265, 3) := dk_184 1 9 (dk_at dksX1_repliesTo_2 2 rfl rfl)
theorem dX1_repliesTo_51 : decode cX1_repliesTo 51 = .ok (.iastore, 1) := dk_79 (dk_at dksX1_repliesTo_2 5 rfl rfl)
theorem dX1_repliesTo_52 : decode cX1_repliesTo 52 = .ok (.aload_n 1, 1) := dk_43 (dk_at dksX1_repliesTo_2 6 rfl rfl)
theorem dX1_repliesTo_53 : decode cX1_repliesTo 53 = .ok (.getfield 282, 3) := dk_180 1 26 (dk_at dksX1_repliesTo_2 7 rfl rfl)
theorem dX1_repliesTo_56 : decode cX1_repliesTo 56 = .ok (.iload_n 2, 1) := dk_28 (dk_at dksX1_repliesTo_2 10 rfl rfl)
theorem dX1_repliesTo_57 : decode cX1_repliesTo 57 = .ok (.dup2, 1) := dk_92 (dk_at dksX1_repliesTo_2 11 rfl rfl)
theorem dX1_repliesTo_58 : decode cX1_repliesTo 58 = .ok (.iaload, 1) := dk_46 (dk_at dksX1_repliesTo_2 12 rfl rfl)
theorem dX1_repliesTo_59 : decode cX1_repliesTo 59 = .ok (.iconst 1, 1) := dk_4 (dk_at dksX1_repliesTo_2 13 rfl rfl)
theorem dX1_repliesTo_60 : decode cX1_repliesTo 60 = .ok (.iadd, 1) := dk_96 (dk_at dksX1_repliesTo_2 14 rfl rfl)
theorem dX1_repliesTo_61 : decode cX1_repliesTo 61 = .ok (.iastore, 1) := dk_79 (dk_at dksX1_repliesTo_2 15 rfl rfl)
theorem dX1_repliesTo_62 : decode cX1_repliesTo 62 = .ok (.aload_n 1, 1) := dk_43 (dk_at dksX1_repliesTo_2 16 rfl rfl)
theorem dX1_repliesTo_63 : decode cX1_repliesTo 63 = .ok (.getfield 282, 3) := dk_180 1 26 (dk_at dksX1_repliesTo_2 17 rfl rfl)
theorem dX1_repliesTo_66 : decode cX1_repliesTo 66 = .ok (.iload_n 2, 1) := dk_28 (dk_at dksX1_repliesTo_2 20 rfl rfl)
theorem dX1_repliesTo_67 : decode cX1_repliesTo 67 = .ok (.iaload, 1) := dk_46 (dk_at dksX1_repliesTo_2 21 rfl rfl)
theorem dX1_repliesTo_68 : decode cX1_repliesTo 68 = .ok (.ireturn, 1) := dk_172 (dk_at dksX1_repliesTo_2 22 rfl rfl)
abbrev cX1_lay : ByteArray := prog_1_method_48_code
def yX1_lay : MethodName := ⟨RX1, "lay", "(II)I"⟩
def dkwX1_lay_1 : List UInt8 := [182, 1, 100, 172]
abbrev dktX1_lay_1 : List UInt8 := dkwX1_lay_1 ++ []
def dkwX1_lay_0 : List UInt8 := [42, 180, 0, 43, 42, 180, 0, 10, 182, 1, 45, 42, 42, 42, 180, 0, 10, 27, 28, 182, 1, 106]
abbrev dktX1_lay_0 : List UInt8 := dkwX1_lay_0 ++ dktX1_lay_1
theorem dksX1_lay_0 : cX1_lay.data.toList.drop 0 = dktX1_lay_0 := by decide +kernel
theorem dksX1_lay_1 : cX1_lay.data.toList.drop 22 = dktX1_lay_1 := dk_seg dksX1_lay_0 22 rfl rfl
theorem dX1_lay_0 : decode cX1_lay 0 = .ok (.aload_n 0, 1) := dk_42 (dk_at dksX1_lay_0 0 rfl rfl)
theorem dX1_lay_1 : decode cX1_lay 1 = .ok (.getfield 43, 3) := dk_180 0 43 (dk_at dksX1_lay_0 1 rfl rfl)
theorem dX1_lay_4 : decode cX1_lay 4 = .ok (.aload_n 0, 1) := dk_42 (dk_at dksX1_lay_0 4 rfl rfl)
theorem dX1_lay_5 : decode cX1_lay 5 = .ok (.getfield 10, 3) := dk_180 0 10 (dk_at dksX1_lay_0 5 rfl rfl)
theorem dX1_lay_8 : decode cX1_lay 8 = .ok (.invokevirtual 301, 3) := dk_182 1 45 (dk_at dksX1_lay_0 8 rfl rfl)
theorem dX1_lay_11 : decode cX1_lay 11 = .ok (.aload_n 0, 1) := dk_42 (dk_at dksX1_lay_0 11 rfl rfl)
theorem dX1_lay_12 : decode cX1_lay 12 = .ok (.aload_n 0, 1) := dk_42 (dk_at dksX1_lay_0 12 rfl rfl)
theorem dX1_lay_13 : decode cX1_lay 13 = .ok (.aload_n 0, 1) := dk_42 (dk_at dksX1_lay_0 13 rfl rfl)
theorem dX1_lay_14 : decode cX1_lay 14 = .ok (.getfield 10, 3) := dk_180 0 10 (dk_at dksX1_lay_0 14 rfl rfl)
theorem dX1_lay_17 : decode cX1_lay 17 = .ok (.iload_n 1, 1) := dk_27 (dk_at dksX1_lay_0 17 rfl rfl)
theorem dX1_lay_18 : decode cX1_lay 18 = .ok (.iload_n 2, 1) := dk_28 (dk_at dksX1_lay_0 18 rfl rfl)
theorem dX1_lay_19 : decode cX1_lay 19 = .ok (.invokevirtual 362, 3) := dk_182 1 106 (dk_at dksX1_lay_0 19 rfl rfl)
theorem dX1_lay_22 : decode cX1_lay 22 = .ok (.invokevirtual 356, 3) := dk_182 1 100 (dk_at dksX1_lay_1 0 rfl rfl)
theorem dX1_lay_25 : decode cX1_lay 25 = .ok (.ireturn, 1) := dk_172 (dk_at dksX1_lay_1 3 rfl rfl)
abbrev cX1_lays : ByteArray := prog_1_method_40_code
def yX1_lays : MethodName := ⟨RX1, "lays", "(LCuckooByPost$Spring;II)I"⟩
def dkwX1_lays_2 : List UInt8 := [3, 16, 99, 42, 43, 28, 182, 1, 35, 184, 0, 129, 184, 1, 9, 172]
abbrev dktX1_lays_2 : List UInt8 := dkwX1_lays_2 ++ []
def dkwX1_lays_1 : List UInt8 := [153, 0, 6, 16, 254, 172, 42, 43, 28, 182, 0, 116, 154, 0, 6, 16, 253, 172, 43, 28, 29, 182, 1, 64]
abbrev dktX1_lays_1 : List UInt8 := dkwX1_lays_1 ++ dktX1_lays_2
def dkwX1_lays_0 : List UInt8 := [42, 28, 182, 0, 101, 153, 0, 10, 29, 184, 1, 61, 154, 0, 5, 2, 172, 43, 180, 0, 113, 28, 46]
abbrev dktX1_lays_0 : List UInt8 := dkwX1_lays_0 ++ dktX1_lays_1
theorem dksX1_lays_0 : cX1_lays.data.toList.drop 0 = dktX1_lays_0 := by decide +kernel
theorem dksX1_lays_1 : cX1_lays.data.toList.drop 23 = dktX1_lays_1 := dk_seg dksX1_lays_0 23 rfl rfl
theorem dksX1_lays_2 : cX1_lays.data.toList.drop 47 = dktX1_lays_2 := dk_seg dksX1_lays_1 24 rfl rfl
theorem dX1_lays_0 : decode cX1_lays 0 = .ok (.aload_n 0, 1) := dk_42 (dk_at dksX1_lays_0 0 rfl rfl)
theorem dX1_lays_1 : decode cX1_lays 1 = .ok (.iload_n 2, 1) := dk_28 (dk_at dksX1_lays_0 1 rfl rfl)
theorem dX1_lays_2 : decode cX1_lays 2 = .ok (.invokevirtual 101, 3) := dk_182 0 101 (dk_at dksX1_lays_0 2 rfl rfl)
theorem dX1_lays_5 : decode cX1_lays 5 = .ok (.ifCond .eq 10, 3) := dk_153 0 10 (dk_at dksX1_lays_0 5 rfl rfl)
theorem dX1_lays_8 : decode cX1_lays 8 = .ok (.iload_n 3, 1) := dk_29 (dk_at dksX1_lays_0 8 rfl rfl)
theorem dX1_lays_9 : decode cX1_lays 9 = .ok (.invokestatic 317, 3) := dk_184 1 61 (dk_at dksX1_lays_0 9 rfl rfl)
theorem dX1_lays_12 : decode cX1_lays 12 = .ok (.ifCond .ne 5, 3) := dk_154 0 5 (dk_at dksX1_lays_0 12 rfl rfl)
theorem dX1_lays_15 : decode cX1_lays 15 = .ok (.iconst (-1), 1) := dk_2 (dk_at dksX1_lays_0 15 rfl rfl)
theorem dX1_lays_16 : decode cX1_lays 16 = .ok (.ireturn, 1) := dk_172 (dk_at dksX1_lays_0 16 rfl rfl)
theorem dX1_lays_17 : decode cX1_lays 17 = .ok (.aload_n 1, 1) := dk_43 (dk_at dksX1_lays_0 17 rfl rfl)
theorem dX1_lays_18 : decode cX1_lays 18 = .ok (.getfield 113, 3) := dk_180 0 113 (dk_at dksX1_lays_0 18 rfl rfl)
theorem dX1_lays_21 : decode cX1_lays 21 = .ok (.iload_n 2, 1) := dk_28 (dk_at dksX1_lays_0 21 rfl rfl)
theorem dX1_lays_22 : decode cX1_lays 22 = .ok (.iaload, 1) := dk_46 (dk_at dksX1_lays_0 22 rfl rfl)
theorem dX1_lays_23 : decode cX1_lays 23 = .ok (.ifCond .eq 6, 3) := dk_153 0 6 (dk_at dksX1_lays_1 0 rfl rfl)
theorem dX1_lays_26 : decode cX1_lays 26 = .ok (.bipush (-2), 2) := dk_16 254 (dk_at dksX1_lays_1 3 rfl rfl)
theorem dX1_lays_28 : decode cX1_lays 28 = .ok (.ireturn, 1) := dk_172 (dk_at dksX1_lays_1 5 rfl rfl)
theorem dX1_lays_29 : decode cX1_lays 29 = .ok (.aload_n 0, 1) := dk_42 (dk_at dksX1_lays_1 6 rfl rfl)
theorem dX1_lays_30 : decode cX1_lays 30 = .ok (.aload_n 1, 1) := dk_43 (dk_at dksX1_lays_1 7 rfl rfl)
theorem dX1_lays_31 : decode cX1_lays 31 = .ok (.iload_n 2, 1) := dk_28 (dk_at dksX1_lays_1 8 rfl rfl)
theorem dX1_lays_32 : decode cX1_lays 32 = .ok (.invokevirtual 116, 3) := dk_182 0 116 (dk_at dksX1_lays_1 9 rfl rfl)
theorem dX1_lays_35 : decode cX1_lays 35 = .ok (.ifCond .ne 6, 3) := dk_154 0 6 (dk_at dksX1_lays_1 12 rfl rfl)
theorem dX1_lays_38 : decode cX1_lays 38 = .ok (.bipush (-3), 2) := dk_16 253 (dk_at dksX1_lays_1 15 rfl rfl)
theorem dX1_lays_40 : decode cX1_lays 40 = .ok (.ireturn, 1) := dk_172 (dk_at dksX1_lays_1 17 rfl rfl)
theorem dX1_lays_41 : decode cX1_lays 41 = .ok (.aload_n 1, 1) := dk_43 (dk_at dksX1_lays_1 18 rfl rfl)
theorem dX1_lays_42 : decode cX1_lays 42 = .ok (.iload_n 2, 1) := dk_28 (dk_at dksX1_lays_1 19 rfl rfl)
theorem dX1_lays_43 : decode cX1_lays 43 = .ok (.iload_n 3, 1) := dk_29 (dk_at dksX1_lays_1 20 rfl rfl)
theorem dX1_lays_44 : decode cX1_lays 44 = .ok (.invokevirtual 320, 3) := dk_182 1 64 (dk_at dksX1_lays_1 21 rfl rfl)
theorem dX1_lays_47 : decode cX1_lays 47 = .ok (.iconst 0, 1) := dk_3 (dk_at dksX1_lays_2 0 rfl rfl)
theorem dX1_lays_48 : decode cX1_lays 48 = .ok (.bipush 99, 2) := dk_16 99 (dk_at dksX1_lays_2 1 rfl rfl)
theorem dX1_lays_50 : decode cX1_lays 50 = .ok (.aload_n 0, 1) := dk_42 (dk_at dksX1_lays_2 3 rfl rfl)
theorem dX1_lays_51 : decode cX1_lays 51 = .ok (.aload_n 1, 1) := dk_43 (dk_at dksX1_lays_2 4 rfl rfl)
theorem dX1_lays_52 : decode cX1_lays 52 = .ok (.iload_n 2, 1) := dk_28 (dk_at dksX1_lays_2 5 rfl rfl)
theorem dX1_lays_53 : decode cX1_lays 53 = .ok (.invokevirtual 291, 3) := dk_182 1 35 (dk_at dksX1_lays_2 6 rfl rfl)
theorem dX1_lays_56 : decode cX1_lays 56 = .ok (.invokestatic 129, 3) := dk_184 0 129 (dk_at dksX1_lays_2 9 rfl rfl)
theorem dX1_lays_59 : decode cX1_lays 59 = .ok (.invokestatic 265, 3) := dk_184 1 9 (dk_at dksX1_lays_2 12 rfl rfl)
theorem dX1_lays_62 : decode cX1_lays 62 = .ok (.ireturn, 1) := dk_172 (dk_at dksX1_lays_2 15 rfl rfl)
abbrev cX1_isColour : ByteArray := prog_1_method_7_code
def yX1_isColour : MethodName := ⟨RX1, "isColour", "(I)Z"⟩
def dkwX1_isColour_0 : List UInt8 := [26, 133, 9, 20, 0, 105, 184, 0, 97, 172]
abbrev dktX1_isColour_0 : List UInt8 := dkwX1_isColour_0 ++ []
theorem dksX1_isColour_0 : cX1_isColour.data.toList.drop 0 = dktX1_isColour_0 := by decide +kernel
theorem dX1_isColour_0 : decode cX1_isColour 0 = .ok (.iload_n 0, 1) := dk_26 (dk_at dksX1_isColour_0 0 rfl rfl)
theorem dX1_isColour_1 : decode cX1_isColour 1 = .ok (.i2l, 1) := dk_133 (dk_at dksX1_isColour_0 1 rfl rfl)
theorem dX1_isColour_2 : decode cX1_isColour 2 = .ok (.lconst 0, 1) := dk_9 (dk_at dksX1_isColour_0 2 rfl rfl)
theorem dX1_isColour_3 : decode cX1_isColour 3 = .ok (.ldc2_w 105, 3) := dk_20 0 105 (dk_at dksX1_isColour_0 3 rfl rfl)
theorem dX1_isColour_6 : decode cX1_isColour 6 = .ok (.invokestatic 97, 3) := dk_184 0 97 (dk_at dksX1_isColour_0 6 rfl rfl)
theorem dX1_isColour_9 : decode cX1_isColour 9 = .ok (.ireturn, 1) := dk_172 (dk_at dksX1_isColour_0 9 rfl rfl)
abbrev cX1_isInTime : ByteArray := prog_1_method_8_code
def yX1_isInTime : MethodName := ⟨RX1, "isInTime", "(LCuckooByPost$Spring;I)Z"⟩
def dkwX1_isInTime_1 : List UInt8 := [167, 0, 4, 3, 172]
abbrev dktX1_isInTime_1 : List UInt8 := dkwX1_isInTime_1 ++ []
def dkwX1_isInTime_0 : List UInt8 := [43, 28, 182, 0, 107, 153, 0, 20, 43, 180, 0, 110, 28, 46, 42, 180, 0, 19, 161, 0, 7, 4]
abbrev dktX1_isInTime_0 : List UInt8 := dkwX1_isInTime_0 ++ dktX1_isInTime_1
theorem dksX1_isInTime_0 : cX1_isInTime.data.toList.drop 0 = dktX1_isInTime_0 := by decide +kernel
theorem dksX1_isInTime_1 : cX1_isInTime.data.toList.drop 22 = dktX1_isInTime_1 := dk_seg dksX1_isInTime_0 22 rfl rfl
theorem dX1_isInTime_0 : decode cX1_isInTime 0 = .ok (.aload_n 1, 1) := dk_43 (dk_at dksX1_isInTime_0 0 rfl rfl)
theorem dX1_isInTime_1 : decode cX1_isInTime 1 = .ok (.iload_n 2, 1) := dk_28 (dk_at dksX1_isInTime_0 1 rfl rfl)
theorem dX1_isInTime_2 : decode cX1_isInTime 2 = .ok (.invokevirtual 107, 3) := dk_182 0 107 (dk_at dksX1_isInTime_0 2 rfl rfl)
theorem dX1_isInTime_5 : decode cX1_isInTime 5 = .ok (.ifCond .eq 20, 3) := dk_153 0 20 (dk_at dksX1_isInTime_0 5 rfl rfl)
theorem dX1_isInTime_8 : decode cX1_isInTime 8 = .ok (.aload_n 1, 1) := dk_43 (dk_at dksX1_isInTime_0 8 rfl rfl)
theorem dX1_isInTime_9 : decode cX1_isInTime 9 = .ok (.getfield 110, 3) := dk_180 0 110 (dk_at dksX1_isInTime_0 9 rfl rfl)
theorem dX1_isInTime_12 : decode cX1_isInTime 12 = .ok (.iload_n 2, 1) := dk_28 (dk_at dksX1_isInTime_0 12 rfl rfl)
theorem dX1_isInTime_13 : decode cX1_isInTime 13 = .ok (.iaload, 1) := dk_46 (dk_at dksX1_isInTime_0 13 rfl rfl)
theorem dX1_isInTime_14 : decode cX1_isInTime 14 = .ok (.aload_n 0, 1) := dk_42 (dk_at dksX1_isInTime_0 14 rfl rfl)
theorem dX1_isInTime_15 : decode cX1_isInTime 15 = .ok (.getfield 19, 3) := dk_180 0 19 (dk_at dksX1_isInTime_0 15 rfl rfl)
theorem dX1_isInTime_18 : decode cX1_isInTime 18 = .ok (.if_icmp .lt 7, 3) := dk_161 0 7 (dk_at dksX1_isInTime_0 18 rfl rfl)
theorem dX1_isInTime_21 : decode cX1_isInTime 21 = .ok (.iconst 1, 1) := dk_4 (dk_at dksX1_isInTime_0 21 rfl rfl)
theorem dX1_isInTime_22 : decode cX1_isInTime 22 = .ok (.goto 4, 3) := dk_167 0 4 (dk_at dksX1_isInTime_1 0 rfl rfl)
theorem dX1_isInTime_25 : decode cX1_isInTime 25 = .ok (.iconst 0, 1) := dk_3 (dk_at dksX1_isInTime_1 3 rfl rfl)
theorem dX1_isInTime_26 : decode cX1_isInTime 26 = .ok (.ireturn, 1) := dk_172 (dk_at dksX1_isInTime_1 4 rfl rfl)
abbrev cX1_oddOf : ByteArray := prog_1_method_30_code
def yX1_oddOf : MethodName := ⟨RX1, "oddOf", "(LCuckooByPost$Spring;I)I"⟩
def dkwX1_oddOf_2 : List UInt8 := [181, 1, 12, 42, 28, 181, 1, 15, 42, 180, 1, 0, 182, 1, 18, 172]
abbrev dktX1_oddOf_2 : List UInt8 := dkwX1_oddOf_2 ++ []
def dkwX1_oddOf_1 : List UInt8 := [104, 3, 43, 180, 0, 110, 28, 46, 184, 1, 9, 100, 43, 180, 0, 188, 28, 46, 100, 172, 42, 43]
abbrev dktX1_oddOf_1 : List UInt8 := dkwX1_oddOf_1 ++ dktX1_oddOf_2
def dkwX1_oddOf_0 : List UInt8 := [42, 180, 1, 0, 199, 0, 40, 6, 43, 180, 1, 3, 28, 46, 43, 180, 0, 194, 28, 46, 100, 184, 1, 6]
abbrev dktX1_oddOf_0 : List UInt8 := dkwX1_oddOf_0 ++ dktX1_oddOf_1
theorem dksX1_oddOf_0 : cX1_oddOf.data.toList.drop 0 = dktX1_oddOf_0 := by decide +kernel
theorem dksX1_oddOf_1 : cX1_oddOf.data.toList.drop 24 = dktX1_oddOf_1 := dk_seg dksX1_oddOf_0 24 rfl rfl
theorem dksX1_oddOf_2 : cX1_oddOf.data.toList.drop 46 = dktX1_oddOf_2 := dk_seg dksX1_oddOf_1 22 rfl rfl
theorem dX1_oddOf_0 : decode cX1_oddOf 0 = .ok (.aload_n 0, 1) := dk_42 (dk_at dksX1_oddOf_0 0 rfl rfl)
theorem dX1_oddOf_1 : decode cX1_oddOf 1 = .ok (.getfield 256, 3) := dk_180 1 0 (dk_at dksX1_oddOf_0 1 rfl rfl)
theorem dX1_oddOf_4 : decode cX1_oddOf 4 = .ok (.ifnonnull 40, 3) := dk_199 0 40 (dk_at dksX1_oddOf_0 4 rfl rfl)
theorem dX1_oddOf_7 : decode cX1_oddOf 7 = .ok (.iconst 3, 1) := dk_6 (dk_at dksX1_oddOf_0 7 rfl rfl)
theorem dX1_oddOf_8 : decode cX1_oddOf 8 = .ok (.aload_n 1, 1) := dk_43 (dk_at dksX1_oddOf_0 8 rfl rfl)
theorem dX1_oddOf_9 : decode cX1_oddOf 9 = .ok (.getfield 259, 3) := dk_180 1 3 (dk_at dksX1_oddOf_0 9 rfl rfl)
theorem dX1_oddOf_12 : decode cX1_oddOf 12 = .ok (.iload_n 2, 1) := dk_28 (dk_at dksX1_oddOf_0 12 rfl rfl)
theorem dX1_oddOf_13 : decode cX1_oddOf 13 = .ok (.iaload, 1) := dk_46 (dk_at dksX1_oddOf_0 13 rfl rfl)
theorem dX1_oddOf_14 : decode cX1_oddOf 14 = .ok (.aload_n 1, 1) := dk_43 (dk_at dksX1_oddOf_0 14 rfl rfl)
theorem dX1_oddOf_15 : decode cX1_oddOf 15 = .ok (.getfield 194, 3) := dk_180 0 194 (dk_at dksX1_oddOf_0 15 rfl rfl)
theorem dX1_oddOf_18 : decode cX1_oddOf 18 = .ok (.iload_n 2, 1) := dk_28 (dk_at dksX1_oddOf_0 18 rfl rfl)
theorem dX1_oddOf_19 : decode cX1_oddOf 19 = .ok (.iaload, 1) := dk_46 (dk_at dksX1_oddOf_0 19 rfl rfl)
theorem dX1_oddOf_20 : decode cX1_oddOf 20 = .ok (.isub, 1) := dk_100 (dk_at dksX1_oddOf_0 20 rfl rfl)
theorem dX1_oddOf_21 : decode cX1_oddOf 21 = .ok (.invokestatic 262, 3) := dk_184 1 6 (dk_at dksX1_oddOf_0 21 rfl rfl)
theorem dX1_oddOf_24 : decode cX1_oddOf 24 = .ok (.imul, 1) := dk_104 (dk_at dksX1_oddOf_1 0 rfl rfl)
theorem dX1_oddOf_25 : decode cX1_oddOf 25 = .ok (.iconst 0, 1) := dk_3 (dk_at dksX1_oddOf_1 1 rfl rfl)
theorem dX1_oddOf_26 : decode cX1_oddOf 26 = .ok (.aload_n 1, 1) := dk_43 (dk_at dksX1_oddOf_1 2 rfl rfl)
theorem dX1_oddOf_27 : decode cX1_oddOf 27 = .ok (.getfield 110, 3) := dk_180 0 110 (dk_at dksX1_oddOf_1 3 rfl rfl)
theorem dX1_oddOf_30 : decode cX1_oddOf 30 = .ok (.iload_n 2, 1) := dk_28 (dk_at dksX1_oddOf_1 6 rfl rfl)
theorem dX1_oddOf_31 : decode cX1_oddOf 31 = .ok (.iaload, 1) := dk_46 (dk_at dksX1_oddOf_1 7 rfl rfl)
theorem dX1_oddOf_32 : decode cX1_oddOf 32 = .ok (.invokestatic 265, 3) := dk_184 1 9 (dk_at dksX1_oddOf_1 8 rfl rfl)
theorem dX1_oddOf_35 : decode cX1_oddOf 35 = .ok (.isub, 1) := dk_100 (dk_at dksX1_oddOf_1 11 rfl rfl)
theorem dX1_oddOf_36 : decode cX1_oddOf 36 = .ok (.aload_n 1, 1) := dk_43 (dk_at dksX1_oddOf_1 12 rfl rfl)
theorem dX1_oddOf_37 : decode cX1_oddOf 37 = .ok (.getfield 188, 3) := dk_180 0 188 (dk_at dksX1_oddOf_1 13 rfl rfl)
theorem dX1_oddOf_40 : decode cX1_oddOf 40 = .ok (.iload_n 2, 1) := dk_28 (dk_at dksX1_oddOf_1 16 rfl rfl)
theorem dX1_oddOf_41 : decode cX1_oddOf 41 = .ok (.iaload, 1) := dk_46 (dk_at dksX1_oddOf_1 17 rfl rfl)
theorem dX1_oddOf_42 : decode cX1_oddOf 42 = .ok (.isub, 1) := dk_100 (dk_at dksX1_oddOf_1 18 rfl rfl)
theorem dX1_oddOf_43 : decode cX1_oddOf 43 = .ok (.ireturn, 1) := dk_172 (dk_at dksX1_oddOf_1 19 rfl rfl)
theorem dX1_oddOf_44 : decode cX1_oddOf 44 = .ok (.aload_n 0, 1) := dk_42 (dk_at dksX1_oddOf_1 20 rfl rfl)
theorem dX1_oddOf_45 : decode cX1_oddOf 45 = .ok (.aload_n 1, 1) := dk_43 (dk_at dksX1_oddOf_1 21 rfl rfl)
theorem dX1_oddOf_46 : decode cX1_oddOf 46 = .ok (.putfield 268, 3) := dk_181 1 12 (dk_at dksX1_oddOf_2 0 rfl rfl)
theorem dX1_oddOf_49 : decode cX1_oddOf 49 = .ok (.aload_n 0, 1) := dk_42 (dk_at dksX1_oddOf_2 3 rfl rfl)
theorem dX1_oddOf_50 : decode cX1_oddOf 50 = .ok (.iload_n 2, 1) := dk_28 (dk_at dksX1_oddOf_2 4 rfl rfl)
theorem dX1_oddOf_51 : decode cX1_oddOf 51 = .ok (.putfield 271, 3) := dk_181 1 15 (dk_at dksX1_oddOf_2 5 rfl rfl)
theorem dX1_oddOf_54 : decode cX1_oddOf 54 = .ok (.aload_n 0, 1) := dk_42 (dk_at dksX1_oddOf_2 8 rfl rfl)
theorem dX1_oddOf_55 : decode cX1_oddOf 55 = .ok (.getfield 256, 3) := dk_180 1 0 (dk_at dksX1_oddOf_2 9 rfl rfl)
theorem dX1_oddOf_58 : decode cX1_oddOf 58 = .ok (.invokevirtual 274, 3) := dk_182 1 18 (dk_at dksX1_oddOf_2 12 rfl rfl)
theorem dX1_oddOf_61 : decode cX1_oddOf 61 = .ok (.ireturn, 1) := dk_172 (dk_at dksX1_oddOf_2 15 rfl rfl)
abbrev cX1_guests : ByteArray := prog_1_method_9_code
def yX1_guests : MethodName := ⟨RX1, "guests", "(LCuckooByPost$Spring;I)I"⟩
def dkwX1_guests_1 : List UInt8 := [161, 0, 10, 4, 21, 4, 120, 167, 0, 4, 3, 128, 62, 132, 4, 1, 167, 255, 222, 29, 172]
abbrev dktX1_guests_1 : List UInt8 := dkwX1_guests_1 ++ []
def dkwX1_guests_0 : List UInt8 := [3, 62, 3, 54, 4, 21, 4, 42, 180, 0, 94, 162, 0, 31, 29, 43, 180, 0, 113, 21, 4, 46, 28]
abbrev dktX1_guests_0 : List UInt8 := dkwX1_guests_0 ++ dktX1_guests_1
theorem dksX1_guests_0 : cX1_guests.data.toList.drop 0 = dktX1_guests_0 := by decide +kernel
theorem dksX1_guests_1 : cX1_guests.data.toList.drop 23 = dktX1_guests_1 := dk_seg dksX1_guests_0 23 rfl rfl
theorem dX1_guests_0 : decode cX1_guests 0 = .ok (.iconst 0, 1) := dk_3 (dk_at dksX1_guests_0 0 rfl rfl)
theorem dX1_guests_1 : decode cX1_guests 1 = .ok (.istore_n 3, 1) := dk_62 (dk_at dksX1_guests_0 1 rfl rfl)
theorem dX1_guests_2 : decode cX1_guests 2 = .ok (.iconst 0, 1) := dk_3 (dk_at dksX1_guests_0 2 rfl rfl)
theorem dX1_guests_3 : decode cX1_guests 3 = .ok (.istore 4, 2) := dk_54 4 (dk_at dksX1_guests_0 3 rfl rfl)
theorem dX1_guests_5 : decode cX1_guests 5 = .ok (.iload 4, 2) := dk_21 4 (dk_at dksX1_guests_0 5 rfl rfl)
theorem dX1_guests_7 : decode cX1_guests 7 = .ok (.aload_n 0, 1) := dk_42 (dk_at dksX1_guests_0 7 rfl rfl)
theorem dX1_guests_8 : decode cX1_guests 8 = .ok (.getfield 94, 3) := dk_180 0 94 (dk_at dksX1_guests_0 8 rfl rfl)
theorem dX1_guests_11 : decode cX1_guests 11 = .ok (.if_icmp .ge 31, 3) := dk_162 0 31 (dk_at dksX1_guests_0 11 rfl rfl)
theorem dX1_guests_14 : decode cX1_guests 14 = .ok (.iload_n 3, 1) := dk_29 (dk_at dksX1_guests_0 14 rfl rfl)
theorem dX1_guests_15 : decode cX1_guests 15 = .ok (.aload_n 1, 1) := dk_43 (dk_at dksX1_guests_0 15 rfl rfl)
theorem dX1_guests_16 : decode cX1_guests 16 = .ok (.getfield 113, 3) := dk_180 0 113 (dk_at dksX1_guests_0 16 rfl rfl)
theorem dX1_guests_19 : decode cX1_guests 19 = .ok (.iload 4, 2) := dk_21 4 (dk_at dksX1_guests_0 19 rfl rfl)
theorem dX1_guests_21 : decode cX1_guests 21 = .ok (.iaload, 1) := dk_46 (dk_at dksX1_guests_0 21 rfl rfl)
theorem dX1_guests_22 : decode cX1_guests 22 = .ok (.iload_n 2, 1) := dk_28 (dk_at dksX1_guests_0 22 rfl rfl)
theorem dX1_guests_23 : decode cX1_guests 23 = .ok (.if_icmp .lt 10, 3) := dk_161 0 10 (dk_at dksX1_guests_1 0 rfl rfl)
theorem dX1_guests_26 : decode cX1_guests 26 = .ok (.iconst 1, 1) := dk_4 (dk_at dksX1_guests_1 3 rfl rfl)
theorem dX1_guests_27 : decode cX1_guests 27 = .ok (.iload 4, 2) := dk_21 4 (dk_at dksX1_guests_1 4 rfl rfl)
theorem dX1_guests_29 : decode cX1_guests 29 = .ok (.ishl, 1) := dk_120 (dk_at dksX1_guests_1 6 rfl rfl)
theorem dX1_guests_30 : decode cX1_guests 30 = .ok (.goto 4, 3) := dk_167 0 4 (dk_at dksX1_guests_1 7 rfl rfl)
theorem dX1_guests_33 : decode cX1_guests 33 = .ok (.iconst 0, 1) := dk_3 (dk_at dksX1_guests_1 10 rfl rfl)
theorem dX1_guests_34 : decode cX1_guests 34 = .ok (.ior, 1) := dk_128 (dk_at dksX1_guests_1 11 rfl rfl)
theorem dX1_guests_35 : decode cX1_guests 35 = .ok (.istore_n 3, 1) := dk_62 (dk_at dksX1_guests_1 12 rfl rfl)
theorem dX1_guests_36 : decode cX1_guests 36 = .ok (.iinc 4 1, 3) := dk_132 4 1 (dk_at dksX1_guests_1 13 rfl rfl)
theorem dX1_guests_39 : decode cX1_guests 39 = .ok (.goto (-34), 3) := dk_167 255 222 (dk_at dksX1_guests_1 16 rfl rfl)
theorem dX1_guests_42 : decode cX1_guests 42 = .ok (.iload_n 3, 1) := dk_29 (dk_at dksX1_guests_1 19 rfl rfl)
theorem dX1_guests_43 : decode cX1_guests 43 = .ok (.ireturn, 1) := dk_172 (dk_at dksX1_guests_1 20 rfl rfl)
abbrev cX1_tint : ByteArray := prog_1_method_49_code
def yX1_tint : MethodName := ⟨RX1, "tint", "(II)I"⟩
def dkwX1_tint_1 : List UInt8 := [182, 1, 100, 172]
abbrev dktX1_tint_1 : List UInt8 := dkwX1_tint_1 ++ []
def dkwX1_tint_0 : List UInt8 := [42, 180, 0, 43, 42, 180, 0, 10, 182, 1, 45, 42, 42, 42, 180, 0, 10, 27, 28, 182, 1, 110]
abbrev dktX1_tint_0 : List UInt8 := dkwX1_tint_0 ++ dktX1_tint_1
theorem dksX1_tint_0 : cX1_tint.data.toList.drop 0 = dktX1_tint_0 := by decide +kernel
theorem dksX1_tint_1 : cX1_tint.data.toList.drop 22 = dktX1_tint_1 := dk_seg dksX1_tint_0 22 rfl rfl
theorem dX1_tint_0 : decode cX1_tint 0 = .ok (.aload_n 0, 1) := dk_42 (dk_at dksX1_tint_0 0 rfl rfl)
theorem dX1_tint_1 : decode cX1_tint 1 = .ok (.getfield 43, 3) := dk_180 0 43 (dk_at dksX1_tint_0 1 rfl rfl)
theorem dX1_tint_4 : decode cX1_tint 4 = .ok (.aload_n 0, 1) := dk_42 (dk_at dksX1_tint_0 4 rfl rfl)
theorem dX1_tint_5 : decode cX1_tint 5 = .ok (.getfield 10, 3) := dk_180 0 10 (dk_at dksX1_tint_0 5 rfl rfl)
theorem dX1_tint_8 : decode cX1_tint 8 = .ok (.invokevirtual 301, 3) := dk_182 1 45 (dk_at dksX1_tint_0 8 rfl rfl)
theorem dX1_tint_11 : decode cX1_tint 11 = .ok (.aload_n 0, 1) := dk_42 (dk_at dksX1_tint_0 11 rfl rfl)
theorem dX1_tint_12 : decode cX1_tint 12 = .ok (.aload_n 0, 1) := dk_42 (dk_at dksX1_tint_0 12 rfl rfl)
theorem dX1_tint_13 : decode cX1_tint 13 = .ok (.aload_n 0, 1) := dk_42 (dk_at dksX1_tint_0 13 rfl rfl)
theorem dX1_tint_14 : decode cX1_tint 14 = .ok (.getfield 10, 3) := dk_180 0 10 (dk_at dksX1_tint_0 14 rfl rfl)
theorem dX1_tint_17 : decode cX1_tint 17 = .ok (.iload_n 1, 1) := dk_27 (dk_at dksX1_tint_0 17 rfl rfl)
theorem dX1_tint_18 : decode cX1_tint 18 = .ok (.iload_n 2, 1) := dk_28 (dk_at dksX1_tint_0 18 rfl rfl)
theorem dX1_tint_19 : decode cX1_tint 19 = .ok (.invokevirtual 366, 3) := dk_182 1 110 (dk_at dksX1_tint_0 19 rfl rfl)
theorem dX1_tint_22 : decode cX1_tint 22 = .ok (.invokevirtual 356, 3) := dk_182 1 100 (dk_at dksX1_tint_1 0 rfl rfl)
theorem dX1_tint_25 : decode cX1_tint 25 = .ok (.ireturn, 1) := dk_172 (dk_at dksX1_tint_1 3 rfl rfl)
abbrev cX1_tints : ByteArray := prog_1_method_41_code
def yX1_tints : MethodName := ⟨RX1, "tints", "(LCuckooByPost$Spring;II)I"⟩
def dkwX1_tints_1 : List UInt8 := [159, 0, 6, 16, 254, 172, 43, 180, 1, 3, 28, 46, 54, 4, 43, 180, 1, 3, 28, 29, 79, 21, 4, 172]
abbrev dktX1_tints_1 : List UInt8 := dkwX1_tints_1 ++ []
def dkwX1_tints_0 : List UInt8 := [42, 28, 182, 0, 101, 153, 0, 10, 29, 184, 1, 61, 154, 0, 5, 2, 172, 43, 180, 0, 113, 28, 46, 4]
abbrev dktX1_tints_0 : List UInt8 := dkwX1_tints_0 ++ dktX1_tints_1
theorem dksX1_tints_0 : cX1_tints.data.toList.drop 0 = dktX1_tints_0 := by decide +kernel
theorem dksX1_tints_1 : cX1_tints.data.toList.drop 24 = dktX1_tints_1 := dk_seg dksX1_tints_0 24 rfl rfl
theorem dX1_tints_0 : decode cX1_tints 0 = .ok (.aload_n 0, 1) := dk_42 (dk_at dksX1_tints_0 0 rfl rfl)
theorem dX1_tints_1 : decode cX1_tints 1 = .ok (.iload_n 2, 1) := dk_28 (dk_at dksX1_tints_0 1 rfl rfl)
theorem dX1_tints_2 : decode cX1_tints 2 = .ok (.invokevirtual 101, 3) := dk_182 0 101 (dk_at dksX1_tints_0 2 rfl rfl)
theorem dX1_tints_5 : decode cX1_tints 5 = .ok (.ifCond .eq 10, 3) := dk_153 0 10 (dk_at dksX1_tints_0 5 rfl rfl)
theorem dX1_tints_8 : decode cX1_tints 8 = .ok (.iload_n 3, 1) := dk_29 (dk_at dksX1_tints_0 8 rfl rfl)
theorem dX1_tints_9 : decode cX1_tints 9 = .ok (.invokestatic 317, 3) := dk_184 1 61 (dk_at dksX1_tints_0 9 rfl rfl)
theorem dX1_tints_12 : decode cX1_tints 12 = .ok (.ifCond .ne 5, 3) := dk_154 0 5 (dk_at dksX1_tints_0 12 rfl rfl)
theorem dX1_tints_15 : decode cX1_tints 15 = .ok (.iconst (-1), 1) := dk_2 (dk_at dksX1_tints_0 15 rfl rfl)
theorem dX1_tints_16 : decode cX1_tints 16 = .ok (.ireturn, 1) := dk_172 (dk_at dksX1_tints_0 16 rfl rfl)
theorem dX1_tints_17 : decode cX1_tints 17 = .ok (.aload_n 1, 1) := dk_43 (dk_at dksX1_tints_0 17 rfl rfl)
theorem dX1_tints_18 : decode cX1_tints 18 = .ok (.getfield 113, 3) := dk_180 0 113 (dk_at dksX1_tints_0 18 rfl rfl)
theorem dX1_tints_21 : decode cX1_tints 21 = .ok (.iload_n 2, 1) := dk_28 (dk_at dksX1_tints_0 21 rfl rfl)
theorem dX1_tints_22 : decode cX1_tints 22 = .ok (.iaload, 1) := dk_46 (dk_at dksX1_tints_0 22 rfl rfl)
theorem dX1_tints_23 : decode cX1_tints 23 = .ok (.iconst 1, 1) := dk_4 (dk_at dksX1_tints_0 23 rfl rfl)
theorem dX1_tints_24 : decode cX1_tints 24 = .ok (.if_icmp .eq 6, 3) := dk_159 0 6 (dk_at dksX1_tints_1 0 rfl rfl)
theorem dX1_tints_27 : decode cX1_tints 27 = .ok (.bipush (-2), 2) := dk_16 254 (dk_at dksX1_tints_1 3 rfl rfl)
theorem dX1_tints_29 : decode cX1_tints 29 = .ok (.ireturn, 1) := dk_172 (dk_at dksX1_tints_1 5 rfl rfl)
theorem dX1_tints_30 : decode cX1_tints 30 = .ok (.aload_n 1, 1) := dk_43 (dk_at dksX1_tints_1 6 rfl rfl)
theorem dX1_tints_31 : decode cX1_tints 31 = .ok (.getfield 259, 3) := dk_180 1 3 (dk_at dksX1_tints_1 7 rfl rfl)
theorem dX1_tints_34 : decode cX1_tints 34 = .ok (.iload_n 2, 1) := dk_28 (dk_at dksX1_tints_1 10 rfl rfl)
theorem dX1_tints_35 : decode cX1_tints 35 = .ok (.iaload, 1) := dk_46 (dk_at dksX1_tints_1 11 rfl rfl)
theorem dX1_tints_36 : decode cX1_tints 36 = .ok (.istore 4, 2) := dk_54 4 (dk_at dksX1_tints_1 12 rfl rfl)
theorem dX1_tints_38 : decode cX1_tints 38 = .ok (.aload_n 1, 1) := dk_43 (dk_at dksX1_tints_1 14 rfl rfl)
theorem dX1_tints_39 : decode cX1_tints 39 = .ok (.getfield 259, 3) := dk_180 1 3 (dk_at dksX1_tints_1 15 rfl rfl)
theorem dX1_tints_42 : decode cX1_tints 42 = .ok (.iload_n 2, 1) := dk_28 (dk_at dksX1_tints_1 18 rfl rfl)
theorem dX1_tints_43 : decode cX1_tints 43 = .ok (.iload_n 3, 1) := dk_29 (dk_at dksX1_tints_1 19 rfl rfl)
theorem dX1_tints_44 : decode cX1_tints 44 = .ok (.iastore, 1) := dk_79 (dk_at dksX1_tints_1 20 rfl rfl)
theorem dX1_tints_45 : decode cX1_tints 45 = .ok (.iload 4, 2) := dk_21 4 (dk_at dksX1_tints_1 21 rfl rfl)
theorem dX1_tints_47 : decode cX1_tints 47 = .ok (.ireturn, 1) := dk_172 (dk_at dksX1_tints_1 23 rfl rfl)
abbrev cX1_exchange : ByteArray := prog_1_method_50_code
def yX1_exchange : MethodName := ⟨RX1, "exchange", "(II)I"⟩
def dkwX1_exchange_1 : List UInt8 := [182, 1, 100, 172]
abbrev dktX1_exchange_1 : List UInt8 := dkwX1_exchange_1 ++ []
def dkwX1_exchange_0 : List UInt8 := [42, 180, 0, 43, 42, 180, 0, 10, 182, 1, 45, 42, 42, 42, 180, 0, 10, 27, 28, 182, 1, 113]
abbrev dktX1_exchange_0 : List UInt8 := dkwX1_exchange_0 ++ dktX1_exchange_1
theorem dksX1_exchange_0 : cX1_exchange.data.toList.drop 0 = dktX1_exchange_0 := by decide +kernel
theorem dksX1_exchange_1 : cX1_exchange.data.toList.drop 22 = dktX1_exchange_1 := dk_seg dksX1_exchange_0 22 rfl rfl
theorem dX1_exchange_0 : decode cX1_exchange 0 = .ok (.aload_n 0, 1) := dk_42 (dk_at dksX1_exchange_0 0 rfl rfl)
theorem dX1_exchange_1 : decode cX1_exchange 1 = .ok (.getfield 43, 3) := dk_180 0 43 (dk_at dksX1_exchange_0 1 rfl rfl)
theorem dX1_exchange_4 : decode cX1_exchange 4 = .ok (.aload_n 0, 1) := dk_42 (dk_at dksX1_exchange_0 4 rfl rfl)
theorem dX1_exchange_5 : decode cX1_exchange 5 = .ok (.getfield 10, 3) := dk_180 0 10 (dk_at dksX1_exchange_0 5 rfl rfl)
theorem dX1_exchange_8 : decode cX1_exchange 8 = .ok (.invokevirtual 301, 3) := dk_182 1 45 (dk_at dksX1_exchange_0 8 rfl rfl)
theorem dX1_exchange_11 : decode cX1_exchange 11 = .ok (.aload_n 0, 1) := dk_42 (dk_at dksX1_exchange_0 11 rfl rfl)
theorem dX1_exchange_12 : decode cX1_exchange 12 = .ok (.aload_n 0, 1) := dk_42 (dk_at dksX1_exchange_0 12 rfl rfl)
theorem dX1_exchange_13 : decode cX1_exchange 13 = .ok (.aload_n 0, 1) := dk_42 (dk_at dksX1_exchange_0 13 rfl rfl)
theorem dX1_exchange_14 : decode cX1_exchange 14 = .ok (.getfield 10, 3) := dk_180 0 10 (dk_at dksX1_exchange_0 14 rfl rfl)
theorem dX1_exchange_17 : decode cX1_exchange 17 = .ok (.iload_n 1, 1) := dk_27 (dk_at dksX1_exchange_0 17 rfl rfl)
theorem dX1_exchange_18 : decode cX1_exchange 18 = .ok (.iload_n 2, 1) := dk_28 (dk_at dksX1_exchange_0 18 rfl rfl)
theorem dX1_exchange_19 : decode cX1_exchange 19 = .ok (.invokevirtual 369, 3) := dk_182 1 113 (dk_at dksX1_exchange_0 19 rfl rfl)
theorem dX1_exchange_22 : decode cX1_exchange 22 = .ok (.invokevirtual 356, 3) := dk_182 1 100 (dk_at dksX1_exchange_1 0 rfl rfl)
theorem dX1_exchange_25 : decode cX1_exchange 25 = .ok (.ireturn, 1) := dk_172 (dk_at dksX1_exchange_1 3 rfl rfl)
abbrev cX1_exchanges : ByteArray := prog_1_method_43_code
def yX1_exchanges : MethodName := ⟨RX1, "exchanges", "(LCuckooByPost$Spring;II)I"⟩
def dkwX1_exchanges_2 : List UInt8 := [180, 0, 197, 28, 46, 43, 180, 0, 197, 29, 46, 96, 172]
abbrev dktX1_exchanges_2 : List UInt8 := dkwX1_exchanges_2 ++ []
def dkwX1_exchanges_1 : List UInt8 := [28, 29, 184, 1, 72, 43, 180, 0, 194, 28, 29, 184, 1, 72, 43, 180, 0, 197, 28, 29, 184, 1, 72, 43]
abbrev dktX1_exchanges_1 : List UInt8 := dkwX1_exchanges_1 ++ dktX1_exchanges_2
def dkwX1_exchanges_0 : List UInt8 := [42, 28, 29, 182, 1, 68, 154, 0, 5, 2, 172, 43, 180, 0, 188, 28, 29, 184, 1, 72, 43, 180, 0, 191]
abbrev dktX1_exchanges_0 : List UInt8 := dkwX1_exchanges_0 ++ dktX1_exchanges_1
theorem dksX1_exchanges_0 : cX1_exchanges.data.toList.drop 0 = dktX1_exchanges_0 := by decide +kernel
theorem dksX1_exchanges_1 : cX1_exchanges.data.toList.drop 24 = dktX1_exchanges_1 := dk_seg dksX1_exchanges_0 24 rfl rfl
theorem dksX1_exchanges_2 : cX1_exchanges.data.toList.drop 48 = dktX1_exchanges_2 := dk_seg dksX1_exchanges_1 24 rfl rfl
theorem dX1_exchanges_0 : decode cX1_exchanges 0 = .ok (.aload_n 0, 1) := dk_42 (dk_at dksX1_exchanges_0 0 rfl rfl)
theorem dX1_exchanges_1 : decode cX1_exchanges 1 = .ok (.iload_n 2, 1) := dk_28 (dk_at dksX1_exchanges_0 1 rfl rfl)
theorem dX1_exchanges_2 : decode cX1_exchanges 2 = .ok (.iload_n 3, 1) := dk_29 (dk_at dksX1_exchanges_0 2 rfl rfl)
theorem dX1_exchanges_3 : decode cX1_exchanges 3 = .ok (.invokevirtual 324, 3) := dk_182 1 68 (dk_at dksX1_exchanges_0 3 rfl rfl)
theorem dX1_exchanges_6 : decode cX1_exchanges 6 = .ok (.ifCond .ne 5, 3) := dk_154 0 5 (dk_at dksX1_exchanges_0 6 rfl rfl)
theorem dX1_exchanges_9 : decode cX1_exchanges 9 = .ok (.iconst (-1), 1) := dk_2 (dk_at dksX1_exchanges_0 9 rfl rfl)
theorem dX1_exchanges_10 : decode cX1_exchanges 10 = .ok (.ireturn, 1) := dk_172 (dk_at dksX1_exchanges_0 10 rfl rfl)
theorem dX1_exchanges_11 : decode cX1_exchanges 11 = .ok (.aload_n 1, 1) := dk_43 (dk_at dksX1_exchanges_0 11 rfl rfl)
theorem dX1_exchanges_12 : decode cX1_exchanges 12 = .ok (.getfield 188, 3) := dk_180 0 188 (dk_at dksX1_exchanges_0 12 rfl rfl)
theorem dX1_exchanges_15 : decode cX1_exchanges 15 = .ok (.iload_n 2, 1) := dk_28 (dk_at dksX1_exchanges_0 15 rfl rfl)
theorem dX1_exchanges_16 : decode cX1_exchanges 16 = .ok (.iload_n 3, 1) := dk_29 (dk_at dksX1_exchanges_0 16 rfl rfl)
theorem dX1_exchanges_17 : decode cX1_exchanges 17 = .ok (.invokestatic 328, 3) := dk_184 1 72 (dk_at dksX1_exchanges_0 17 rfl rfl)
theorem dX1_exchanges_20 : decode cX1_exchanges 20 = .ok (.aload_n 1, 1) := dk_43 (dk_at dksX1_exchanges_0 20 rfl rfl)
theorem dX1_exchanges_21 : decode cX1_exchanges 21 = .ok (.getfield 191, 3) := dk_180 0 191 (dk_at dksX1_exchanges_0 21 rfl rfl)
theorem dX1_exchanges_24 : decode cX1_exchanges 24 = .ok (.iload_n 2, 1) := dk_28 (dk_at dksX1_exchanges_1 0 rfl rfl)
theorem dX1_exchanges_25 : decode cX1_exchanges 25 = .ok (.iload_n 3, 1) := dk_29 (dk_at dksX1_exchanges_1 1 rfl rfl)
theorem dX1_exchanges_26 : decode cX1_exchanges 26 = .ok (.invokestatic 328, 3) := dk_184 1 72 (dk_at dksX1_exchanges_1 2 rfl rfl)
theorem dX1_exchanges_29 : decode cX1_exchanges 29 = .ok (.aload_n 1, 1) := dk_43 (dk_at dksX1_exchanges_1 5 rfl rfl)
theorem dX1_exchanges_30 : decode cX1_exchanges 30 = .ok (.getfield 194, 3) := dk_180 0 194 (dk_at dksX1_exchanges_1 6 rfl rfl)
theorem dX1_exchanges_33 : decode cX1_exchanges 33 = .ok (.iload_n 2, 1) := dk_28 (dk_at dksX1_exchanges_1 9 rfl rfl)
theorem dX1_exchanges_34 : decode cX1_exchanges 34 = .ok (.iload_n 3, 1) := dk_29 (dk_at dksX1_exchanges_1 10 rfl rfl)
theorem dX1_exchanges_35 : decode cX1_exchanges 35 = .ok (.invokestatic 328, 3) := dk_184 1 72 (dk_at dksX1_exchanges_1 11 rfl rfl)
theorem dX1_exchanges_38 : decode cX1_exchanges 38 = .ok (.aload_n 1, 1) := dk_43 (dk_at dksX1_exchanges_1 14 rfl rfl)
theorem dX1_exchanges_39 : decode cX1_exchanges 39 = .ok (.getfield 197, 3) := dk_180 0 197 (dk_at dksX1_exchanges_1 15 rfl rfl)
theorem dX1_exchanges_42 : decode cX1_exchanges 42 = .ok (.iload_n 2, 1) := dk_28 (dk_at dksX1_exchanges_1 18 rfl rfl)
theorem dX1_exchanges_43 : decode cX1_exchanges 43 = .ok (.iload_n 3, 1) := dk_29 (dk_at dksX1_exchanges_1 19 rfl rfl)
theorem dX1_exchanges_44 : decode cX1_exchanges 44 = .ok (.invokestatic 328, 3) := dk_184 1 72 (dk_at dksX1_exchanges_1 20 rfl rfl)
theorem dX1_exchanges_47 : decode cX1_exchanges 47 = .ok (.aload_n 1, 1) := dk_43 (dk_at dksX1_exchanges_1 23 rfl rfl)
theorem dX1_exchanges_48 : decode cX1_exchanges 48 = .ok (.getfield 197, 3) := dk_180 0 197 (dk_at dksX1_exchanges_2 0 rfl rfl)
theorem dX1_exchanges_51 : decode cX1_exchanges 51 = .ok (.iload_n 2, 1) := dk_28 (dk_at dksX1_exchanges_2 3 rfl rfl)
theorem dX1_exchanges_52 : decode cX1_exchanges 52 = .ok (.iaload, 1) := dk_46 (dk_at dksX1_exchanges_2 4 rfl rfl)
theorem dX1_exchanges_53 : decode cX1_exchanges 53 = .ok (.aload_n 1, 1) := dk_43 (dk_at dksX1_exchanges_2 5 rfl rfl)
theorem dX1_exchanges_54 : decode cX1_exchanges 54 = .ok (.getfield 197, 3) := dk_180 0 197 (dk_at dksX1_exchanges_2 6 rfl rfl)
theorem dX1_exchanges_57 : decode cX1_exchanges 57 = .ok (.iload_n 3, 1) := dk_29 (dk_at dksX1_exchanges_2 9 rfl rfl)
theorem dX1_exchanges_58 : decode cX1_exchanges 58 = .ok (.iaload, 1) := dk_46 (dk_at dksX1_exchanges_2 10 rfl rfl)
theorem dX1_exchanges_59 : decode cX1_exchanges 59 = .ok (.iadd, 1) := dk_96 (dk_at dksX1_exchanges_2 11 rfl rfl)
theorem dX1_exchanges_60 : decode cX1_exchanges 60 = .ok (.ireturn, 1) := dk_172 (dk_at dksX1_exchanges_2 12 rfl rfl)
abbrev cX1_isPair : ByteArray := prog_1_method_6_code
def yX1_isPair : MethodName := ⟨RX1, "isPair", "(II)Z"⟩
def dkwX1_isPair_1 : List UInt8 := [167, 0, 4, 3, 172]
abbrev dktX1_isPair_1 : List UInt8 := dkwX1_isPair_1 ++ []
def dkwX1_isPair_0 : List UInt8 := [42, 27, 182, 0, 101, 153, 0, 20, 42, 28, 182, 0, 101, 153, 0, 12, 27, 28, 159, 0, 7, 4]
abbrev dktX1_isPair_0 : List UInt8 := dkwX1_isPair_0 ++ dktX1_isPair_1
theorem dksX1_isPair_0 : cX1_isPair.data.toList.drop 0 = dktX1_isPair_0 := by decide +kernel
theorem dksX1_isPair_1 : cX1_isPair.data.toList.drop 22 = dktX1_isPair_1 := dk_seg dksX1_isPair_0 22 rfl rfl
theorem dX1_isPair_0 : decode cX1_isPair 0 = .ok (.aload_n 0, 1) := dk_42 (dk_at dksX1_isPair_0 0 rfl rfl)
theorem dX1_isPair_1 : decode cX1_isPair 1 = .ok (.iload_n 1, 1) := dk_27 (dk_at dksX1_isPair_0 1 rfl rfl)
theorem dX1_isPair_2 : decode cX1_isPair 2 = .ok (.invokevirtual 101, 3) := dk_182 0 101 (dk_at dksX1_isPair_0 2 rfl rfl)
theorem dX1_isPair_5 : decode cX1_isPair 5 = .ok (.ifCond .eq 20, 3) := dk_153 0 20 (dk_at dksX1_isPair_0 5 rfl rfl)
theorem dX1_isPair_8 : decode cX1_isPair 8 = .ok (.aload_n 0, 1) := dk_42 (dk_at dksX1_isPair_0 8 rfl rfl)
theorem dX1_isPair_9 : decode cX1_isPair 9 = .ok (.iload_n 2, 1) := dk_28 (dk_at dksX1_isPair_0 9 rfl rfl)
theorem dX1_isPair_10 : decode cX1_isPair 10 = .ok (.invokevirtual 101, 3) := dk_182 0 101 (dk_at dksX1_isPair_0 10 rfl rfl)
theorem dX1_isPair_13 : decode cX1_isPair 13 = .ok (.ifCond .eq 12, 3) := dk_153 0 12 (dk_at dksX1_isPair_0 13 rfl rfl)
theorem dX1_isPair_16 : decode cX1_isPair 16 = .ok (.iload_n 1, 1) := dk_27 (dk_at dksX1_isPair_0 16 rfl rfl)
theorem dX1_isPair_17 : decode cX1_isPair 17 = .ok (.iload_n 2, 1) := dk_28 (dk_at dksX1_isPair_0 17 rfl rfl)
theorem dX1_isPair_18 : decode cX1_isPair 18 = .ok (.if_icmp .eq 7, 3) := dk_159 0 7 (dk_at dksX1_isPair_0 18 rfl rfl)
theorem dX1_isPair_21 : decode cX1_isPair 21 = .ok (.iconst 1, 1) := dk_4 (dk_at dksX1_isPair_0 21 rfl rfl)
theorem dX1_isPair_22 : decode cX1_isPair 22 = .ok (.goto 4, 3) := dk_167 0 4 (dk_at dksX1_isPair_1 0 rfl rfl)
theorem dX1_isPair_25 : decode cX1_isPair 25 = .ok (.iconst 0, 1) := dk_3 (dk_at dksX1_isPair_1 3 rfl rfl)
theorem dX1_isPair_26 : decode cX1_isPair 26 = .ok (.ireturn, 1) := dk_172 (dk_at dksX1_isPair_1 4 rfl rfl)
abbrev cX1_swaps : ByteArray := prog_1_method_42_code
def yX1_swaps : MethodName := ⟨RX1, "swaps", "([III)V"⟩
def dkwX1_swaps_0 : List UInt8 := [42, 27, 46, 62, 42, 27, 42, 28, 46, 79, 42, 28, 29, 79, 177]
abbrev dktX1_swaps_0 : List UInt8 := dkwX1_swaps_0 ++ []
theorem dksX1_swaps_0 : cX1_swaps.data.toList.drop 0 = dktX1_swaps_0 := by decide +kernel
theorem dX1_swaps_0 : decode cX1_swaps 0 = .ok (.aload_n 0, 1) := dk_42 (dk_at dksX1_swaps_0 0 rfl rfl)
theorem dX1_swaps_1 : decode cX1_swaps 1 = .ok (.iload_n 1, 1) := dk_27 (dk_at dksX1_swaps_0 1 rfl rfl)
theorem dX1_swaps_2 : decode cX1_swaps 2 = .ok (.iaload, 1) := dk_46 (dk_at dksX1_swaps_0 2 rfl rfl)
theorem dX1_swaps_3 : decode cX1_swaps 3 = .ok (.istore_n 3, 1) := dk_62 (dk_at dksX1_swaps_0 3 rfl rfl)
theorem dX1_swaps_4 : decode cX1_swaps 4 = .ok (.aload_n 0, 1) := dk_42 (dk_at dksX1_swaps_0 4 rfl rfl)
theorem dX1_swaps_5 : decode cX1_swaps 5 = .ok (.iload_n 1, 1) := dk_27 (dk_at dksX1_swaps_0 5 rfl rfl)
theorem dX1_swaps_6 : decode cX1_swaps 6 = .ok (.aload_n 0, 1) := dk_42 (dk_at dksX1_swaps_0 6 rfl rfl)
theorem dX1_swaps_7 : decode cX1_swaps 7 = .ok (.iload_n 2, 1) := dk_28 (dk_at dksX1_swaps_0 7 rfl rfl)
theorem dX1_swaps_8 : decode cX1_swaps 8 = .ok (.iaload, 1) := dk_46 (dk_at dksX1_swaps_0 8 rfl rfl)
theorem dX1_swaps_9 : decode cX1_swaps 9 = .ok (.iastore, 1) := dk_79 (dk_at dksX1_swaps_0 9 rfl rfl)
theorem dX1_swaps_10 : decode cX1_swaps 10 = .ok (.aload_n 0, 1) := dk_42 (dk_at dksX1_swaps_0 10 rfl rfl)
theorem dX1_swaps_11 : decode cX1_swaps 11 = .ok (.iload_n 2, 1) := dk_28 (dk_at dksX1_swaps_0 11 rfl rfl)
theorem dX1_swaps_12 : decode cX1_swaps 12 = .ok (.iload_n 3, 1) := dk_29 (dk_at dksX1_swaps_0 12 rfl rfl)
theorem dX1_swaps_13 : decode cX1_swaps 13 = .ok (.iastore, 1) := dk_79 (dk_at dksX1_swaps_0 13 rfl rfl)
theorem dX1_swaps_14 : decode cX1_swaps 14 = .ok (.return_, 1) := dk_177 (dk_at dksX1_swaps_0 14 rfl rfl)
abbrev cX1_days : ByteArray := prog_1_method_51_code
def yX1_days : MethodName := ⟨RX1, "days", "(I)I"⟩
def dkwX1_days_3 : List UInt8 := [42, 42, 180, 0, 10, 4, 182, 1, 76, 133, 182, 1, 125, 42, 180, 0, 10, 180, 1, 88, 28, 100, 172]
abbrev dktX1_days_3 : List UInt8 := dkwX1_days_3 ++ []
def dkwX1_days_2 : List UInt8 := [27, 182, 1, 118, 42, 3, 181, 1, 122, 42, 42, 180, 0, 10, 180, 1, 82, 29, 100, 133, 182, 1, 125, 42]
abbrev dktX1_days_2 : List UInt8 := dkwX1_days_2 ++ dktX1_days_3
def dkwX1_days_1 : List UInt8 := [182, 1, 49, 42, 180, 0, 10, 180, 1, 88, 61, 42, 180, 0, 10, 180, 1, 82, 62, 42, 42, 180, 0, 10]
abbrev dktX1_days_1 : List UInt8 := dkwX1_days_1 ++ dktX1_days_2
def dkwX1_days_0 : List UInt8 := [27, 133, 9, 20, 1, 116, 184, 0, 97, 154, 0, 5, 2, 172, 27, 158, 0, 11, 42, 42, 180, 0, 10]
abbrev dktX1_days_0 : List UInt8 := dkwX1_days_0 ++ dktX1_days_1
theorem dksX1_days_0 : cX1_days.data.toList.drop 0 = dktX1_days_0 := by decide +kernel
theorem dksX1_days_1 : cX1_days.data.toList.drop 23 = dktX1_days_1 := dk_seg dksX1_days_0 23 rfl rfl
theorem dksX1_days_2 : cX1_days.data.toList.drop 47 = dktX1_days_2 := dk_seg dksX1_days_1 24 rfl rfl
theorem dksX1_days_3 : cX1_days.data.toList.drop 71 = dktX1_days_3 := dk_seg dksX1_days_2 24 rfl rfl
theorem dX1_days_0 : decode cX1_days 0 = .ok (.iload_n 1, 1) := dk_27 (dk_at dksX1_days_0 0 rfl rfl)
theorem dX1_days_1 : decode cX1_days 1 = .ok (.i2l, 1) := dk_133 (dk_at dksX1_days_0 1 rfl rfl)
theorem dX1_days_2 : decode cX1_days 2 = .ok (.lconst 0, 1) := dk_9 (dk_at dksX1_days_0 2 rfl rfl)
theorem dX1_days_3 : decode cX1_days 3 = .ok (.ldc2_w 372, 3) := dk_20 1 116 (dk_at dksX1_days_0 3 rfl rfl)
theorem dX1_days_6 : decode cX1_days 6 = .ok (.invokestatic 97, 3) := dk_184 0 97 (dk_at dksX1_days_0 6 rfl rfl)
theorem dX1_days_9 : decode cX1_days 9 = .ok (.ifCond .ne 5, 3) := dk_154 0 5 (dk_at dksX1_days_0 9 rfl rfl)
theorem dX1_days_12 : decode cX1_days 12 = .ok (.iconst (-1), 1) := dk_2 (dk_at dksX1_days_0 12 rfl rfl)
theorem dX1_days_13 : decode cX1_days 13 = .ok (.ireturn, 1) := dk_172 (dk_at dksX1_days_0 13 rfl rfl)
theorem dX1_days_14 : decode cX1_days 14 = .ok (.iload_n 1, 1) := dk_27 (dk_at dksX1_days_0 14 rfl rfl)
theorem dX1_days_15 : decode cX1_days 15 = .ok (.ifCond .le 11, 3) := dk_158 0 11 (dk_at dksX1_days_0 15 rfl rfl)
theorem dX1_days_18 : decode cX1_days 18 = .ok (.aload_n 0, 1) := dk_42 (dk_at dksX1_days_0 18 rfl rfl)
theorem dX1_days_19 : decode cX1_days 19 = .ok (.aload_n 0, 1) := dk_42 (dk_at dksX1_days_0 19 rfl rfl)
theorem dX1_days_20 : decode cX1_days 20 = .ok (.getfield 10, 3) := dk_180 0 10 (dk_at dksX1_days_0 20 rfl rfl)
theorem dX1_days_23 : decode cX1_days 23 = .ok (.invokevirtual 305, 3) := dk_182 1 49 (dk_at dksX1_days_1 0 rfl rfl)
theorem dX1_days_26 : decode cX1_days 26 = .ok (.aload_n 0, 1) := dk_42 (dk_at dksX1_days_1 3 rfl rfl)
theorem dX1_days_27 : decode cX1_days 27 = .ok (.getfield 10, 3) := dk_180 0 10 (dk_at dksX1_days_1 4 rfl rfl)
theorem dX1_days_30 : decode cX1_days 30 = .ok (.getfield 344, 3) := dk_180 1 88 (dk_at dksX1_days_1 7 rfl rfl)
theorem dX1_days_33 : decode cX1_days 33 = .ok (.istore_n 2, 1) := dk_61 (dk_at dksX1_days_1 10 rfl rfl)
theorem dX1_days_34 : decode cX1_days 34 = .ok (.aload_n 0, 1) := dk_42 (dk_at dksX1_days_1 11 rfl rfl)
theorem dX1_days_35 : decode cX1_days 35 = .ok (.getfield 10, 3) := dk_180 0 10 (dk_at dksX1_days_1 12 rfl rfl)
theorem dX1_days_38 : decode cX1_days 38 = .ok (.getfield 338, 3) := dk_180 1 82 (dk_at dksX1_days_1 15 rfl rfl)
theorem dX1_days_41 : decode cX1_days 41 = .ok (.istore_n 3, 1) := dk_62 (dk_at dksX1_days_1 18 rfl rfl)
theorem dX1_days_42 : decode cX1_days 42 = .ok (.aload_n 0, 1) := dk_42 (dk_at dksX1_days_1 19 rfl rfl)
theorem dX1_days_43 : decode cX1_days 43 = .ok (.aload_n 0, 1) := dk_42 (dk_at dksX1_days_1 20 rfl rfl)
theorem dX1_days_44 : decode cX1_days 44 = .ok (.getfield 10, 3) := dk_180 0 10 (dk_at dksX1_days_1 21 rfl rfl)
theorem dX1_days_47 : decode cX1_days 47 = .ok (.iload_n 1, 1) := dk_27 (dk_at dksX1_days_2 0 rfl rfl)
theorem dX1_days_48 : decode cX1_days 48 = .ok (.invokevirtual 374, 3) := dk_182 1 118 (dk_at dksX1_days_2 1 rfl rfl)
theorem dX1_days_51 : decode cX1_days 51 = .ok (.aload_n 0, 1) := dk_42 (dk_at dksX1_days_2 4 rfl rfl)
theorem dX1_days_52 : decode cX1_days 52 = .ok (.iconst 0, 1) := dk_3 (dk_at dksX1_days_2 5 rfl rfl)
theorem dX1_days_53 : decode cX1_days 53 = .ok (.putfield 378, 3) := dk_181 1 122 (dk_at dksX1_days_2 6 rfl rfl)
theorem dX1_days_56 : decode cX1_days 56 = .ok (.aload_n 0, 1) := dk_42 (dk_at dksX1_days_2 9 rfl rfl)
theorem dX1_days_57 : decode cX1_days 57 = .ok (.aload_n 0, 1) := dk_42 (dk_at dksX1_days_2 10 rfl rfl)
theorem dX1_days_58 : decode cX1_days 58 = .ok (.getfield 10, 3) := dk_180 0 10 (dk_at dksX1_days_2 11 rfl rfl)
theorem dX1_days_61 : decode cX1_days 61 = .ok (.getfield 338, 3) := dk_180 1 82 (dk_at dksX1_days_2 14 rfl rfl)
theorem dX1_days_64 : decode cX1_days 64 = .ok (.iload_n 3, 1) := dk_29 (dk_at dksX1_days_2 17 rfl rfl)
theorem dX1_days_65 : decode cX1_days 65 = .ok (.isub, 1) := dk_100 (dk_at dksX1_days_2 18 rfl rfl)
theorem dX1_days_66 : decode cX1_days 66 = .ok (.i2l, 1) := dk_133 (dk_at dksX1_days_2 19 rfl rfl)
theorem dX1_days_67 : decode cX1_days 67 = .ok (.invokevirtual 381, 3) := dk_182 1 125 (dk_at dksX1_days_2 20 rfl rfl)
theorem dX1_days_70 : decode cX1_days 70 = .ok (.aload_n 0, 1) := dk_42 (dk_at dksX1_days_2 23 rfl rfl)
theorem dX1_days_71 : decode cX1_days 71 = .ok (.aload_n 0, 1) := dk_42 (dk_at dksX1_days_3 0 rfl rfl)
theorem dX1_days_72 : decode cX1_days 72 = .ok (.aload_n 0, 1) := dk_42 (dk_at dksX1_days_3 1 rfl rfl)
theorem dX1_days_73 : decode cX1_days 73 = .ok (.getfield 10, 3) := dk_180 0 10 (dk_at dksX1_days_3 2 rfl rfl)
theorem dX1_days_76 : decode cX1_days 76 = .ok (.iconst 1, 1) := dk_4 (dk_at dksX1_days_3 5 rfl rfl)
theorem dX1_days_77 : decode cX1_days 77 = .ok (.invokevirtual 332, 3) := dk_182 1 76 (dk_at dksX1_days_3 6 rfl rfl)
theorem dX1_days_80 : decode cX1_days 80 = .ok (.i2l, 1) := dk_133 (dk_at dksX1_days_3 9 rfl rfl)
theorem dX1_days_81 : decode cX1_days 81 = .ok (.invokevirtual 381, 3) := dk_182 1 125 (dk_at dksX1_days_3 10 rfl rfl)
theorem dX1_days_84 : decode cX1_days 84 = .ok (.aload_n 0, 1) := dk_42 (dk_at dksX1_days_3 13 rfl rfl)
theorem dX1_days_85 : decode cX1_days 85 = .ok (.getfield 10, 3) := dk_180 0 10 (dk_at dksX1_days_3 14 rfl rfl)
theorem dX1_days_88 : decode cX1_days 88 = .ok (.getfield 344, 3) := dk_180 1 88 (dk_at dksX1_days_3 17 rfl rfl)
theorem dX1_days_91 : decode cX1_days 91 = .ok (.iload_n 2, 1) := dk_28 (dk_at dksX1_days_3 20 rfl rfl)
theorem dX1_days_92 : decode cX1_days 92 = .ok (.isub, 1) := dk_100 (dk_at dksX1_days_3 21 rfl rfl)
theorem dX1_days_93 : decode cX1_days 93 = .ok (.ireturn, 1) := dk_172 (dk_at dksX1_days_3 22 rfl rfl)
abbrev cX1_daysGo : ByteArray := prog_1_method_45_code
def yX1_daysGo : MethodName := ⟨RX1, "daysGo", "(LCuckooByPost$Spring;I)V"⟩
def dkwX1_daysGo_0 : List UInt8 := [3, 62, 29, 28, 162, 0, 14, 42, 43, 182, 1, 94, 132, 3, 1, 167, 255, 243, 177]
abbrev dktX1_daysGo_0 : List UInt8 := dkwX1_daysGo_0 ++ []
theorem dksX1_daysGo_0 : cX1_daysGo.data.toList.drop 0 = dktX1_daysGo_0 := by decide +kernel
theorem dX1_daysGo_0 : decode cX1_daysGo 0 = .ok (.iconst 0, 1) := dk_3 (dk_at dksX1_daysGo_0 0 rfl rfl)
theorem dX1_daysGo_1 : decode cX1_daysGo 1 = .ok (.istore_n 3, 1) := dk_62 (dk_at dksX1_daysGo_0 1 rfl rfl)
theorem dX1_daysGo_2 : decode cX1_daysGo 2 = .ok (.iload_n 3, 1) := dk_29 (dk_at dksX1_daysGo_0 2 rfl rfl)
theorem dX1_daysGo_3 : decode cX1_daysGo 3 = .ok (.iload_n 2, 1) := dk_28 (dk_at dksX1_daysGo_0 3 rfl rfl)
theorem dX1_daysGo_4 : decode cX1_daysGo 4 = .ok (.if_icmp .ge 14, 3) := dk_162 0 14 (dk_at dksX1_daysGo_0 4 rfl rfl)
theorem dX1_daysGo_7 : decode cX1_daysGo 7 = .ok (.aload_n 0, 1) := dk_42 (dk_at dksX1_daysGo_0 7 rfl rfl)
theorem dX1_daysGo_8 : decode cX1_daysGo 8 = .ok (.aload_n 1, 1) := dk_43 (dk_at dksX1_daysGo_0 8 rfl rfl)
theorem dX1_daysGo_9 : decode cX1_daysGo 9 = .ok (.invokevirtual 350, 3) := dk_182 1 94 (dk_at dksX1_daysGo_0 9 rfl rfl)
theorem dX1_daysGo_12 : decode cX1_daysGo 12 = .ok (.iinc 3 1, 3) := dk_132 3 1 (dk_at dksX1_daysGo_0 12 rfl rfl)
theorem dX1_daysGo_15 : decode cX1_daysGo 15 = .ok (.goto (-13), 3) := dk_167 255 243 (dk_at dksX1_daysGo_0 15 rfl rfl)
theorem dX1_daysGo_18 : decode cX1_daysGo 18 = .ok (.return_, 1) := dk_177 (dk_at dksX1_daysGo_0 18 rfl rfl)
abbrev cX1_dayGoes : ByteArray := prog_1_method_44_code
def yX1_dayGoes : MethodName := ⟨RX1, "dayGoes", "(LCuckooByPost$Spring;)V"⟩
def dkwX1_dayGoes_12 : List UInt8 := [167, 255, 214, 43, 89, 180, 1, 91, 4, 96, 181, 1, 91, 177]
abbrev dktX1_dayGoes_12 : List UInt8 := dkwX1_dayGoes_12 ++ []
def dkwX1_dayGoes_11 : List UInt8 := [153, 0, 19, 16, 99, 43, 180, 0, 110, 29, 46, 4, 96, 184, 0, 129, 167, 0, 4, 2, 79, 132, 3, 1]
abbrev dktX1_dayGoes_11 : List UInt8 := dkwX1_dayGoes_11 ++ dktX1_dayGoes_12
def dkwX1_dayGoes_10 : List UInt8 := [167, 255, 181, 3, 62, 29, 42, 180, 0, 94, 162, 0, 40, 43, 180, 0, 110, 29, 43, 29, 182, 0, 107]
abbrev dktX1_dayGoes_10 : List UInt8 := dkwX1_dayGoes_10 ++ dktX1_dayGoes_11
def dkwX1_dayGoes_9 : List UInt8 := [162, 0, 6, 167, 0, 18, 43, 29, 182, 1, 79, 43, 89, 180, 1, 88, 4, 96, 181, 1, 88, 132, 3, 1]
abbrev dktX1_dayGoes_9 : List UInt8 := dkwX1_dayGoes_9 ++ dktX1_dayGoes_10
def dkwX1_dayGoes_8 : List UInt8 := [180, 1, 32, 29, 46, 43, 180, 0, 191, 29, 46, 96, 184, 0, 129, 79, 43, 180, 1, 32, 29, 46, 16, 30]
abbrev dktX1_dayGoes_8 : List UInt8 := dkwX1_dayGoes_8 ++ dktX1_dayGoes_9
def dkwX1_dayGoes_7 : List UInt8 := [162, 0, 73, 28, 29, 184, 1, 85, 154, 0, 6, 167, 0, 56, 43, 180, 1, 32, 29, 16, 99, 43]
abbrev dktX1_dayGoes_7 : List UInt8 := dkwX1_dayGoes_7 ++ dktX1_dayGoes_8
def dkwX1_dayGoes_6 : List UInt8 := [5, 79, 43, 180, 0, 197, 29, 3, 79, 132, 3, 1, 167, 255, 159, 3, 62, 29, 42, 180, 0, 94]
abbrev dktX1_dayGoes_6 : List UInt8 := dkwX1_dayGoes_6 ++ dktX1_dayGoes_7
def dkwX1_dayGoes_5 : List UInt8 := [4, 96, 184, 0, 129, 79, 43, 180, 1, 29, 29, 46, 6, 162, 0, 6, 167, 0, 17, 43, 180, 0, 113, 29]
abbrev dktX1_dayGoes_5 : List UInt8 := dkwX1_dayGoes_5 ++ dktX1_dayGoes_6
def dkwX1_dayGoes_4 : List UInt8 := [180, 1, 82, 4, 96, 181, 1, 82, 167, 0, 49, 43, 180, 1, 29, 29, 16, 99, 43, 180, 1, 29, 29, 46]
abbrev dktX1_dayGoes_4 : List UInt8 := dkwX1_dayGoes_4 ++ dktX1_dayGoes_5
def dkwX1_dayGoes_3 : List UInt8 := [159, 0, 6, 167, 0, 76, 42, 180, 0, 46, 29, 51, 153, 0, 21, 43, 29, 182, 1, 79, 43, 89]
abbrev dktX1_dayGoes_3 : List UInt8 := dkwX1_dayGoes_3 ++ dktX1_dayGoes_4
def dkwX1_dayGoes_2 : List UInt8 := [84, 132, 3, 1, 167, 255, 214, 3, 62, 29, 42, 180, 0, 94, 162, 0, 95, 43, 180, 0, 113, 29, 46, 4]
abbrev dktX1_dayGoes_2 : List UInt8 := dkwX1_dayGoes_2 ++ dktX1_dayGoes_3
def dkwX1_dayGoes_1 : List UInt8 := [180, 0, 113, 29, 46, 4, 160, 0, 17, 42, 43, 29, 182, 1, 35, 8, 164, 0, 7, 4, 167, 0, 4, 3]
abbrev dktX1_dayGoes_1 : List UInt8 := dkwX1_dayGoes_1 ++ dktX1_dayGoes_2
def dkwX1_dayGoes_0 : List UInt8 := [42, 43, 5, 182, 1, 76, 61, 3, 62, 29, 42, 180, 0, 94, 162, 0, 40, 42, 180, 0, 46, 29, 43]
abbrev dktX1_dayGoes_0 : List UInt8 := dkwX1_dayGoes_0 ++ dktX1_dayGoes_1
theorem dksX1_dayGoes_0 : cX1_dayGoes.data.toList.drop 0 = dktX1_dayGoes_0 := by decide +kernel
theorem dksX1_dayGoes_1 : cX1_dayGoes.data.toList.drop 23 = dktX1_dayGoes_1 := dk_seg dksX1_dayGoes_0 23 rfl rfl
theorem dksX1_dayGoes_2 : cX1_dayGoes.data.toList.drop 47 = dktX1_dayGoes_2 := dk_seg dksX1_dayGoes_1 24 rfl rfl
theorem dksX1_dayGoes_3 : cX1_dayGoes.data.toList.drop 71 = dktX1_dayGoes_3 := dk_seg dksX1_dayGoes_2 24 rfl rfl
theorem dksX1_dayGoes_4 : cX1_dayGoes.data.toList.drop 93 = dktX1_dayGoes_4 := dk_seg dksX1_dayGoes_3 22 rfl rfl
theorem dksX1_dayGoes_5 : cX1_dayGoes.data.toList.drop 117 = dktX1_dayGoes_5 := dk_seg dksX1_dayGoes_4 24 rfl rfl
theorem dksX1_dayGoes_6 : cX1_dayGoes.data.toList.drop 141 = dktX1_dayGoes_6 := dk_seg dksX1_dayGoes_5 24 rfl rfl
theorem dksX1_dayGoes_7 : cX1_dayGoes.data.toList.drop 163 = dktX1_dayGoes_7 := dk_seg dksX1_dayGoes_6 22 rfl rfl
theorem dksX1_dayGoes_8 : cX1_dayGoes.data.toList.drop 185 = dktX1_dayGoes_8 := dk_seg dksX1_dayGoes_7 22 rfl rfl
theorem dksX1_dayGoes_9 : cX1_dayGoes.data.toList.drop 209 = dktX1_dayGoes_9 := dk_seg dksX1_dayGoes_8 24 rfl rfl
theorem dksX1_dayGoes_10 : cX1_dayGoes.data.toList.drop 233 = dktX1_dayGoes_10 := dk_seg dksX1_dayGoes_9 24 rfl rfl
theorem dksX1_dayGoes_11 : cX1_dayGoes.data.toList.drop 256 = dktX1_dayGoes_11 := dk_seg dksX1_dayGoes_10 23 rfl rfl
theorem dksX1_dayGoes_12 : cX1_dayGoes.data.toList.drop 280 = dktX1_dayGoes_12 := dk_seg dksX1_dayGoes_11 24 rfl rfl
theorem dX1_dayGoes_0 : decode cX1_dayGoes 0 = .ok (.aload_n 0, 1) := dk_42 (dk_at dksX1_dayGoes_0 0 rfl rfl)
theorem dX1_dayGoes_1 : decode cX1_dayGoes 1 = .ok (.aload_n 1, 1) := dk_43 (dk_at dksX1_dayGoes_0 1 rfl rfl)
theorem dX1_dayGoes_2 : decode cX1_dayGoes 2 = .ok (.iconst 2, 1) := dk_5 (dk_at dksX1_dayGoes_0 2 rfl rfl)
theorem dX1_dayGoes_3 : decode cX1_dayGoes 3 = .ok (.invokevirtual 332, 3) := dk_182 1 76 (dk_at dksX1_dayGoes_0 3 rfl rfl)
theorem dX1_dayGoes_6 : decode cX1_dayGoes 6 = .ok (.istore_n 2, 1) := dk_61 (dk_at dksX1_dayGoes_0 6 rfl rfl)
theorem dX1_dayGoes_7 : decode cX1_dayGoes 7 = .ok (.iconst 0, 1) := dk_3 (dk_at dksX1_dayGoes_0 7 rfl rfl)
theorem dX1_dayGoes_8 : decode cX1_dayGoes 8 = .ok (.istore_n 3, 1) := dk_62 (dk_at dksX1_dayGoes_0 8 rfl rfl)
theorem dX1_dayGoes_9 : decode cX1_dayGoes 9 = .ok (.iload_n 3, 1) := dk_29 (dk_at dksX1_dayGoes_0 9 rfl rfl)
theorem dX1_dayGoes_10 : decode cX1_dayGoes 10 = .ok (.aload_n 0, 1) := dk_42 (dk_at dksX1_dayGoes_0 10 rfl rfl)
theorem dX1_dayGoes_11 : decode cX1_dayGoes 11 = .ok (.getfield 94, 3) := dk_180 0 94 (dk_at dksX1_dayGoes_0 11 rfl rfl)
theorem dX1_dayGoes_14 : decode cX1_dayGoes 14 = .ok (.if_icmp .ge 40, 3) := dk_162 0 40 (dk_at dksX1_dayGoes_0 14 rfl rfl)
theorem dX1_dayGoes_17 : decode cX1_dayGoes 17 = .ok (.aload_n 0, 1) := dk_42 (dk_at dksX1_dayGoes_0 17 rfl rfl)
theorem dX1_dayGoes_18 : decode cX1_dayGoes 18 = .ok (.getfield 46, 3) := dk_180 0 46 (dk_at dksX1_dayGoes_0 18 rfl rfl)
theorem dX1_dayGoes_21 : decode cX1_dayGoes 21 = .ok (.iload_n 3, 1) := dk_29 (dk_at dksX1_dayGoes_0 21 rfl rfl)
theorem dX1_dayGoes_22 : decode cX1_dayGoes 22 = .ok (.aload_n 1, 1) := dk_43 (dk_at dksX1_dayGoes_0 22 rfl rfl)
theorem dX1_dayGoes_23 : decode cX1_dayGoes 23 = .ok (.getfield 113, 3) := dk_180 0 113 (dk_at dksX1_dayGoes_1 0 rfl rfl)
theorem dX1_dayGoes_26 : decode cX1_dayGoes 26 = .ok (.iload_n 3, 1) := dk_29 (dk_at dksX1_dayGoes_1 3 rfl rfl)
theorem dX1_dayGoes_27 : decode cX1_dayGoes 27 = .ok (.iaload, 1) := dk_46 (dk_at dksX1_dayGoes_1 4 rfl rfl)
theorem dX1_dayGoes_28 : decode cX1_dayGoes 28 = .ok (.iconst 1, 1) := dk_4 (dk_at dksX1_dayGoes_1 5 rfl rfl)
theorem dX1_dayGoes_29 : decode cX1_dayGoes 29 = .ok (.if_icmp .ne 17, 3) := dk_160 0 17 (dk_at dksX1_dayGoes_1 6 rfl rfl)
theorem dX1_dayGoes_32 : decode cX1_dayGoes 32 = .ok (.aload_n 0, 1) := dk_42 (dk_at dksX1_dayGoes_1 9 rfl rfl)
theorem dX1_dayGoes_33 : decode cX1_dayGoes 33 = .ok (.aload_n 1, 1) := dk_43 (dk_at dksX1_dayGoes_1 10 rfl rfl)
theorem dX1_dayGoes_34 : decode cX1_dayGoes 34 = .ok (.iload_n 3, 1) := dk_29 (dk_at dksX1_dayGoes_1 11 rfl rfl)
theorem dX1_dayGoes_35 : decode cX1_dayGoes 35 = .ok (.invokevirtual 291, 3) := dk_182 1 35 (dk_at dksX1_dayGoes_1 12 rfl rfl)
theorem dX1_dayGoes_38 : decode cX1_dayGoes 38 = .ok (.iconst 5, 1) := dk_8 (dk_at dksX1_dayGoes_1 15 rfl rfl)
theorem dX1_dayGoes_39 : decode cX1_dayGoes 39 = .ok (.if_icmp .le 7, 3) := dk_164 0 7 (dk_at dksX1_dayGoes_1 16 rfl rfl)
theorem dX1_dayGoes_42 : decode cX1_dayGoes 42 = .ok (.iconst 1, 1) := dk_4 (dk_at dksX1_dayGoes_1 19 rfl rfl)
theorem dX1_dayGoes_43 : decode cX1_dayGoes 43 = .ok (.goto 4, 3) := dk_167 0 4 (dk_at dksX1_dayGoes_1 20 rfl rfl)
theorem dX1_dayGoes_46 : decode cX1_dayGoes 46 = .ok (.iconst 0, 1) := dk_3 (dk_at dksX1_dayGoes_1 23 rfl rfl)
theorem dX1_dayGoes_47 : decode cX1_dayGoes 47 = .ok (.bastore, 1) := dk_84 (dk_at dksX1_dayGoes_2 0 rfl rfl)
theorem dX1_dayGoes_48 : decode cX1_dayGoes 48 = .ok (.iinc 3 1, 3) := dk_132 3 1 (dk_at dksX1_dayGoes_2 1 rfl rfl)
theorem dX1_dayGoes_51 : decode cX1_dayGoes 51 = .ok (.goto (-42), 3) := dk_167 255 214 (dk_at dksX1_dayGoes_2 4 rfl rfl)
theorem dX1_dayGoes_54 : decode cX1_dayGoes 54 = .ok (.iconst 0, 1) := dk_3 (dk_at dksX1_dayGoes_2 7 rfl rfl)
theorem dX1_dayGoes_55 : decode cX1_dayGoes 55 = .ok (.istore_n 3, 1) := dk_62 (dk_at dksX1_dayGoes_2 8 rfl rfl)
theorem dX1_dayGoes_56 : decode cX1_dayGoes 56 = .ok (.iload_n 3, 1) := dk_29 (dk_at dksX1_dayGoes_2 9 rfl rfl)
theorem dX1_dayGoes_57 : decode cX1_dayGoes 57 = .ok (.aload_n 0, 1) := dk_42 (dk_at dksX1_dayGoes_2 10 rfl rfl)
theorem dX1_dayGoes_58 : decode cX1_dayGoes 58 = .ok (.getfield 94, 3) := dk_180 0 94 (dk_at dksX1_dayGoes_2 11 rfl rfl)
theorem dX1_dayGoes_61 : decode cX1_dayGoes 61 = .ok (.if_icmp .ge 95, 3) := dk_162 0 95 (dk_at dksX1_dayGoes_2 14 rfl rfl)
theorem dX1_dayGoes_64 : decode cX1_dayGoes 64 = .ok (.aload_n 1, 1) := dk_43 (dk_at dksX1_dayGoes_2 17 rfl rfl)
theorem dX1_dayGoes_65 : decode cX1_dayGoes 65 = .ok (.getfield 113, 3) := dk_180 0 113 (dk_at dksX1_dayGoes_2 18 rfl rfl)
theorem dX1_dayGoes_68 : decode cX1_dayGoes 68 = .ok (.iload_n 3, 1) := dk_29 (dk_at dksX1_dayGoes_2 21 rfl rfl)
theorem dX1_dayGoes_69 : decode cX1_dayGoes 69 = .ok (.iaload, 1) := dk_46 (dk_at dksX1_dayGoes_2 22 rfl rfl)
theorem dX1_dayGoes_70 : decode cX1_dayGoes 70 = .ok (.iconst 1, 1) := dk_4 (dk_at dksX1_dayGoes_2 23 rfl rfl)
theorem dX1_dayGoes_71 : decode cX1_dayGoes 71 = .ok (.if_icmp .eq 6, 3) := dk_159 0 6 (dk_at dksX1_dayGoes_3 0 rfl rfl)
theorem dX1_dayGoes_74 : decode cX1_dayGoes 74 = .ok (.goto 76, 3) := dk_167 0 76 (dk_at dksX1_dayGoes_3 3 rfl rfl)
theorem dX1_dayGoes_77 : decode cX1_dayGoes 77 = .ok (.aload_n 0, 1) := dk_42 (dk_at dksX1_dayGoes_3 6 rfl rfl)
theorem dX1_dayGoes_78 : decode cX1_dayGoes 78 = .ok (.getfield 46, 3) := dk_180 0 46 (dk_at dksX1_dayGoes_3 7 rfl rfl)
theorem dX1_dayGoes_81 : decode cX1_dayGoes 81 = .ok (.iload_n 3, 1) := dk_29 (dk_at dksX1_dayGoes_3 10 rfl rfl)
theorem dX1_dayGoes_82 : decode cX1_dayGoes 82 = .ok (.baload, 1) := dk_51 (dk_at dksX1_dayGoes_3 11 rfl rfl)
theorem dX1_dayGoes_83 : decode cX1_dayGoes 83 = .ok (.ifCond .eq 21, 3) := dk_153 0 21 (dk_at dksX1_dayGoes_3 12 rfl rfl)
theorem dX1_dayGoes_86 : decode cX1_dayGoes 86 = .ok (.aload_n 1, 1) := dk_43 (dk_at dksX1_dayGoes_3 15 rfl rfl)
theorem dX1_dayGoes_87 : decode cX1_dayGoes 87 = .ok (.iload_n 3, 1) := dk_29 (dk_at dksX1_dayGoes_3 16 rfl rfl)
theorem dX1_dayGoes_88 : decode cX1_dayGoes 88 = .ok (.invokevirtual 335, 3) := dk_182 1 79 (dk_at dksX1_dayGoes_3 17 rfl rfl)
theorem dX1_dayGoes_91 : decode cX1_dayGoes 91 = .ok (.aload_n 1, 1) := dk_43 (dk_at dksX1_dayGoes_3 20 rfl rfl)
theorem dX1_dayGoes_92 : decode cX1_dayGoes 92 = .ok (.dup, 1) := dk_89 (dk_at dksX1_dayGoes_3 21 rfl rfl)
theorem dX1_dayGoes_93 : decode cX1_dayGoes 93 = .ok (.getfield 338, 3) := dk_180 1 82 (dk_at dksX1_dayGoes_4 0 rfl rfl)
theorem dX1_dayGoes_96 : decode cX1_dayGoes 96 = .ok (.iconst 1, 1) := dk_4 (dk_at dksX1_dayGoes_4 3 rfl rfl)
theorem dX1_dayGoes_97 : decode cX1_dayGoes 97 = .ok (.iadd, 1) := dk_96 (dk_at dksX1_dayGoes_4 4 rfl rfl)
theorem dX1_dayGoes_98 : decode cX1_dayGoes 98 = .ok (.putfield 338, 3) := dk_181 1 82 (dk_at dksX1_dayGoes_4 5 rfl rfl)
theorem dX1_dayGoes_101 : decode cX1_dayGoes 101 = .ok (.goto 49, 3) := dk_167 0 49 (dk_at dksX1_dayGoes_4 8 rfl rfl)
theorem dX1_dayGoes_104 : decode cX1_dayGoes 104 = .ok (.aload_n 1, 1) := dk_43 (dk_at dksX1_dayGoes_4 11 rfl rfl)
theorem dX1_dayGoes_105 : decode cX1_dayGoes 105 = .ok (.getfield 285, 3) := dk_180 1 29 (dk_at dksX1_dayGoes_4 12 rfl rfl)
theorem dX1_dayGoes_108 : decode cX1_dayGoes 108 = .ok (.iload_n 3, 1) := dk_29 (dk_at dksX1_dayGoes_4 15 rfl rfl)
theorem dX1_dayGoes_109 : decode cX1_dayGoes 109 = .ok (.bipush 99, 2) := dk_16 99 (dk_at dksX1_dayGoes_4 16 rfl rfl)
theorem dX1_dayGoes_111 : decode cX1_dayGoes 111 = .ok (.aload_n 1, 1) := dk_43 (dk_at dksX1_dayGoes_4 18 rfl rfl)
theorem dX1_dayGoes_112 : decode cX1_dayGoes 112 = .ok (.getfield 285, 3) := dk_180 1 29 (dk_at dksX1_dayGoes_4 19 rfl rfl)
theorem dX1_dayGoes_115 : decode cX1_dayGoes 115 = .ok (.iload_n 3, 1) := dk_29 (dk_at dksX1_dayGoes_4 22 rfl rfl)
theorem dX1_dayGoes_116 : decode cX1_dayGoes 116 = .ok (.iaload, 1) := dk_46 (dk_at dksX1_dayGoes_4 23 rfl rfl)
theorem dX1_dayGoes_117 : decode cX1_dayGoes 117 = .ok (.iconst 1, 1) := dk_4 (dk_at dksX1_dayGoes_5 0 rfl rfl)
theorem dX1_dayGoes_118 : decode cX1_dayGoes 118 = .ok (.iadd, 1) := dk_96 (dk_at dksX1_dayGoes_5 1 rfl rfl)
theorem dX1_dayGoes_119 : decode cX1_dayGoes 119 = .ok (.invokestatic 129, 3) := dk_184 0 129 (dk_at dksX1_dayGoes_5 2 rfl rfl)
theorem dX1_dayGoes_122 : decode cX1_dayGoes 122 = .ok (.iastore, 1) := dk_79 (dk_at dksX1_dayGoes_5 5 rfl rfl)
theorem dX1_dayGoes_123 : decode cX1_dayGoes 123 = .ok (.aload_n 1, 1) := dk_43 (dk_at dksX1_dayGoes_5 6 rfl rfl)
theorem dX1_dayGoes_124 : decode cX1_dayGoes 124 = .ok (.getfield 285, 3) := dk_180 1 29 (dk_at dksX1_dayGoes_5 7 rfl rfl)
theorem dX1_dayGoes_127 : decode cX1_dayGoes 127 = .ok (.iload_n 3, 1) := dk_29 (dk_at dksX1_dayGoes_5 10 rfl rfl)
theorem dX1_dayGoes_128 : decode cX1_dayGoes 128 = .ok (.iaload, 1) := dk_46 (dk_at dksX1_dayGoes_5 11 rfl rfl)
theorem dX1_dayGoes_129 : decode cX1_dayGoes 129 = .ok (.iconst 3, 1) := dk_6 (dk_at dksX1_dayGoes_5 12 rfl rfl)
theorem dX1_dayGoes_130 : decode cX1_dayGoes 130 = .ok (.if_icmp .ge 6, 3) := dk_162 0 6 (dk_at dksX1_dayGoes_5 13 rfl rfl)
theorem dX1_dayGoes_133 : decode cX1_dayGoes 133 = .ok (.goto 17, 3) := dk_167 0 17 (dk_at dksX1_dayGoes_5 16 rfl rfl)
theorem dX1_dayGoes_136 : decode cX1_dayGoes 136 = .ok (.aload_n 1, 1) := dk_43 (dk_at dksX1_dayGoes_5 19 rfl rfl)
theorem dX1_dayGoes_137 : decode cX1_dayGoes 137 = .ok (.getfield 113, 3) := dk_180 0 113 (dk_at dksX1_dayGoes_5 20 rfl rfl)
theorem dX1_dayGoes_140 : decode cX1_dayGoes 140 = .ok (.iload_n 3, 1) := dk_29 (dk_at dksX1_dayGoes_5 23 rfl rfl)
theorem dX1_dayGoes_141 : decode cX1_dayGoes 141 = .ok (.iconst 2, 1) := dk_5 (dk_at dksX1_dayGoes_6 0 rfl rfl)
theorem dX1_dayGoes_142 : decode cX1_dayGoes 142 = .ok (.iastore, 1) := dk_79 (dk_at dksX1_dayGoes_6 1 rfl rfl)
theorem dX1_dayGoes_143 : decode cX1_dayGoes 143 = .ok (.aload_n 1, 1) := dk_43 (dk_at dksX1_dayGoes_6 2 rfl rfl)
theorem dX1_dayGoes_144 : decode cX1_dayGoes 144 = .ok (.getfield 197, 3) := dk_180 0 197 (dk_at dksX1_dayGoes_6 3 rfl rfl)
theorem dX1_dayGoes_147 : decode cX1_dayGoes 147 = .ok (.iload_n 3, 1) := dk_29 (dk_at dksX1_dayGoes_6 6 rfl rfl)
theorem dX1_dayGoes_148 : decode cX1_dayGoes 148 = .ok (.iconst 0, 1) := dk_3 (dk_at dksX1_dayGoes_6 7 rfl rfl)
theorem dX1_dayGoes_149 : decode cX1_dayGoes 149 = .ok (.iastore, 1) := dk_79 (dk_at dksX1_dayGoes_6 8 rfl rfl)
theorem dX1_dayGoes_150 : decode cX1_dayGoes 150 = .ok (.iinc 3 1, 3) := dk_132 3 1 (dk_at dksX1_dayGoes_6 9 rfl rfl)
theorem dX1_dayGoes_153 : decode cX1_dayGoes 153 = .ok (.goto (-97), 3) := dk_167 255 159 (dk_at dksX1_dayGoes_6 12 rfl rfl)
theorem dX1_dayGoes_156 : decode cX1_dayGoes 156 = .ok (.iconst 0, 1) := dk_3 (dk_at dksX1_dayGoes_6 15 rfl rfl)
theorem dX1_dayGoes_157 : decode cX1_dayGoes 157 = .ok (.istore_n 3, 1) := dk_62 (dk_at dksX1_dayGoes_6 16 rfl rfl)
theorem dX1_dayGoes_158 : decode cX1_dayGoes 158 = .ok (.iload_n 3, 1) := dk_29 (dk_at dksX1_dayGoes_6 17 rfl rfl)
theorem dX1_dayGoes_159 : decode cX1_dayGoes 159 = .ok (.aload_n 0, 1) := dk_42 (dk_at dksX1_dayGoes_6 18 rfl rfl)
theorem dX1_dayGoes_160 : decode cX1_dayGoes 160 = .ok (.getfield 94, 3) := dk_180 0 94 (dk_at dksX1_dayGoes_6 19 rfl rfl)
theorem dX1_dayGoes_163 : decode cX1_dayGoes 163 = .ok (.if_icmp .ge 73, 3) := dk_162 0 73 (dk_at dksX1_dayGoes_7 0 rfl rfl)
theorem dX1_dayGoes_166 : decode cX1_dayGoes 166 = .ok (.iload_n 2, 1) := dk_28 (dk_at dksX1_dayGoes_7 3 rfl rfl)
theorem dX1_dayGoes_167 : decode cX1_dayGoes 167 = .ok (.iload_n 3, 1) := dk_29 (dk_at dksX1_dayGoes_7 4 rfl rfl)
theorem dX1_dayGoes_168 : decode cX1_dayGoes 168 = .ok (.invokestatic 341, 3) := dk_184 1 85 (dk_at dksX1_dayGoes_7 5 rfl rfl)
theorem dX1_dayGoes_171 : decode cX1_dayGoes 171 = .ok (.ifCond .ne 6, 3) := dk_154 0 6 (dk_at dksX1_dayGoes_7 8 rfl rfl)
theorem dX1_dayGoes_174 : decode cX1_dayGoes 174 = .ok (.goto 56, 3) := dk_167 0 56 (dk_at dksX1_dayGoes_7 11 rfl rfl)
theorem dX1_dayGoes_177 : decode cX1_dayGoes 177 = .ok (.aload_n 1, 1) := dk_43 (dk_at dksX1_dayGoes_7 14 rfl rfl)
theorem dX1_dayGoes_178 : decode cX1_dayGoes 178 = .ok (.getfield 288, 3) := dk_180 1 32 (dk_at dksX1_dayGoes_7 15 rfl rfl)
theorem dX1_dayGoes_181 : decode cX1_dayGoes 181 = .ok (.iload_n 3, 1) := dk_29 (dk_at dksX1_dayGoes_7 18 rfl rfl)
theorem dX1_dayGoes_182 : decode cX1_dayGoes 182 = .ok (.bipush 99, 2) := dk_16 99 (dk_at dksX1_dayGoes_7 19 rfl rfl)
theorem dX1_dayGoes_184 : decode cX1_dayGoes 184 = .ok (.aload_n 1, 1) := dk_43 (dk_at dksX1_dayGoes_7 21 rfl rfl)
theorem dX1_dayGoes_185 : decode cX1_dayGoes 185 = .ok (.getfield 288, 3) := dk_180 1 32 (dk_at dksX1_dayGoes_8 0 rfl rfl)
theorem dX1_dayGoes_188 : decode cX1_dayGoes 188 = .ok (.iload_n 3, 1) := dk_29 (dk_at dksX1_dayGoes_8 3 rfl rfl)
theorem dX1_dayGoes_189 : decode cX1_dayGoes 189 = .ok (.iaload, 1) := dk_46 (dk_at dksX1_dayGoes_8 4 rfl rfl)
theorem dX1_dayGoes_190 : decode cX1_dayGoes 190 = .ok (.aload_n 1, 1) := dk_43 (dk_at dksX1_dayGoes_8 5 rfl rfl)
theorem dX1_dayGoes_191 : decode cX1_dayGoes 191 = .ok (.getfield 191, 3) := dk_180 0 191 (dk_at dksX1_dayGoes_8 6 rfl rfl)
theorem dX1_dayGoes_194 : decode cX1_dayGoes 194 = .ok (.iload_n 3, 1) := dk_29 (dk_at dksX1_dayGoes_8 9 rfl rfl)
theorem dX1_dayGoes_195 : decode cX1_dayGoes 195 = .ok (.iaload, 1) := dk_46 (dk_at dksX1_dayGoes_8 10 rfl rfl)
theorem dX1_dayGoes_196 : decode cX1_dayGoes 196 = .ok (.iadd, 1) := dk_96 (dk_at dksX1_dayGoes_8 11 rfl rfl)
theorem dX1_dayGoes_197 : decode cX1_dayGoes 197 = .ok (.invokestatic 129, 3) := dk_184 0 129 (dk_at dksX1_dayGoes_8 12 rfl rfl)
theorem dX1_dayGoes_200 : decode cX1_dayGoes 200 = .ok (.iastore, 1) := dk_79 (dk_at dksX1_dayGoes_8 15 rfl rfl)
theorem dX1_dayGoes_201 : decode cX1_dayGoes 201 = .ok (.aload_n 1, 1) := dk_43 (dk_at dksX1_dayGoes_8 16 rfl rfl)
theorem dX1_dayGoes_202 : decode cX1_dayGoes 202 = .ok (.getfield 288, 3) := dk_180 1 32 (dk_at dksX1_dayGoes_8 17 rfl rfl)
theorem dX1_dayGoes_205 : decode cX1_dayGoes 205 = .ok (.iload_n 3, 1) := dk_29 (dk_at dksX1_dayGoes_8 20 rfl rfl)
theorem dX1_dayGoes_206 : decode cX1_dayGoes 206 = .ok (.iaload, 1) := dk_46 (dk_at dksX1_dayGoes_8 21 rfl rfl)
theorem dX1_dayGoes_207 : decode cX1_dayGoes 207 = .ok (.bipush 30, 2) := dk_16 30 (dk_at dksX1_dayGoes_8 22 rfl rfl)
theorem dX1_dayGoes_209 : decode cX1_dayGoes 209 = .ok (.if_icmp .ge 6, 3) := dk_162 0 6 (dk_at dksX1_dayGoes_9 0 rfl rfl)
theorem dX1_dayGoes_212 : decode cX1_dayGoes 212 = .ok (.goto 18, 3) := dk_167 0 18 (dk_at dksX1_dayGoes_9 3 rfl rfl)
theorem dX1_dayGoes_215 : decode cX1_dayGoes 215 = .ok (.aload_n 1, 1) := dk_43 (dk_at dksX1_dayGoes_9 6 rfl rfl)
theorem dX1_dayGoes_216 : decode cX1_dayGoes 216 = .ok (.iload_n 3, 1) := dk_29 (dk_at dksX1_dayGoes_9 7 rfl rfl)
theorem dX1_dayGoes_217 : decode cX1_dayGoes 217 = .ok (.invokevirtual 335, 3) := dk_182 1 79 (dk_at dksX1_dayGoes_9 8 rfl rfl)
theorem dX1_dayGoes_220 : decode cX1_dayGoes 220 = .ok (.aload_n 1, 1) := dk_43 (dk_at dksX1_dayGoes_9 11 rfl rfl)
theorem dX1_dayGoes_221 : decode cX1_dayGoes 221 = .ok (.dup, 1) := dk_89 (dk_at dksX1_dayGoes_9 12 rfl rfl)
theorem dX1_dayGoes_222 : decode cX1_dayGoes 222 = .ok (.getfield 344, 3) := dk_180 1 88 (dk_at dksX1_dayGoes_9 13 rfl rfl)
theorem dX1_dayGoes_225 : decode cX1_dayGoes 225 = .ok (.iconst 1, 1) := dk_4 (dk_at dksX1_dayGoes_9 16 rfl rfl)
theorem dX1_dayGoes_226 : decode cX1_dayGoes 226 = .ok (.iadd, 1) := dk_96 (dk_at dksX1_dayGoes_9 17 rfl rfl)
theorem dX1_dayGoes_227 : decode cX1_dayGoes 227 = .ok (.putfield 344, 3) := dk_181 1 88 (dk_at dksX1_dayGoes_9 18 rfl rfl)
theorem dX1_dayGoes_230 : decode cX1_dayGoes 230 = .ok (.iinc 3 1, 3) := dk_132 3 1 (dk_at dksX1_dayGoes_9 21 rfl rfl)
theorem dX1_dayGoes_233 : decode cX1_dayGoes 233 = .ok (.goto (-75), 3) := dk_167 255 181 (dk_at dksX1_dayGoes_10 0 rfl rfl)
theorem dX1_dayGoes_236 : decode cX1_dayGoes 236 = .ok (.iconst 0, 1) := dk_3 (dk_at dksX1_dayGoes_10 3 rfl rfl)
theorem dX1_dayGoes_237 : decode cX1_dayGoes 237 = .ok (.istore_n 3, 1) := dk_62 (dk_at dksX1_dayGoes_10 4 rfl rfl)
theorem dX1_dayGoes_238 : decode cX1_dayGoes 238 = .ok (.iload_n 3, 1) := dk_29 (dk_at dksX1_dayGoes_10 5 rfl rfl)
theorem dX1_dayGoes_239 : decode cX1_dayGoes 239 = .ok (.aload_n 0, 1) := dk_42 (dk_at dksX1_dayGoes_10 6 rfl rfl)
theorem dX1_dayGoes_240 : decode cX1_dayGoes 240 = .ok (.getfield 94, 3) := dk_180 0 94 (dk_at dksX1_dayGoes_10 7 rfl rfl)
theorem dX1_dayGoes_243 : decode cX1_dayGoes 243 = .ok (.if_icmp .ge 40, 3) := dk_162 0 40 (dk_at dksX1_dayGoes_10 10 rfl rfl)
theorem dX1_dayGoes_246 : decode cX1_dayGoes 246 = .ok (.aload_n 1, 1) := dk_43 (dk_at dksX1_dayGoes_10 13 rfl rfl)
theorem dX1_dayGoes_247 : decode cX1_dayGoes 247 = .ok (.getfield 110, 3) := dk_180 0 110 (dk_at dksX1_dayGoes_10 14 rfl rfl)
theorem dX1_dayGoes_250 : decode cX1_dayGoes 250 = .ok (.iload_n 3, 1) := dk_29 (dk_at dksX1_dayGoes_10 17 rfl rfl)
theorem dX1_dayGoes_251 : decode cX1_dayGoes 251 = .ok (.aload_n 1, 1) := dk_43 (dk_at dksX1_dayGoes_10 18 rfl rfl)
theorem dX1_dayGoes_252 : decode cX1_dayGoes 252 = .ok (.iload_n 3, 1) := dk_29 (dk_at dksX1_dayGoes_10 19 rfl rfl)
theorem dX1_dayGoes_253 : decode cX1_dayGoes 253 = .ok (.invokevirtual 107, 3) := dk_182 0 107 (dk_at dksX1_dayGoes_10 20 rfl rfl)
theorem dX1_dayGoes_256 : decode cX1_dayGoes 256 = .ok (.ifCond .eq 19, 3) := dk_153 0 19 (dk_at dksX1_dayGoes_11 0 rfl rfl)
theorem dX1_dayGoes_259 : decode cX1_dayGoes 259 = .ok (.bipush 99, 2) := dk_16 99 (dk_at dksX1_dayGoes_11 3 rfl rfl)
theorem dX1_dayGoes_261 : decode cX1_dayGoes 261 = .ok (.aload_n 1, 1) := dk_43 (dk_at dksX1_dayGoes_11 5 rfl rfl)
theorem dX1_dayGoes_262 : decode cX1_dayGoes 262 = .ok (.getfield 110, 3) := dk_180 0 110 (dk_at dksX1_dayGoes_11 6 rfl rfl)
theorem dX1_dayGoes_265 : decode cX1_dayGoes 265 = .ok (.iload_n 3, 1) := dk_29 (dk_at dksX1_dayGoes_11 9 rfl rfl)
theorem dX1_dayGoes_266 : decode cX1_dayGoes 266 = .ok (.iaload, 1) := dk_46 (dk_at dksX1_dayGoes_11 10 rfl rfl)
theorem dX1_dayGoes_267 : decode cX1_dayGoes 267 = .ok (.iconst 1, 1) := dk_4 (dk_at dksX1_dayGoes_11 11 rfl rfl)
theorem dX1_dayGoes_268 : decode cX1_dayGoes 268 = .ok (.iadd, 1) := dk_96 (dk_at dksX1_dayGoes_11 12 rfl rfl)
theorem dX1_dayGoes_269 : decode cX1_dayGoes 269 = .ok (.invokestatic 129, 3) := dk_184 0 129 (dk_at dksX1_dayGoes_11 13 rfl rfl)
theorem dX1_dayGoes_272 : decode cX1_dayGoes 272 = .ok (.goto 4, 3) := dk_167 0 4 (dk_at dksX1_dayGoes_11 16 rfl rfl)
theorem dX1_dayGoes_275 : decode cX1_dayGoes 275 = .ok (.iconst (-1), 1) := dk_2 (dk_at dksX1_dayGoes_11 19 rfl rfl)
theorem dX1_dayGoes_276 : decode cX1_dayGoes 276 = .ok (.iastore, 1) := dk_79 (dk_at dksX1_dayGoes_11 20 rfl rfl)
theorem dX1_dayGoes_277 : decode cX1_dayGoes 277 = .ok (.iinc 3 1, 3) := dk_132 3 1 (dk_at dksX1_dayGoes_11 21 rfl rfl)
theorem dX1_dayGoes_280 : decode cX1_dayGoes 280 = .ok (.goto (-42), 3) := dk_167 255 214 (dk_at dksX1_dayGoes_12 0 rfl rfl)
theorem dX1_dayGoes_283 : decode cX1_dayGoes 283 = .ok (.aload_n 1, 1) := dk_43 (dk_at dksX1_dayGoes_12 3 rfl rfl)
theorem dX1_dayGoes_284 : decode cX1_dayGoes 284 = .ok (.dup, 1) := dk_89 (dk_at dksX1_dayGoes_12 4 rfl rfl)
theorem dX1_dayGoes_285 : decode cX1_dayGoes 285 = .ok (.getfield 347, 3) := dk_180 1 91 (dk_at dksX1_dayGoes_12 5 rfl rfl)
theorem dX1_dayGoes_288 : decode cX1_dayGoes 288 = .ok (.iconst 1, 1) := dk_4 (dk_at dksX1_dayGoes_12 8 rfl rfl)
theorem dX1_dayGoes_289 : decode cX1_dayGoes 289 = .ok (.iadd, 1) := dk_96 (dk_at dksX1_dayGoes_12 9 rfl rfl)
theorem dX1_dayGoes_290 : decode cX1_dayGoes 290 = .ok (.putfield 347, 3) := dk_181 1 91 (dk_at dksX1_dayGoes_12 10 rfl rfl)
theorem dX1_dayGoes_293 : decode cX1_dayGoes 293 = .ok (.return_, 1) := dk_177 (dk_at dksX1_dayGoes_12 13 rfl rfl)
abbrev cX1_has : ByteArray := prog_1_method_3_code
def yX1_has : MethodName := ⟨RX1, "has", "(II)Z"⟩
def dkwX1_has_0 : List UInt8 := [26, 27, 122, 4, 126, 4, 160, 0, 7, 4, 167, 0, 4, 3, 172]
abbrev dktX1_has_0 : List UInt8 := dkwX1_has_0 ++ []
theorem dksX1_has_0 : cX1_has.data.toList.drop 0 = dktX1_has_0 := by decide +kernel
theorem dX1_has_0 : decode cX1_has 0 = .ok (.iload_n 0, 1) := dk_26 (dk_at dksX1_has_0 0 rfl rfl)
theorem dX1_has_1 : decode cX1_has 1 = .ok (.iload_n 1, 1) := dk_27 (dk_at dksX1_has_0 1 rfl rfl)
theorem dX1_has_2 : decode cX1_has 2 = .ok (.ishr, 1) := dk_122 (dk_at dksX1_has_0 2 rfl rfl)
theorem dX1_has_3 : decode cX1_has 3 = .ok (.iconst 1, 1) := dk_4 (dk_at dksX1_has_0 3 rfl rfl)
theorem dX1_has_4 : decode cX1_has 4 = .ok (.iand, 1) := dk_126 (dk_at dksX1_has_0 4 rfl rfl)
theorem dX1_has_5 : decode cX1_has 5 = .ok (.iconst 1, 1) := dk_4 (dk_at dksX1_has_0 5 rfl rfl)
theorem dX1_has_6 : decode cX1_has 6 = .ok (.if_icmp .ne 7, 3) := dk_160 0 7 (dk_at dksX1_has_0 6 rfl rfl)
theorem dX1_has_9 : decode cX1_has 9 = .ok (.iconst 1, 1) := dk_4 (dk_at dksX1_has_0 9 rfl rfl)
theorem dX1_has_10 : decode cX1_has 10 = .ok (.goto 4, 3) := dk_167 0 4 (dk_at dksX1_has_0 10 rfl rfl)
theorem dX1_has_13 : decode cX1_has 13 = .ok (.iconst 0, 1) := dk_3 (dk_at dksX1_has_0 13 rfl rfl)
theorem dX1_has_14 : decode cX1_has 14 = .ok (.ireturn, 1) := dk_172 (dk_at dksX1_has_0 14 rfl rfl)
abbrev cX1_tells : ByteArray := prog_1_method_107_code
def yX1_tells : MethodName := ⟨RX1, "tells", "(J)V"⟩
def dkwX1_tells_0 : List UInt8 := [42, 180, 0, 86, 42, 180, 1, 122, 31, 80, 42, 89, 180, 1, 122, 4, 96, 181, 1, 122, 177]
abbrev dktX1_tells_0 : List UInt8 := dkwX1_tells_0 ++ []
theorem dksX1_tells_0 : cX1_tells.data.toList.drop 0 = dktX1_tells_0 := by decide +kernel
theorem dX1_tells_0 : decode cX1_tells 0 = .ok (.aload_n 0, 1) := dk_42 (dk_at dksX1_tells_0 0 rfl rfl)
theorem dX1_tells_1 : decode cX1_tells 1 = .ok (.getfield 86, 3) := dk_180 0 86 (dk_at dksX1_tells_0 1 rfl rfl)
theorem dX1_tells_4 : decode cX1_tells 4 = .ok (.aload_n 0, 1) := dk_42 (dk_at dksX1_tells_0 4 rfl rfl)
theorem dX1_tells_5 : decode cX1_tells 5 = .ok (.getfield 378, 3) := dk_180 1 122 (dk_at dksX1_tells_0 5 rfl rfl)
theorem dX1_tells_8 : decode cX1_tells 8 = .ok (.lload_n 1, 1) := dk_31 (dk_at dksX1_tells_0 8 rfl rfl)
theorem dX1_tells_9 : decode cX1_tells 9 = .ok (.lastore, 1) := dk_80 (dk_at dksX1_tells_0 9 rfl rfl)
theorem dX1_tells_10 : decode cX1_tells 10 = .ok (.aload_n 0, 1) := dk_42 (dk_at dksX1_tells_0 10 rfl rfl)
theorem dX1_tells_11 : decode cX1_tells 11 = .ok (.dup, 1) := dk_89 (dk_at dksX1_tells_0 11 rfl rfl)
theorem dX1_tells_12 : decode cX1_tells 12 = .ok (.getfield 378, 3) := dk_180 1 122 (dk_at dksX1_tells_0 12 rfl rfl)
theorem dX1_tells_15 : decode cX1_tells 15 = .ok (.iconst 1, 1) := dk_4 (dk_at dksX1_tells_0 15 rfl rfl)
theorem dX1_tells_16 : decode cX1_tells 16 = .ok (.iadd, 1) := dk_96 (dk_at dksX1_tells_0 16 rfl rfl)
theorem dX1_tells_17 : decode cX1_tells 17 = .ok (.putfield 378, 3) := dk_181 1 122 (dk_at dksX1_tells_0 17 rfl rfl)
theorem dX1_tells_20 : decode cX1_tells 20 = .ok (.return_, 1) := dk_177 (dk_at dksX1_tells_0 20 rfl rfl)
abbrev cX1_spring : ByteArray := prog_1_method_54_code
def yX1_spring : MethodName := ⟨RX1, "spring", "()I"⟩
def dkwX1_spring_6 : List UInt8 := [21, 4, 172]
abbrev dktX1_spring_6 : List UInt8 := dkwX1_spring_6 ++ []
def dkwX1_spring_5 : List UInt8 := [162, 0, 7, 10, 167, 0, 4, 9, 182, 1, 125, 42, 42, 180, 0, 10, 180, 1, 88, 133, 182, 1, 125]
abbrev dktX1_spring_5 : List UInt8 := dkwX1_spring_5 ++ dktX1_spring_6
def dkwX1_spring_4 : List UInt8 := [158, 0, 11, 42, 42, 180, 0, 43, 182, 1, 49, 42, 3, 181, 1, 122, 42, 21, 4, 42, 180, 1, 129]
abbrev dktX1_spring_4 : List UInt8 := dkwX1_spring_4 ++ dktX1_spring_5
def dkwX1_spring_3 : List UInt8 := [180, 1, 129, 162, 0, 18, 42, 21, 4, 182, 1, 137, 153, 0, 9, 132, 4, 1, 167, 255, 235, 21, 4]
abbrev dktX1_spring_3 : List UInt8 := dkwX1_spring_3 ++ dktX1_spring_4
def dkwX1_spring_2 : List UInt8 := [156, 0, 5, 29, 172, 42, 180, 0, 43, 42, 180, 0, 10, 182, 1, 45, 3, 54, 4, 21, 4, 42]
abbrev dktX1_spring_2 : List UInt8 := dkwX1_spring_2 ++ dktX1_spring_3
def dkwX1_spring_1 : List UInt8 := [180, 0, 135, 162, 0, 11, 42, 182, 1, 134, 61, 167, 255, 236, 42, 27, 28, 182, 0, 184, 62, 29]
abbrev dktX1_spring_1 : List UInt8 := dkwX1_spring_1 ++ dktX1_spring_2
def dkwX1_spring_0 : List UInt8 := [42, 16, 60, 182, 0, 175, 60, 42, 3, 181, 1, 129, 4, 61, 28, 153, 0, 22, 42, 180, 0, 123, 42]
abbrev dktX1_spring_0 : List UInt8 := dkwX1_spring_0 ++ dktX1_spring_1
theorem dksX1_spring_0 : cX1_spring.data.toList.drop 0 = dktX1_spring_0 := by decide +kernel
theorem dksX1_spring_1 : cX1_spring.data.toList.drop 23 = dktX1_spring_1 := dk_seg dksX1_spring_0 23 rfl rfl
theorem dksX1_spring_2 : cX1_spring.data.toList.drop 45 = dktX1_spring_2 := dk_seg dksX1_spring_1 22 rfl rfl
theorem dksX1_spring_3 : cX1_spring.data.toList.drop 67 = dktX1_spring_3 := dk_seg dksX1_spring_2 22 rfl rfl
theorem dksX1_spring_4 : cX1_spring.data.toList.drop 90 = dktX1_spring_4 := dk_seg dksX1_spring_3 23 rfl rfl
theorem dksX1_spring_5 : cX1_spring.data.toList.drop 113 = dktX1_spring_5 := dk_seg dksX1_spring_4 23 rfl rfl
theorem dksX1_spring_6 : cX1_spring.data.toList.drop 136 = dktX1_spring_6 := dk_seg dksX1_spring_5 23 rfl rfl
theorem dX1_spring_0 : decode cX1_spring 0 = .ok (.aload_n 0, 1) := dk_42 (dk_at dksX1_spring_0 0 rfl rfl)
theorem dX1_spring_1 : decode cX1_spring 1 = .ok (.bipush 60, 2) := dk_16 60 (dk_at dksX1_spring_0 1 rfl rfl)
theorem dX1_spring_3 : decode cX1_spring 3 = .ok (.invokevirtual 175, 3) := dk_182 0 175 (dk_at dksX1_spring_0 3 rfl rfl)
theorem dX1_spring_6 : decode cX1_spring 6 = .ok (.istore_n 1, 1) := dk_60 (dk_at dksX1_spring_0 6 rfl rfl)
theorem dX1_spring_7 : decode cX1_spring 7 = .ok (.aload_n 0, 1) := dk_42 (dk_at dksX1_spring_0 7 rfl rfl)
theorem dX1_spring_8 : decode cX1_spring 8 = .ok (.iconst 0, 1) := dk_3 (dk_at dksX1_spring_0 8 rfl rfl)
theorem dX1_spring_9 : decode cX1_spring 9 = .ok (.putfield 385, 3) := dk_181 1 129 (dk_at dksX1_spring_0 9 rfl rfl)
theorem dX1_spring_12 : decode cX1_spring 12 = .ok (.iconst 1, 1) := dk_4 (dk_at dksX1_spring_0 12 rfl rfl)
theorem dX1_spring_13 : decode cX1_spring 13 = .ok (.istore_n 2, 1) := dk_61 (dk_at dksX1_spring_0 13 rfl rfl)
theorem dX1_spring_14 : decode cX1_spring 14 = .ok (.iload_n 2, 1) := dk_28 (dk_at dksX1_spring_0 14 rfl rfl)
theorem dX1_spring_15 : decode cX1_spring 15 = .ok (.ifCond .eq 22, 3) := dk_153 0 22 (dk_at dksX1_spring_0 15 rfl rfl)
theorem dX1_spring_18 : decode cX1_spring 18 = .ok (.aload_n 0, 1) := dk_42 (dk_at dksX1_spring_0 18 rfl rfl)
theorem dX1_spring_19 : decode cX1_spring 19 = .ok (.getfield 123, 3) := dk_180 0 123 (dk_at dksX1_spring_0 19 rfl rfl)
theorem dX1_spring_22 : decode cX1_spring 22 = .ok (.aload_n 0, 1) := dk_42 (dk_at dksX1_spring_0 22 rfl rfl)
theorem dX1_spring_23 : decode cX1_spring 23 = .ok (.getfield 135, 3) := dk_180 0 135 (dk_at dksX1_spring_1 0 rfl rfl)
theorem dX1_spring_26 : decode cX1_spring 26 = .ok (.if_icmp .ge 11, 3) := dk_162 0 11 (dk_at dksX1_spring_1 3 rfl rfl)
theorem dX1_spring_29 : decode cX1_spring 29 = .ok (.aload_n 0, 1) := dk_42 (dk_at dksX1_spring_1 6 rfl rfl)
theorem dX1_spring_30 : decode cX1_spring 30 = .ok (.invokevirtual 390, 3) := dk_182 1 134 (dk_at dksX1_spring_1 7 rfl rfl)
theorem dX1_spring_33 : decode cX1_spring 33 = .ok (.istore_n 2, 1) := dk_61 (dk_at dksX1_spring_1 10 rfl rfl)
theorem dX1_spring_34 : decode cX1_spring 34 = .ok (.goto (-20), 3) := dk_167 255 236 (dk_at dksX1_spring_1 11 rfl rfl)
theorem dX1_spring_37 : decode cX1_spring 37 = .ok (.aload_n 0, 1) := dk_42 (dk_at dksX1_spring_1 14 rfl rfl)
theorem dX1_spring_38 : decode cX1_spring 38 = .ok (.iload_n 1, 1) := dk_27 (dk_at dksX1_spring_1 15 rfl rfl)
theorem dX1_spring_39 : decode cX1_spring 39 = .ok (.iload_n 2, 1) := dk_28 (dk_at dksX1_spring_1 16 rfl rfl)
theorem dX1_spring_40 : decode cX1_spring 40 = .ok (.invokevirtual 184, 3) := dk_182 0 184 (dk_at dksX1_spring_1 17 rfl rfl)
theorem dX1_spring_43 : decode cX1_spring 43 = .ok (.istore_n 3, 1) := dk_62 (dk_at dksX1_spring_1 20 rfl rfl)
theorem dX1_spring_44 : decode cX1_spring 44 = .ok (.iload_n 3, 1) := dk_29 (dk_at dksX1_spring_1 21 rfl rfl)
theorem dX1_spring_45 : decode cX1_spring 45 = .ok (.ifCond .ge 5, 3) := dk_156 0 5 (dk_at dksX1_spring_2 0 rfl rfl)
theorem dX1_spring_48 : decode cX1_spring 48 = .ok (.iload_n 3, 1) := dk_29 (dk_at dksX1_spring_2 3 rfl rfl)
theorem dX1_spring_49 : decode cX1_spring 49 = .ok (.ireturn, 1) := dk_172 (dk_at dksX1_spring_2 4 rfl rfl)
theorem dX1_spring_50 : decode cX1_spring 50 = .ok (.aload_n 0, 1) := dk_42 (dk_at dksX1_spring_2 5 rfl rfl)
theorem dX1_spring_51 : decode cX1_spring 51 = .ok (.getfield 43, 3) := dk_180 0 43 (dk_at dksX1_spring_2 6 rfl rfl)
theorem dX1_spring_54 : decode cX1_spring 54 = .ok (.aload_n 0, 1) := dk_42 (dk_at dksX1_spring_2 9 rfl rfl)
theorem dX1_spring_55 : decode cX1_spring 55 = .ok (.getfield 10, 3) := dk_180 0 10 (dk_at dksX1_spring_2 10 rfl rfl)
theorem dX1_spring_58 : decode cX1_spring 58 = .ok (.invokevirtual 301, 3) := dk_182 1 45 (dk_at dksX1_spring_2 13 rfl rfl)
theorem dX1_spring_61 : decode cX1_spring 61 = .ok (.iconst 0, 1) := dk_3 (dk_at dksX1_spring_2 16 rfl rfl)
theorem dX1_spring_62 : decode cX1_spring 62 = .ok (.istore 4, 2) := dk_54 4 (dk_at dksX1_spring_2 17 rfl rfl)
theorem dX1_spring_64 : decode cX1_spring 64 = .ok (.iload 4, 2) := dk_21 4 (dk_at dksX1_spring_2 19 rfl rfl)
theorem dX1_spring_66 : decode cX1_spring 66 = .ok (.aload_n 0, 1) := dk_42 (dk_at dksX1_spring_2 21 rfl rfl)
theorem dX1_spring_67 : decode cX1_spring 67 = .ok (.getfield 385, 3) := dk_180 1 129 (dk_at dksX1_spring_3 0 rfl rfl)
theorem dX1_spring_70 : decode cX1_spring 70 = .ok (.if_icmp .ge 18, 3) := dk_162 0 18 (dk_at dksX1_spring_3 3 rfl rfl)
theorem dX1_spring_73 : decode cX1_spring 73 = .ok (.aload_n 0, 1) := dk_42 (dk_at dksX1_spring_3 6 rfl rfl)
theorem dX1_spring_74 : decode cX1_spring 74 = .ok (.iload 4, 2) := dk_21 4 (dk_at dksX1_spring_3 7 rfl rfl)
theorem dX1_spring_76 : decode cX1_spring 76 = .ok (.invokevirtual 393, 3) := dk_182 1 137 (dk_at dksX1_spring_3 9 rfl rfl)
theorem dX1_spring_79 : decode cX1_spring 79 = .ok (.ifCond .eq 9, 3) := dk_153 0 9 (dk_at dksX1_spring_3 12 rfl rfl)
theorem dX1_spring_82 : decode cX1_spring 82 = .ok (.iinc 4 1, 3) := dk_132 4 1 (dk_at dksX1_spring_3 15 rfl rfl)
theorem dX1_spring_85 : decode cX1_spring 85 = .ok (.goto (-21), 3) := dk_167 255 235 (dk_at dksX1_spring_3 18 rfl rfl)
theorem dX1_spring_88 : decode cX1_spring 88 = .ok (.iload 4, 2) := dk_21 4 (dk_at dksX1_spring_3 21 rfl rfl)
theorem dX1_spring_90 : decode cX1_spring 90 = .ok (.ifCond .le 11, 3) := dk_158 0 11 (dk_at dksX1_spring_4 0 rfl rfl)
theorem dX1_spring_93 : decode cX1_spring 93 = .ok (.aload_n 0, 1) := dk_42 (dk_at dksX1_spring_4 3 rfl rfl)
theorem dX1_spring_94 : decode cX1_spring 94 = .ok (.aload_n 0, 1) := dk_42 (dk_at dksX1_spring_4 4 rfl rfl)
theorem dX1_spring_95 : decode cX1_spring 95 = .ok (.getfield 43, 3) := dk_180 0 43 (dk_at dksX1_spring_4 5 rfl rfl)
theorem dX1_spring_98 : decode cX1_spring 98 = .ok (.invokevirtual 305, 3) := dk_182 1 49 (dk_at dksX1_spring_4 8 rfl rfl)
theorem dX1_spring_101 : decode cX1_spring 101 = .ok (.aload_n 0, 1) := dk_42 (dk_at dksX1_spring_4 11 rfl rfl)
theorem dX1_spring_102 : decode cX1_spring 102 = .ok (.iconst 0, 1) := dk_3 (dk_at dksX1_spring_4 12 rfl rfl)
theorem dX1_spring_103 : decode cX1_spring 103 = .ok (.putfield 378, 3) := dk_181 1 122 (dk_at dksX1_spring_4 13 rfl rfl)
theorem dX1_spring_106 : decode cX1_spring 106 = .ok (.aload_n 0, 1) := dk_42 (dk_at dksX1_spring_4 16 rfl rfl)
theorem dX1_spring_107 : decode cX1_spring 107 = .ok (.iload 4, 2) := dk_21 4 (dk_at dksX1_spring_4 17 rfl rfl)
theorem dX1_spring_109 : decode cX1_spring 109 = .ok (.aload_n 0, 1) := dk_42 (dk_at dksX1_spring_4 19 rfl rfl)
theorem dX1_spring_110 : decode cX1_spring 110 = .ok (.getfield 385, 3) := dk_180 1 129 (dk_at dksX1_spring_4 20 rfl rfl)
theorem dX1_spring_113 : decode cX1_spring 113 = .ok (.if_icmp .ge 7, 3) := dk_162 0 7 (dk_at dksX1_spring_5 0 rfl rfl)
theorem dX1_spring_116 : decode cX1_spring 116 = .ok (.lconst 1, 1) := dk_10 (dk_at dksX1_spring_5 3 rfl rfl)
theorem dX1_spring_117 : decode cX1_spring 117 = .ok (.goto 4, 3) := dk_167 0 4 (dk_at dksX1_spring_5 4 rfl rfl)
theorem dX1_spring_120 : decode cX1_spring 120 = .ok (.lconst 0, 1) := dk_9 (dk_at dksX1_spring_5 7 rfl rfl)
theorem dX1_spring_121 : decode cX1_spring 121 = .ok (.invokevirtual 381, 3) := dk_182 1 125 (dk_at dksX1_spring_5 8 rfl rfl)
theorem dX1_spring_124 : decode cX1_spring 124 = .ok (.aload_n 0, 1) := dk_42 (dk_at dksX1_spring_5 11 rfl rfl)
theorem dX1_spring_125 : decode cX1_spring 125 = .ok (.aload_n 0, 1) := dk_42 (dk_at dksX1_spring_5 12 rfl rfl)
theorem dX1_spring_126 : decode cX1_spring 126 = .ok (.getfield 10, 3) := dk_180 0 10 (dk_at dksX1_spring_5 13 rfl rfl)
theorem dX1_spring_129 : decode cX1_spring 129 = .ok (.getfield 344, 3) := dk_180 1 88 (dk_at dksX1_spring_5 16 rfl rfl)
theorem dX1_spring_132 : decode cX1_spring 132 = .ok (.i2l, 1) := dk_133 (dk_at dksX1_spring_5 19 rfl rfl)
theorem dX1_spring_133 : decode cX1_spring 133 = .ok (.invokevirtual 381, 3) := dk_182 1 125 (dk_at dksX1_spring_5 20 rfl rfl)
theorem dX1_spring_136 : decode cX1_spring 136 = .ok (.iload 4, 2) := dk_21 4 (dk_at dksX1_spring_6 0 rfl rfl)
theorem dX1_spring_138 : decode cX1_spring 138 = .ok (.ireturn, 1) := dk_172 (dk_at dksX1_spring_6 2 rfl rfl)
abbrev cX1_readsAct : ByteArray := prog_1_method_52_code
def yX1_readsAct : MethodName := ⟨RX1, "readsAct", "()Z"⟩
def dkwX1_readsAct_5 : List UInt8 := [79, 42, 180, 0, 56, 27, 46, 155, 0, 7, 4, 167, 0, 4, 3, 172]
abbrev dktX1_readsAct_5 : List UInt8 := dkwX1_readsAct_5 ++ []
def dkwX1_readsAct_4 : List UInt8 := [180, 0, 53, 27, 46, 155, 0, 7, 4, 167, 0, 4, 3, 172, 42, 180, 0, 56, 27, 42, 4, 182, 0, 170]
abbrev dktX1_readsAct_4 : List UInt8 := dkwX1_readsAct_4 ++ dktX1_readsAct_5
def dkwX1_readsAct_3 : List UInt8 := [46, 155, 0, 21, 28, 16, 110, 159, 0, 15, 28, 16, 114, 159, 0, 9, 28, 16, 100, 160, 0, 18, 42]
abbrev dktX1_readsAct_3 : List UInt8 := dkwX1_readsAct_3 ++ dktX1_readsAct_4
def dkwX1_readsAct_2 : List UInt8 := [180, 1, 129, 4, 96, 181, 1, 129, 42, 180, 0, 53, 27, 42, 4, 182, 0, 170, 79, 42, 180, 0, 53, 27]
abbrev dktX1_readsAct_2 : List UInt8 := dkwX1_readsAct_2 ++ dktX1_readsAct_3
def dkwX1_readsAct_1 : List UInt8 := [180, 0, 123, 46, 61, 42, 180, 0, 50, 27, 28, 79, 42, 89, 180, 0, 123, 4, 96, 181, 0, 123, 42, 89]
abbrev dktX1_readsAct_1 : List UInt8 := dkwX1_readsAct_1 ++ dktX1_readsAct_2
def dkwX1_readsAct_0 : List UInt8 := [42, 180, 1, 129, 60, 42, 19, 1, 132, 182, 0, 148, 156, 0, 5, 3, 172, 42, 180, 0, 23, 42]
abbrev dktX1_readsAct_0 : List UInt8 := dkwX1_readsAct_0 ++ dktX1_readsAct_1
theorem dksX1_readsAct_0 : cX1_readsAct.data.toList.drop 0 = dktX1_readsAct_0 := by decide +kernel
theorem dksX1_readsAct_1 : cX1_readsAct.data.toList.drop 22 = dktX1_readsAct_1 := dk_seg dksX1_readsAct_0 22 rfl rfl
theorem dksX1_readsAct_2 : cX1_readsAct.data.toList.drop 46 = dktX1_readsAct_2 := dk_seg dksX1_readsAct_1 24 rfl rfl
theorem dksX1_readsAct_3 : cX1_readsAct.data.toList.drop 70 = dktX1_readsAct_3 := dk_seg dksX1_readsAct_2 24 rfl rfl
theorem dksX1_readsAct_4 : cX1_readsAct.data.toList.drop 93 = dktX1_readsAct_4 := dk_seg dksX1_readsAct_3 23 rfl rfl
theorem dksX1_readsAct_5 : cX1_readsAct.data.toList.drop 117 = dktX1_readsAct_5 := dk_seg dksX1_readsAct_4 24 rfl rfl
theorem dX1_readsAct_0 : decode cX1_readsAct 0 = .ok (.aload_n 0, 1) := dk_42 (dk_at dksX1_readsAct_0 0 rfl rfl)
theorem dX1_readsAct_1 : decode cX1_readsAct 1 = .ok (.getfield 385, 3) := dk_180 1 129 (dk_at dksX1_readsAct_0 1 rfl rfl)
theorem dX1_readsAct_4 : decode cX1_readsAct 4 = .ok (.istore_n 1, 1) := dk_60 (dk_at dksX1_readsAct_0 4 rfl rfl)
theorem dX1_readsAct_5 : decode cX1_readsAct 5 = .ok (.aload_n 0, 1) := dk_42 (dk_at dksX1_readsAct_0 5 rfl rfl)
theorem dX1_readsAct_6 : decode cX1_readsAct 6 = .ok (.ldc_w 388, 3) := dk_19 1 132 (dk_at dksX1_readsAct_0 6 rfl rfl)
theorem dX1_readsAct_9 : decode cX1_readsAct 9 = .ok (.invokevirtual 148, 3) := dk_182 0 148 (dk_at dksX1_readsAct_0 9 rfl rfl)
theorem dX1_readsAct_12 : decode cX1_readsAct 12 = .ok (.ifCond .ge 5, 3) := dk_156 0 5 (dk_at dksX1_readsAct_0 12 rfl rfl)
theorem dX1_readsAct_15 : decode cX1_readsAct 15 = .ok (.iconst 0, 1) := dk_3 (dk_at dksX1_readsAct_0 15 rfl rfl)
theorem dX1_readsAct_16 : decode cX1_readsAct 16 = .ok (.ireturn, 1) := dk_172 (dk_at dksX1_readsAct_0 16 rfl rfl)
theorem dX1_readsAct_17 : decode cX1_readsAct 17 = .ok (.aload_n 0, 1) := dk_42 (dk_at dksX1_readsAct_0 17 rfl rfl)
theorem dX1_readsAct_18 : decode cX1_readsAct 18 = .ok (.getfield 23, 3) := dk_180 0 23 (dk_at dksX1_readsAct_0 18 rfl rfl)
theorem dX1_readsAct_21 : decode cX1_readsAct 21 = .ok (.aload_n 0, 1) := dk_42 (dk_at dksX1_readsAct_0 21 rfl rfl)
theorem dX1_readsAct_22 : decode cX1_readsAct 22 = .ok (.getfield 123, 3) := dk_180 0 123 (dk_at dksX1_readsAct_1 0 rfl rfl)
theorem dX1_readsAct_25 : decode cX1_readsAct 25 = .ok (.iaload, 1) := dk_46 (dk_at dksX1_readsAct_1 3 rfl rfl)
theorem dX1_readsAct_26 : decode cX1_readsAct 26 = .ok (.istore_n 2, 1) := dk_61 (dk_at dksX1_readsAct_1 4 rfl rfl)
theorem dX1_readsAct_27 : decode cX1_readsAct 27 = .ok (.aload_n 0, 1) := dk_42 (dk_at dksX1_readsAct_1 5 rfl rfl)
theorem dX1_readsAct_28 : decode cX1_readsAct 28 = .ok (.getfield 50, 3) := dk_180 0 50 (dk_at dksX1_readsAct_1 6 rfl rfl)
theorem dX1_readsAct_31 : decode cX1_readsAct 31 = .ok (.iload_n 1, 1) := dk_27 (dk_at dksX1_readsAct_1 9 rfl rfl)
theorem dX1_readsAct_32 : decode cX1_readsAct 32 = .ok (.iload_n 2, 1) := dk_28 (dk_at dksX1_readsAct_1 10 rfl rfl)
theorem dX1_readsAct_33 : decode cX1_readsAct 33 = .ok (.iastore, 1) := dk_79 (dk_at dksX1_readsAct_1 11 rfl rfl)
theorem dX1_readsAct_34 : decode cX1_readsAct 34 = .ok (.aload_n 0, 1) := dk_42 (dk_at dksX1_readsAct_1 12 rfl rfl)
theorem dX1_readsAct_35 : decode cX1_readsAct 35 = .ok (.dup, 1) := dk_89 (dk_at dksX1_readsAct_1 13 rfl rfl)
theorem dX1_readsAct_36 : decode cX1_readsAct 36 = .ok (.getfield 123, 3) := dk_180 0 123 (dk_at dksX1_readsAct_1 14 rfl rfl)
theorem dX1_readsAct_39 : decode cX1_readsAct 39 = .ok (.iconst 1, 1) := dk_4 (dk_at dksX1_readsAct_1 17 rfl rfl)
theorem dX1_readsAct_40 : decode cX1_readsAct 40 = .ok (.iadd, 1) := dk_96 (dk_at dksX1_readsAct_1 18 rfl rfl)
theorem dX1_readsAct_41 : decode cX1_readsAct 41 = .ok (.putfield 123, 3) := dk_181 0 123 (dk_at dksX1_readsAct_1 19 rfl rfl)
theorem dX1_readsAct_44 : decode cX1_readsAct 44 = .ok (.aload_n 0, 1) := dk_42 (dk_at dksX1_readsAct_1 22 rfl rfl)
theorem dX1_readsAct_45 : decode cX1_readsAct 45 = .ok (.dup, 1) := dk_89 (dk_at dksX1_readsAct_1 23 rfl rfl)
theorem dX1_readsAct_46 : decode cX1_readsAct 46 = .ok (.getfield 385, 3) := dk_180 1 129 (dk_at dksX1_readsAct_2 0 rfl rfl)
theorem dX1_readsAct_49 : decode cX1_readsAct 49 = .ok (.iconst 1, 1) := dk_4 (dk_at dksX1_readsAct_2 3 rfl rfl)
theorem dX1_readsAct_50 : decode cX1_readsAct 50 = .ok (.iadd, 1) := dk_96 (dk_at dksX1_readsAct_2 4 rfl rfl)
theorem dX1_readsAct_51 : decode cX1_readsAct 51 = .ok (.putfield 385, 3) := dk_181 1 129 (dk_at dksX1_readsAct_2 5 rfl rfl)
theorem dX1_readsAct_54 : decode cX1_readsAct 54 = .ok (.aload_n 0, 1) := dk_42 (dk_at dksX1_readsAct_2 8 rfl rfl)
theorem dX1_readsAct_55 : decode cX1_readsAct 55 = .ok (.getfield 53, 3) := dk_180 0 53 (dk_at dksX1_readsAct_2 9 rfl rfl)
theorem dX1_readsAct_58 : decode cX1_readsAct 58 = .ok (.iload_n 1, 1) := dk_27 (dk_at dksX1_readsAct_2 12 rfl rfl)
theorem dX1_readsAct_59 : decode cX1_readsAct 59 = .ok (.aload_n 0, 1) := dk_42 (dk_at dksX1_readsAct_2 13 rfl rfl)
theorem dX1_readsAct_60 : decode cX1_readsAct 60 = .ok (.iconst 1, 1) := dk_4 (dk_at dksX1_readsAct_2 14 rfl rfl)
theorem dX1_readsAct_61 : decode cX1_readsAct 61 = .ok (.invokevirtual 170, 3) := dk_182 0 170 (dk_at dksX1_readsAct_2 15 rfl rfl)
theorem dX1_readsAct_64 : decode cX1_readsAct 64 = .ok (.iastore, 1) := dk_79 (dk_at dksX1_readsAct_2 18 rfl rfl)
theorem dX1_readsAct_65 : decode cX1_readsAct 65 = .ok (.aload_n 0, 1) := dk_42 (dk_at dksX1_readsAct_2 19 rfl rfl)
theorem dX1_readsAct_66 : decode cX1_readsAct 66 = .ok (.getfield 53, 3) := dk_180 0 53 (dk_at dksX1_readsAct_2 20 rfl rfl)
theorem dX1_readsAct_69 : decode cX1_readsAct 69 = .ok (.iload_n 1, 1) := dk_27 (dk_at dksX1_readsAct_2 23 rfl rfl)
theorem dX1_readsAct_70 : decode cX1_readsAct 70 = .ok (.iaload, 1) := dk_46 (dk_at dksX1_readsAct_3 0 rfl rfl)
theorem dX1_readsAct_71 : decode cX1_readsAct 71 = .ok (.ifCond .lt 21, 3) := dk_155 0 21 (dk_at dksX1_readsAct_3 1 rfl rfl)
theorem dX1_readsAct_74 : decode cX1_readsAct 74 = .ok (.iload_n 2, 1) := dk_28 (dk_at dksX1_readsAct_3 4 rfl rfl)
theorem dX1_readsAct_75 : decode cX1_readsAct 75 = .ok (.bipush 110, 2) := dk_16 110 (dk_at dksX1_readsAct_3 5 rfl rfl)
theorem dX1_readsAct_77 : decode cX1_readsAct 77 = .ok (.if_icmp .eq 15, 3) := dk_159 0 15 (dk_at dksX1_readsAct_3 7 rfl rfl)
theorem dX1_readsAct_80 : decode cX1_readsAct 80 = .ok (.iload_n 2, 1) := dk_28 (dk_at dksX1_readsAct_3 10 rfl rfl)
theorem dX1_readsAct_81 : decode cX1_readsAct 81 = .ok (.bipush 114, 2) := dk_16 114 (dk_at dksX1_readsAct_3 11 rfl rfl)
theorem dX1_readsAct_83 : decode cX1_readsAct 83 = .ok (.if_icmp .eq 9, 3) := dk_159 0 9 (dk_at dksX1_readsAct_3 13 rfl rfl)
theorem dX1_readsAct_86 : decode cX1_readsAct 86 = .ok (.iload_n 2, 1) := dk_28 (dk_at dksX1_readsAct_3 16 rfl rfl)
theorem dX1_readsAct_87 : decode cX1_readsAct 87 = .ok (.bipush 100, 2) := dk_16 100 (dk_at dksX1_readsAct_3 17 rfl rfl)
theorem dX1_readsAct_89 : decode cX1_readsAct 89 = .ok (.if_icmp .ne 18, 3) := dk_160 0 18 (dk_at dksX1_readsAct_3 19 rfl rfl)
theorem dX1_readsAct_92 : decode cX1_readsAct 92 = .ok (.aload_n 0, 1) := dk_42 (dk_at dksX1_readsAct_3 22 rfl rfl)
theorem dX1_readsAct_93 : decode cX1_readsAct 93 = .ok (.getfield 53, 3) := dk_180 0 53 (dk_at dksX1_readsAct_4 0 rfl rfl)
theorem dX1_readsAct_96 : decode cX1_readsAct 96 = .ok (.iload_n 1, 1) := dk_27 (dk_at dksX1_readsAct_4 3 rfl rfl)
theorem dX1_readsAct_97 : decode cX1_readsAct 97 = .ok (.iaload, 1) := dk_46 (dk_at dksX1_readsAct_4 4 rfl rfl)
theorem dX1_readsAct_98 : decode cX1_readsAct 98 = .ok (.ifCond .lt 7, 3) := dk_155 0 7 (dk_at dksX1_readsAct_4 5 rfl rfl)
theorem dX1_readsAct_101 : decode cX1_readsAct 101 = .ok (.iconst 1, 1) := dk_4 (dk_at dksX1_readsAct_4 8 rfl rfl)
theorem dX1_readsAct_102 : decode cX1_readsAct 102 = .ok (.goto 4, 3) := dk_167 0 4 (dk_at dksX1_readsAct_4 9 rfl rfl)
theorem dX1_readsAct_105 : decode cX1_readsAct 105 = .ok (.iconst 0, 1) := dk_3 (dk_at dksX1_readsAct_4 12 rfl rfl)
theorem dX1_readsAct_106 : decode cX1_readsAct 106 = .ok (.ireturn, 1) := dk_172 (dk_at dksX1_readsAct_4 13 rfl rfl)
theorem dX1_readsAct_107 : decode cX1_readsAct 107 = .ok (.aload_n 0, 1) := dk_42 (dk_at dksX1_readsAct_4 14 rfl rfl)
theorem dX1_readsAct_108 : decode cX1_readsAct 108 = .ok (.getfield 56, 3) := dk_180 0 56 (dk_at dksX1_readsAct_4 15 rfl rfl)
theorem dX1_readsAct_111 : decode cX1_readsAct 111 = .ok (.iload_n 1, 1) := dk_27 (dk_at dksX1_readsAct_4 18 rfl rfl)
theorem dX1_readsAct_112 : decode cX1_readsAct 112 = .ok (.aload_n 0, 1) := dk_42 (dk_at dksX1_readsAct_4 19 rfl rfl)
theorem dX1_readsAct_113 : decode cX1_readsAct 113 = .ok (.iconst 1, 1) := dk_4 (dk_at dksX1_readsAct_4 20 rfl rfl)
theorem dX1_readsAct_114 : decode cX1_readsAct 114 = .ok (.invokevirtual 170, 3) := dk_182 0 170 (dk_at dksX1_readsAct_4 21 rfl rfl)
theorem dX1_readsAct_117 : decode cX1_readsAct 117 = .ok (.iastore, 1) := dk_79 (dk_at dksX1_readsAct_5 0 rfl rfl)
theorem dX1_readsAct_118 : decode cX1_readsAct 118 = .ok (.aload_n 0, 1) := dk_42 (dk_at dksX1_readsAct_5 1 rfl rfl)
theorem dX1_readsAct_119 : decode cX1_readsAct 119 = .ok (.getfield 56, 3) := dk_180 0 56 (dk_at dksX1_readsAct_5 2 rfl rfl)
theorem dX1_readsAct_122 : decode cX1_readsAct 122 = .ok (.iload_n 1, 1) := dk_27 (dk_at dksX1_readsAct_5 5 rfl rfl)
theorem dX1_readsAct_123 : decode cX1_readsAct 123 = .ok (.iaload, 1) := dk_46 (dk_at dksX1_readsAct_5 6 rfl rfl)
theorem dX1_readsAct_124 : decode cX1_readsAct 124 = .ok (.ifCond .lt 7, 3) := dk_155 0 7 (dk_at dksX1_readsAct_5 7 rfl rfl)
theorem dX1_readsAct_127 : decode cX1_readsAct 127 = .ok (.iconst 1, 1) := dk_4 (dk_at dksX1_readsAct_5 10 rfl rfl)
theorem dX1_readsAct_128 : decode cX1_readsAct 128 = .ok (.goto 4, 3) := dk_167 0 4 (dk_at dksX1_readsAct_5 11 rfl rfl)
theorem dX1_readsAct_131 : decode cX1_readsAct 131 = .ok (.iconst 0, 1) := dk_3 (dk_at dksX1_readsAct_5 14 rfl rfl)
theorem dX1_readsAct_132 : decode cX1_readsAct 132 = .ok (.ireturn, 1) := dk_172 (dk_at dksX1_readsAct_5 15 rfl rfl)
abbrev cX1_does : ByteArray := prog_1_method_53_code
def yX1_does : MethodName := ⟨RX1, "does", "(I)Z"⟩
def dkwX1_does_6 : List UInt8 := [42, 42, 180, 0, 10, 28, 182, 1, 118, 4, 172]
abbrev dktX1_does_6 : List UInt8 := dkwX1_does_6 ++ []
def dkwX1_does_5 : List UInt8 := [167, 0, 4, 3, 172, 42, 42, 180, 0, 10, 28, 29, 182, 1, 113, 155, 0, 7, 4, 167, 0, 4, 3, 172]
abbrev dktX1_does_5 : List UInt8 := dkwX1_does_5 ++ dktX1_does_6
def dkwX1_does_4 : List UInt8 := [155, 0, 7, 4, 167, 0, 4, 3, 172, 42, 42, 180, 0, 10, 28, 29, 182, 1, 110, 155, 0, 7, 4]
abbrev dktX1_does_4 : List UInt8 := dkwX1_does_4 ++ dktX1_does_5
def dkwX1_does_3 : List UInt8 := [182, 1, 103, 155, 0, 7, 4, 167, 0, 4, 3, 172, 42, 42, 180, 0, 10, 28, 29, 182, 1, 106]
abbrev dktX1_does_3 : List UInt8 := dkwX1_does_3 ++ dktX1_does_4
def dkwX1_does_2 : List UInt8 := [42, 42, 180, 0, 10, 28, 182, 1, 97, 155, 0, 7, 4, 167, 0, 4, 3, 172, 42, 42, 180, 0, 10, 28]
abbrev dktX1_does_2 : List UInt8 := dkwX1_does_2 ++ dktX1_does_3
def dkwX1_does_1 : List UInt8 := [170, 0, 0, 0, 0, 0, 0, 161, 0, 0, 0, 108, 0, 0, 0, 120, 0, 0, 0, 104, 0, 0, 0, 161, 0, 0, 0, 68, 0, 0, 0, 161, 0, 0, 0, 161, 0, 0, 0, 161, 0, 0, 0, 86, 0, 0, 0, 161, 0, 0, 0, 123, 0, 0, 0, 161, 0, 0, 0, 161, 0, 0, 0, 161, 0, 0, 0, 142]
abbrev dktX1_does_1 : List UInt8 := dkwX1_does_1 ++ dktX1_does_2
def dkwX1_does_0 : List UInt8 := [42, 180, 0, 53, 27, 46, 61, 42, 180, 0, 56, 27, 46, 62, 42, 180, 0, 50, 27, 46]
abbrev dktX1_does_0 : List UInt8 := dkwX1_does_0 ++ dktX1_does_1
theorem dksX1_does_0 : cX1_does.data.toList.drop 0 = dktX1_does_0 := by decide +kernel
theorem dksX1_does_1 : cX1_does.data.toList.drop 20 = dktX1_does_1 := dk_seg dksX1_does_0 20 rfl rfl
theorem dksX1_does_2 : cX1_does.data.toList.drop 88 = dktX1_does_2 := dk_seg dksX1_does_1 68 rfl rfl
theorem dksX1_does_3 : cX1_does.data.toList.drop 112 = dktX1_does_3 := dk_seg dksX1_does_2 24 rfl rfl
theorem dksX1_does_4 : cX1_does.data.toList.drop 134 = dktX1_does_4 := dk_seg dksX1_does_3 22 rfl rfl
theorem dksX1_does_5 : cX1_does.data.toList.drop 157 = dktX1_does_5 := dk_seg dksX1_does_4 23 rfl rfl
theorem dksX1_does_6 : cX1_does.data.toList.drop 181 = dktX1_does_6 := dk_seg dksX1_does_5 24 rfl rfl
theorem dX1_does_0 : decode cX1_does 0 = .ok (.aload_n 0, 1) := dk_42 (dk_at dksX1_does_0 0 rfl rfl)
theorem dX1_does_1 : decode cX1_does 1 = .ok (.getfield 53, 3) := dk_180 0 53 (dk_at dksX1_does_0 1 rfl rfl)
theorem dX1_does_4 : decode cX1_does 4 = .ok (.iload_n 1, 1) := dk_27 (dk_at dksX1_does_0 4 rfl rfl)
theorem dX1_does_5 : decode cX1_does 5 = .ok (.iaload, 1) := dk_46 (dk_at dksX1_does_0 5 rfl rfl)
theorem dX1_does_6 : decode cX1_does 6 = .ok (.istore_n 2, 1) := dk_61 (dk_at dksX1_does_0 6 rfl rfl)
theorem dX1_does_7 : decode cX1_does 7 = .ok (.aload_n 0, 1) := dk_42 (dk_at dksX1_does_0 7 rfl rfl)
theorem dX1_does_8 : decode cX1_does 8 = .ok (.getfield 56, 3) := dk_180 0 56 (dk_at dksX1_does_0 8 rfl rfl)
theorem dX1_does_11 : decode cX1_does 11 = .ok (.iload_n 1, 1) := dk_27 (dk_at dksX1_does_0 11 rfl rfl)
theorem dX1_does_12 : decode cX1_does 12 = .ok (.iaload, 1) := dk_46 (dk_at dksX1_does_0 12 rfl rfl)
theorem dX1_does_13 : decode cX1_does 13 = .ok (.istore_n 3, 1) := dk_62 (dk_at dksX1_does_0 13 rfl rfl)
theorem dX1_does_14 : decode cX1_does 14 = .ok (.aload_n 0, 1) := dk_42 (dk_at dksX1_does_0 14 rfl rfl)
theorem dX1_does_15 : decode cX1_does 15 = .ok (.getfield 50, 3) := dk_180 0 50 (dk_at dksX1_does_0 15 rfl rfl)
theorem dX1_does_18 : decode cX1_does 18 = .ok (.iload_n 1, 1) := dk_27 (dk_at dksX1_does_0 18 rfl rfl)
theorem dX1_does_19 : decode cX1_does 19 = .ok (.iaload, 1) := dk_46 (dk_at dksX1_does_0 19 rfl rfl)
theorem dX1_does_20 : decode cX1_does 20 = .ok (.tableswitch 161 108 120 #[104, 161, 68, 161, 161, 161, 86, 161, 123, 161, 161, 161, 142], 68) := by decide +kernel
theorem dX1_does_88 : decode cX1_does 88 = .ok (.aload_n 0, 1) := dk_42 (dk_at dksX1_does_2 0 rfl rfl)
theorem dX1_does_89 : decode cX1_does 89 = .ok (.aload_n 0, 1) := dk_42 (dk_at dksX1_does_2 1 rfl rfl)
theorem dX1_does_90 : decode cX1_does 90 = .ok (.getfield 10, 3) := dk_180 0 10 (dk_at dksX1_does_2 2 rfl rfl)
theorem dX1_does_93 : decode cX1_does 93 = .ok (.iload_n 2, 1) := dk_28 (dk_at dksX1_does_2 5 rfl rfl)
theorem dX1_does_94 : decode cX1_does 94 = .ok (.invokevirtual 353, 3) := dk_182 1 97 (dk_at dksX1_does_2 6 rfl rfl)
theorem dX1_does_97 : decode cX1_does 97 = .ok (.ifCond .lt 7, 3) := dk_155 0 7 (dk_at dksX1_does_2 9 rfl rfl)
theorem dX1_does_100 : decode cX1_does 100 = .ok (.iconst 1, 1) := dk_4 (dk_at dksX1_does_2 12 rfl rfl)
theorem dX1_does_101 : decode cX1_does 101 = .ok (.goto 4, 3) := dk_167 0 4 (dk_at dksX1_does_2 13 rfl rfl)
theorem dX1_does_104 : decode cX1_does 104 = .ok (.iconst 0, 1) := dk_3 (dk_at dksX1_does_2 16 rfl rfl)
theorem dX1_does_105 : decode cX1_does 105 = .ok (.ireturn, 1) := dk_172 (dk_at dksX1_does_2 17 rfl rfl)
theorem dX1_does_106 : decode cX1_does 106 = .ok (.aload_n 0, 1) := dk_42 (dk_at dksX1_does_2 18 rfl rfl)
theorem dX1_does_107 : decode cX1_does 107 = .ok (.aload_n 0, 1) := dk_42 (dk_at dksX1_does_2 19 rfl rfl)
theorem dX1_does_108 : decode cX1_does 108 = .ok (.getfield 10, 3) := dk_180 0 10 (dk_at dksX1_does_2 20 rfl rfl)
theorem dX1_does_111 : decode cX1_does 111 = .ok (.iload_n 2, 1) := dk_28 (dk_at dksX1_does_2 23 rfl rfl)
theorem dX1_does_112 : decode cX1_does 112 = .ok (.invokevirtual 359, 3) := dk_182 1 103 (dk_at dksX1_does_3 0 rfl rfl)
theorem dX1_does_115 : decode cX1_does 115 = .ok (.ifCond .lt 7, 3) := dk_155 0 7 (dk_at dksX1_does_3 3 rfl rfl)
theorem dX1_does_118 : decode cX1_does 118 = .ok (.iconst 1, 1) := dk_4 (dk_at dksX1_does_3 6 rfl rfl)
theorem dX1_does_119 : decode cX1_does 119 = .ok (.goto 4, 3) := dk_167 0 4 (dk_at dksX1_does_3 7 rfl rfl)
theorem dX1_does_122 : decode cX1_does 122 = .ok (.iconst 0, 1) := dk_3 (dk_at dksX1_does_3 10 rfl rfl)
theorem dX1_does_123 : decode cX1_does 123 = .ok (.ireturn, 1) := dk_172 (dk_at dksX1_does_3 11 rfl rfl)
theorem dX1_does_124 : decode cX1_does 124 = .ok (.aload_n 0, 1) := dk_42 (dk_at dksX1_does_3 12 rfl rfl)
theorem dX1_does_125 : decode cX1_does 125 = .ok (.aload_n 0, 1) := dk_42 (dk_at dksX1_does_3 13 rfl rfl)
theorem dX1_does_126 : decode cX1_does 126 = .ok (.getfield 10, 3) := dk_180 0 10 (dk_at dksX1_does_3 14 rfl rfl)
theorem dX1_does_129 : decode cX1_does 129 = .ok (.iload_n 2, 1) := dk_28 (dk_at dksX1_does_3 17 rfl rfl)
theorem dX1_does_130 : decode cX1_does 130 = .ok (.iload_n 3, 1) := dk_29 (dk_at dksX1_does_3 18 rfl rfl)
theorem dX1_does_131 : decode cX1_does 131 = .ok (.invokevirtual 362, 3) := dk_182 1 106 (dk_at dksX1_does_3 19 rfl rfl)
theorem dX1_does_134 : decode cX1_does 134 = .ok (.ifCond .lt 7, 3) := dk_155 0 7 (dk_at dksX1_does_4 0 rfl rfl)
theorem dX1_does_137 : decode cX1_does 137 = .ok (.iconst 1, 1) := dk_4 (dk_at dksX1_does_4 3 rfl rfl)
theorem dX1_does_138 : decode cX1_does 138 = .ok (.goto 4, 3) := dk_167 0 4 (dk_at dksX1_does_4 4 rfl rfl)
theorem dX1_does_141 : decode cX1_does 141 = .ok (.iconst 0, 1) := dk_3 (dk_at dksX1_does_4 7 rfl rfl)
theorem dX1_does_142 : decode cX1_does 142 = .ok (.ireturn, 1) := dk_172 (dk_at dksX1_does_4 8 rfl rfl)
theorem dX1_does_143 : decode cX1_does 143 = .ok (.aload_n 0, 1) := dk_42 (dk_at dksX1_does_4 9 rfl rfl)
theorem dX1_does_144 : decode cX1_does 144 = .ok (.aload_n 0, 1) := dk_42 (dk_at dksX1_does_4 10 rfl rfl)
theorem dX1_does_145 : decode cX1_does 145 = .ok (.getfield 10, 3) := dk_180 0 10 (dk_at dksX1_does_4 11 rfl rfl)
theorem dX1_does_148 : decode cX1_does 148 = .ok (.iload_n 2, 1) := dk_28 (dk_at dksX1_does_4 14 rfl rfl)
theorem dX1_does_149 : decode cX1_does 149 = .ok (.iload_n 3, 1) := dk_29 (dk_at dksX1_does_4 15 rfl rfl)
theorem dX1_does_150 : decode cX1_does 150 = .ok (.invokevirtual 366, 3) := dk_182 1 110 (dk_at dksX1_does_4 16 rfl rfl)
theorem dX1_does_153 : decode cX1_does 153 = .ok (.ifCond .lt 7, 3) := dk_155 0 7 (dk_at dksX1_does_4 19 rfl rfl)
theorem dX1_does_156 : decode cX1_does 156 = .ok (.iconst 1, 1) := dk_4 (dk_at dksX1_does_4 22 rfl rfl)
theorem dX1_does_157 : decode cX1_does 157 = .ok (.goto 4, 3) := dk_167 0 4 (dk_at dksX1_does_5 0 rfl rfl)
theorem dX1_does_160 : decode cX1_does 160 = .ok (.iconst 0, 1) := dk_3 (dk_at dksX1_does_5 3 rfl rfl)
theorem dX1_does_161 : decode cX1_does 161 = .ok (.ireturn, 1) := dk_172 (dk_at dksX1_does_5 4 rfl rfl)
theorem dX1_does_162 : decode cX1_does 162 = .ok (.aload_n 0, 1) := dk_42 (dk_at dksX1_does_5 5 rfl rfl)
theorem dX1_does_163 : decode cX1_does 163 = .ok (.aload_n 0, 1) := dk_42 (dk_at dksX1_does_5 6 rfl rfl)
theorem dX1_does_164 : decode cX1_does 164 = .ok (.getfield 10, 3) := dk_180 0 10 (dk_at dksX1_does_5 7 rfl rfl)
theorem dX1_does_167 : decode cX1_does 167 = .ok (.iload_n 2, 1) := dk_28 (dk_at dksX1_does_5 10 rfl rfl)
theorem dX1_does_168 : decode cX1_does 168 = .ok (.iload_n 3, 1) := dk_29 (dk_at dksX1_does_5 11 rfl rfl)
theorem dX1_does_169 : decode cX1_does 169 = .ok (.invokevirtual 369, 3) := dk_182 1 113 (dk_at dksX1_does_5 12 rfl rfl)
theorem dX1_does_172 : decode cX1_does 172 = .ok (.ifCond .lt 7, 3) := dk_155 0 7 (dk_at dksX1_does_5 15 rfl rfl)
theorem dX1_does_175 : decode cX1_does 175 = .ok (.iconst 1, 1) := dk_4 (dk_at dksX1_does_5 18 rfl rfl)
theorem dX1_does_176 : decode cX1_does 176 = .ok (.goto 4, 3) := dk_167 0 4 (dk_at dksX1_does_5 19 rfl rfl)
theorem dX1_does_179 : decode cX1_does 179 = .ok (.iconst 0, 1) := dk_3 (dk_at dksX1_does_5 22 rfl rfl)
theorem dX1_does_180 : decode cX1_does 180 = .ok (.ireturn, 1) := dk_172 (dk_at dksX1_does_5 23 rfl rfl)
theorem dX1_does_181 : decode cX1_does 181 = .ok (.aload_n 0, 1) := dk_42 (dk_at dksX1_does_6 0 rfl rfl)
theorem dX1_does_182 : decode cX1_does 182 = .ok (.aload_n 0, 1) := dk_42 (dk_at dksX1_does_6 1 rfl rfl)
theorem dX1_does_183 : decode cX1_does 183 = .ok (.getfield 10, 3) := dk_180 0 10 (dk_at dksX1_does_6 2 rfl rfl)
theorem dX1_does_186 : decode cX1_does 186 = .ok (.iload_n 2, 1) := dk_28 (dk_at dksX1_does_6 5 rfl rfl)
theorem dX1_does_187 : decode cX1_does 187 = .ok (.invokevirtual 374, 3) := dk_182 1 118 (dk_at dksX1_does_6 6 rfl rfl)
theorem dX1_does_190 : decode cX1_does 190 = .ok (.iconst 1, 1) := dk_4 (dk_at dksX1_does_6 9 rfl rfl)
theorem dX1_does_191 : decode cX1_does 191 = .ok (.ireturn, 1) := dk_172 (dk_at dksX1_does_6 10 rfl rfl)
abbrev cX1_odd : ByteArray := prog_1_method_57_code
def yX1_odd : MethodName := ⟨RX1, "odd", "(II)I"⟩
def dkwX1_odd_1 : List UInt8 := [167, 0, 4, 2, 172]
abbrev dktX1_odd_1 : List UInt8 := dkwX1_odd_1 ++ []
def dkwX1_odd_0 : List UInt8 := [42, 27, 182, 0, 101, 153, 0, 22, 28, 184, 1, 61, 153, 0, 15, 42, 27, 28, 182, 1, 140, 184, 1, 143]
abbrev dktX1_odd_0 : List UInt8 := dkwX1_odd_0 ++ dktX1_odd_1
theorem dksX1_odd_0 : cX1_odd.data.toList.drop 0 = dktX1_odd_0 := by decide +kernel
theorem dksX1_odd_1 : cX1_odd.data.toList.drop 24 = dktX1_odd_1 := dk_seg dksX1_odd_0 24 rfl rfl
theorem dX1_odd_0 : decode cX1_odd 0 = .ok (.aload_n 0, 1) := dk_42 (dk_at dksX1_odd_0 0 rfl rfl)
theorem dX1_odd_1 : decode cX1_odd 1 = .ok (.iload_n 1, 1) := dk_27 (dk_at dksX1_odd_0 1 rfl rfl)
theorem dX1_odd_2 : decode cX1_odd 2 = .ok (.invokevirtual 101, 3) := dk_182 0 101 (dk_at dksX1_odd_0 2 rfl rfl)
theorem dX1_odd_5 : decode cX1_odd 5 = .ok (.ifCond .eq 22, 3) := dk_153 0 22 (dk_at dksX1_odd_0 5 rfl rfl)
theorem dX1_odd_8 : decode cX1_odd 8 = .ok (.iload_n 2, 1) := dk_28 (dk_at dksX1_odd_0 8 rfl rfl)
theorem dX1_odd_9 : decode cX1_odd 9 = .ok (.invokestatic 317, 3) := dk_184 1 61 (dk_at dksX1_odd_0 9 rfl rfl)
theorem dX1_odd_12 : decode cX1_odd 12 = .ok (.ifCond .eq 15, 3) := dk_153 0 15 (dk_at dksX1_odd_0 12 rfl rfl)
theorem dX1_odd_15 : decode cX1_odd 15 = .ok (.aload_n 0, 1) := dk_42 (dk_at dksX1_odd_0 15 rfl rfl)
theorem dX1_odd_16 : decode cX1_odd 16 = .ok (.iload_n 1, 1) := dk_27 (dk_at dksX1_odd_0 16 rfl rfl)
theorem dX1_odd_17 : decode cX1_odd 17 = .ok (.iload_n 2, 1) := dk_28 (dk_at dksX1_odd_0 17 rfl rfl)
theorem dX1_odd_18 : decode cX1_odd 18 = .ok (.invokevirtual 396, 3) := dk_182 1 140 (dk_at dksX1_odd_0 18 rfl rfl)
theorem dX1_odd_21 : decode cX1_odd 21 = .ok (.invokestatic 399, 3) := dk_184 1 143 (dk_at dksX1_odd_0 21 rfl rfl)
theorem dX1_odd_24 : decode cX1_odd 24 = .ok (.goto 4, 3) := dk_167 0 4 (dk_at dksX1_odd_1 0 rfl rfl)
theorem dX1_odd_27 : decode cX1_odd 27 = .ok (.iconst (-1), 1) := dk_2 (dk_at dksX1_odd_1 3 rfl rfl)
theorem dX1_odd_28 : decode cX1_odd 28 = .ok (.ireturn, 1) := dk_172 (dk_at dksX1_odd_1 4 rfl rfl)
abbrev cX1_oddIf : ByteArray := prog_1_method_56_code
def yX1_oddIf : MethodName := ⟨RX1, "oddIf", "(II)I"⟩
def dkwX1_oddIf_1 : List UInt8 := [180, 0, 16, 27, 182, 1, 35, 172]
abbrev dktX1_oddIf_1 : List UInt8 := dkwX1_oddIf_1 ++ []
def dkwX1_oddIf_0 : List UInt8 := [42, 180, 0, 16, 42, 180, 0, 10, 182, 1, 45, 42, 180, 0, 16, 27, 28, 182, 1, 64, 42, 42]
abbrev dktX1_oddIf_0 : List UInt8 := dkwX1_oddIf_0 ++ dktX1_oddIf_1
theorem dksX1_oddIf_0 : cX1_oddIf.data.toList.drop 0 = dktX1_oddIf_0 := by decide +kernel
theorem dksX1_oddIf_1 : cX1_oddIf.data.toList.drop 22 = dktX1_oddIf_1 := dk_seg dksX1_oddIf_0 22 rfl rfl
theorem dX1_oddIf_0 : decode cX1_oddIf 0 = .ok (.aload_n 0, 1) := dk_42 (dk_at dksX1_oddIf_0 0 rfl rfl)
theorem dX1_oddIf_1 : decode cX1_oddIf 1 = .ok (.getfield 16, 3) := dk_180 0 16 (dk_at dksX1_oddIf_0 1 rfl rfl)
theorem dX1_oddIf_4 : decode cX1_oddIf 4 = .ok (.aload_n 0, 1) := dk_42 (dk_at dksX1_oddIf_0 4 rfl rfl)
theorem dX1_oddIf_5 : decode cX1_oddIf 5 = .ok (.getfield 10, 3) := dk_180 0 10 (dk_at dksX1_oddIf_0 5 rfl rfl)
theorem dX1_oddIf_8 : decode cX1_oddIf 8 = .ok (.invokevirtual 301, 3) := dk_182 1 45 (dk_at dksX1_oddIf_0 8 rfl rfl)
theorem dX1_oddIf_11 : decode cX1_oddIf 11 = .ok (.aload_n 0, 1) := dk_42 (dk_at dksX1_oddIf_0 11 rfl rfl)
theorem dX1_oddIf_12 : decode cX1_oddIf 12 = .ok (.getfield 16, 3) := dk_180 0 16 (dk_at dksX1_oddIf_0 12 rfl rfl)
theorem dX1_oddIf_15 : decode cX1_oddIf 15 = .ok (.iload_n 1, 1) := dk_27 (dk_at dksX1_oddIf_0 15 rfl rfl)
theorem dX1_oddIf_16 : decode cX1_oddIf 16 = .ok (.iload_n 2, 1) := dk_28 (dk_at dksX1_oddIf_0 16 rfl rfl)
theorem dX1_oddIf_17 : decode cX1_oddIf 17 = .ok (.invokevirtual 320, 3) := dk_182 1 64 (dk_at dksX1_oddIf_0 17 rfl rfl)
theorem dX1_oddIf_20 : decode cX1_oddIf 20 = .ok (.aload_n 0, 1) := dk_42 (dk_at dksX1_oddIf_0 20 rfl rfl)
theorem dX1_oddIf_21 : decode cX1_oddIf 21 = .ok (.aload_n 0, 1) := dk_42 (dk_at dksX1_oddIf_0 21 rfl rfl)
theorem dX1_oddIf_22 : decode cX1_oddIf 22 = .ok (.getfield 16, 3) := dk_180 0 16 (dk_at dksX1_oddIf_1 0 rfl rfl)
theorem dX1_oddIf_25 : decode cX1_oddIf 25 = .ok (.iload_n 1, 1) := dk_27 (dk_at dksX1_oddIf_1 3 rfl rfl)
theorem dX1_oddIf_26 : decode cX1_oddIf 26 = .ok (.invokevirtual 291, 3) := dk_182 1 35 (dk_at dksX1_oddIf_1 4 rfl rfl)
theorem dX1_oddIf_29 : decode cX1_oddIf 29 = .ok (.ireturn, 1) := dk_172 (dk_at dksX1_oddIf_1 7 rfl rfl)
abbrev cX1_shown : ByteArray := prog_1_method_55_code
def yX1_shown : MethodName := ⟨RX1, "shown", "(I)I"⟩
def dkwX1_shown_0 : List UInt8 := [17, 3, 232, 17, 252, 25, 17, 3, 231, 26, 184, 0, 129, 184, 1, 9, 96, 172]
abbrev dktX1_shown_0 : List UInt8 := dkwX1_shown_0 ++ []
theorem dksX1_shown_0 : cX1_shown.data.toList.drop 0 = dktX1_shown_0 := by decide +kernel
theorem dX1_shown_0 : decode cX1_shown 0 = .ok (.sipush 1000, 3) := dk_17 3 232 (dk_at dksX1_shown_0 0 rfl rfl)
theorem dX1_shown_3 : decode cX1_shown 3 = .ok (.sipush (-999), 3) := dk_17 252 25 (dk_at dksX1_shown_0 3 rfl rfl)
theorem dX1_shown_6 : decode cX1_shown 6 = .ok (.sipush 999, 3) := dk_17 3 231 (dk_at dksX1_shown_0 6 rfl rfl)
theorem dX1_shown_9 : decode cX1_shown 9 = .ok (.iload_n 0, 1) := dk_26 (dk_at dksX1_shown_0 9 rfl rfl)
theorem dX1_shown_10 : decode cX1_shown 10 = .ok (.invokestatic 129, 3) := dk_184 0 129 (dk_at dksX1_shown_0 10 rfl rfl)
theorem dX1_shown_13 : decode cX1_shown 13 = .ok (.invokestatic 265, 3) := dk_184 1 9 (dk_at dksX1_shown_0 13 rfl rfl)
theorem dX1_shown_16 : decode cX1_shown 16 = .ok (.iadd, 1) := dk_96 (dk_at dksX1_shown_0 16 rfl rfl)
theorem dX1_shown_17 : decode cX1_shown 17 = .ok (.ireturn, 1) := dk_172 (dk_at dksX1_shown_0 17 rfl rfl)
abbrev cX1_colours : ByteArray := prog_1_method_58_code
def yX1_colours : MethodName := ⟨RX1, "colours", "(I)I"⟩
def dkwX1_colours_4 : List UInt8 := [172]
abbrev dktX1_colours_4 : List UInt8 := dkwX1_colours_4 ++ []
def dkwX1_colours_3 : List UInt8 := [167, 255, 201, 42, 3, 181, 1, 122, 42, 28, 184, 1, 56, 133, 182, 1, 125, 42, 29, 133, 182, 1, 125, 28]
abbrev dktX1_colours_3 : List UInt8 := dkwX1_colours_3 ++ dktX1_colours_4
def dkwX1_colours_2 : List UInt8 := [21, 4, 182, 1, 140, 42, 27, 29, 182, 1, 140, 162, 0, 8, 21, 4, 167, 0, 4, 29, 62, 132, 4, 1]
abbrev dktX1_colours_2 : List UInt8 := dkwX1_colours_2 ++ dktX1_colours_3
def dkwX1_colours_1 : List UInt8 := [28, 42, 27, 21, 4, 182, 1, 140, 8, 163, 0, 10, 4, 21, 4, 120, 167, 0, 4, 3, 128, 61, 42, 27]
abbrev dktX1_colours_1 : List UInt8 := dkwX1_colours_1 ++ dktX1_colours_2
def dkwX1_colours_0 : List UInt8 := [42, 27, 182, 0, 101, 154, 0, 5, 2, 172, 3, 61, 3, 62, 3, 54, 4, 21, 4, 16, 10, 162, 0, 54]
abbrev dktX1_colours_0 : List UInt8 := dkwX1_colours_0 ++ dktX1_colours_1
theorem dksX1_colours_0 : cX1_colours.data.toList.drop 0 = dktX1_colours_0 := by decide +kernel
theorem dksX1_colours_1 : cX1_colours.data.toList.drop 24 = dktX1_colours_1 := dk_seg dksX1_colours_0 24 rfl rfl
theorem dksX1_colours_2 : cX1_colours.data.toList.drop 48 = dktX1_colours_2 := dk_seg dksX1_colours_1 24 rfl rfl
theorem dksX1_colours_3 : cX1_colours.data.toList.drop 72 = dktX1_colours_3 := dk_seg dksX1_colours_2 24 rfl rfl
theorem dksX1_colours_4 : cX1_colours.data.toList.drop 96 = dktX1_colours_4 := dk_seg dksX1_colours_3 24 rfl rfl
theorem dX1_colours_0 : decode cX1_colours 0 = .ok (.aload_n 0, 1) := dk_42 (dk_at dksX1_colours_0 0 rfl rfl)
theorem dX1_colours_1 : decode cX1_colours 1 = .ok (.iload_n 1, 1) := dk_27 (dk_at dksX1_colours_0 1 rfl rfl)
theorem dX1_colours_2 : decode cX1_colours 2 = .ok (.invokevirtual 101, 3) := dk_182 0 101 (dk_at dksX1_colours_0 2 rfl rfl)
theorem dX1_colours_5 : decode cX1_colours 5 = .ok (.ifCond .ne 5, 3) := dk_154 0 5 (dk_at dksX1_colours_0 5 rfl rfl)
theorem dX1_colours_8 : decode cX1_colours 8 = .ok (.iconst (-1), 1) := dk_2 (dk_at dksX1_colours_0 8 rfl rfl)
theorem dX1_colours_9 : decode cX1_colours 9 = .ok (.ireturn, 1) := dk_172 (dk_at dksX1_colours_0 9 rfl rfl)
theorem dX1_colours_10 : decode cX1_colours 10 = .ok (.iconst 0, 1) := dk_3 (dk_at dksX1_colours_0 10 rfl rfl)
theorem dX1_colours_11 : decode cX1_colours 11 = .ok (.istore_n 2, 1) := dk_61 (dk_at dksX1_colours_0 11 rfl rfl)
theorem dX1_colours_12 : decode cX1_colours 12 = .ok (.iconst 0, 1) := dk_3 (dk_at dksX1_colours_0 12 rfl rfl)
theorem dX1_colours_13 : decode cX1_colours 13 = .ok (.istore_n 3, 1) := dk_62 (dk_at dksX1_colours_0 13 rfl rfl)
theorem dX1_colours_14 : decode cX1_colours 14 = .ok (.iconst 0, 1) := dk_3 (dk_at dksX1_colours_0 14 rfl rfl)
theorem dX1_colours_15 : decode cX1_colours 15 = .ok (.istore 4, 2) := dk_54 4 (dk_at dksX1_colours_0 15 rfl rfl)
theorem dX1_colours_17 : decode cX1_colours 17 = .ok (.iload 4, 2) := dk_21 4 (dk_at dksX1_colours_0 17 rfl rfl)
theorem dX1_colours_19 : decode cX1_colours 19 = .ok (.bipush 10, 2) := dk_16 10 (dk_at dksX1_colours_0 19 rfl rfl)
theorem dX1_colours_21 : decode cX1_colours 21 = .ok (.if_icmp .ge 54, 3) := dk_162 0 54 (dk_at dksX1_colours_0 21 rfl rfl)
theorem dX1_colours_24 : decode cX1_colours 24 = .ok (.iload_n 2, 1) := dk_28 (dk_at dksX1_colours_1 0 rfl rfl)
theorem dX1_colours_25 : decode cX1_colours 25 = .ok (.aload_n 0, 1) := dk_42 (dk_at dksX1_colours_1 1 rfl rfl)
theorem dX1_colours_26 : decode cX1_colours 26 = .ok (.iload_n 1, 1) := dk_27 (dk_at dksX1_colours_1 2 rfl rfl)
theorem dX1_colours_27 : decode cX1_colours 27 = .ok (.iload 4, 2) := dk_21 4 (dk_at dksX1_colours_1 3 rfl rfl)
theorem dX1_colours_29 : decode cX1_colours 29 = .ok (.invokevirtual 396, 3) := dk_182 1 140 (dk_at dksX1_colours_1 5 rfl rfl)
theorem dX1_colours_32 : decode cX1_colours 32 = .ok (.iconst 5, 1) := dk_8 (dk_at dksX1_colours_1 8 rfl rfl)
theorem dX1_colours_33 : decode cX1_colours 33 = .ok (.if_icmp .gt 10, 3) := dk_163 0 10 (dk_at dksX1_colours_1 9 rfl rfl)
theorem dX1_colours_36 : decode cX1_colours 36 = .ok (.iconst 1, 1) := dk_4 (dk_at dksX1_colours_1 12 rfl rfl)
theorem dX1_colours_37 : decode cX1_colours 37 = .ok (.iload 4, 2) := dk_21 4 (dk_at dksX1_colours_1 13 rfl rfl)
theorem dX1_colours_39 : decode cX1_colours 39 = .ok (.ishl, 1) := dk_120 (dk_at dksX1_colours_1 15 rfl rfl)
theorem dX1_colours_40 : decode cX1_colours 40 = .ok (.goto 4, 3) := dk_167 0 4 (dk_at dksX1_colours_1 16 rfl rfl)
theorem dX1_colours_43 : decode cX1_colours 43 = .ok (.iconst 0, 1) := dk_3 (dk_at dksX1_colours_1 19 rfl rfl)
theorem dX1_colours_44 : decode cX1_colours 44 = .ok (.ior, 1) := dk_128 (dk_at dksX1_colours_1 20 rfl rfl)
theorem dX1_colours_45 : decode cX1_colours 45 = .ok (.istore_n 2, 1) := dk_61 (dk_at dksX1_colours_1 21 rfl rfl)
theorem dX1_colours_46 : decode cX1_colours 46 = .ok (.aload_n 0, 1) := dk_42 (dk_at dksX1_colours_1 22 rfl rfl)
theorem dX1_colours_47 : decode cX1_colours 47 = .ok (.iload_n 1, 1) := dk_27 (dk_at dksX1_colours_1 23 rfl rfl)
theorem dX1_colours_48 : decode cX1_colours 48 = .ok (.iload 4, 2) := dk_21 4 (dk_at dksX1_colours_2 0 rfl rfl)
theorem dX1_colours_50 : decode cX1_colours 50 = .ok (.invokevirtual 396, 3) := dk_182 1 140 (dk_at dksX1_colours_2 2 rfl rfl)
theorem dX1_colours_53 : decode cX1_colours 53 = .ok (.aload_n 0, 1) := dk_42 (dk_at dksX1_colours_2 5 rfl rfl)
theorem dX1_colours_54 : decode cX1_colours 54 = .ok (.iload_n 1, 1) := dk_27 (dk_at dksX1_colours_2 6 rfl rfl)
theorem dX1_colours_55 : decode cX1_colours 55 = .ok (.iload_n 3, 1) := dk_29 (dk_at dksX1_colours_2 7 rfl rfl)
theorem dX1_colours_56 : decode cX1_colours 56 = .ok (.invokevirtual 396, 3) := dk_182 1 140 (dk_at dksX1_colours_2 8 rfl rfl)
theorem dX1_colours_59 : decode cX1_colours 59 = .ok (.if_icmp .ge 8, 3) := dk_162 0 8 (dk_at dksX1_colours_2 11 rfl rfl)
theorem dX1_colours_62 : decode cX1_colours 62 = .ok (.iload 4, 2) := dk_21 4 (dk_at dksX1_colours_2 14 rfl rfl)
theorem dX1_colours_64 : decode cX1_colours 64 = .ok (.goto 4, 3) := dk_167 0 4 (dk_at dksX1_colours_2 16 rfl rfl)
theorem dX1_colours_67 : decode cX1_colours 67 = .ok (.iload_n 3, 1) := dk_29 (dk_at dksX1_colours_2 19 rfl rfl)
theorem dX1_colours_68 : decode cX1_colours 68 = .ok (.istore_n 3, 1) := dk_62 (dk_at dksX1_colours_2 20 rfl rfl)
theorem dX1_colours_69 : decode cX1_colours 69 = .ok (.iinc 4 1, 3) := dk_132 4 1 (dk_at dksX1_colours_2 21 rfl rfl)
theorem dX1_colours_72 : decode cX1_colours 72 = .ok (.goto (-55), 3) := dk_167 255 201 (dk_at dksX1_colours_3 0 rfl rfl)
theorem dX1_colours_75 : decode cX1_colours 75 = .ok (.aload_n 0, 1) := dk_42 (dk_at dksX1_colours_3 3 rfl rfl)
theorem dX1_colours_76 : decode cX1_colours 76 = .ok (.iconst 0, 1) := dk_3 (dk_at dksX1_colours_3 4 rfl rfl)
theorem dX1_colours_77 : decode cX1_colours 77 = .ok (.putfield 378, 3) := dk_181 1 122 (dk_at dksX1_colours_3 5 rfl rfl)
theorem dX1_colours_80 : decode cX1_colours 80 = .ok (.aload_n 0, 1) := dk_42 (dk_at dksX1_colours_3 8 rfl rfl)
theorem dX1_colours_81 : decode cX1_colours 81 = .ok (.iload_n 2, 1) := dk_28 (dk_at dksX1_colours_3 9 rfl rfl)
theorem dX1_colours_82 : decode cX1_colours 82 = .ok (.invokestatic 312, 3) := dk_184 1 56 (dk_at dksX1_colours_3 10 rfl rfl)
theorem dX1_colours_85 : decode cX1_colours 85 = .ok (.i2l, 1) := dk_133 (dk_at dksX1_colours_3 13 rfl rfl)
theorem dX1_colours_86 : decode cX1_colours 86 = .ok (.invokevirtual 381, 3) := dk_182 1 125 (dk_at dksX1_colours_3 14 rfl rfl)
theorem dX1_colours_89 : decode cX1_colours 89 = .ok (.aload_n 0, 1) := dk_42 (dk_at dksX1_colours_3 17 rfl rfl)
theorem dX1_colours_90 : decode cX1_colours 90 = .ok (.iload_n 3, 1) := dk_29 (dk_at dksX1_colours_3 18 rfl rfl)
theorem dX1_colours_91 : decode cX1_colours 91 = .ok (.i2l, 1) := dk_133 (dk_at dksX1_colours_3 19 rfl rfl)
theorem dX1_colours_92 : decode cX1_colours 92 = .ok (.invokevirtual 381, 3) := dk_182 1 125 (dk_at dksX1_colours_3 20 rfl rfl)
theorem dX1_colours_95 : decode cX1_colours 95 = .ok (.iload_n 2, 1) := dk_28 (dk_at dksX1_colours_3 23 rfl rfl)
theorem dX1_colours_96 : decode cX1_colours 96 = .ok (.ireturn, 1) := dk_172 (dk_at dksX1_colours_4 0 rfl rfl)
abbrev cX1_where : ByteArray := prog_1_method_60_code
def yX1_where : MethodName := ⟨RX1, "where", "(I)I"⟩
def dkwX1_where_4 : List UInt8 := [182, 1, 125, 28, 172]
abbrev dktX1_where_4 : List UInt8 := dkwX1_where_4 ++ []
def dkwX1_where_3 : List UInt8 := [132, 4, 1, 167, 255, 200, 28, 156, 0, 6, 16, 254, 172, 42, 3, 181, 1, 122, 42, 29, 184, 1, 143, 133]
abbrev dktX1_where_3 : List UInt8 := dkwX1_where_3 ++ dktX1_where_4
def dkwX1_where_2 : List UInt8 := [182, 1, 140, 54, 5, 28, 155, 0, 12, 21, 5, 29, 161, 0, 6, 167, 0, 9, 21, 4, 61, 21, 5, 62]
abbrev dktX1_where_2 : List UInt8 := dkwX1_where_2 ++ dktX1_where_3
def dkwX1_where_1 : List UInt8 := [162, 0, 53, 42, 42, 180, 0, 10, 21, 4, 182, 1, 146, 154, 0, 6, 167, 0, 31, 42, 21, 4, 27]
abbrev dktX1_where_1 : List UInt8 := dkwX1_where_1 ++ dktX1_where_2
def dkwX1_where_0 : List UInt8 := [27, 184, 1, 61, 154, 0, 5, 2, 172, 16, 254, 61, 3, 62, 3, 54, 4, 21, 4, 42, 180, 0, 94]
abbrev dktX1_where_0 : List UInt8 := dkwX1_where_0 ++ dktX1_where_1
theorem dksX1_where_0 : cX1_where.data.toList.drop 0 = dktX1_where_0 := by decide +kernel
theorem dksX1_where_1 : cX1_where.data.toList.drop 23 = dktX1_where_1 := dk_seg dksX1_where_0 23 rfl rfl
theorem dksX1_where_2 : cX1_where.data.toList.drop 46 = dktX1_where_2 := dk_seg dksX1_where_1 23 rfl rfl
theorem dksX1_where_3 : cX1_where.data.toList.drop 70 = dktX1_where_3 := dk_seg dksX1_where_2 24 rfl rfl
theorem dksX1_where_4 : cX1_where.data.toList.drop 94 = dktX1_where_4 := dk_seg dksX1_where_3 24 rfl rfl
theorem dX1_where_0 : decode cX1_where 0 = .ok (.iload_n 1, 1) := dk_27 (dk_at dksX1_where_0 0 rfl rfl)
theorem dX1_where_1 : decode cX1_where 1 = .ok (.invokestatic 317, 3) := dk_184 1 61 (dk_at dksX1_where_0 1 rfl rfl)
theorem dX1_where_4 : decode cX1_where 4 = .ok (.ifCond .ne 5, 3) := dk_154 0 5 (dk_at dksX1_where_0 4 rfl rfl)
theorem dX1_where_7 : decode cX1_where 7 = .ok (.iconst (-1), 1) := dk_2 (dk_at dksX1_where_0 7 rfl rfl)
theorem dX1_where_8 : decode cX1_where 8 = .ok (.ireturn, 1) := dk_172 (dk_at dksX1_where_0 8 rfl rfl)
theorem dX1_where_9 : decode cX1_where 9 = .ok (.bipush (-2), 2) := dk_16 254 (dk_at dksX1_where_0 9 rfl rfl)
theorem dX1_where_11 : decode cX1_where 11 = .ok (.istore_n 2, 1) := dk_61 (dk_at dksX1_where_0 11 rfl rfl)
theorem dX1_where_12 : decode cX1_where 12 = .ok (.iconst 0, 1) := dk_3 (dk_at dksX1_where_0 12 rfl rfl)
theorem dX1_where_13 : decode cX1_where 13 = .ok (.istore_n 3, 1) := dk_62 (dk_at dksX1_where_0 13 rfl rfl)
theorem dX1_where_14 : decode cX1_where 14 = .ok (.iconst 0, 1) := dk_3 (dk_at dksX1_where_0 14 rfl rfl)
theorem dX1_where_15 : decode cX1_where 15 = .ok (.istore 4, 2) := dk_54 4 (dk_at dksX1_where_0 15 rfl rfl)
theorem dX1_where_17 : decode cX1_where 17 = .ok (.iload 4, 2) := dk_21 4 (dk_at dksX1_where_0 17 rfl rfl)
theorem dX1_where_19 : decode cX1_where 19 = .ok (.aload_n 0, 1) := dk_42 (dk_at dksX1_where_0 19 rfl rfl)
theorem dX1_where_20 : decode cX1_where 20 = .ok (.getfield 94, 3) := dk_180 0 94 (dk_at dksX1_where_0 20 rfl rfl)
theorem dX1_where_23 : decode cX1_where 23 = .ok (.if_icmp .ge 53, 3) := dk_162 0 53 (dk_at dksX1_where_1 0 rfl rfl)
theorem dX1_where_26 : decode cX1_where 26 = .ok (.aload_n 0, 1) := dk_42 (dk_at dksX1_where_1 3 rfl rfl)
theorem dX1_where_27 : decode cX1_where 27 = .ok (.aload_n 0, 1) := dk_42 (dk_at dksX1_where_1 4 rfl rfl)
theorem dX1_where_28 : decode cX1_where 28 = .ok (.getfield 10, 3) := dk_180 0 10 (dk_at dksX1_where_1 5 rfl rfl)
theorem dX1_where_31 : decode cX1_where 31 = .ok (.iload 4, 2) := dk_21 4 (dk_at dksX1_where_1 8 rfl rfl)
theorem dX1_where_33 : decode cX1_where 33 = .ok (.invokevirtual 402, 3) := dk_182 1 146 (dk_at dksX1_where_1 10 rfl rfl)
theorem dX1_where_36 : decode cX1_where 36 = .ok (.ifCond .ne 6, 3) := dk_154 0 6 (dk_at dksX1_where_1 13 rfl rfl)
theorem dX1_where_39 : decode cX1_where 39 = .ok (.goto 31, 3) := dk_167 0 31 (dk_at dksX1_where_1 16 rfl rfl)
theorem dX1_where_42 : decode cX1_where 42 = .ok (.aload_n 0, 1) := dk_42 (dk_at dksX1_where_1 19 rfl rfl)
theorem dX1_where_43 : decode cX1_where 43 = .ok (.iload 4, 2) := dk_21 4 (dk_at dksX1_where_1 20 rfl rfl)
theorem dX1_where_45 : decode cX1_where 45 = .ok (.iload_n 1, 1) := dk_27 (dk_at dksX1_where_1 22 rfl rfl)
theorem dX1_where_46 : decode cX1_where 46 = .ok (.invokevirtual 396, 3) := dk_182 1 140 (dk_at dksX1_where_2 0 rfl rfl)
theorem dX1_where_49 : decode cX1_where 49 = .ok (.istore 5, 2) := dk_54 5 (dk_at dksX1_where_2 3 rfl rfl)
theorem dX1_where_51 : decode cX1_where 51 = .ok (.iload_n 2, 1) := dk_28 (dk_at dksX1_where_2 5 rfl rfl)
theorem dX1_where_52 : decode cX1_where 52 = .ok (.ifCond .lt 12, 3) := dk_155 0 12 (dk_at dksX1_where_2 6 rfl rfl)
theorem dX1_where_55 : decode cX1_where 55 = .ok (.iload 5, 2) := dk_21 5 (dk_at dksX1_where_2 9 rfl rfl)
theorem dX1_where_57 : decode cX1_where 57 = .ok (.iload_n 3, 1) := dk_29 (dk_at dksX1_where_2 11 rfl rfl)
theorem dX1_where_58 : decode cX1_where 58 = .ok (.if_icmp .lt 6, 3) := dk_161 0 6 (dk_at dksX1_where_2 12 rfl rfl)
theorem dX1_where_61 : decode cX1_where 61 = .ok (.goto 9, 3) := dk_167 0 9 (dk_at dksX1_where_2 15 rfl rfl)
theorem dX1_where_64 : decode cX1_where 64 = .ok (.iload 4, 2) := dk_21 4 (dk_at dksX1_where_2 18 rfl rfl)
theorem dX1_where_66 : decode cX1_where 66 = .ok (.istore_n 2, 1) := dk_61 (dk_at dksX1_where_2 20 rfl rfl)
theorem dX1_where_67 : decode cX1_where 67 = .ok (.iload 5, 2) := dk_21 5 (dk_at dksX1_where_2 21 rfl rfl)
theorem dX1_where_69 : decode cX1_where 69 = .ok (.istore_n 3, 1) := dk_62 (dk_at dksX1_where_2 23 rfl rfl)
theorem dX1_where_70 : decode cX1_where 70 = .ok (.iinc 4 1, 3) := dk_132 4 1 (dk_at dksX1_where_3 0 rfl rfl)
theorem dX1_where_73 : decode cX1_where 73 = .ok (.goto (-56), 3) := dk_167 255 200 (dk_at dksX1_where_3 3 rfl rfl)
theorem dX1_where_76 : decode cX1_where 76 = .ok (.iload_n 2, 1) := dk_28 (dk_at dksX1_where_3 6 rfl rfl)
theorem dX1_where_77 : decode cX1_where 77 = .ok (.ifCond .ge 6, 3) := dk_156 0 6 (dk_at dksX1_where_3 7 rfl rfl)
theorem dX1_where_80 : decode cX1_where 80 = .ok (.bipush (-2), 2) := dk_16 254 (dk_at dksX1_where_3 10 rfl rfl)
theorem dX1_where_82 : decode cX1_where 82 = .ok (.ireturn, 1) := dk_172 (dk_at dksX1_where_3 12 rfl rfl)
theorem dX1_where_83 : decode cX1_where 83 = .ok (.aload_n 0, 1) := dk_42 (dk_at dksX1_where_3 13 rfl rfl)
theorem dX1_where_84 : decode cX1_where 84 = .ok (.iconst 0, 1) := dk_3 (dk_at dksX1_where_3 14 rfl rfl)
theorem dX1_where_85 : decode cX1_where 85 = .ok (.putfield 378, 3) := dk_181 1 122 (dk_at dksX1_where_3 15 rfl rfl)
theorem dX1_where_88 : decode cX1_where 88 = .ok (.aload_n 0, 1) := dk_42 (dk_at dksX1_where_3 18 rfl rfl)
theorem dX1_where_89 : decode cX1_where 89 = .ok (.iload_n 3, 1) := dk_29 (dk_at dksX1_where_3 19 rfl rfl)
theorem dX1_where_90 : decode cX1_where 90 = .ok (.invokestatic 399, 3) := dk_184 1 143 (dk_at dksX1_where_3 20 rfl rfl)
theorem dX1_where_93 : decode cX1_where 93 = .ok (.i2l, 1) := dk_133 (dk_at dksX1_where_3 23 rfl rfl)
theorem dX1_where_94 : decode cX1_where 94 = .ok (.invokevirtual 381, 3) := dk_182 1 125 (dk_at dksX1_where_4 0 rfl rfl)
theorem dX1_where_97 : decode cX1_where 97 = .ok (.iload_n 2, 1) := dk_28 (dk_at dksX1_where_4 3 rfl rfl)
theorem dX1_where_98 : decode cX1_where 98 = .ok (.ireturn, 1) := dk_172 (dk_at dksX1_where_4 4 rfl rfl)
abbrev cX1_isFree : ByteArray := prog_1_method_59_code
def yX1_isFree : MethodName := ⟨RX1, "isFree", "(LCuckooByPost$Spring;I)Z"⟩
def dkwX1_isFree_0 : List UInt8 := [43, 180, 0, 113, 28, 46, 154, 0, 16, 42, 43, 28, 182, 0, 116, 153, 0, 7, 4, 167, 0, 4, 3, 172]
abbrev dktX1_isFree_0 : List UInt8 := dkwX1_isFree_0 ++ []
theorem dksX1_isFree_0 : cX1_isFree.data.toList.drop 0 = dktX1_isFree_0 := by decide +kernel
theorem dX1_isFree_0 : decode cX1_isFree 0 = .ok (.aload_n 1, 1) := dk_43 (dk_at dksX1_isFree_0 0 rfl rfl)
theorem dX1_isFree_1 : decode cX1_isFree 1 = .ok (.getfield 113, 3) := dk_180 0 113 (dk_at dksX1_isFree_0 1 rfl rfl)
theorem dX1_isFree_4 : decode cX1_isFree 4 = .ok (.iload_n 2, 1) := dk_28 (dk_at dksX1_isFree_0 4 rfl rfl)
theorem dX1_isFree_5 : decode cX1_isFree 5 = .ok (.iaload, 1) := dk_46 (dk_at dksX1_isFree_0 5 rfl rfl)
theorem dX1_isFree_6 : decode cX1_isFree 6 = .ok (.ifCond .ne 16, 3) := dk_154 0 16 (dk_at dksX1_isFree_0 6 rfl rfl)
theorem dX1_isFree_9 : decode cX1_isFree 9 = .ok (.aload_n 0, 1) := dk_42 (dk_at dksX1_isFree_0 9 rfl rfl)
theorem dX1_isFree_10 : decode cX1_isFree 10 = .ok (.aload_n 1, 1) := dk_43 (dk_at dksX1_isFree_0 10 rfl rfl)
theorem dX1_isFree_11 : decode cX1_isFree 11 = .ok (.iload_n 2, 1) := dk_28 (dk_at dksX1_isFree_0 11 rfl rfl)
theorem dX1_isFree_12 : decode cX1_isFree 12 = .ok (.invokevirtual 116, 3) := dk_182 0 116 (dk_at dksX1_isFree_0 12 rfl rfl)
theorem dX1_isFree_15 : decode cX1_isFree 15 = .ok (.ifCond .eq 7, 3) := dk_153 0 7 (dk_at dksX1_isFree_0 15 rfl rfl)
theorem dX1_isFree_18 : decode cX1_isFree 18 = .ok (.iconst 1, 1) := dk_4 (dk_at dksX1_isFree_0 18 rfl rfl)
theorem dX1_isFree_19 : decode cX1_isFree 19 = .ok (.goto 4, 3) := dk_167 0 4 (dk_at dksX1_isFree_0 19 rfl rfl)
theorem dX1_isFree_22 : decode cX1_isFree 22 = .ok (.iconst 0, 1) := dk_3 (dk_at dksX1_isFree_0 22 rfl rfl)
theorem dX1_isFree_23 : decode cX1_isFree 23 = .ok (.ireturn, 1) := dk_172 (dk_at dksX1_isFree_0 23 rfl rfl)
abbrev cX1_flies : ByteArray := prog_1_method_61_code
def yX1_flies : MethodName := ⟨RX1, "flies", "(II)I"⟩
def dkwX1_flies_3 : List UInt8 := [180, 0, 16, 180, 1, 82, 42, 180, 0, 10, 180, 1, 82, 100, 133, 182, 1, 125, 29, 172]
abbrev dktX1_flies_3 : List UInt8 := dkwX1_flies_3 ++ []
def dkwX1_flies_2 : List UInt8 := [28, 182, 1, 64, 42, 27, 182, 1, 149, 62, 29, 156, 0, 6, 16, 254, 172, 42, 3, 181, 1, 122, 42, 42]
abbrev dktX1_flies_2 : List UInt8 := dkwX1_flies_2 ++ dktX1_flies_3
def dkwX1_flies_1 : List UInt8 := [27, 46, 153, 0, 6, 16, 253, 172, 42, 180, 0, 16, 42, 180, 0, 10, 182, 1, 45, 42, 180, 0, 16, 27]
abbrev dktX1_flies_1 : List UInt8 := dkwX1_flies_1 ++ dktX1_flies_2
def dkwX1_flies_0 : List UInt8 := [42, 27, 182, 0, 101, 153, 0, 10, 28, 184, 1, 61, 154, 0, 5, 2, 172, 42, 180, 0, 10, 180, 0, 113]
abbrev dktX1_flies_0 : List UInt8 := dkwX1_flies_0 ++ dktX1_flies_1
theorem dksX1_flies_0 : cX1_flies.data.toList.drop 0 = dktX1_flies_0 := by decide +kernel
theorem dksX1_flies_1 : cX1_flies.data.toList.drop 24 = dktX1_flies_1 := dk_seg dksX1_flies_0 24 rfl rfl
theorem dksX1_flies_2 : cX1_flies.data.toList.drop 48 = dktX1_flies_2 := dk_seg dksX1_flies_1 24 rfl rfl
theorem dksX1_flies_3 : cX1_flies.data.toList.drop 72 = dktX1_flies_3 := dk_seg dksX1_flies_2 24 rfl rfl
theorem dX1_flies_0 : decode cX1_flies 0 = .ok (.aload_n 0, 1) := dk_42 (dk_at dksX1_flies_0 0 rfl rfl)
theorem dX1_flies_1 : decode cX1_flies 1 = .ok (.iload_n 1, 1) := dk_27 (dk_at dksX1_flies_0 1 rfl rfl)
theorem dX1_flies_2 : decode cX1_flies 2 = .ok (.invokevirtual 101, 3) := dk_182 0 101 (dk_at dksX1_flies_0 2 rfl rfl)
theorem dX1_flies_5 : decode cX1_flies 5 = .ok (.ifCond .eq 10, 3) := dk_153 0 10 (dk_at dksX1_flies_0 5 rfl rfl)
theorem dX1_flies_8 : decode cX1_flies 8 = .ok (.iload_n 2, 1) := dk_28 (dk_at dksX1_flies_0 8 rfl rfl)
theorem dX1_flies_9 : decode cX1_flies 9 = .ok (.invokestatic 317, 3) := dk_184 1 61 (dk_at dksX1_flies_0 9 rfl rfl)
theorem dX1_flies_12 : decode cX1_flies 12 = .ok (.ifCond .ne 5, 3) := dk_154 0 5 (dk_at dksX1_flies_0 12 rfl rfl)
theorem dX1_flies_15 : decode cX1_flies 15 = .ok (.iconst (-1), 1) := dk_2 (dk_at dksX1_flies_0 15 rfl rfl)
theorem dX1_flies_16 : decode cX1_flies 16 = .ok (.ireturn, 1) := dk_172 (dk_at dksX1_flies_0 16 rfl rfl)
theorem dX1_flies_17 : decode cX1_flies 17 = .ok (.aload_n 0, 1) := dk_42 (dk_at dksX1_flies_0 17 rfl rfl)
theorem dX1_flies_18 : decode cX1_flies 18 = .ok (.getfield 10, 3) := dk_180 0 10 (dk_at dksX1_flies_0 18 rfl rfl)
theorem dX1_flies_21 : decode cX1_flies 21 = .ok (.getfield 113, 3) := dk_180 0 113 (dk_at dksX1_flies_0 21 rfl rfl)
theorem dX1_flies_24 : decode cX1_flies 24 = .ok (.iload_n 1, 1) := dk_27 (dk_at dksX1_flies_1 0 rfl rfl)
theorem dX1_flies_25 : decode cX1_flies 25 = .ok (.iaload, 1) := dk_46 (dk_at dksX1_flies_1 1 rfl rfl)
theorem dX1_flies_26 : decode cX1_flies 26 = .ok (.ifCond .eq 6, 3) := dk_153 0 6 (dk_at dksX1_flies_1 2 rfl rfl)
theorem dX1_flies_29 : decode cX1_flies 29 = .ok (.bipush (-3), 2) := dk_16 253 (dk_at dksX1_flies_1 5 rfl rfl)
theorem dX1_flies_31 : decode cX1_flies 31 = .ok (.ireturn, 1) := dk_172 (dk_at dksX1_flies_1 7 rfl rfl)
theorem dX1_flies_32 : decode cX1_flies 32 = .ok (.aload_n 0, 1) := dk_42 (dk_at dksX1_flies_1 8 rfl rfl)
theorem dX1_flies_33 : decode cX1_flies 33 = .ok (.getfield 16, 3) := dk_180 0 16 (dk_at dksX1_flies_1 9 rfl rfl)
theorem dX1_flies_36 : decode cX1_flies 36 = .ok (.aload_n 0, 1) := dk_42 (dk_at dksX1_flies_1 12 rfl rfl)
theorem dX1_flies_37 : decode cX1_flies 37 = .ok (.getfield 10, 3) := dk_180 0 10 (dk_at dksX1_flies_1 13 rfl rfl)
theorem dX1_flies_40 : decode cX1_flies 40 = .ok (.invokevirtual 301, 3) := dk_182 1 45 (dk_at dksX1_flies_1 16 rfl rfl)
theorem dX1_flies_43 : decode cX1_flies 43 = .ok (.aload_n 0, 1) := dk_42 (dk_at dksX1_flies_1 19 rfl rfl)
theorem dX1_flies_44 : decode cX1_flies 44 = .ok (.getfield 16, 3) := dk_180 0 16 (dk_at dksX1_flies_1 20 rfl rfl)
theorem dX1_flies_47 : decode cX1_flies 47 = .ok (.iload_n 1, 1) := dk_27 (dk_at dksX1_flies_1 23 rfl rfl)
theorem dX1_flies_48 : decode cX1_flies 48 = .ok (.iload_n 2, 1) := dk_28 (dk_at dksX1_flies_2 0 rfl rfl)
theorem dX1_flies_49 : decode cX1_flies 49 = .ok (.invokevirtual 320, 3) := dk_182 1 64 (dk_at dksX1_flies_2 1 rfl rfl)
theorem dX1_flies_52 : decode cX1_flies 52 = .ok (.aload_n 0, 1) := dk_42 (dk_at dksX1_flies_2 4 rfl rfl)
theorem dX1_flies_53 : decode cX1_flies 53 = .ok (.iload_n 1, 1) := dk_27 (dk_at dksX1_flies_2 5 rfl rfl)
theorem dX1_flies_54 : decode cX1_flies 54 = .ok (.invokevirtual 405, 3) := dk_182 1 149 (dk_at dksX1_flies_2 6 rfl rfl)
theorem dX1_flies_57 : decode cX1_flies 57 = .ok (.istore_n 3, 1) := dk_62 (dk_at dksX1_flies_2 9 rfl rfl)
theorem dX1_flies_58 : decode cX1_flies 58 = .ok (.iload_n 3, 1) := dk_29 (dk_at dksX1_flies_2 10 rfl rfl)
theorem dX1_flies_59 : decode cX1_flies 59 = .ok (.ifCond .ge 6, 3) := dk_156 0 6 (dk_at dksX1_flies_2 11 rfl rfl)
theorem dX1_flies_62 : decode cX1_flies 62 = .ok (.bipush (-2), 2) := dk_16 254 (dk_at dksX1_flies_2 14 rfl rfl)
theorem dX1_flies_64 : decode cX1_flies 64 = .ok (.ireturn, 1) := dk_172 (dk_at dksX1_flies_2 16 rfl rfl)
theorem dX1_flies_65 : decode cX1_flies 65 = .ok (.aload_n 0, 1) := dk_42 (dk_at dksX1_flies_2 17 rfl rfl)
theorem dX1_flies_66 : decode cX1_flies 66 = .ok (.iconst 0, 1) := dk_3 (dk_at dksX1_flies_2 18 rfl rfl)
theorem dX1_flies_67 : decode cX1_flies 67 = .ok (.putfield 378, 3) := dk_181 1 122 (dk_at dksX1_flies_2 19 rfl rfl)
theorem dX1_flies_70 : decode cX1_flies 70 = .ok (.aload_n 0, 1) := dk_42 (dk_at dksX1_flies_2 22 rfl rfl)
theorem dX1_flies_71 : decode cX1_flies 71 = .ok (.aload_n 0, 1) := dk_42 (dk_at dksX1_flies_2 23 rfl rfl)
theorem dX1_flies_72 : decode cX1_flies 72 = .ok (.getfield 16, 3) := dk_180 0 16 (dk_at dksX1_flies_3 0 rfl rfl)
theorem dX1_flies_75 : decode cX1_flies 75 = .ok (.getfield 338, 3) := dk_180 1 82 (dk_at dksX1_flies_3 3 rfl rfl)
theorem dX1_flies_78 : decode cX1_flies 78 = .ok (.aload_n 0, 1) := dk_42 (dk_at dksX1_flies_3 6 rfl rfl)
theorem dX1_flies_79 : decode cX1_flies 79 = .ok (.getfield 10, 3) := dk_180 0 10 (dk_at dksX1_flies_3 7 rfl rfl)
theorem dX1_flies_82 : decode cX1_flies 82 = .ok (.getfield 338, 3) := dk_180 1 82 (dk_at dksX1_flies_3 10 rfl rfl)
theorem dX1_flies_85 : decode cX1_flies 85 = .ok (.isub, 1) := dk_100 (dk_at dksX1_flies_3 13 rfl rfl)
theorem dX1_flies_86 : decode cX1_flies 86 = .ok (.i2l, 1) := dk_133 (dk_at dksX1_flies_3 14 rfl rfl)
theorem dX1_flies_87 : decode cX1_flies 87 = .ok (.invokevirtual 381, 3) := dk_182 1 125 (dk_at dksX1_flies_3 15 rfl rfl)
theorem dX1_flies_90 : decode cX1_flies 90 = .ok (.iload_n 3, 1) := dk_29 (dk_at dksX1_flies_3 18 rfl rfl)
theorem dX1_flies_91 : decode cX1_flies 91 = .ok (.ireturn, 1) := dk_172 (dk_at dksX1_flies_3 19 rfl rfl)
abbrev cX1_fliesIn : ByteArray := prog_1_method_67_code
def yX1_fliesIn : MethodName := ⟨RX1, "fliesIn", "(I)I"⟩
def dkwX1_fliesIn_2 : List UInt8 := [154, 0, 13, 29, 153, 0, 7, 28, 167, 0, 4, 2, 172, 132, 2, 1, 167, 255, 198, 2, 172]
abbrev dktX1_fliesIn_2 : List UInt8 := dkwX1_fliesIn_2 ++ []
def dkwX1_fliesIn_1 : List UInt8 := [167, 0, 4, 3, 62, 42, 42, 180, 0, 16, 182, 1, 94, 42, 180, 0, 16, 180, 0, 113, 27, 46]
abbrev dktX1_fliesIn_1 : List UInt8 := dkwX1_fliesIn_1 ++ dktX1_fliesIn_2
def dkwX1_fliesIn_0 : List UInt8 := [4, 61, 28, 16, 60, 163, 0, 58, 42, 180, 0, 16, 180, 0, 113, 27, 46, 5, 160, 0, 7, 4]
abbrev dktX1_fliesIn_0 : List UInt8 := dkwX1_fliesIn_0 ++ dktX1_fliesIn_1
theorem dksX1_fliesIn_0 : cX1_fliesIn.data.toList.drop 0 = dktX1_fliesIn_0 := by decide +kernel
theorem dksX1_fliesIn_1 : cX1_fliesIn.data.toList.drop 22 = dktX1_fliesIn_1 := dk_seg dksX1_fliesIn_0 22 rfl rfl
theorem dksX1_fliesIn_2 : cX1_fliesIn.data.toList.drop 44 = dktX1_fliesIn_2 := dk_seg dksX1_fliesIn_1 22 rfl rfl
theorem dX1_fliesIn_0 : decode cX1_fliesIn 0 = .ok (.iconst 1, 1) := dk_4 (dk_at dksX1_fliesIn_0 0 rfl rfl)
theorem dX1_fliesIn_1 : decode cX1_fliesIn 1 = .ok (.istore_n 2, 1) := dk_61 (dk_at dksX1_fliesIn_0 1 rfl rfl)
theorem dX1_fliesIn_2 : decode cX1_fliesIn 2 = .ok (.iload_n 2, 1) := dk_28 (dk_at dksX1_fliesIn_0 2 rfl rfl)
theorem dX1_fliesIn_3 : decode cX1_fliesIn 3 = .ok (.bipush 60, 2) := dk_16 60 (dk_at dksX1_fliesIn_0 3 rfl rfl)
theorem dX1_fliesIn_5 : decode cX1_fliesIn 5 = .ok (.if_icmp .gt 58, 3) := dk_163 0 58 (dk_at dksX1_fliesIn_0 5 rfl rfl)
theorem dX1_fliesIn_8 : decode cX1_fliesIn 8 = .ok (.aload_n 0, 1) := dk_42 (dk_at dksX1_fliesIn_0 8 rfl rfl)
theorem dX1_fliesIn_9 : decode cX1_fliesIn 9 = .ok (.getfield 16, 3) := dk_180 0 16 (dk_at dksX1_fliesIn_0 9 rfl rfl)
theorem dX1_fliesIn_12 : decode cX1_fliesIn 12 = .ok (.getfield 113, 3) := dk_180 0 113 (dk_at dksX1_fliesIn_0 12 rfl rfl)
theorem dX1_fliesIn_15 : decode cX1_fliesIn 15 = .ok (.iload_n 1, 1) := dk_27 (dk_at dksX1_fliesIn_0 15 rfl rfl)
theorem dX1_fliesIn_16 : decode cX1_fliesIn 16 = .ok (.iaload, 1) := dk_46 (dk_at dksX1_fliesIn_0 16 rfl rfl)
theorem dX1_fliesIn_17 : decode cX1_fliesIn 17 = .ok (.iconst 2, 1) := dk_5 (dk_at dksX1_fliesIn_0 17 rfl rfl)
theorem dX1_fliesIn_18 : decode cX1_fliesIn 18 = .ok (.if_icmp .ne 7, 3) := dk_160 0 7 (dk_at dksX1_fliesIn_0 18 rfl rfl)
theorem dX1_fliesIn_21 : decode cX1_fliesIn 21 = .ok (.iconst 1, 1) := dk_4 (dk_at dksX1_fliesIn_0 21 rfl rfl)
theorem dX1_fliesIn_22 : decode cX1_fliesIn 22 = .ok (.goto 4, 3) := dk_167 0 4 (dk_at dksX1_fliesIn_1 0 rfl rfl)
theorem dX1_fliesIn_25 : decode cX1_fliesIn 25 = .ok (.iconst 0, 1) := dk_3 (dk_at dksX1_fliesIn_1 3 rfl rfl)
theorem dX1_fliesIn_26 : decode cX1_fliesIn 26 = .ok (.istore_n 3, 1) := dk_62 (dk_at dksX1_fliesIn_1 4 rfl rfl)
theorem dX1_fliesIn_27 : decode cX1_fliesIn 27 = .ok (.aload_n 0, 1) := dk_42 (dk_at dksX1_fliesIn_1 5 rfl rfl)
theorem dX1_fliesIn_28 : decode cX1_fliesIn 28 = .ok (.aload_n 0, 1) := dk_42 (dk_at dksX1_fliesIn_1 6 rfl rfl)
theorem dX1_fliesIn_29 : decode cX1_fliesIn 29 = .ok (.getfield 16, 3) := dk_180 0 16 (dk_at dksX1_fliesIn_1 7 rfl rfl)
theorem dX1_fliesIn_32 : decode cX1_fliesIn 32 = .ok (.invokevirtual 350, 3) := dk_182 1 94 (dk_at dksX1_fliesIn_1 10 rfl rfl)
theorem dX1_fliesIn_35 : decode cX1_fliesIn 35 = .ok (.aload_n 0, 1) := dk_42 (dk_at dksX1_fliesIn_1 13 rfl rfl)
theorem dX1_fliesIn_36 : decode cX1_fliesIn 36 = .ok (.getfield 16, 3) := dk_180 0 16 (dk_at dksX1_fliesIn_1 14 rfl rfl)
theorem dX1_fliesIn_39 : decode cX1_fliesIn 39 = .ok (.getfield 113, 3) := dk_180 0 113 (dk_at dksX1_fliesIn_1 17 rfl rfl)
theorem dX1_fliesIn_42 : decode cX1_fliesIn 42 = .ok (.iload_n 1, 1) := dk_27 (dk_at dksX1_fliesIn_1 20 rfl rfl)
theorem dX1_fliesIn_43 : decode cX1_fliesIn 43 = .ok (.iaload, 1) := dk_46 (dk_at dksX1_fliesIn_1 21 rfl rfl)
theorem dX1_fliesIn_44 : decode cX1_fliesIn 44 = .ok (.ifCond .ne 13, 3) := dk_154 0 13 (dk_at dksX1_fliesIn_2 0 rfl rfl)
theorem dX1_fliesIn_47 : decode cX1_fliesIn 47 = .ok (.iload_n 3, 1) := dk_29 (dk_at dksX1_fliesIn_2 3 rfl rfl)
theorem dX1_fliesIn_48 : decode cX1_fliesIn 48 = .ok (.ifCond .eq 7, 3) := dk_153 0 7 (dk_at dksX1_fliesIn_2 4 rfl rfl)
theorem dX1_fliesIn_51 : decode cX1_fliesIn 51 = .ok (.iload_n 2, 1) := dk_28 (dk_at dksX1_fliesIn_2 7 rfl rfl)
theorem dX1_fliesIn_52 : decode cX1_fliesIn 52 = .ok (.goto 4, 3) := dk_167 0 4 (dk_at dksX1_fliesIn_2 8 rfl rfl)
theorem dX1_fliesIn_55 : decode cX1_fliesIn 55 = .ok (.iconst (-1), 1) := dk_2 (dk_at dksX1_fliesIn_2 11 rfl rfl)
theorem dX1_fliesIn_56 : decode cX1_fliesIn 56 = .ok (.ireturn, 1) := dk_172 (dk_at dksX1_fliesIn_2 12 rfl rfl)
theorem dX1_fliesIn_57 : decode cX1_fliesIn 57 = .ok (.iinc 2 1, 3) := dk_132 2 1 (dk_at dksX1_fliesIn_2 13 rfl rfl)
theorem dX1_fliesIn_60 : decode cX1_fliesIn 60 = .ok (.goto (-58), 3) := dk_167 255 198 (dk_at dksX1_fliesIn_2 16 rfl rfl)
theorem dX1_fliesIn_63 : decode cX1_fliesIn 63 = .ok (.iconst (-1), 1) := dk_2 (dk_at dksX1_fliesIn_2 19 rfl rfl)
theorem dX1_fliesIn_64 : decode cX1_fliesIn 64 = .ok (.ireturn, 1) := dk_172 (dk_at dksX1_fliesIn_2 20 rfl rfl)
abbrev cX1_later : ByteArray := prog_1_method_62_code
def yX1_later : MethodName := ⟨RX1, "later", "(I)I"⟩
def dkwX1_later_3 : List UInt8 := [182, 1, 76, 133, 182, 1, 125, 42, 180, 0, 16, 180, 1, 88, 42, 180, 0, 10, 180, 1, 88, 100, 172]
abbrev dktX1_later_3 : List UInt8 := dkwX1_later_3 ++ []
def dkwX1_later_2 : List UInt8 := [180, 1, 82, 42, 180, 0, 10, 180, 1, 82, 100, 133, 182, 1, 125, 42, 42, 42, 180, 0, 16, 4]
abbrev dktX1_later_2 : List UInt8 := dkwX1_later_2 ++ dktX1_later_3
def dkwX1_later_1 : List UInt8 := [182, 1, 45, 42, 42, 180, 0, 16, 27, 182, 1, 118, 42, 3, 181, 1, 122, 42, 42, 180, 0, 16]
abbrev dktX1_later_1 : List UInt8 := dkwX1_later_1 ++ dktX1_later_2
def dkwX1_later_0 : List UInt8 := [27, 133, 9, 20, 1, 152, 184, 0, 97, 154, 0, 5, 2, 172, 42, 180, 0, 16, 42, 180, 0, 10]
abbrev dktX1_later_0 : List UInt8 := dkwX1_later_0 ++ dktX1_later_1
theorem dksX1_later_0 : cX1_later.data.toList.drop 0 = dktX1_later_0 := by decide +kernel
theorem dksX1_later_1 : cX1_later.data.toList.drop 22 = dktX1_later_1 := dk_seg dksX1_later_0 22 rfl rfl
theorem dksX1_later_2 : cX1_later.data.toList.drop 44 = dktX1_later_2 := dk_seg dksX1_later_1 22 rfl rfl
theorem dksX1_later_3 : cX1_later.data.toList.drop 66 = dktX1_later_3 := dk_seg dksX1_later_2 22 rfl rfl
theorem dX1_later_0 : decode cX1_later 0 = .ok (.iload_n 1, 1) := dk_27 (dk_at dksX1_later_0 0 rfl rfl)
theorem dX1_later_1 : decode cX1_later 1 = .ok (.i2l, 1) := dk_133 (dk_at dksX1_later_0 1 rfl rfl)
theorem dX1_later_2 : decode cX1_later 2 = .ok (.lconst 0, 1) := dk_9 (dk_at dksX1_later_0 2 rfl rfl)
theorem dX1_later_3 : decode cX1_later 3 = .ok (.ldc2_w 408, 3) := dk_20 1 152 (dk_at dksX1_later_0 3 rfl rfl)
theorem dX1_later_6 : decode cX1_later 6 = .ok (.invokestatic 97, 3) := dk_184 0 97 (dk_at dksX1_later_0 6 rfl rfl)
theorem dX1_later_9 : decode cX1_later 9 = .ok (.ifCond .ne 5, 3) := dk_154 0 5 (dk_at dksX1_later_0 9 rfl rfl)
theorem dX1_later_12 : decode cX1_later 12 = .ok (.iconst (-1), 1) := dk_2 (dk_at dksX1_later_0 12 rfl rfl)
theorem dX1_later_13 : decode cX1_later 13 = .ok (.ireturn, 1) := dk_172 (dk_at dksX1_later_0 13 rfl rfl)
theorem dX1_later_14 : decode cX1_later 14 = .ok (.aload_n 0, 1) := dk_42 (dk_at dksX1_later_0 14 rfl rfl)
theorem dX1_later_15 : decode cX1_later 15 = .ok (.getfield 16, 3) := dk_180 0 16 (dk_at dksX1_later_0 15 rfl rfl)
theorem dX1_later_18 : decode cX1_later 18 = .ok (.aload_n 0, 1) := dk_42 (dk_at dksX1_later_0 18 rfl rfl)
theorem dX1_later_19 : decode cX1_later 19 = .ok (.getfield 10, 3) := dk_180 0 10 (dk_at dksX1_later_0 19 rfl rfl)
theorem dX1_later_22 : decode cX1_later 22 = .ok (.invokevirtual 301, 3) := dk_182 1 45 (dk_at dksX1_later_1 0 rfl rfl)
theorem dX1_later_25 : decode cX1_later 25 = .ok (.aload_n 0, 1) := dk_42 (dk_at dksX1_later_1 3 rfl rfl)
theorem dX1_later_26 : decode cX1_later 26 = .ok (.aload_n 0, 1) := dk_42 (dk_at dksX1_later_1 4 rfl rfl)
theorem dX1_later_27 : decode cX1_later 27 = .ok (.getfield 16, 3) := dk_180 0 16 (dk_at dksX1_later_1 5 rfl rfl)
theorem dX1_later_30 : decode cX1_later 30 = .ok (.iload_n 1, 1) := dk_27 (dk_at dksX1_later_1 8 rfl rfl)
theorem dX1_later_31 : decode cX1_later 31 = .ok (.invokevirtual 374, 3) := dk_182 1 118 (dk_at dksX1_later_1 9 rfl rfl)
theorem dX1_later_34 : decode cX1_later 34 = .ok (.aload_n 0, 1) := dk_42 (dk_at dksX1_later_1 12 rfl rfl)
theorem dX1_later_35 : decode cX1_later 35 = .ok (.iconst 0, 1) := dk_3 (dk_at dksX1_later_1 13 rfl rfl)
theorem dX1_later_36 : decode cX1_later 36 = .ok (.putfield 378, 3) := dk_181 1 122 (dk_at dksX1_later_1 14 rfl rfl)
theorem dX1_later_39 : decode cX1_later 39 = .ok (.aload_n 0, 1) := dk_42 (dk_at dksX1_later_1 17 rfl rfl)
theorem dX1_later_40 : decode cX1_later 40 = .ok (.aload_n 0, 1) := dk_42 (dk_at dksX1_later_1 18 rfl rfl)
theorem dX1_later_41 : decode cX1_later 41 = .ok (.getfield 16, 3) := dk_180 0 16 (dk_at dksX1_later_1 19 rfl rfl)
theorem dX1_later_44 : decode cX1_later 44 = .ok (.getfield 338, 3) := dk_180 1 82 (dk_at dksX1_later_2 0 rfl rfl)
theorem dX1_later_47 : decode cX1_later 47 = .ok (.aload_n 0, 1) := dk_42 (dk_at dksX1_later_2 3 rfl rfl)
theorem dX1_later_48 : decode cX1_later 48 = .ok (.getfield 10, 3) := dk_180 0 10 (dk_at dksX1_later_2 4 rfl rfl)
theorem dX1_later_51 : decode cX1_later 51 = .ok (.getfield 338, 3) := dk_180 1 82 (dk_at dksX1_later_2 7 rfl rfl)
theorem dX1_later_54 : decode cX1_later 54 = .ok (.isub, 1) := dk_100 (dk_at dksX1_later_2 10 rfl rfl)
theorem dX1_later_55 : decode cX1_later 55 = .ok (.i2l, 1) := dk_133 (dk_at dksX1_later_2 11 rfl rfl)
theorem dX1_later_56 : decode cX1_later 56 = .ok (.invokevirtual 381, 3) := dk_182 1 125 (dk_at dksX1_later_2 12 rfl rfl)
theorem dX1_later_59 : decode cX1_later 59 = .ok (.aload_n 0, 1) := dk_42 (dk_at dksX1_later_2 15 rfl rfl)
theorem dX1_later_60 : decode cX1_later 60 = .ok (.aload_n 0, 1) := dk_42 (dk_at dksX1_later_2 16 rfl rfl)
theorem dX1_later_61 : decode cX1_later 61 = .ok (.aload_n 0, 1) := dk_42 (dk_at dksX1_later_2 17 rfl rfl)
theorem dX1_later_62 : decode cX1_later 62 = .ok (.getfield 16, 3) := dk_180 0 16 (dk_at dksX1_later_2 18 rfl rfl)
theorem dX1_later_65 : decode cX1_later 65 = .ok (.iconst 1, 1) := dk_4 (dk_at dksX1_later_2 21 rfl rfl)
theorem dX1_later_66 : decode cX1_later 66 = .ok (.invokevirtual 332, 3) := dk_182 1 76 (dk_at dksX1_later_3 0 rfl rfl)
theorem dX1_later_69 : decode cX1_later 69 = .ok (.i2l, 1) := dk_133 (dk_at dksX1_later_3 3 rfl rfl)
theorem dX1_later_70 : decode cX1_later 70 = .ok (.invokevirtual 381, 3) := dk_182 1 125 (dk_at dksX1_later_3 4 rfl rfl)
theorem dX1_later_73 : decode cX1_later 73 = .ok (.aload_n 0, 1) := dk_42 (dk_at dksX1_later_3 7 rfl rfl)
theorem dX1_later_74 : decode cX1_later 74 = .ok (.getfield 16, 3) := dk_180 0 16 (dk_at dksX1_later_3 8 rfl rfl)
theorem dX1_later_77 : decode cX1_later 77 = .ok (.getfield 344, 3) := dk_180 1 88 (dk_at dksX1_later_3 11 rfl rfl)
theorem dX1_later_80 : decode cX1_later 80 = .ok (.aload_n 0, 1) := dk_42 (dk_at dksX1_later_3 14 rfl rfl)
theorem dX1_later_81 : decode cX1_later 81 = .ok (.getfield 10, 3) := dk_180 0 10 (dk_at dksX1_later_3 15 rfl rfl)
theorem dX1_later_84 : decode cX1_later 84 = .ok (.getfield 344, 3) := dk_180 1 88 (dk_at dksX1_later_3 18 rfl rfl)
theorem dX1_later_87 : decode cX1_later 87 = .ok (.isub, 1) := dk_100 (dk_at dksX1_later_3 21 rfl rfl)
theorem dX1_later_88 : decode cX1_later 88 = .ok (.ireturn, 1) := dk_172 (dk_at dksX1_later_3 22 rfl rfl)
abbrev cX1_place : ByteArray := prog_1_method_64_code
def yX1_place : MethodName := ⟨RX1, "place", "()I"⟩
def dkwX1_place_5 : List UInt8 := [172]
abbrev dktX1_place_5 : List UInt8 := dkwX1_place_5 ++ []
def dkwX1_place_4 : List UInt8 := [162, 0, 20, 42, 42, 180, 0, 65, 28, 46, 133, 182, 1, 125, 132, 2, 1, 167, 255, 237, 42, 180, 1, 154]
abbrev dktX1_place_4 : List UInt8 := dkwX1_place_4 ++ dktX1_place_5
def dkwX1_place_3 : List UInt8 := [182, 1, 163, 42, 180, 1, 154, 156, 0, 7, 17, 255, 56, 172, 42, 3, 181, 1, 122, 3, 61, 28, 27]
abbrev dktX1_place_3 : List UInt8 := dkwX1_place_3 ++ dktX1_place_4
def dkwX1_place_2 : List UInt8 := [42, 180, 0, 135, 162, 0, 10, 2, 42, 180, 0, 123, 100, 172, 42, 2, 181, 1, 154, 42, 3, 27, 3]
abbrev dktX1_place_2 : List UInt8 := dkwX1_place_2 ++ dktX1_place_3
def dkwX1_place_1 : List UInt8 := [180, 0, 59, 27, 42, 4, 182, 0, 170, 79, 132, 1, 1, 167, 255, 230, 27, 153, 0, 14, 42, 180, 0, 123]
abbrev dktX1_place_1 : List UInt8 := dkwX1_place_1 ++ dktX1_place_2
def dkwX1_place_0 : List UInt8 := [42, 16, 80, 182, 0, 175, 87, 3, 60, 27, 7, 162, 0, 27, 42, 182, 0, 156, 153, 0, 20, 42]
abbrev dktX1_place_0 : List UInt8 := dkwX1_place_0 ++ dktX1_place_1
theorem dksX1_place_0 : cX1_place.data.toList.drop 0 = dktX1_place_0 := by decide +kernel
theorem dksX1_place_1 : cX1_place.data.toList.drop 22 = dktX1_place_1 := dk_seg dksX1_place_0 22 rfl rfl
theorem dksX1_place_2 : cX1_place.data.toList.drop 46 = dktX1_place_2 := dk_seg dksX1_place_1 24 rfl rfl
theorem dksX1_place_3 : cX1_place.data.toList.drop 69 = dktX1_place_3 := dk_seg dksX1_place_2 23 rfl rfl
theorem dksX1_place_4 : cX1_place.data.toList.drop 92 = dktX1_place_4 := dk_seg dksX1_place_3 23 rfl rfl
theorem dksX1_place_5 : cX1_place.data.toList.drop 116 = dktX1_place_5 := dk_seg dksX1_place_4 24 rfl rfl
theorem dX1_place_0 : decode cX1_place 0 = .ok (.aload_n 0, 1) := dk_42 (dk_at dksX1_place_0 0 rfl rfl)
theorem dX1_place_1 : decode cX1_place 1 = .ok (.bipush 80, 2) := dk_16 80 (dk_at dksX1_place_0 1 rfl rfl)
theorem dX1_place_3 : decode cX1_place 3 = .ok (.invokevirtual 175, 3) := dk_182 0 175 (dk_at dksX1_place_0 3 rfl rfl)
theorem dX1_place_6 : decode cX1_place 6 = .ok (.pop, 1) := dk_87 (dk_at dksX1_place_0 6 rfl rfl)
theorem dX1_place_7 : decode cX1_place 7 = .ok (.iconst 0, 1) := dk_3 (dk_at dksX1_place_0 7 rfl rfl)
theorem dX1_place_8 : decode cX1_place 8 = .ok (.istore_n 1, 1) := dk_60 (dk_at dksX1_place_0 8 rfl rfl)
theorem dX1_place_9 : decode cX1_place 9 = .ok (.iload_n 1, 1) := dk_27 (dk_at dksX1_place_0 9 rfl rfl)
theorem dX1_place_10 : decode cX1_place 10 = .ok (.iconst 4, 1) := dk_7 (dk_at dksX1_place_0 10 rfl rfl)
theorem dX1_place_11 : decode cX1_place 11 = .ok (.if_icmp .ge 27, 3) := dk_162 0 27 (dk_at dksX1_place_0 11 rfl rfl)
theorem dX1_place_14 : decode cX1_place 14 = .ok (.aload_n 0, 1) := dk_42 (dk_at dksX1_place_0 14 rfl rfl)
theorem dX1_place_15 : decode cX1_place 15 = .ok (.invokevirtual 156, 3) := dk_182 0 156 (dk_at dksX1_place_0 15 rfl rfl)
theorem dX1_place_18 : decode cX1_place 18 = .ok (.ifCond .eq 20, 3) := dk_153 0 20 (dk_at dksX1_place_0 18 rfl rfl)
theorem dX1_place_21 : decode cX1_place 21 = .ok (.aload_n 0, 1) := dk_42 (dk_at dksX1_place_0 21 rfl rfl)
theorem dX1_place_22 : decode cX1_place 22 = .ok (.getfield 59, 3) := dk_180 0 59 (dk_at dksX1_place_1 0 rfl rfl)
theorem dX1_place_25 : decode cX1_place 25 = .ok (.iload_n 1, 1) := dk_27 (dk_at dksX1_place_1 3 rfl rfl)
theorem dX1_place_26 : decode cX1_place 26 = .ok (.aload_n 0, 1) := dk_42 (dk_at dksX1_place_1 4 rfl rfl)
theorem dX1_place_27 : decode cX1_place 27 = .ok (.iconst 1, 1) := dk_4 (dk_at dksX1_place_1 5 rfl rfl)
theorem dX1_place_28 : decode cX1_place 28 = .ok (.invokevirtual 170, 3) := dk_182 0 170 (dk_at dksX1_place_1 6 rfl rfl)
theorem dX1_place_31 : decode cX1_place 31 = .ok (.iastore, 1) := dk_79 (dk_at dksX1_place_1 9 rfl rfl)
theorem dX1_place_32 : decode cX1_place 32 = .ok (.iinc 1 1, 3) := dk_132 1 1 (dk_at dksX1_place_1 10 rfl rfl)
theorem dX1_place_35 : decode cX1_place 35 = .ok (.goto (-26), 3) := dk_167 255 230 (dk_at dksX1_place_1 13 rfl rfl)
theorem dX1_place_38 : decode cX1_place 38 = .ok (.iload_n 1, 1) := dk_27 (dk_at dksX1_place_1 16 rfl rfl)
theorem dX1_place_39 : decode cX1_place 39 = .ok (.ifCond .eq 14, 3) := dk_153 0 14 (dk_at dksX1_place_1 17 rfl rfl)
theorem dX1_place_42 : decode cX1_place 42 = .ok (.aload_n 0, 1) := dk_42 (dk_at dksX1_place_1 20 rfl rfl)
theorem dX1_place_43 : decode cX1_place 43 = .ok (.getfield 123, 3) := dk_180 0 123 (dk_at dksX1_place_1 21 rfl rfl)
theorem dX1_place_46 : decode cX1_place 46 = .ok (.aload_n 0, 1) := dk_42 (dk_at dksX1_place_2 0 rfl rfl)
theorem dX1_place_47 : decode cX1_place 47 = .ok (.getfield 135, 3) := dk_180 0 135 (dk_at dksX1_place_2 1 rfl rfl)
theorem dX1_place_50 : decode cX1_place 50 = .ok (.if_icmp .ge 10, 3) := dk_162 0 10 (dk_at dksX1_place_2 4 rfl rfl)
theorem dX1_place_53 : decode cX1_place 53 = .ok (.iconst (-1), 1) := dk_2 (dk_at dksX1_place_2 7 rfl rfl)
theorem dX1_place_54 : decode cX1_place 54 = .ok (.aload_n 0, 1) := dk_42 (dk_at dksX1_place_2 8 rfl rfl)
theorem dX1_place_55 : decode cX1_place 55 = .ok (.getfield 123, 3) := dk_180 0 123 (dk_at dksX1_place_2 9 rfl rfl)
theorem dX1_place_58 : decode cX1_place 58 = .ok (.isub, 1) := dk_100 (dk_at dksX1_place_2 12 rfl rfl)
theorem dX1_place_59 : decode cX1_place 59 = .ok (.ireturn, 1) := dk_172 (dk_at dksX1_place_2 13 rfl rfl)
theorem dX1_place_60 : decode cX1_place 60 = .ok (.aload_n 0, 1) := dk_42 (dk_at dksX1_place_2 14 rfl rfl)
theorem dX1_place_61 : decode cX1_place 61 = .ok (.iconst (-1), 1) := dk_2 (dk_at dksX1_place_2 15 rfl rfl)
theorem dX1_place_62 : decode cX1_place 62 = .ok (.putfield 410, 3) := dk_181 1 154 (dk_at dksX1_place_2 16 rfl rfl)
theorem dX1_place_65 : decode cX1_place 65 = .ok (.aload_n 0, 1) := dk_42 (dk_at dksX1_place_2 19 rfl rfl)
theorem dX1_place_66 : decode cX1_place 66 = .ok (.iconst 0, 1) := dk_3 (dk_at dksX1_place_2 20 rfl rfl)
theorem dX1_place_67 : decode cX1_place 67 = .ok (.iload_n 1, 1) := dk_27 (dk_at dksX1_place_2 21 rfl rfl)
theorem dX1_place_68 : decode cX1_place 68 = .ok (.iconst 0, 1) := dk_3 (dk_at dksX1_place_2 22 rfl rfl)
theorem dX1_place_69 : decode cX1_place 69 = .ok (.invokevirtual 419, 3) := dk_182 1 163 (dk_at dksX1_place_3 0 rfl rfl)
theorem dX1_place_72 : decode cX1_place 72 = .ok (.aload_n 0, 1) := dk_42 (dk_at dksX1_place_3 3 rfl rfl)
theorem dX1_place_73 : decode cX1_place 73 = .ok (.getfield 410, 3) := dk_180 1 154 (dk_at dksX1_place_3 4 rfl rfl)
theorem dX1_place_76 : decode cX1_place 76 = .ok (.ifCond .ge 7, 3) := dk_156 0 7 (dk_at dksX1_place_3 7 rfl rfl)
theorem dX1_place_79 : decode cX1_place 79 = .ok (.sipush (-200), 3) := dk_17 255 56 (dk_at dksX1_place_3 10 rfl rfl)
theorem dX1_place_82 : decode cX1_place 82 = .ok (.ireturn, 1) := dk_172 (dk_at dksX1_place_3 13 rfl rfl)
theorem dX1_place_83 : decode cX1_place 83 = .ok (.aload_n 0, 1) := dk_42 (dk_at dksX1_place_3 14 rfl rfl)
theorem dX1_place_84 : decode cX1_place 84 = .ok (.iconst 0, 1) := dk_3 (dk_at dksX1_place_3 15 rfl rfl)
theorem dX1_place_85 : decode cX1_place 85 = .ok (.putfield 378, 3) := dk_181 1 122 (dk_at dksX1_place_3 16 rfl rfl)
theorem dX1_place_88 : decode cX1_place 88 = .ok (.iconst 0, 1) := dk_3 (dk_at dksX1_place_3 19 rfl rfl)
theorem dX1_place_89 : decode cX1_place 89 = .ok (.istore_n 2, 1) := dk_61 (dk_at dksX1_place_3 20 rfl rfl)
theorem dX1_place_90 : decode cX1_place 90 = .ok (.iload_n 2, 1) := dk_28 (dk_at dksX1_place_3 21 rfl rfl)
theorem dX1_place_91 : decode cX1_place 91 = .ok (.iload_n 1, 1) := dk_27 (dk_at dksX1_place_3 22 rfl rfl)
theorem dX1_place_92 : decode cX1_place 92 = .ok (.if_icmp .ge 20, 3) := dk_162 0 20 (dk_at dksX1_place_4 0 rfl rfl)
theorem dX1_place_95 : decode cX1_place 95 = .ok (.aload_n 0, 1) := dk_42 (dk_at dksX1_place_4 3 rfl rfl)
theorem dX1_place_96 : decode cX1_place 96 = .ok (.aload_n 0, 1) := dk_42 (dk_at dksX1_place_4 4 rfl rfl)
theorem dX1_place_97 : decode cX1_place 97 = .ok (.getfield 65, 3) := dk_180 0 65 (dk_at dksX1_place_4 5 rfl rfl)
theorem dX1_place_100 : decode cX1_place 100 = .ok (.iload_n 2, 1) := dk_28 (dk_at dksX1_place_4 8 rfl rfl)
theorem dX1_place_101 : decode cX1_place 101 = .ok (.iaload, 1) := dk_46 (dk_at dksX1_place_4 9 rfl rfl)
theorem dX1_place_102 : decode cX1_place 102 = .ok (.i2l, 1) := dk_133 (dk_at dksX1_place_4 10 rfl rfl)
theorem dX1_place_103 : decode cX1_place 103 = .ok (.invokevirtual 381, 3) := dk_182 1 125 (dk_at dksX1_place_4 11 rfl rfl)
theorem dX1_place_106 : decode cX1_place 106 = .ok (.iinc 2 1, 3) := dk_132 2 1 (dk_at dksX1_place_4 14 rfl rfl)
theorem dX1_place_109 : decode cX1_place 109 = .ok (.goto (-19), 3) := dk_167 255 237 (dk_at dksX1_place_4 17 rfl rfl)
theorem dX1_place_112 : decode cX1_place 112 = .ok (.aload_n 0, 1) := dk_42 (dk_at dksX1_place_4 20 rfl rfl)
theorem dX1_place_113 : decode cX1_place 113 = .ok (.getfield 410, 3) := dk_180 1 154 (dk_at dksX1_place_4 21 rfl rfl)
theorem dX1_place_116 : decode cX1_place 116 = .ok (.ireturn, 1) := dk_172 (dk_at dksX1_place_5 0 rfl rfl)
abbrev cX1_placesFrom : ByteArray := prog_1_method_63_code
def yX1_placesFrom : MethodName := ⟨RX1, "placesFrom", "(III)V"⟩
def dkwX1_placesFrom_7 : List UInt8 := [4, 96, 28, 29, 4, 21, 4, 120, 128, 182, 1, 163, 132, 4, 1, 167, 255, 197, 177]
abbrev dktX1_placesFrom_7 : List UInt8 := dkwX1_placesFrom_7 ++ []
def dkwX1_placesFrom_6 : List UInt8 := [180, 0, 10, 21, 4, 182, 1, 146, 154, 0, 6, 167, 0, 25, 42, 180, 0, 62, 27, 21, 4, 79, 42, 27]
abbrev dktX1_placesFrom_6 : List UInt8 := dkwX1_placesFrom_6 ++ dktX1_placesFrom_7
def dkwX1_placesFrom_5 : List UInt8 := [177, 3, 54, 4, 21, 4, 42, 180, 0, 94, 162, 0, 56, 29, 21, 4, 184, 1, 85, 154, 0, 41, 42, 42]
abbrev dktX1_placesFrom_5 : List UInt8 := dkwX1_placesFrom_5 ++ dktX1_placesFrom_6
def dkwX1_placesFrom_4 : List UInt8 := [180, 0, 10, 180, 1, 88, 100, 181, 1, 154, 42, 180, 0, 62, 3, 42, 180, 0, 65, 3, 7, 184, 1, 157]
abbrev dktX1_placesFrom_4 : List UInt8 := dkwX1_placesFrom_4 ++ dktX1_placesFrom_5
def dkwX1_placesFrom_3 : List UInt8 := [180, 0, 10, 180, 1, 88, 100, 42, 180, 1, 154, 163, 0, 4, 177, 42, 42, 180, 0, 16, 180, 1, 88, 42]
abbrev dktX1_placesFrom_3 : List UInt8 := dkwX1_placesFrom_3 ++ dktX1_placesFrom_4
def dkwX1_placesFrom_2 : List UInt8 := [132, 4, 1, 167, 255, 226, 42, 42, 180, 0, 16, 16, 60, 182, 1, 118, 42, 180, 0, 16, 180, 1, 88, 42]
abbrev dktX1_placesFrom_2 : List UInt8 := dkwX1_placesFrom_2 ++ dktX1_placesFrom_3
def dkwX1_placesFrom_1 : List UInt8 := [162, 0, 30, 42, 180, 0, 16, 42, 180, 0, 62, 21, 4, 46, 42, 180, 0, 59, 21, 4, 46, 182, 1, 64]
abbrev dktX1_placesFrom_1 : List UInt8 := dkwX1_placesFrom_1 ++ dktX1_placesFrom_2
def dkwX1_placesFrom_0 : List UInt8 := [27, 28, 160, 0, 117, 42, 180, 0, 16, 42, 180, 0, 10, 182, 1, 45, 3, 54, 4, 21, 4, 28]
abbrev dktX1_placesFrom_0 : List UInt8 := dkwX1_placesFrom_0 ++ dktX1_placesFrom_1
theorem dksX1_placesFrom_0 : cX1_placesFrom.data.toList.drop 0 = dktX1_placesFrom_0 := by decide +kernel
theorem dksX1_placesFrom_1 : cX1_placesFrom.data.toList.drop 22 = dktX1_placesFrom_1 := dk_seg dksX1_placesFrom_0 22 rfl rfl
theorem dksX1_placesFrom_2 : cX1_placesFrom.data.toList.drop 46 = dktX1_placesFrom_2 := dk_seg dksX1_placesFrom_1 24 rfl rfl
theorem dksX1_placesFrom_3 : cX1_placesFrom.data.toList.drop 70 = dktX1_placesFrom_3 := dk_seg dksX1_placesFrom_2 24 rfl rfl
theorem dksX1_placesFrom_4 : cX1_placesFrom.data.toList.drop 94 = dktX1_placesFrom_4 := dk_seg dksX1_placesFrom_3 24 rfl rfl
theorem dksX1_placesFrom_5 : cX1_placesFrom.data.toList.drop 118 = dktX1_placesFrom_5 := dk_seg dksX1_placesFrom_4 24 rfl rfl
theorem dksX1_placesFrom_6 : cX1_placesFrom.data.toList.drop 142 = dktX1_placesFrom_6 := dk_seg dksX1_placesFrom_5 24 rfl rfl
theorem dksX1_placesFrom_7 : cX1_placesFrom.data.toList.drop 166 = dktX1_placesFrom_7 := dk_seg dksX1_placesFrom_6 24 rfl rfl
theorem dX1_placesFrom_0 : decode cX1_placesFrom 0 = .ok (.iload_n 1, 1) := dk_27 (dk_at dksX1_placesFrom_0 0 rfl rfl)
theorem dX1_placesFrom_1 : decode cX1_placesFrom 1 = .ok (.iload_n 2, 1) := dk_28 (dk_at dksX1_placesFrom_0 1 rfl rfl)
theorem dX1_placesFrom_2 : decode cX1_placesFrom 2 = .ok (.if_icmp .ne 117, 3) := dk_160 0 117 (dk_at dksX1_placesFrom_0 2 rfl rfl)
theorem dX1_placesFrom_5 : decode cX1_placesFrom 5 = .ok (.aload_n 0, 1) := dk_42 (dk_at dksX1_placesFrom_0 5 rfl rfl)
theorem dX1_placesFrom_6 : decode cX1_placesFrom 6 = .ok (.getfield 16, 3) := dk_180 0 16 (dk_at dksX1_placesFrom_0 6 rfl rfl)
theorem dX1_placesFrom_9 : decode cX1_placesFrom 9 = .ok (.aload_n 0, 1) := dk_42 (dk_at dksX1_placesFrom_0 9 rfl rfl)
theorem dX1_placesFrom_10 : decode cX1_placesFrom 10 = .ok (.getfield 10, 3) := dk_180 0 10 (dk_at dksX1_placesFrom_0 10 rfl rfl)
theorem dX1_placesFrom_13 : decode cX1_placesFrom 13 = .ok (.invokevirtual 301, 3) := dk_182 1 45 (dk_at dksX1_placesFrom_0 13 rfl rfl)
theorem dX1_placesFrom_16 : decode cX1_placesFrom 16 = .ok (.iconst 0, 1) := dk_3 (dk_at dksX1_placesFrom_0 16 rfl rfl)
theorem dX1_placesFrom_17 : decode cX1_placesFrom 17 = .ok (.istore 4, 2) := dk_54 4 (dk_at dksX1_placesFrom_0 17 rfl rfl)
theorem dX1_placesFrom_19 : decode cX1_placesFrom 19 = .ok (.iload 4, 2) := dk_21 4 (dk_at dksX1_placesFrom_0 19 rfl rfl)
theorem dX1_placesFrom_21 : decode cX1_placesFrom 21 = .ok (.iload_n 2, 1) := dk_28 (dk_at dksX1_placesFrom_0 21 rfl rfl)
theorem dX1_placesFrom_22 : decode cX1_placesFrom 22 = .ok (.if_icmp .ge 30, 3) := dk_162 0 30 (dk_at dksX1_placesFrom_1 0 rfl rfl)
theorem dX1_placesFrom_25 : decode cX1_placesFrom 25 = .ok (.aload_n 0, 1) := dk_42 (dk_at dksX1_placesFrom_1 3 rfl rfl)
theorem dX1_placesFrom_26 : decode cX1_placesFrom 26 = .ok (.getfield 16, 3) := dk_180 0 16 (dk_at dksX1_placesFrom_1 4 rfl rfl)
theorem dX1_placesFrom_29 : decode cX1_placesFrom 29 = .ok (.aload_n 0, 1) := dk_42 (dk_at dksX1_placesFrom_1 7 rfl rfl)
theorem dX1_placesFrom_30 : decode cX1_placesFrom 30 = .ok (.getfield 62, 3) := dk_180 0 62 (dk_at dksX1_placesFrom_1 8 rfl rfl)
theorem dX1_placesFrom_33 : decode cX1_placesFrom 33 = .ok (.iload 4, 2) := dk_21 4 (dk_at dksX1_placesFrom_1 11 rfl rfl)
theorem dX1_placesFrom_35 : decode cX1_placesFrom 35 = .ok (.iaload, 1) := dk_46 (dk_at dksX1_placesFrom_1 13 rfl rfl)
theorem dX1_placesFrom_36 : decode cX1_placesFrom 36 = .ok (.aload_n 0, 1) := dk_42 (dk_at dksX1_placesFrom_1 14 rfl rfl)
theorem dX1_placesFrom_37 : decode cX1_placesFrom 37 = .ok (.getfield 59, 3) := dk_180 0 59 (dk_at dksX1_placesFrom_1 15 rfl rfl)
theorem dX1_placesFrom_40 : decode cX1_placesFrom 40 = .ok (.iload 4, 2) := dk_21 4 (dk_at dksX1_placesFrom_1 18 rfl rfl)
theorem dX1_placesFrom_42 : decode cX1_placesFrom 42 = .ok (.iaload, 1) := dk_46 (dk_at dksX1_placesFrom_1 20 rfl rfl)
theorem dX1_placesFrom_43 : decode cX1_placesFrom 43 = .ok (.invokevirtual 320, 3) := dk_182 1 64 (dk_at dksX1_placesFrom_1 21 rfl rfl)
theorem dX1_placesFrom_46 : decode cX1_placesFrom 46 = .ok (.iinc 4 1, 3) := dk_132 4 1 (dk_at dksX1_placesFrom_2 0 rfl rfl)
theorem dX1_placesFrom_49 : decode cX1_placesFrom 49 = .ok (.goto (-30), 3) := dk_167 255 226 (dk_at dksX1_placesFrom_2 3 rfl rfl)
theorem dX1_placesFrom_52 : decode cX1_placesFrom 52 = .ok (.aload_n 0, 1) := dk_42 (dk_at dksX1_placesFrom_2 6 rfl rfl)
theorem dX1_placesFrom_53 : decode cX1_placesFrom 53 = .ok (.aload_n 0, 1) := dk_42 (dk_at dksX1_placesFrom_2 7 rfl rfl)
theorem dX1_placesFrom_54 : decode cX1_placesFrom 54 = .ok (.getfield 16, 3) := dk_180 0 16 (dk_at dksX1_placesFrom_2 8 rfl rfl)
theorem dX1_placesFrom_57 : decode cX1_placesFrom 57 = .ok (.bipush 60, 2) := dk_16 60 (dk_at dksX1_placesFrom_2 11 rfl rfl)
theorem dX1_placesFrom_59 : decode cX1_placesFrom 59 = .ok (.invokevirtual 374, 3) := dk_182 1 118 (dk_at dksX1_placesFrom_2 13 rfl rfl)
theorem dX1_placesFrom_62 : decode cX1_placesFrom 62 = .ok (.aload_n 0, 1) := dk_42 (dk_at dksX1_placesFrom_2 16 rfl rfl)
theorem dX1_placesFrom_63 : decode cX1_placesFrom 63 = .ok (.getfield 16, 3) := dk_180 0 16 (dk_at dksX1_placesFrom_2 17 rfl rfl)
theorem dX1_placesFrom_66 : decode cX1_placesFrom 66 = .ok (.getfield 344, 3) := dk_180 1 88 (dk_at dksX1_placesFrom_2 20 rfl rfl)
theorem dX1_placesFrom_69 : decode cX1_placesFrom 69 = .ok (.aload_n 0, 1) := dk_42 (dk_at dksX1_placesFrom_2 23 rfl rfl)
theorem dX1_placesFrom_70 : decode cX1_placesFrom 70 = .ok (.getfield 10, 3) := dk_180 0 10 (dk_at dksX1_placesFrom_3 0 rfl rfl)
theorem dX1_placesFrom_73 : decode cX1_placesFrom 73 = .ok (.getfield 344, 3) := dk_180 1 88 (dk_at dksX1_placesFrom_3 3 rfl rfl)
theorem dX1_placesFrom_76 : decode cX1_placesFrom 76 = .ok (.isub, 1) := dk_100 (dk_at dksX1_placesFrom_3 6 rfl rfl)
theorem dX1_placesFrom_77 : decode cX1_placesFrom 77 = .ok (.aload_n 0, 1) := dk_42 (dk_at dksX1_placesFrom_3 7 rfl rfl)
theorem dX1_placesFrom_78 : decode cX1_placesFrom 78 = .ok (.getfield 410, 3) := dk_180 1 154 (dk_at dksX1_placesFrom_3 8 rfl rfl)
theorem dX1_placesFrom_81 : decode cX1_placesFrom 81 = .ok (.if_icmp .gt 4, 3) := dk_163 0 4 (dk_at dksX1_placesFrom_3 11 rfl rfl)
theorem dX1_placesFrom_84 : decode cX1_placesFrom 84 = .ok (.return_, 1) := dk_177 (dk_at dksX1_placesFrom_3 14 rfl rfl)
theorem dX1_placesFrom_85 : decode cX1_placesFrom 85 = .ok (.aload_n 0, 1) := dk_42 (dk_at dksX1_placesFrom_3 15 rfl rfl)
theorem dX1_placesFrom_86 : decode cX1_placesFrom 86 = .ok (.aload_n 0, 1) := dk_42 (dk_at dksX1_placesFrom_3 16 rfl rfl)
theorem dX1_placesFrom_87 : decode cX1_placesFrom 87 = .ok (.getfield 16, 3) := dk_180 0 16 (dk_at dksX1_placesFrom_3 17 rfl rfl)
theorem dX1_placesFrom_90 : decode cX1_placesFrom 90 = .ok (.getfield 344, 3) := dk_180 1 88 (dk_at dksX1_placesFrom_3 20 rfl rfl)
theorem dX1_placesFrom_93 : decode cX1_placesFrom 93 = .ok (.aload_n 0, 1) := dk_42 (dk_at dksX1_placesFrom_3 23 rfl rfl)
theorem dX1_placesFrom_94 : decode cX1_placesFrom 94 = .ok (.getfield 10, 3) := dk_180 0 10 (dk_at dksX1_placesFrom_4 0 rfl rfl)
theorem dX1_placesFrom_97 : decode cX1_placesFrom 97 = .ok (.getfield 344, 3) := dk_180 1 88 (dk_at dksX1_placesFrom_4 3 rfl rfl)
theorem dX1_placesFrom_100 : decode cX1_placesFrom 100 = .ok (.isub, 1) := dk_100 (dk_at dksX1_placesFrom_4 6 rfl rfl)
theorem dX1_placesFrom_101 : decode cX1_placesFrom 101 = .ok (.putfield 410, 3) := dk_181 1 154 (dk_at dksX1_placesFrom_4 7 rfl rfl)
theorem dX1_placesFrom_104 : decode cX1_placesFrom 104 = .ok (.aload_n 0, 1) := dk_42 (dk_at dksX1_placesFrom_4 10 rfl rfl)
theorem dX1_placesFrom_105 : decode cX1_placesFrom 105 = .ok (.getfield 62, 3) := dk_180 0 62 (dk_at dksX1_placesFrom_4 11 rfl rfl)
theorem dX1_placesFrom_108 : decode cX1_placesFrom 108 = .ok (.iconst 0, 1) := dk_3 (dk_at dksX1_placesFrom_4 14 rfl rfl)
theorem dX1_placesFrom_109 : decode cX1_placesFrom 109 = .ok (.aload_n 0, 1) := dk_42 (dk_at dksX1_placesFrom_4 15 rfl rfl)
theorem dX1_placesFrom_110 : decode cX1_placesFrom 110 = .ok (.getfield 65, 3) := dk_180 0 65 (dk_at dksX1_placesFrom_4 16 rfl rfl)
theorem dX1_placesFrom_113 : decode cX1_placesFrom 113 = .ok (.iconst 0, 1) := dk_3 (dk_at dksX1_placesFrom_4 19 rfl rfl)
theorem dX1_placesFrom_114 : decode cX1_placesFrom 114 = .ok (.iconst 4, 1) := dk_7 (dk_at dksX1_placesFrom_4 20 rfl rfl)
theorem dX1_placesFrom_115 : decode cX1_placesFrom 115 = .ok (.invokestatic 413, 3) := dk_184 1 157 (dk_at dksX1_placesFrom_4 21 rfl rfl)
theorem dX1_placesFrom_118 : decode cX1_placesFrom 118 = .ok (.return_, 1) := dk_177 (dk_at dksX1_placesFrom_5 0 rfl rfl)
theorem dX1_placesFrom_119 : decode cX1_placesFrom 119 = .ok (.iconst 0, 1) := dk_3 (dk_at dksX1_placesFrom_5 1 rfl rfl)
theorem dX1_placesFrom_120 : decode cX1_placesFrom 120 = .ok (.istore 4, 2) := dk_54 4 (dk_at dksX1_placesFrom_5 2 rfl rfl)
theorem dX1_placesFrom_122 : decode cX1_placesFrom 122 = .ok (.iload 4, 2) := dk_21 4 (dk_at dksX1_placesFrom_5 4 rfl rfl)
theorem dX1_placesFrom_124 : decode cX1_placesFrom 124 = .ok (.aload_n 0, 1) := dk_42 (dk_at dksX1_placesFrom_5 6 rfl rfl)
theorem dX1_placesFrom_125 : decode cX1_placesFrom 125 = .ok (.getfield 94, 3) := dk_180 0 94 (dk_at dksX1_placesFrom_5 7 rfl rfl)
theorem dX1_placesFrom_128 : decode cX1_placesFrom 128 = .ok (.if_icmp .ge 56, 3) := dk_162 0 56 (dk_at dksX1_placesFrom_5 10 rfl rfl)
theorem dX1_placesFrom_131 : decode cX1_placesFrom 131 = .ok (.iload_n 3, 1) := dk_29 (dk_at dksX1_placesFrom_5 13 rfl rfl)
theorem dX1_placesFrom_132 : decode cX1_placesFrom 132 = .ok (.iload 4, 2) := dk_21 4 (dk_at dksX1_placesFrom_5 14 rfl rfl)
theorem dX1_placesFrom_134 : decode cX1_placesFrom 134 = .ok (.invokestatic 341, 3) := dk_184 1 85 (dk_at dksX1_placesFrom_5 16 rfl rfl)
theorem dX1_placesFrom_137 : decode cX1_placesFrom 137 = .ok (.ifCond .ne 41, 3) := dk_154 0 41 (dk_at dksX1_placesFrom_5 19 rfl rfl)
theorem dX1_placesFrom_140 : decode cX1_placesFrom 140 = .ok (.aload_n 0, 1) := dk_42 (dk_at dksX1_placesFrom_5 22 rfl rfl)
theorem dX1_placesFrom_141 : decode cX1_placesFrom 141 = .ok (.aload_n 0, 1) := dk_42 (dk_at dksX1_placesFrom_5 23 rfl rfl)
theorem dX1_placesFrom_142 : decode cX1_placesFrom 142 = .ok (.getfield 10, 3) := dk_180 0 10 (dk_at dksX1_placesFrom_6 0 rfl rfl)
theorem dX1_placesFrom_145 : decode cX1_placesFrom 145 = .ok (.iload 4, 2) := dk_21 4 (dk_at dksX1_placesFrom_6 3 rfl rfl)
theorem dX1_placesFrom_147 : decode cX1_placesFrom 147 = .ok (.invokevirtual 402, 3) := dk_182 1 146 (dk_at dksX1_placesFrom_6 5 rfl rfl)
theorem dX1_placesFrom_150 : decode cX1_placesFrom 150 = .ok (.ifCond .ne 6, 3) := dk_154 0 6 (dk_at dksX1_placesFrom_6 8 rfl rfl)
theorem dX1_placesFrom_153 : decode cX1_placesFrom 153 = .ok (.goto 25, 3) := dk_167 0 25 (dk_at dksX1_placesFrom_6 11 rfl rfl)
theorem dX1_placesFrom_156 : decode cX1_placesFrom 156 = .ok (.aload_n 0, 1) := dk_42 (dk_at dksX1_placesFrom_6 14 rfl rfl)
theorem dX1_placesFrom_157 : decode cX1_placesFrom 157 = .ok (.getfield 62, 3) := dk_180 0 62 (dk_at dksX1_placesFrom_6 15 rfl rfl)
theorem dX1_placesFrom_160 : decode cX1_placesFrom 160 = .ok (.iload_n 1, 1) := dk_27 (dk_at dksX1_placesFrom_6 18 rfl rfl)
theorem dX1_placesFrom_161 : decode cX1_placesFrom 161 = .ok (.iload 4, 2) := dk_21 4 (dk_at dksX1_placesFrom_6 19 rfl rfl)
theorem dX1_placesFrom_163 : decode cX1_placesFrom 163 = .ok (.iastore, 1) := dk_79 (dk_at dksX1_placesFrom_6 21 rfl rfl)
theorem dX1_placesFrom_164 : decode cX1_placesFrom 164 = .ok (.aload_n 0, 1) := dk_42 (dk_at dksX1_placesFrom_6 22 rfl rfl)
theorem dX1_placesFrom_165 : decode cX1_placesFrom 165 = .ok (.iload_n 1, 1) := dk_27 (dk_at dksX1_placesFrom_6 23 rfl rfl)
theorem dX1_placesFrom_166 : decode cX1_placesFrom 166 = .ok (.iconst 1, 1) := dk_4 (dk_at dksX1_placesFrom_7 0 rfl rfl)
theorem dX1_placesFrom_167 : decode cX1_placesFrom 167 = .ok (.iadd, 1) := dk_96 (dk_at dksX1_placesFrom_7 1 rfl rfl)
theorem dX1_placesFrom_168 : decode cX1_placesFrom 168 = .ok (.iload_n 2, 1) := dk_28 (dk_at dksX1_placesFrom_7 2 rfl rfl)
theorem dX1_placesFrom_169 : decode cX1_placesFrom 169 = .ok (.iload_n 3, 1) := dk_29 (dk_at dksX1_placesFrom_7 3 rfl rfl)
theorem dX1_placesFrom_170 : decode cX1_placesFrom 170 = .ok (.iconst 1, 1) := dk_4 (dk_at dksX1_placesFrom_7 4 rfl rfl)
theorem dX1_placesFrom_171 : decode cX1_placesFrom 171 = .ok (.iload 4, 2) := dk_21 4 (dk_at dksX1_placesFrom_7 5 rfl rfl)
theorem dX1_placesFrom_173 : decode cX1_placesFrom 173 = .ok (.ishl, 1) := dk_120 (dk_at dksX1_placesFrom_7 7 rfl rfl)
theorem dX1_placesFrom_174 : decode cX1_placesFrom 174 = .ok (.ior, 1) := dk_128 (dk_at dksX1_placesFrom_7 8 rfl rfl)
theorem dX1_placesFrom_175 : decode cX1_placesFrom 175 = .ok (.invokevirtual 419, 3) := dk_182 1 163 (dk_at dksX1_placesFrom_7 9 rfl rfl)
theorem dX1_placesFrom_178 : decode cX1_placesFrom 178 = .ok (.iinc 4 1, 3) := dk_132 4 1 (dk_at dksX1_placesFrom_7 12 rfl rfl)
theorem dX1_placesFrom_181 : decode cX1_placesFrom 181 = .ok (.goto (-59), 3) := dk_167 255 197 (dk_at dksX1_placesFrom_7 15 rfl rfl)
theorem dX1_placesFrom_184 : decode cX1_placesFrom 184 = .ok (.return_, 1) := dk_177 (dk_at dksX1_placesFrom_7 18 rfl rfl)
abbrev cX1_suspects : ByteArray := prog_1_method_65_code
def yX1_suspects : MethodName := ⟨RX1, "suspects", "()I"⟩
def dkwX1_suspects_4 : List UInt8 := [182, 1, 125, 27, 172]
abbrev dktX1_suspects_4 : List UInt8 := dkwX1_suspects_4 ++ []
def dkwX1_suspects_3 : List UInt8 := [132, 3, 1, 167, 255, 189, 42, 3, 181, 1, 122, 42, 27, 184, 1, 56, 133, 182, 1, 125, 42, 28, 133]
abbrev dktX1_suspects_3 : List UInt8 := dkwX1_suspects_3 ++ dktX1_suspects_4
def dkwX1_suspects_2 : List UInt8 := [167, 0, 22, 27, 4, 29, 120, 128, 60, 28, 17, 3, 231, 21, 4, 184, 0, 129, 184, 1, 9, 61]
abbrev dktX1_suspects_2 : List UInt8 := dkwX1_suspects_2 ++ dktX1_suspects_3
def dkwX1_suspects_1 : List UInt8 := [160, 0, 15, 42, 42, 180, 0, 10, 29, 182, 1, 35, 167, 0, 4, 3, 54, 4, 21, 4, 8, 163, 0, 6]
abbrev dktX1_suspects_1 : List UInt8 := dkwX1_suspects_1 ++ dktX1_suspects_2
def dkwX1_suspects_0 : List UInt8 := [3, 60, 3, 61, 3, 62, 29, 42, 180, 0, 94, 162, 0, 65, 42, 180, 0, 10, 180, 0, 113, 29, 46, 4]
abbrev dktX1_suspects_0 : List UInt8 := dkwX1_suspects_0 ++ dktX1_suspects_1
theorem dksX1_suspects_0 : cX1_suspects.data.toList.drop 0 = dktX1_suspects_0 := by decide +kernel
theorem dksX1_suspects_1 : cX1_suspects.data.toList.drop 24 = dktX1_suspects_1 := dk_seg dksX1_suspects_0 24 rfl rfl
theorem dksX1_suspects_2 : cX1_suspects.data.toList.drop 48 = dktX1_suspects_2 := dk_seg dksX1_suspects_1 24 rfl rfl
theorem dksX1_suspects_3 : cX1_suspects.data.toList.drop 70 = dktX1_suspects_3 := dk_seg dksX1_suspects_2 22 rfl rfl
theorem dksX1_suspects_4 : cX1_suspects.data.toList.drop 93 = dktX1_suspects_4 := dk_seg dksX1_suspects_3 23 rfl rfl
theorem dX1_suspects_0 : decode cX1_suspects 0 = .ok (.iconst 0, 1) := dk_3 (dk_at dksX1_suspects_0 0 rfl rfl)
theorem dX1_suspects_1 : decode cX1_suspects 1 = .ok (.istore_n 1, 1) := dk_60 (dk_at dksX1_suspects_0 1 rfl rfl)
theorem dX1_suspects_2 : decode cX1_suspects 2 = .ok (.iconst 0, 1) := dk_3 (dk_at dksX1_suspects_0 2 rfl rfl)
theorem dX1_suspects_3 : decode cX1_suspects 3 = .ok (.istore_n 2, 1) := dk_61 (dk_at dksX1_suspects_0 3 rfl rfl)
theorem dX1_suspects_4 : decode cX1_suspects 4 = .ok (.iconst 0, 1) := dk_3 (dk_at dksX1_suspects_0 4 rfl rfl)
theorem dX1_suspects_5 : decode cX1_suspects 5 = .ok (.istore_n 3, 1) := dk_62 (dk_at dksX1_suspects_0 5 rfl rfl)
theorem dX1_suspects_6 : decode cX1_suspects 6 = .ok (.iload_n 3, 1) := dk_29 (dk_at dksX1_suspects_0 6 rfl rfl)
theorem dX1_suspects_7 : decode cX1_suspects 7 = .ok (.aload_n 0, 1) := dk_42 (dk_at dksX1_suspects_0 7 rfl rfl)
theorem dX1_suspects_8 : decode cX1_suspects 8 = .ok (.getfield 94, 3) := dk_180 0 94 (dk_at dksX1_suspects_0 8 rfl rfl)
theorem dX1_suspects_11 : decode cX1_suspects 11 = .ok (.if_icmp .ge 65, 3) := dk_162 0 65 (dk_at dksX1_suspects_0 11 rfl rfl)
theorem dX1_suspects_14 : decode cX1_suspects 14 = .ok (.aload_n 0, 1) := dk_42 (dk_at dksX1_suspects_0 14 rfl rfl)
theorem dX1_suspects_15 : decode cX1_suspects 15 = .ok (.getfield 10, 3) := dk_180 0 10 (dk_at dksX1_suspects_0 15 rfl rfl)
theorem dX1_suspects_18 : decode cX1_suspects 18 = .ok (.getfield 113, 3) := dk_180 0 113 (dk_at dksX1_suspects_0 18 rfl rfl)
theorem dX1_suspects_21 : decode cX1_suspects 21 = .ok (.iload_n 3, 1) := dk_29 (dk_at dksX1_suspects_0 21 rfl rfl)
theorem dX1_suspects_22 : decode cX1_suspects 22 = .ok (.iaload, 1) := dk_46 (dk_at dksX1_suspects_0 22 rfl rfl)
theorem dX1_suspects_23 : decode cX1_suspects 23 = .ok (.iconst 1, 1) := dk_4 (dk_at dksX1_suspects_0 23 rfl rfl)
theorem dX1_suspects_24 : decode cX1_suspects 24 = .ok (.if_icmp .ne 15, 3) := dk_160 0 15 (dk_at dksX1_suspects_1 0 rfl rfl)
theorem dX1_suspects_27 : decode cX1_suspects 27 = .ok (.aload_n 0, 1) := dk_42 (dk_at dksX1_suspects_1 3 rfl rfl)
theorem dX1_suspects_28 : decode cX1_suspects 28 = .ok (.aload_n 0, 1) := dk_42 (dk_at dksX1_suspects_1 4 rfl rfl)
theorem dX1_suspects_29 : decode cX1_suspects 29 = .ok (.getfield 10, 3) := dk_180 0 10 (dk_at dksX1_suspects_1 5 rfl rfl)
theorem dX1_suspects_32 : decode cX1_suspects 32 = .ok (.iload_n 3, 1) := dk_29 (dk_at dksX1_suspects_1 8 rfl rfl)
theorem dX1_suspects_33 : decode cX1_suspects 33 = .ok (.invokevirtual 291, 3) := dk_182 1 35 (dk_at dksX1_suspects_1 9 rfl rfl)
theorem dX1_suspects_36 : decode cX1_suspects 36 = .ok (.goto 4, 3) := dk_167 0 4 (dk_at dksX1_suspects_1 12 rfl rfl)
theorem dX1_suspects_39 : decode cX1_suspects 39 = .ok (.iconst 0, 1) := dk_3 (dk_at dksX1_suspects_1 15 rfl rfl)
theorem dX1_suspects_40 : decode cX1_suspects 40 = .ok (.istore 4, 2) := dk_54 4 (dk_at dksX1_suspects_1 16 rfl rfl)
theorem dX1_suspects_42 : decode cX1_suspects 42 = .ok (.iload 4, 2) := dk_21 4 (dk_at dksX1_suspects_1 18 rfl rfl)
theorem dX1_suspects_44 : decode cX1_suspects 44 = .ok (.iconst 5, 1) := dk_8 (dk_at dksX1_suspects_1 20 rfl rfl)
theorem dX1_suspects_45 : decode cX1_suspects 45 = .ok (.if_icmp .gt 6, 3) := dk_163 0 6 (dk_at dksX1_suspects_1 21 rfl rfl)
theorem dX1_suspects_48 : decode cX1_suspects 48 = .ok (.goto 22, 3) := dk_167 0 22 (dk_at dksX1_suspects_2 0 rfl rfl)
theorem dX1_suspects_51 : decode cX1_suspects 51 = .ok (.iload_n 1, 1) := dk_27 (dk_at dksX1_suspects_2 3 rfl rfl)
theorem dX1_suspects_52 : decode cX1_suspects 52 = .ok (.iconst 1, 1) := dk_4 (dk_at dksX1_suspects_2 4 rfl rfl)
theorem dX1_suspects_53 : decode cX1_suspects 53 = .ok (.iload_n 3, 1) := dk_29 (dk_at dksX1_suspects_2 5 rfl rfl)
theorem dX1_suspects_54 : decode cX1_suspects 54 = .ok (.ishl, 1) := dk_120 (dk_at dksX1_suspects_2 6 rfl rfl)
theorem dX1_suspects_55 : decode cX1_suspects 55 = .ok (.ior, 1) := dk_128 (dk_at dksX1_suspects_2 7 rfl rfl)
theorem dX1_suspects_56 : decode cX1_suspects 56 = .ok (.istore_n 1, 1) := dk_60 (dk_at dksX1_suspects_2 8 rfl rfl)
theorem dX1_suspects_57 : decode cX1_suspects 57 = .ok (.iload_n 2, 1) := dk_28 (dk_at dksX1_suspects_2 9 rfl rfl)
theorem dX1_suspects_58 : decode cX1_suspects 58 = .ok (.sipush 999, 3) := dk_17 3 231 (dk_at dksX1_suspects_2 10 rfl rfl)
theorem dX1_suspects_61 : decode cX1_suspects 61 = .ok (.iload 4, 2) := dk_21 4 (dk_at dksX1_suspects_2 13 rfl rfl)
theorem dX1_suspects_63 : decode cX1_suspects 63 = .ok (.invokestatic 129, 3) := dk_184 0 129 (dk_at dksX1_suspects_2 15 rfl rfl)
theorem dX1_suspects_66 : decode cX1_suspects 66 = .ok (.invokestatic 265, 3) := dk_184 1 9 (dk_at dksX1_suspects_2 18 rfl rfl)
theorem dX1_suspects_69 : decode cX1_suspects 69 = .ok (.istore_n 2, 1) := dk_61 (dk_at dksX1_suspects_2 21 rfl rfl)
theorem dX1_suspects_70 : decode cX1_suspects 70 = .ok (.iinc 3 1, 3) := dk_132 3 1 (dk_at dksX1_suspects_3 0 rfl rfl)
theorem dX1_suspects_73 : decode cX1_suspects 73 = .ok (.goto (-67), 3) := dk_167 255 189 (dk_at dksX1_suspects_3 3 rfl rfl)
theorem dX1_suspects_76 : decode cX1_suspects 76 = .ok (.aload_n 0, 1) := dk_42 (dk_at dksX1_suspects_3 6 rfl rfl)
theorem dX1_suspects_77 : decode cX1_suspects 77 = .ok (.iconst 0, 1) := dk_3 (dk_at dksX1_suspects_3 7 rfl rfl)
theorem dX1_suspects_78 : decode cX1_suspects 78 = .ok (.putfield 378, 3) := dk_181 1 122 (dk_at dksX1_suspects_3 8 rfl rfl)
theorem dX1_suspects_81 : decode cX1_suspects 81 = .ok (.aload_n 0, 1) := dk_42 (dk_at dksX1_suspects_3 11 rfl rfl)
theorem dX1_suspects_82 : decode cX1_suspects 82 = .ok (.iload_n 1, 1) := dk_27 (dk_at dksX1_suspects_3 12 rfl rfl)
theorem dX1_suspects_83 : decode cX1_suspects 83 = .ok (.invokestatic 312, 3) := dk_184 1 56 (dk_at dksX1_suspects_3 13 rfl rfl)
theorem dX1_suspects_86 : decode cX1_suspects 86 = .ok (.i2l, 1) := dk_133 (dk_at dksX1_suspects_3 16 rfl rfl)
theorem dX1_suspects_87 : decode cX1_suspects 87 = .ok (.invokevirtual 381, 3) := dk_182 1 125 (dk_at dksX1_suspects_3 17 rfl rfl)
theorem dX1_suspects_90 : decode cX1_suspects 90 = .ok (.aload_n 0, 1) := dk_42 (dk_at dksX1_suspects_3 20 rfl rfl)
theorem dX1_suspects_91 : decode cX1_suspects 91 = .ok (.iload_n 2, 1) := dk_28 (dk_at dksX1_suspects_3 21 rfl rfl)
theorem dX1_suspects_92 : decode cX1_suspects 92 = .ok (.i2l, 1) := dk_133 (dk_at dksX1_suspects_3 22 rfl rfl)
theorem dX1_suspects_93 : decode cX1_suspects 93 = .ok (.invokevirtual 381, 3) := dk_182 1 125 (dk_at dksX1_suspects_4 0 rfl rfl)
theorem dX1_suspects_96 : decode cX1_suspects 96 = .ok (.iload_n 1, 1) := dk_27 (dk_at dksX1_suspects_4 3 rfl rfl)
theorem dX1_suspects_97 : decode cX1_suspects 97 = .ok (.ireturn, 1) := dk_172 (dk_at dksX1_suspects_4 4 rfl rfl)
abbrev cX1_tinting : ByteArray := prog_1_method_66_code
def yX1_tinting : MethodName := ⟨RX1, "tinting", "(I)I"⟩
def dkwX1_tinting_4 : List UInt8 := [132, 4, 1, 167, 255, 205, 42, 3, 181, 1, 122, 42, 29, 184, 1, 143, 133, 182, 1, 125, 28, 172]
abbrev dktX1_tinting_4 : List UInt8 := dkwX1_tinting_4 ++ []
def dkwX1_tinting_3 : List UInt8 := [182, 1, 35, 54, 5, 28, 155, 0, 12, 21, 5, 29, 161, 0, 6, 167, 0, 9, 21, 4, 61, 21, 5, 62]
abbrev dktX1_tinting_3 : List UInt8 := dkwX1_tinting_3 ++ dktX1_tinting_4
def dkwX1_tinting_2 : List UInt8 := [16, 10, 162, 0, 50, 42, 180, 0, 16, 180, 1, 3, 27, 21, 4, 79, 42, 42, 180, 0, 16, 27]
abbrev dktX1_tinting_2 : List UInt8 := dkwX1_tinting_2 ++ dktX1_tinting_3
def dkwX1_tinting_1 : List UInt8 := [16, 254, 172, 2, 61, 3, 62, 42, 180, 0, 16, 42, 180, 0, 10, 182, 1, 45, 3, 54, 4, 21, 4]
abbrev dktX1_tinting_1 : List UInt8 := dkwX1_tinting_1 ++ dktX1_tinting_2
def dkwX1_tinting_0 : List UInt8 := [42, 27, 182, 0, 101, 154, 0, 5, 2, 172, 42, 180, 0, 10, 180, 0, 113, 27, 46, 4, 159, 0, 6]
abbrev dktX1_tinting_0 : List UInt8 := dkwX1_tinting_0 ++ dktX1_tinting_1
theorem dksX1_tinting_0 : cX1_tinting.data.toList.drop 0 = dktX1_tinting_0 := by decide +kernel
theorem dksX1_tinting_1 : cX1_tinting.data.toList.drop 23 = dktX1_tinting_1 := dk_seg dksX1_tinting_0 23 rfl rfl
theorem dksX1_tinting_2 : cX1_tinting.data.toList.drop 46 = dktX1_tinting_2 := dk_seg dksX1_tinting_1 23 rfl rfl
theorem dksX1_tinting_3 : cX1_tinting.data.toList.drop 68 = dktX1_tinting_3 := dk_seg dksX1_tinting_2 22 rfl rfl
theorem dksX1_tinting_4 : cX1_tinting.data.toList.drop 92 = dktX1_tinting_4 := dk_seg dksX1_tinting_3 24 rfl rfl
theorem dX1_tinting_0 : decode cX1_tinting 0 = .ok (.aload_n 0, 1) := dk_42 (dk_at dksX1_tinting_0 0 rfl rfl)
theorem dX1_tinting_1 : decode cX1_tinting 1 = .ok (.iload_n 1, 1) := dk_27 (dk_at dksX1_tinting_0 1 rfl rfl)
theorem dX1_tinting_2 : decode cX1_tinting 2 = .ok (.invokevirtual 101, 3) := dk_182 0 101 (dk_at dksX1_tinting_0 2 rfl rfl)
theorem dX1_tinting_5 : decode cX1_tinting 5 = .ok (.ifCond .ne 5, 3) := dk_154 0 5 (dk_at dksX1_tinting_0 5 rfl rfl)
theorem dX1_tinting_8 : decode cX1_tinting 8 = .ok (.iconst (-1), 1) := dk_2 (dk_at dksX1_tinting_0 8 rfl rfl)
theorem dX1_tinting_9 : decode cX1_tinting 9 = .ok (.ireturn, 1) := dk_172 (dk_at dksX1_tinting_0 9 rfl rfl)
theorem dX1_tinting_10 : decode cX1_tinting 10 = .ok (.aload_n 0, 1) := dk_42 (dk_at dksX1_tinting_0 10 rfl rfl)
theorem dX1_tinting_11 : decode cX1_tinting 11 = .ok (.getfield 10, 3) := dk_180 0 10 (dk_at dksX1_tinting_0 11 rfl rfl)
theorem dX1_tinting_14 : decode cX1_tinting 14 = .ok (.getfield 113, 3) := dk_180 0 113 (dk_at dksX1_tinting_0 14 rfl rfl)
theorem dX1_tinting_17 : decode cX1_tinting 17 = .ok (.iload_n 1, 1) := dk_27 (dk_at dksX1_tinting_0 17 rfl rfl)
theorem dX1_tinting_18 : decode cX1_tinting 18 = .ok (.iaload, 1) := dk_46 (dk_at dksX1_tinting_0 18 rfl rfl)
theorem dX1_tinting_19 : decode cX1_tinting 19 = .ok (.iconst 1, 1) := dk_4 (dk_at dksX1_tinting_0 19 rfl rfl)
theorem dX1_tinting_20 : decode cX1_tinting 20 = .ok (.if_icmp .eq 6, 3) := dk_159 0 6 (dk_at dksX1_tinting_0 20 rfl rfl)
theorem dX1_tinting_23 : decode cX1_tinting 23 = .ok (.bipush (-2), 2) := dk_16 254 (dk_at dksX1_tinting_1 0 rfl rfl)
theorem dX1_tinting_25 : decode cX1_tinting 25 = .ok (.ireturn, 1) := dk_172 (dk_at dksX1_tinting_1 2 rfl rfl)
theorem dX1_tinting_26 : decode cX1_tinting 26 = .ok (.iconst (-1), 1) := dk_2 (dk_at dksX1_tinting_1 3 rfl rfl)
theorem dX1_tinting_27 : decode cX1_tinting 27 = .ok (.istore_n 2, 1) := dk_61 (dk_at dksX1_tinting_1 4 rfl rfl)
theorem dX1_tinting_28 : decode cX1_tinting 28 = .ok (.iconst 0, 1) := dk_3 (dk_at dksX1_tinting_1 5 rfl rfl)
theorem dX1_tinting_29 : decode cX1_tinting 29 = .ok (.istore_n 3, 1) := dk_62 (dk_at dksX1_tinting_1 6 rfl rfl)
theorem dX1_tinting_30 : decode cX1_tinting 30 = .ok (.aload_n 0, 1) := dk_42 (dk_at dksX1_tinting_1 7 rfl rfl)
theorem dX1_tinting_31 : decode cX1_tinting 31 = .ok (.getfield 16, 3) := dk_180 0 16 (dk_at dksX1_tinting_1 8 rfl rfl)
theorem dX1_tinting_34 : decode cX1_tinting 34 = .ok (.aload_n 0, 1) := dk_42 (dk_at dksX1_tinting_1 11 rfl rfl)
theorem dX1_tinting_35 : decode cX1_tinting 35 = .ok (.getfield 10, 3) := dk_180 0 10 (dk_at dksX1_tinting_1 12 rfl rfl)
theorem dX1_tinting_38 : decode cX1_tinting 38 = .ok (.invokevirtual 301, 3) := dk_182 1 45 (dk_at dksX1_tinting_1 15 rfl rfl)
theorem dX1_tinting_41 : decode cX1_tinting 41 = .ok (.iconst 0, 1) := dk_3 (dk_at dksX1_tinting_1 18 rfl rfl)
theorem dX1_tinting_42 : decode cX1_tinting 42 = .ok (.istore 4, 2) := dk_54 4 (dk_at dksX1_tinting_1 19 rfl rfl)
theorem dX1_tinting_44 : decode cX1_tinting 44 = .ok (.iload 4, 2) := dk_21 4 (dk_at dksX1_tinting_1 21 rfl rfl)
theorem dX1_tinting_46 : decode cX1_tinting 46 = .ok (.bipush 10, 2) := dk_16 10 (dk_at dksX1_tinting_2 0 rfl rfl)
theorem dX1_tinting_48 : decode cX1_tinting 48 = .ok (.if_icmp .ge 50, 3) := dk_162 0 50 (dk_at dksX1_tinting_2 2 rfl rfl)
theorem dX1_tinting_51 : decode cX1_tinting 51 = .ok (.aload_n 0, 1) := dk_42 (dk_at dksX1_tinting_2 5 rfl rfl)
theorem dX1_tinting_52 : decode cX1_tinting 52 = .ok (.getfield 16, 3) := dk_180 0 16 (dk_at dksX1_tinting_2 6 rfl rfl)
theorem dX1_tinting_55 : decode cX1_tinting 55 = .ok (.getfield 259, 3) := dk_180 1 3 (dk_at dksX1_tinting_2 9 rfl rfl)
theorem dX1_tinting_58 : decode cX1_tinting 58 = .ok (.iload_n 1, 1) := dk_27 (dk_at dksX1_tinting_2 12 rfl rfl)
theorem dX1_tinting_59 : decode cX1_tinting 59 = .ok (.iload 4, 2) := dk_21 4 (dk_at dksX1_tinting_2 13 rfl rfl)
theorem dX1_tinting_61 : decode cX1_tinting 61 = .ok (.iastore, 1) := dk_79 (dk_at dksX1_tinting_2 15 rfl rfl)
theorem dX1_tinting_62 : decode cX1_tinting 62 = .ok (.aload_n 0, 1) := dk_42 (dk_at dksX1_tinting_2 16 rfl rfl)
theorem dX1_tinting_63 : decode cX1_tinting 63 = .ok (.aload_n 0, 1) := dk_42 (dk_at dksX1_tinting_2 17 rfl rfl)
theorem dX1_tinting_64 : decode cX1_tinting 64 = .ok (.getfield 16, 3) := dk_180 0 16 (dk_at dksX1_tinting_2 18 rfl rfl)
theorem dX1_tinting_67 : decode cX1_tinting 67 = .ok (.iload_n 1, 1) := dk_27 (dk_at dksX1_tinting_2 21 rfl rfl)
theorem dX1_tinting_68 : decode cX1_tinting 68 = .ok (.invokevirtual 291, 3) := dk_182 1 35 (dk_at dksX1_tinting_3 0 rfl rfl)
theorem dX1_tinting_71 : decode cX1_tinting 71 = .ok (.istore 5, 2) := dk_54 5 (dk_at dksX1_tinting_3 3 rfl rfl)
theorem dX1_tinting_73 : decode cX1_tinting 73 = .ok (.iload_n 2, 1) := dk_28 (dk_at dksX1_tinting_3 5 rfl rfl)
theorem dX1_tinting_74 : decode cX1_tinting 74 = .ok (.ifCond .lt 12, 3) := dk_155 0 12 (dk_at dksX1_tinting_3 6 rfl rfl)
theorem dX1_tinting_77 : decode cX1_tinting 77 = .ok (.iload 5, 2) := dk_21 5 (dk_at dksX1_tinting_3 9 rfl rfl)
theorem dX1_tinting_79 : decode cX1_tinting 79 = .ok (.iload_n 3, 1) := dk_29 (dk_at dksX1_tinting_3 11 rfl rfl)
theorem dX1_tinting_80 : decode cX1_tinting 80 = .ok (.if_icmp .lt 6, 3) := dk_161 0 6 (dk_at dksX1_tinting_3 12 rfl rfl)
theorem dX1_tinting_83 : decode cX1_tinting 83 = .ok (.goto 9, 3) := dk_167 0 9 (dk_at dksX1_tinting_3 15 rfl rfl)
theorem dX1_tinting_86 : decode cX1_tinting 86 = .ok (.iload 4, 2) := dk_21 4 (dk_at dksX1_tinting_3 18 rfl rfl)
theorem dX1_tinting_88 : decode cX1_tinting 88 = .ok (.istore_n 2, 1) := dk_61 (dk_at dksX1_tinting_3 20 rfl rfl)
theorem dX1_tinting_89 : decode cX1_tinting 89 = .ok (.iload 5, 2) := dk_21 5 (dk_at dksX1_tinting_3 21 rfl rfl)
theorem dX1_tinting_91 : decode cX1_tinting 91 = .ok (.istore_n 3, 1) := dk_62 (dk_at dksX1_tinting_3 23 rfl rfl)
theorem dX1_tinting_92 : decode cX1_tinting 92 = .ok (.iinc 4 1, 3) := dk_132 4 1 (dk_at dksX1_tinting_4 0 rfl rfl)
theorem dX1_tinting_95 : decode cX1_tinting 95 = .ok (.goto (-51), 3) := dk_167 255 205 (dk_at dksX1_tinting_4 3 rfl rfl)
theorem dX1_tinting_98 : decode cX1_tinting 98 = .ok (.aload_n 0, 1) := dk_42 (dk_at dksX1_tinting_4 6 rfl rfl)
theorem dX1_tinting_99 : decode cX1_tinting 99 = .ok (.iconst 0, 1) := dk_3 (dk_at dksX1_tinting_4 7 rfl rfl)
theorem dX1_tinting_100 : decode cX1_tinting 100 = .ok (.putfield 378, 3) := dk_181 1 122 (dk_at dksX1_tinting_4 8 rfl rfl)
theorem dX1_tinting_103 : decode cX1_tinting 103 = .ok (.aload_n 0, 1) := dk_42 (dk_at dksX1_tinting_4 11 rfl rfl)
theorem dX1_tinting_104 : decode cX1_tinting 104 = .ok (.iload_n 3, 1) := dk_29 (dk_at dksX1_tinting_4 12 rfl rfl)
theorem dX1_tinting_105 : decode cX1_tinting 105 = .ok (.invokestatic 399, 3) := dk_184 1 143 (dk_at dksX1_tinting_4 13 rfl rfl)
theorem dX1_tinting_108 : decode cX1_tinting 108 = .ok (.i2l, 1) := dk_133 (dk_at dksX1_tinting_4 16 rfl rfl)
theorem dX1_tinting_109 : decode cX1_tinting 109 = .ok (.invokevirtual 381, 3) := dk_182 1 125 (dk_at dksX1_tinting_4 17 rfl rfl)
theorem dX1_tinting_112 : decode cX1_tinting 112 = .ok (.iload_n 2, 1) := dk_28 (dk_at dksX1_tinting_4 20 rfl rfl)
theorem dX1_tinting_113 : decode cX1_tinting 113 = .ok (.ireturn, 1) := dk_172 (dk_at dksX1_tinting_4 21 rfl rfl)
abbrev cX1_waiting : ByteArray := prog_1_method_68_code
def yX1_waiting : MethodName := ⟨RX1, "waiting", "(II)I"⟩
def dkwX1_waiting_3 : List UInt8 := [27, 182, 1, 149, 158, 0, 5, 29, 172, 132, 3, 1, 167, 255, 193, 16, 254, 172]
abbrev dktX1_waiting_3 : List UInt8 := dkwX1_waiting_3 ++ []
def dkwX1_waiting_2 : List UInt8 := [42, 180, 0, 16, 27, 182, 1, 146, 154, 0, 6, 167, 0, 22, 42, 180, 0, 16, 27, 28, 182, 1, 64, 42]
abbrev dktX1_waiting_2 : List UInt8 := dkwX1_waiting_2 ++ dktX1_waiting_3
def dkwX1_waiting_1 : List UInt8 := [163, 0, 63, 42, 180, 0, 16, 42, 180, 0, 10, 182, 1, 45, 42, 42, 180, 0, 16, 29, 182, 1, 118, 42]
abbrev dktX1_waiting_1 : List UInt8 := dkwX1_waiting_1 ++ dktX1_waiting_2
def dkwX1_waiting_0 : List UInt8 := [42, 27, 182, 0, 101, 153, 0, 10, 28, 184, 1, 61, 154, 0, 5, 2, 172, 3, 62, 29, 16, 20]
abbrev dktX1_waiting_0 : List UInt8 := dkwX1_waiting_0 ++ dktX1_waiting_1
theorem dksX1_waiting_0 : cX1_waiting.data.toList.drop 0 = dktX1_waiting_0 := by decide +kernel
theorem dksX1_waiting_1 : cX1_waiting.data.toList.drop 22 = dktX1_waiting_1 := dk_seg dksX1_waiting_0 22 rfl rfl
theorem dksX1_waiting_2 : cX1_waiting.data.toList.drop 46 = dktX1_waiting_2 := dk_seg dksX1_waiting_1 24 rfl rfl
theorem dksX1_waiting_3 : cX1_waiting.data.toList.drop 70 = dktX1_waiting_3 := dk_seg dksX1_waiting_2 24 rfl rfl
theorem dX1_waiting_0 : decode cX1_waiting 0 = .ok (.aload_n 0, 1) := dk_42 (dk_at dksX1_waiting_0 0 rfl rfl)
theorem dX1_waiting_1 : decode cX1_waiting 1 = .ok (.iload_n 1, 1) := dk_27 (dk_at dksX1_waiting_0 1 rfl rfl)
theorem dX1_waiting_2 : decode cX1_waiting 2 = .ok (.invokevirtual 101, 3) := dk_182 0 101 (dk_at dksX1_waiting_0 2 rfl rfl)
theorem dX1_waiting_5 : decode cX1_waiting 5 = .ok (.ifCond .eq 10, 3) := dk_153 0 10 (dk_at dksX1_waiting_0 5 rfl rfl)
theorem dX1_waiting_8 : decode cX1_waiting 8 = .ok (.iload_n 2, 1) := dk_28 (dk_at dksX1_waiting_0 8 rfl rfl)
theorem dX1_waiting_9 : decode cX1_waiting 9 = .ok (.invokestatic 317, 3) := dk_184 1 61 (dk_at dksX1_waiting_0 9 rfl rfl)
theorem dX1_waiting_12 : decode cX1_waiting 12 = .ok (.ifCond .ne 5, 3) := dk_154 0 5 (dk_at dksX1_waiting_0 12 rfl rfl)
theorem dX1_waiting_15 : decode cX1_waiting 15 = .ok (.iconst (-1), 1) := dk_2 (dk_at dksX1_waiting_0 15 rfl rfl)
theorem dX1_waiting_16 : decode cX1_waiting 16 = .ok (.ireturn, 1) := dk_172 (dk_at dksX1_waiting_0 16 rfl rfl)
theorem dX1_waiting_17 : decode cX1_waiting 17 = .ok (.iconst 0, 1) := dk_3 (dk_at dksX1_waiting_0 17 rfl rfl)
theorem dX1_waiting_18 : decode cX1_waiting 18 = .ok (.istore_n 3, 1) := dk_62 (dk_at dksX1_waiting_0 18 rfl rfl)
theorem dX1_waiting_19 : decode cX1_waiting 19 = .ok (.iload_n 3, 1) := dk_29 (dk_at dksX1_waiting_0 19 rfl rfl)
theorem dX1_waiting_20 : decode cX1_waiting 20 = .ok (.bipush 20, 2) := dk_16 20 (dk_at dksX1_waiting_0 20 rfl rfl)
theorem dX1_waiting_22 : decode cX1_waiting 22 = .ok (.if_icmp .gt 63, 3) := dk_163 0 63 (dk_at dksX1_waiting_1 0 rfl rfl)
theorem dX1_waiting_25 : decode cX1_waiting 25 = .ok (.aload_n 0, 1) := dk_42 (dk_at dksX1_waiting_1 3 rfl rfl)
theorem dX1_waiting_26 : decode cX1_waiting 26 = .ok (.getfield 16, 3) := dk_180 0 16 (dk_at dksX1_waiting_1 4 rfl rfl)
theorem dX1_waiting_29 : decode cX1_waiting 29 = .ok (.aload_n 0, 1) := dk_42 (dk_at dksX1_waiting_1 7 rfl rfl)
theorem dX1_waiting_30 : decode cX1_waiting 30 = .ok (.getfield 10, 3) := dk_180 0 10 (dk_at dksX1_waiting_1 8 rfl rfl)
theorem dX1_waiting_33 : decode cX1_waiting 33 = .ok (.invokevirtual 301, 3) := dk_182 1 45 (dk_at dksX1_waiting_1 11 rfl rfl)
theorem dX1_waiting_36 : decode cX1_waiting 36 = .ok (.aload_n 0, 1) := dk_42 (dk_at dksX1_waiting_1 14 rfl rfl)
theorem dX1_waiting_37 : decode cX1_waiting 37 = .ok (.aload_n 0, 1) := dk_42 (dk_at dksX1_waiting_1 15 rfl rfl)
theorem dX1_waiting_38 : decode cX1_waiting 38 = .ok (.getfield 16, 3) := dk_180 0 16 (dk_at dksX1_waiting_1 16 rfl rfl)
theorem dX1_waiting_41 : decode cX1_waiting 41 = .ok (.iload_n 3, 1) := dk_29 (dk_at dksX1_waiting_1 19 rfl rfl)
theorem dX1_waiting_42 : decode cX1_waiting 42 = .ok (.invokevirtual 374, 3) := dk_182 1 118 (dk_at dksX1_waiting_1 20 rfl rfl)
theorem dX1_waiting_45 : decode cX1_waiting 45 = .ok (.aload_n 0, 1) := dk_42 (dk_at dksX1_waiting_1 23 rfl rfl)
theorem dX1_waiting_46 : decode cX1_waiting 46 = .ok (.aload_n 0, 1) := dk_42 (dk_at dksX1_waiting_2 0 rfl rfl)
theorem dX1_waiting_47 : decode cX1_waiting 47 = .ok (.getfield 16, 3) := dk_180 0 16 (dk_at dksX1_waiting_2 1 rfl rfl)
theorem dX1_waiting_50 : decode cX1_waiting 50 = .ok (.iload_n 1, 1) := dk_27 (dk_at dksX1_waiting_2 4 rfl rfl)
theorem dX1_waiting_51 : decode cX1_waiting 51 = .ok (.invokevirtual 402, 3) := dk_182 1 146 (dk_at dksX1_waiting_2 5 rfl rfl)
theorem dX1_waiting_54 : decode cX1_waiting 54 = .ok (.ifCond .ne 6, 3) := dk_154 0 6 (dk_at dksX1_waiting_2 8 rfl rfl)
theorem dX1_waiting_57 : decode cX1_waiting 57 = .ok (.goto 22, 3) := dk_167 0 22 (dk_at dksX1_waiting_2 11 rfl rfl)
theorem dX1_waiting_60 : decode cX1_waiting 60 = .ok (.aload_n 0, 1) := dk_42 (dk_at dksX1_waiting_2 14 rfl rfl)
theorem dX1_waiting_61 : decode cX1_waiting 61 = .ok (.getfield 16, 3) := dk_180 0 16 (dk_at dksX1_waiting_2 15 rfl rfl)
theorem dX1_waiting_64 : decode cX1_waiting 64 = .ok (.iload_n 1, 1) := dk_27 (dk_at dksX1_waiting_2 18 rfl rfl)
theorem dX1_waiting_65 : decode cX1_waiting 65 = .ok (.iload_n 2, 1) := dk_28 (dk_at dksX1_waiting_2 19 rfl rfl)
theorem dX1_waiting_66 : decode cX1_waiting 66 = .ok (.invokevirtual 320, 3) := dk_182 1 64 (dk_at dksX1_waiting_2 20 rfl rfl)
theorem dX1_waiting_69 : decode cX1_waiting 69 = .ok (.aload_n 0, 1) := dk_42 (dk_at dksX1_waiting_2 23 rfl rfl)
theorem dX1_waiting_70 : decode cX1_waiting 70 = .ok (.iload_n 1, 1) := dk_27 (dk_at dksX1_waiting_3 0 rfl rfl)
theorem dX1_waiting_71 : decode cX1_waiting 71 = .ok (.invokevirtual 405, 3) := dk_182 1 149 (dk_at dksX1_waiting_3 1 rfl rfl)
theorem dX1_waiting_74 : decode cX1_waiting 74 = .ok (.ifCond .le 5, 3) := dk_158 0 5 (dk_at dksX1_waiting_3 4 rfl rfl)
theorem dX1_waiting_77 : decode cX1_waiting 77 = .ok (.iload_n 3, 1) := dk_29 (dk_at dksX1_waiting_3 7 rfl rfl)
theorem dX1_waiting_78 : decode cX1_waiting 78 = .ok (.ireturn, 1) := dk_172 (dk_at dksX1_waiting_3 8 rfl rfl)
theorem dX1_waiting_79 : decode cX1_waiting 79 = .ok (.iinc 3 1, 3) := dk_132 3 1 (dk_at dksX1_waiting_3 9 rfl rfl)
theorem dX1_waiting_82 : decode cX1_waiting 82 = .ok (.goto (-63), 3) := dk_167 255 193 (dk_at dksX1_waiting_3 12 rfl rfl)
theorem dX1_waiting_85 : decode cX1_waiting 85 = .ok (.bipush (-2), 2) := dk_16 254 (dk_at dksX1_waiting_3 15 rfl rfl)
theorem dX1_waiting_87 : decode cX1_waiting 87 = .ok (.ireturn, 1) := dk_172 (dk_at dksX1_waiting_3 17 rfl rfl)
abbrev cX1_exchanged : ByteArray := prog_1_method_70_code
def yX1_exchanged : MethodName := ⟨RX1, "exchanged", "()I"⟩
def dkwX1_exchanged_6 : List UInt8 := [21, 4, 133, 182, 1, 125, 29, 172]
abbrev dktX1_exchanged_6 : List UInt8 := dkwX1_exchanged_6 ++ []
def dkwX1_exchanged_5 : List UInt8 := [182, 1, 168, 54, 4, 42, 3, 181, 1, 122, 42, 27, 133, 182, 1, 125, 42, 28, 133, 182, 1, 125, 42]
abbrev dktX1_exchanged_5 : List UInt8 := dkwX1_exchanged_5 ++ dktX1_exchanged_6
def dkwX1_exchanged_4 : List UInt8 := [132, 5, 1, 167, 255, 196, 132, 4, 1, 167, 255, 175, 42, 180, 0, 16, 42, 180, 0, 10, 182, 1, 45, 42]
abbrev dktX1_exchanged_4 : List UInt8 := dkwX1_exchanged_4 ++ dktX1_exchanged_5
def dkwX1_exchanged_3 : List UInt8 := [182, 1, 168, 54, 6, 21, 6, 29, 161, 0, 6, 167, 0, 12, 21, 6, 62, 21, 4, 60, 21, 5, 61]
abbrev dktX1_exchanged_3 : List UInt8 := dkwX1_exchanged_3 ++ dktX1_exchanged_4
def dkwX1_exchanged_2 : List UInt8 := [180, 0, 16, 42, 180, 0, 10, 182, 1, 45, 42, 42, 180, 0, 16, 21, 4, 21, 5, 182, 1, 113, 87, 42]
abbrev dktX1_exchanged_2 : List UInt8 := dkwX1_exchanged_2 ++ dktX1_exchanged_3
def dkwX1_exchanged_1 : List UInt8 := [42, 180, 0, 94, 162, 0, 78, 21, 4, 4, 96, 54, 5, 21, 5, 42, 180, 0, 94, 162, 0, 57, 42]
abbrev dktX1_exchanged_1 : List UInt8 := dkwX1_exchanged_1 ++ dktX1_exchanged_2
def dkwX1_exchanged_0 : List UInt8 := [42, 180, 0, 94, 5, 162, 0, 6, 16, 254, 172, 3, 60, 3, 61, 19, 1, 167, 62, 3, 54, 4, 21, 4]
abbrev dktX1_exchanged_0 : List UInt8 := dkwX1_exchanged_0 ++ dktX1_exchanged_1
theorem dksX1_exchanged_0 : cX1_exchanged.data.toList.drop 0 = dktX1_exchanged_0 := by decide +kernel
theorem dksX1_exchanged_1 : cX1_exchanged.data.toList.drop 24 = dktX1_exchanged_1 := dk_seg dksX1_exchanged_0 24 rfl rfl
theorem dksX1_exchanged_2 : cX1_exchanged.data.toList.drop 47 = dktX1_exchanged_2 := dk_seg dksX1_exchanged_1 23 rfl rfl
theorem dksX1_exchanged_3 : cX1_exchanged.data.toList.drop 71 = dktX1_exchanged_3 := dk_seg dksX1_exchanged_2 24 rfl rfl
theorem dksX1_exchanged_4 : cX1_exchanged.data.toList.drop 94 = dktX1_exchanged_4 := dk_seg dksX1_exchanged_3 23 rfl rfl
theorem dksX1_exchanged_5 : cX1_exchanged.data.toList.drop 118 = dktX1_exchanged_5 := dk_seg dksX1_exchanged_4 24 rfl rfl
theorem dksX1_exchanged_6 : cX1_exchanged.data.toList.drop 141 = dktX1_exchanged_6 := dk_seg dksX1_exchanged_5 23 rfl rfl
theorem dX1_exchanged_0 : decode cX1_exchanged 0 = .ok (.aload_n 0, 1) := dk_42 (dk_at dksX1_exchanged_0 0 rfl rfl)
theorem dX1_exchanged_1 : decode cX1_exchanged 1 = .ok (.getfield 94, 3) := dk_180 0 94 (dk_at dksX1_exchanged_0 1 rfl rfl)
theorem dX1_exchanged_4 : decode cX1_exchanged 4 = .ok (.iconst 2, 1) := dk_5 (dk_at dksX1_exchanged_0 4 rfl rfl)
theorem dX1_exchanged_5 : decode cX1_exchanged 5 = .ok (.if_icmp .ge 6, 3) := dk_162 0 6 (dk_at dksX1_exchanged_0 5 rfl rfl)
theorem dX1_exchanged_8 : decode cX1_exchanged 8 = .ok (.bipush (-2), 2) := dk_16 254 (dk_at dksX1_exchanged_0 8 rfl rfl)
theorem dX1_exchanged_10 : decode cX1_exchanged 10 = .ok (.ireturn, 1) := dk_172 (dk_at dksX1_exchanged_0 10 rfl rfl)
theorem dX1_exchanged_11 : decode cX1_exchanged 11 = .ok (.iconst 0, 1) := dk_3 (dk_at dksX1_exchanged_0 11 rfl rfl)
theorem dX1_exchanged_12 : decode cX1_exchanged 12 = .ok (.istore_n 1, 1) := dk_60 (dk_at dksX1_exchanged_0 12 rfl rfl)
theorem dX1_exchanged_13 : decode cX1_exchanged 13 = .ok (.iconst 0, 1) := dk_3 (dk_at dksX1_exchanged_0 13 rfl rfl)
theorem dX1_exchanged_14 : decode cX1_exchanged 14 = .ok (.istore_n 2, 1) := dk_61 (dk_at dksX1_exchanged_0 14 rfl rfl)
theorem dX1_exchanged_15 : decode cX1_exchanged 15 = .ok (.ldc_w 423, 3) := dk_19 1 167 (dk_at dksX1_exchanged_0 15 rfl rfl)
theorem dX1_exchanged_18 : decode cX1_exchanged 18 = .ok (.istore_n 3, 1) := dk_62 (dk_at dksX1_exchanged_0 18 rfl rfl)
theorem dX1_exchanged_19 : decode cX1_exchanged 19 = .ok (.iconst 0, 1) := dk_3 (dk_at dksX1_exchanged_0 19 rfl rfl)
theorem dX1_exchanged_20 : decode cX1_exchanged 20 = .ok (.istore 4, 2) := dk_54 4 (dk_at dksX1_exchanged_0 20 rfl rfl)
theorem dX1_exchanged_22 : decode cX1_exchanged 22 = .ok (.iload 4, 2) := dk_21 4 (dk_at dksX1_exchanged_0 22 rfl rfl)
theorem dX1_exchanged_24 : decode cX1_exchanged 24 = .ok (.aload_n 0, 1) := dk_42 (dk_at dksX1_exchanged_1 0 rfl rfl)
theorem dX1_exchanged_25 : decode cX1_exchanged 25 = .ok (.getfield 94, 3) := dk_180 0 94 (dk_at dksX1_exchanged_1 1 rfl rfl)
theorem dX1_exchanged_28 : decode cX1_exchanged 28 = .ok (.if_icmp .ge 78, 3) := dk_162 0 78 (dk_at dksX1_exchanged_1 4 rfl rfl)
theorem dX1_exchanged_31 : decode cX1_exchanged 31 = .ok (.iload 4, 2) := dk_21 4 (dk_at dksX1_exchanged_1 7 rfl rfl)
theorem dX1_exchanged_33 : decode cX1_exchanged 33 = .ok (.iconst 1, 1) := dk_4 (dk_at dksX1_exchanged_1 9 rfl rfl)
theorem dX1_exchanged_34 : decode cX1_exchanged 34 = .ok (.iadd, 1) := dk_96 (dk_at dksX1_exchanged_1 10 rfl rfl)
theorem dX1_exchanged_35 : decode cX1_exchanged 35 = .ok (.istore 5, 2) := dk_54 5 (dk_at dksX1_exchanged_1 11 rfl rfl)
theorem dX1_exchanged_37 : decode cX1_exchanged 37 = .ok (.iload 5, 2) := dk_21 5 (dk_at dksX1_exchanged_1 13 rfl rfl)
theorem dX1_exchanged_39 : decode cX1_exchanged 39 = .ok (.aload_n 0, 1) := dk_42 (dk_at dksX1_exchanged_1 15 rfl rfl)
theorem dX1_exchanged_40 : decode cX1_exchanged 40 = .ok (.getfield 94, 3) := dk_180 0 94 (dk_at dksX1_exchanged_1 16 rfl rfl)
theorem dX1_exchanged_43 : decode cX1_exchanged 43 = .ok (.if_icmp .ge 57, 3) := dk_162 0 57 (dk_at dksX1_exchanged_1 19 rfl rfl)
theorem dX1_exchanged_46 : decode cX1_exchanged 46 = .ok (.aload_n 0, 1) := dk_42 (dk_at dksX1_exchanged_1 22 rfl rfl)
theorem dX1_exchanged_47 : decode cX1_exchanged 47 = .ok (.getfield 16, 3) := dk_180 0 16 (dk_at dksX1_exchanged_2 0 rfl rfl)
theorem dX1_exchanged_50 : decode cX1_exchanged 50 = .ok (.aload_n 0, 1) := dk_42 (dk_at dksX1_exchanged_2 3 rfl rfl)
theorem dX1_exchanged_51 : decode cX1_exchanged 51 = .ok (.getfield 10, 3) := dk_180 0 10 (dk_at dksX1_exchanged_2 4 rfl rfl)
theorem dX1_exchanged_54 : decode cX1_exchanged 54 = .ok (.invokevirtual 301, 3) := dk_182 1 45 (dk_at dksX1_exchanged_2 7 rfl rfl)
theorem dX1_exchanged_57 : decode cX1_exchanged 57 = .ok (.aload_n 0, 1) := dk_42 (dk_at dksX1_exchanged_2 10 rfl rfl)
theorem dX1_exchanged_58 : decode cX1_exchanged 58 = .ok (.aload_n 0, 1) := dk_42 (dk_at dksX1_exchanged_2 11 rfl rfl)
theorem dX1_exchanged_59 : decode cX1_exchanged 59 = .ok (.getfield 16, 3) := dk_180 0 16 (dk_at dksX1_exchanged_2 12 rfl rfl)
theorem dX1_exchanged_62 : decode cX1_exchanged 62 = .ok (.iload 4, 2) := dk_21 4 (dk_at dksX1_exchanged_2 15 rfl rfl)
theorem dX1_exchanged_64 : decode cX1_exchanged 64 = .ok (.iload 5, 2) := dk_21 5 (dk_at dksX1_exchanged_2 17 rfl rfl)
theorem dX1_exchanged_66 : decode cX1_exchanged 66 = .ok (.invokevirtual 369, 3) := dk_182 1 113 (dk_at dksX1_exchanged_2 19 rfl rfl)
theorem dX1_exchanged_69 : decode cX1_exchanged 69 = .ok (.pop, 1) := dk_87 (dk_at dksX1_exchanged_2 22 rfl rfl)
theorem dX1_exchanged_70 : decode cX1_exchanged 70 = .ok (.aload_n 0, 1) := dk_42 (dk_at dksX1_exchanged_2 23 rfl rfl)
theorem dX1_exchanged_71 : decode cX1_exchanged 71 = .ok (.invokevirtual 424, 3) := dk_182 1 168 (dk_at dksX1_exchanged_3 0 rfl rfl)
theorem dX1_exchanged_74 : decode cX1_exchanged 74 = .ok (.istore 6, 2) := dk_54 6 (dk_at dksX1_exchanged_3 3 rfl rfl)
theorem dX1_exchanged_76 : decode cX1_exchanged 76 = .ok (.iload 6, 2) := dk_21 6 (dk_at dksX1_exchanged_3 5 rfl rfl)
theorem dX1_exchanged_78 : decode cX1_exchanged 78 = .ok (.iload_n 3, 1) := dk_29 (dk_at dksX1_exchanged_3 7 rfl rfl)
theorem dX1_exchanged_79 : decode cX1_exchanged 79 = .ok (.if_icmp .lt 6, 3) := dk_161 0 6 (dk_at dksX1_exchanged_3 8 rfl rfl)
theorem dX1_exchanged_82 : decode cX1_exchanged 82 = .ok (.goto 12, 3) := dk_167 0 12 (dk_at dksX1_exchanged_3 11 rfl rfl)
theorem dX1_exchanged_85 : decode cX1_exchanged 85 = .ok (.iload 6, 2) := dk_21 6 (dk_at dksX1_exchanged_3 14 rfl rfl)
theorem dX1_exchanged_87 : decode cX1_exchanged 87 = .ok (.istore_n 3, 1) := dk_62 (dk_at dksX1_exchanged_3 16 rfl rfl)
theorem dX1_exchanged_88 : decode cX1_exchanged 88 = .ok (.iload 4, 2) := dk_21 4 (dk_at dksX1_exchanged_3 17 rfl rfl)
theorem dX1_exchanged_90 : decode cX1_exchanged 90 = .ok (.istore_n 1, 1) := dk_60 (dk_at dksX1_exchanged_3 19 rfl rfl)
theorem dX1_exchanged_91 : decode cX1_exchanged 91 = .ok (.iload 5, 2) := dk_21 5 (dk_at dksX1_exchanged_3 20 rfl rfl)
theorem dX1_exchanged_93 : decode cX1_exchanged 93 = .ok (.istore_n 2, 1) := dk_61 (dk_at dksX1_exchanged_3 22 rfl rfl)
theorem dX1_exchanged_94 : decode cX1_exchanged 94 = .ok (.iinc 5 1, 3) := dk_132 5 1 (dk_at dksX1_exchanged_4 0 rfl rfl)
theorem dX1_exchanged_97 : decode cX1_exchanged 97 = .ok (.goto (-60), 3) := dk_167 255 196 (dk_at dksX1_exchanged_4 3 rfl rfl)
theorem dX1_exchanged_100 : decode cX1_exchanged 100 = .ok (.iinc 4 1, 3) := dk_132 4 1 (dk_at dksX1_exchanged_4 6 rfl rfl)
theorem dX1_exchanged_103 : decode cX1_exchanged 103 = .ok (.goto (-81), 3) := dk_167 255 175 (dk_at dksX1_exchanged_4 9 rfl rfl)
theorem dX1_exchanged_106 : decode cX1_exchanged 106 = .ok (.aload_n 0, 1) := dk_42 (dk_at dksX1_exchanged_4 12 rfl rfl)
theorem dX1_exchanged_107 : decode cX1_exchanged 107 = .ok (.getfield 16, 3) := dk_180 0 16 (dk_at dksX1_exchanged_4 13 rfl rfl)
theorem dX1_exchanged_110 : decode cX1_exchanged 110 = .ok (.aload_n 0, 1) := dk_42 (dk_at dksX1_exchanged_4 16 rfl rfl)
theorem dX1_exchanged_111 : decode cX1_exchanged 111 = .ok (.getfield 10, 3) := dk_180 0 10 (dk_at dksX1_exchanged_4 17 rfl rfl)
theorem dX1_exchanged_114 : decode cX1_exchanged 114 = .ok (.invokevirtual 301, 3) := dk_182 1 45 (dk_at dksX1_exchanged_4 20 rfl rfl)
theorem dX1_exchanged_117 : decode cX1_exchanged 117 = .ok (.aload_n 0, 1) := dk_42 (dk_at dksX1_exchanged_4 23 rfl rfl)
theorem dX1_exchanged_118 : decode cX1_exchanged 118 = .ok (.invokevirtual 424, 3) := dk_182 1 168 (dk_at dksX1_exchanged_5 0 rfl rfl)
theorem dX1_exchanged_121 : decode cX1_exchanged 121 = .ok (.istore 4, 2) := dk_54 4 (dk_at dksX1_exchanged_5 3 rfl rfl)
theorem dX1_exchanged_123 : decode cX1_exchanged 123 = .ok (.aload_n 0, 1) := dk_42 (dk_at dksX1_exchanged_5 5 rfl rfl)
theorem dX1_exchanged_124 : decode cX1_exchanged 124 = .ok (.iconst 0, 1) := dk_3 (dk_at dksX1_exchanged_5 6 rfl rfl)
theorem dX1_exchanged_125 : decode cX1_exchanged 125 = .ok (.putfield 378, 3) := dk_181 1 122 (dk_at dksX1_exchanged_5 7 rfl rfl)
theorem dX1_exchanged_128 : decode cX1_exchanged 128 = .ok (.aload_n 0, 1) := dk_42 (dk_at dksX1_exchanged_5 10 rfl rfl)
theorem dX1_exchanged_129 : decode cX1_exchanged 129 = .ok (.iload_n 1, 1) := dk_27 (dk_at dksX1_exchanged_5 11 rfl rfl)
theorem dX1_exchanged_130 : decode cX1_exchanged 130 = .ok (.i2l, 1) := dk_133 (dk_at dksX1_exchanged_5 12 rfl rfl)
theorem dX1_exchanged_131 : decode cX1_exchanged 131 = .ok (.invokevirtual 381, 3) := dk_182 1 125 (dk_at dksX1_exchanged_5 13 rfl rfl)
theorem dX1_exchanged_134 : decode cX1_exchanged 134 = .ok (.aload_n 0, 1) := dk_42 (dk_at dksX1_exchanged_5 16 rfl rfl)
theorem dX1_exchanged_135 : decode cX1_exchanged 135 = .ok (.iload_n 2, 1) := dk_28 (dk_at dksX1_exchanged_5 17 rfl rfl)
theorem dX1_exchanged_136 : decode cX1_exchanged 136 = .ok (.i2l, 1) := dk_133 (dk_at dksX1_exchanged_5 18 rfl rfl)
theorem dX1_exchanged_137 : decode cX1_exchanged 137 = .ok (.invokevirtual 381, 3) := dk_182 1 125 (dk_at dksX1_exchanged_5 19 rfl rfl)
theorem dX1_exchanged_140 : decode cX1_exchanged 140 = .ok (.aload_n 0, 1) := dk_42 (dk_at dksX1_exchanged_5 22 rfl rfl)
theorem dX1_exchanged_141 : decode cX1_exchanged 141 = .ok (.iload 4, 2) := dk_21 4 (dk_at dksX1_exchanged_6 0 rfl rfl)
theorem dX1_exchanged_143 : decode cX1_exchanged 143 = .ok (.i2l, 1) := dk_133 (dk_at dksX1_exchanged_6 2 rfl rfl)
theorem dX1_exchanged_144 : decode cX1_exchanged 144 = .ok (.invokevirtual 381, 3) := dk_182 1 125 (dk_at dksX1_exchanged_6 3 rfl rfl)
theorem dX1_exchanged_147 : decode cX1_exchanged 147 = .ok (.iload_n 3, 1) := dk_29 (dk_at dksX1_exchanged_6 6 rfl rfl)
theorem dX1_exchanged_148 : decode cX1_exchanged 148 = .ok (.ireturn, 1) := dk_172 (dk_at dksX1_exchanged_6 7 rfl rfl)
abbrev cX1_turnedNow : ByteArray := prog_1_method_69_code
def yX1_turnedNow : MethodName := ⟨RX1, "turnedNow", "()I"⟩
def dkwX1_turnedNow_0 : List UInt8 := [42, 42, 180, 0, 16, 182, 1, 94, 42, 180, 0, 16, 180, 1, 82, 42, 180, 0, 10, 180, 1, 82, 100, 172]
abbrev dktX1_turnedNow_0 : List UInt8 := dkwX1_turnedNow_0 ++ []
theorem dksX1_turnedNow_0 : cX1_turnedNow.data.toList.drop 0 = dktX1_turnedNow_0 := by decide +kernel
theorem dX1_turnedNow_0 : decode cX1_turnedNow 0 = .ok (.aload_n 0, 1) := dk_42 (dk_at dksX1_turnedNow_0 0 rfl rfl)
theorem dX1_turnedNow_1 : decode cX1_turnedNow 1 = .ok (.aload_n 0, 1) := dk_42 (dk_at dksX1_turnedNow_0 1 rfl rfl)
theorem dX1_turnedNow_2 : decode cX1_turnedNow 2 = .ok (.getfield 16, 3) := dk_180 0 16 (dk_at dksX1_turnedNow_0 2 rfl rfl)
theorem dX1_turnedNow_5 : decode cX1_turnedNow 5 = .ok (.invokevirtual 350, 3) := dk_182 1 94 (dk_at dksX1_turnedNow_0 5 rfl rfl)
theorem dX1_turnedNow_8 : decode cX1_turnedNow 8 = .ok (.aload_n 0, 1) := dk_42 (dk_at dksX1_turnedNow_0 8 rfl rfl)
theorem dX1_turnedNow_9 : decode cX1_turnedNow 9 = .ok (.getfield 16, 3) := dk_180 0 16 (dk_at dksX1_turnedNow_0 9 rfl rfl)
theorem dX1_turnedNow_12 : decode cX1_turnedNow 12 = .ok (.getfield 338, 3) := dk_180 1 82 (dk_at dksX1_turnedNow_0 12 rfl rfl)
theorem dX1_turnedNow_15 : decode cX1_turnedNow 15 = .ok (.aload_n 0, 1) := dk_42 (dk_at dksX1_turnedNow_0 15 rfl rfl)
theorem dX1_turnedNow_16 : decode cX1_turnedNow 16 = .ok (.getfield 10, 3) := dk_180 0 10 (dk_at dksX1_turnedNow_0 16 rfl rfl)
theorem dX1_turnedNow_19 : decode cX1_turnedNow 19 = .ok (.getfield 338, 3) := dk_180 1 82 (dk_at dksX1_turnedNow_0 19 rfl rfl)
theorem dX1_turnedNow_22 : decode cX1_turnedNow 22 = .ok (.isub, 1) := dk_100 (dk_at dksX1_turnedNow_0 22 rfl rfl)
theorem dX1_turnedNow_23 : decode cX1_turnedNow 23 = .ok (.ireturn, 1) := dk_172 (dk_at dksX1_turnedNow_0 23 rfl rfl)
abbrev cX1_eldest : ByteArray := prog_1_method_71_code
def yX1_eldest : MethodName := ⟨RX1, "eldest", "()I"⟩
def dkwX1_eldest_4 : List UInt8 := [182, 1, 149, 133, 182, 1, 125, 27, 172]
abbrev dktX1_eldest_4 : List UInt8 := dkwX1_eldest_4 ++ []
def dkwX1_eldest_3 : List UInt8 := [180, 0, 16, 42, 180, 0, 10, 182, 1, 45, 42, 3, 181, 1, 122, 42, 28, 133, 182, 1, 125, 42, 42, 27]
abbrev dktX1_eldest_3 : List UInt8 := dkwX1_eldest_3 ++ dktX1_eldest_4
def dkwX1_eldest_2 : List UInt8 := [180, 0, 10, 180, 1, 29, 29, 46, 61, 132, 3, 1, 167, 255, 205, 27, 156, 0, 6, 16, 254, 172, 42]
abbrev dktX1_eldest_2 : List UInt8 := dkwX1_eldest_2 ++ dktX1_eldest_3
def dkwX1_eldest_1 : List UInt8 := [153, 0, 31, 42, 180, 0, 10, 180, 1, 29, 29, 46, 28, 163, 0, 6, 167, 0, 15, 29, 60, 42]
abbrev dktX1_eldest_1 : List UInt8 := dkwX1_eldest_1 ++ dktX1_eldest_2
def dkwX1_eldest_0 : List UInt8 := [16, 254, 60, 2, 61, 3, 62, 29, 42, 180, 0, 94, 162, 0, 49, 42, 180, 0, 10, 180, 0, 113, 29, 46]
abbrev dktX1_eldest_0 : List UInt8 := dkwX1_eldest_0 ++ dktX1_eldest_1
theorem dksX1_eldest_0 : cX1_eldest.data.toList.drop 0 = dktX1_eldest_0 := by decide +kernel
theorem dksX1_eldest_1 : cX1_eldest.data.toList.drop 24 = dktX1_eldest_1 := dk_seg dksX1_eldest_0 24 rfl rfl
theorem dksX1_eldest_2 : cX1_eldest.data.toList.drop 46 = dktX1_eldest_2 := dk_seg dksX1_eldest_1 22 rfl rfl
theorem dksX1_eldest_3 : cX1_eldest.data.toList.drop 69 = dktX1_eldest_3 := dk_seg dksX1_eldest_2 23 rfl rfl
theorem dksX1_eldest_4 : cX1_eldest.data.toList.drop 93 = dktX1_eldest_4 := dk_seg dksX1_eldest_3 24 rfl rfl
theorem dX1_eldest_0 : decode cX1_eldest 0 = .ok (.bipush (-2), 2) := dk_16 254 (dk_at dksX1_eldest_0 0 rfl rfl)
theorem dX1_eldest_2 : decode cX1_eldest 2 = .ok (.istore_n 1, 1) := dk_60 (dk_at dksX1_eldest_0 2 rfl rfl)
theorem dX1_eldest_3 : decode cX1_eldest 3 = .ok (.iconst (-1), 1) := dk_2 (dk_at dksX1_eldest_0 3 rfl rfl)
theorem dX1_eldest_4 : decode cX1_eldest 4 = .ok (.istore_n 2, 1) := dk_61 (dk_at dksX1_eldest_0 4 rfl rfl)
theorem dX1_eldest_5 : decode cX1_eldest 5 = .ok (.iconst 0, 1) := dk_3 (dk_at dksX1_eldest_0 5 rfl rfl)
theorem dX1_eldest_6 : decode cX1_eldest 6 = .ok (.istore_n 3, 1) := dk_62 (dk_at dksX1_eldest_0 6 rfl rfl)
theorem dX1_eldest_7 : decode cX1_eldest 7 = .ok (.iload_n 3, 1) := dk_29 (dk_at dksX1_eldest_0 7 rfl rfl)
theorem dX1_eldest_8 : decode cX1_eldest 8 = .ok (.aload_n 0, 1) := dk_42 (dk_at dksX1_eldest_0 8 rfl rfl)
theorem dX1_eldest_9 : decode cX1_eldest 9 = .ok (.getfield 94, 3) := dk_180 0 94 (dk_at dksX1_eldest_0 9 rfl rfl)
theorem dX1_eldest_12 : decode cX1_eldest 12 = .ok (.if_icmp .ge 49, 3) := dk_162 0 49 (dk_at dksX1_eldest_0 12 rfl rfl)
theorem dX1_eldest_15 : decode cX1_eldest 15 = .ok (.aload_n 0, 1) := dk_42 (dk_at dksX1_eldest_0 15 rfl rfl)
theorem dX1_eldest_16 : decode cX1_eldest 16 = .ok (.getfield 10, 3) := dk_180 0 10 (dk_at dksX1_eldest_0 16 rfl rfl)
theorem dX1_eldest_19 : decode cX1_eldest 19 = .ok (.getfield 113, 3) := dk_180 0 113 (dk_at dksX1_eldest_0 19 rfl rfl)
theorem dX1_eldest_22 : decode cX1_eldest 22 = .ok (.iload_n 3, 1) := dk_29 (dk_at dksX1_eldest_0 22 rfl rfl)
theorem dX1_eldest_23 : decode cX1_eldest 23 = .ok (.iaload, 1) := dk_46 (dk_at dksX1_eldest_0 23 rfl rfl)
theorem dX1_eldest_24 : decode cX1_eldest 24 = .ok (.ifCond .eq 31, 3) := dk_153 0 31 (dk_at dksX1_eldest_1 0 rfl rfl)
theorem dX1_eldest_27 : decode cX1_eldest 27 = .ok (.aload_n 0, 1) := dk_42 (dk_at dksX1_eldest_1 3 rfl rfl)
theorem dX1_eldest_28 : decode cX1_eldest 28 = .ok (.getfield 10, 3) := dk_180 0 10 (dk_at dksX1_eldest_1 4 rfl rfl)
theorem dX1_eldest_31 : decode cX1_eldest 31 = .ok (.getfield 285, 3) := dk_180 1 29 (dk_at dksX1_eldest_1 7 rfl rfl)
theorem dX1_eldest_34 : decode cX1_eldest 34 = .ok (.iload_n 3, 1) := dk_29 (dk_at dksX1_eldest_1 10 rfl rfl)
theorem dX1_eldest_35 : decode cX1_eldest 35 = .ok (.iaload, 1) := dk_46 (dk_at dksX1_eldest_1 11 rfl rfl)
theorem dX1_eldest_36 : decode cX1_eldest 36 = .ok (.iload_n 2, 1) := dk_28 (dk_at dksX1_eldest_1 12 rfl rfl)
theorem dX1_eldest_37 : decode cX1_eldest 37 = .ok (.if_icmp .gt 6, 3) := dk_163 0 6 (dk_at dksX1_eldest_1 13 rfl rfl)
theorem dX1_eldest_40 : decode cX1_eldest 40 = .ok (.goto 15, 3) := dk_167 0 15 (dk_at dksX1_eldest_1 16 rfl rfl)
theorem dX1_eldest_43 : decode cX1_eldest 43 = .ok (.iload_n 3, 1) := dk_29 (dk_at dksX1_eldest_1 19 rfl rfl)
theorem dX1_eldest_44 : decode cX1_eldest 44 = .ok (.istore_n 1, 1) := dk_60 (dk_at dksX1_eldest_1 20 rfl rfl)
theorem dX1_eldest_45 : decode cX1_eldest 45 = .ok (.aload_n 0, 1) := dk_42 (dk_at dksX1_eldest_1 21 rfl rfl)
theorem dX1_eldest_46 : decode cX1_eldest 46 = .ok (.getfield 10, 3) := dk_180 0 10 (dk_at dksX1_eldest_2 0 rfl rfl)
theorem dX1_eldest_49 : decode cX1_eldest 49 = .ok (.getfield 285, 3) := dk_180 1 29 (dk_at dksX1_eldest_2 3 rfl rfl)
theorem dX1_eldest_52 : decode cX1_eldest 52 = .ok (.iload_n 3, 1) := dk_29 (dk_at dksX1_eldest_2 6 rfl rfl)
theorem dX1_eldest_53 : decode cX1_eldest 53 = .ok (.iaload, 1) := dk_46 (dk_at dksX1_eldest_2 7 rfl rfl)
theorem dX1_eldest_54 : decode cX1_eldest 54 = .ok (.istore_n 2, 1) := dk_61 (dk_at dksX1_eldest_2 8 rfl rfl)
theorem dX1_eldest_55 : decode cX1_eldest 55 = .ok (.iinc 3 1, 3) := dk_132 3 1 (dk_at dksX1_eldest_2 9 rfl rfl)
theorem dX1_eldest_58 : decode cX1_eldest 58 = .ok (.goto (-51), 3) := dk_167 255 205 (dk_at dksX1_eldest_2 12 rfl rfl)
theorem dX1_eldest_61 : decode cX1_eldest 61 = .ok (.iload_n 1, 1) := dk_27 (dk_at dksX1_eldest_2 15 rfl rfl)
theorem dX1_eldest_62 : decode cX1_eldest 62 = .ok (.ifCond .ge 6, 3) := dk_156 0 6 (dk_at dksX1_eldest_2 16 rfl rfl)
theorem dX1_eldest_65 : decode cX1_eldest 65 = .ok (.bipush (-2), 2) := dk_16 254 (dk_at dksX1_eldest_2 19 rfl rfl)
theorem dX1_eldest_67 : decode cX1_eldest 67 = .ok (.ireturn, 1) := dk_172 (dk_at dksX1_eldest_2 21 rfl rfl)
theorem dX1_eldest_68 : decode cX1_eldest 68 = .ok (.aload_n 0, 1) := dk_42 (dk_at dksX1_eldest_2 22 rfl rfl)
theorem dX1_eldest_69 : decode cX1_eldest 69 = .ok (.getfield 16, 3) := dk_180 0 16 (dk_at dksX1_eldest_3 0 rfl rfl)
theorem dX1_eldest_72 : decode cX1_eldest 72 = .ok (.aload_n 0, 1) := dk_42 (dk_at dksX1_eldest_3 3 rfl rfl)
theorem dX1_eldest_73 : decode cX1_eldest 73 = .ok (.getfield 10, 3) := dk_180 0 10 (dk_at dksX1_eldest_3 4 rfl rfl)
theorem dX1_eldest_76 : decode cX1_eldest 76 = .ok (.invokevirtual 301, 3) := dk_182 1 45 (dk_at dksX1_eldest_3 7 rfl rfl)
theorem dX1_eldest_79 : decode cX1_eldest 79 = .ok (.aload_n 0, 1) := dk_42 (dk_at dksX1_eldest_3 10 rfl rfl)
theorem dX1_eldest_80 : decode cX1_eldest 80 = .ok (.iconst 0, 1) := dk_3 (dk_at dksX1_eldest_3 11 rfl rfl)
theorem dX1_eldest_81 : decode cX1_eldest 81 = .ok (.putfield 378, 3) := dk_181 1 122 (dk_at dksX1_eldest_3 12 rfl rfl)
theorem dX1_eldest_84 : decode cX1_eldest 84 = .ok (.aload_n 0, 1) := dk_42 (dk_at dksX1_eldest_3 15 rfl rfl)
theorem dX1_eldest_85 : decode cX1_eldest 85 = .ok (.iload_n 2, 1) := dk_28 (dk_at dksX1_eldest_3 16 rfl rfl)
theorem dX1_eldest_86 : decode cX1_eldest 86 = .ok (.i2l, 1) := dk_133 (dk_at dksX1_eldest_3 17 rfl rfl)
theorem dX1_eldest_87 : decode cX1_eldest 87 = .ok (.invokevirtual 381, 3) := dk_182 1 125 (dk_at dksX1_eldest_3 18 rfl rfl)
theorem dX1_eldest_90 : decode cX1_eldest 90 = .ok (.aload_n 0, 1) := dk_42 (dk_at dksX1_eldest_3 21 rfl rfl)
theorem dX1_eldest_91 : decode cX1_eldest 91 = .ok (.aload_n 0, 1) := dk_42 (dk_at dksX1_eldest_3 22 rfl rfl)
theorem dX1_eldest_92 : decode cX1_eldest 92 = .ok (.iload_n 1, 1) := dk_27 (dk_at dksX1_eldest_3 23 rfl rfl)
theorem dX1_eldest_93 : decode cX1_eldest 93 = .ok (.invokevirtual 405, 3) := dk_182 1 149 (dk_at dksX1_eldest_4 0 rfl rfl)
theorem dX1_eldest_96 : decode cX1_eldest 96 = .ok (.i2l, 1) := dk_133 (dk_at dksX1_eldest_4 3 rfl rfl)
theorem dX1_eldest_97 : decode cX1_eldest 97 = .ok (.invokevirtual 381, 3) := dk_182 1 125 (dk_at dksX1_eldest_4 4 rfl rfl)
theorem dX1_eldest_100 : decode cX1_eldest 100 = .ok (.iload_n 1, 1) := dk_27 (dk_at dksX1_eldest_4 7 rfl rfl)
theorem dX1_eldest_101 : decode cX1_eldest 101 = .ok (.ireturn, 1) := dk_172 (dk_at dksX1_eldest_4 8 rfl rfl)
abbrev cX1_waits : ByteArray := prog_1_method_73_code
def yX1_waits : MethodName := ⟨RX1, "waits", "(II)I"⟩
def dkwX1_waits_1 : List UInt8 := [180, 0, 10, 27, 182, 0, 107, 153, 0, 12, 42, 27, 28, 182, 1, 171, 167, 0, 5, 16, 254, 172]
abbrev dktX1_waits_1 : List UInt8 := dkwX1_waits_1 ++ []
def dkwX1_waits_0 : List UInt8 := [42, 27, 182, 0, 101, 153, 0, 15, 28, 133, 9, 20, 1, 39, 184, 0, 97, 154, 0, 5, 2, 172, 42]
abbrev dktX1_waits_0 : List UInt8 := dkwX1_waits_0 ++ dktX1_waits_1
theorem dksX1_waits_0 : cX1_waits.data.toList.drop 0 = dktX1_waits_0 := by decide +kernel
theorem dksX1_waits_1 : cX1_waits.data.toList.drop 23 = dktX1_waits_1 := dk_seg dksX1_waits_0 23 rfl rfl
theorem dX1_waits_0 : decode cX1_waits 0 = .ok (.aload_n 0, 1) := dk_42 (dk_at dksX1_waits_0 0 rfl rfl)
theorem dX1_waits_1 : decode cX1_waits 1 = .ok (.iload_n 1, 1) := dk_27 (dk_at dksX1_waits_0 1 rfl rfl)
theorem dX1_waits_2 : decode cX1_waits 2 = .ok (.invokevirtual 101, 3) := dk_182 0 101 (dk_at dksX1_waits_0 2 rfl rfl)
theorem dX1_waits_5 : decode cX1_waits 5 = .ok (.ifCond .eq 15, 3) := dk_153 0 15 (dk_at dksX1_waits_0 5 rfl rfl)
theorem dX1_waits_8 : decode cX1_waits 8 = .ok (.iload_n 2, 1) := dk_28 (dk_at dksX1_waits_0 8 rfl rfl)
theorem dX1_waits_9 : decode cX1_waits 9 = .ok (.i2l, 1) := dk_133 (dk_at dksX1_waits_0 9 rfl rfl)
theorem dX1_waits_10 : decode cX1_waits 10 = .ok (.lconst 0, 1) := dk_9 (dk_at dksX1_waits_0 10 rfl rfl)
theorem dX1_waits_11 : decode cX1_waits 11 = .ok (.ldc2_w 295, 3) := dk_20 1 39 (dk_at dksX1_waits_0 11 rfl rfl)
theorem dX1_waits_14 : decode cX1_waits 14 = .ok (.invokestatic 97, 3) := dk_184 0 97 (dk_at dksX1_waits_0 14 rfl rfl)
theorem dX1_waits_17 : decode cX1_waits 17 = .ok (.ifCond .ne 5, 3) := dk_154 0 5 (dk_at dksX1_waits_0 17 rfl rfl)
theorem dX1_waits_20 : decode cX1_waits 20 = .ok (.iconst (-1), 1) := dk_2 (dk_at dksX1_waits_0 20 rfl rfl)
theorem dX1_waits_21 : decode cX1_waits 21 = .ok (.ireturn, 1) := dk_172 (dk_at dksX1_waits_0 21 rfl rfl)
theorem dX1_waits_22 : decode cX1_waits 22 = .ok (.aload_n 0, 1) := dk_42 (dk_at dksX1_waits_0 22 rfl rfl)
theorem dX1_waits_23 : decode cX1_waits 23 = .ok (.getfield 10, 3) := dk_180 0 10 (dk_at dksX1_waits_1 0 rfl rfl)
theorem dX1_waits_26 : decode cX1_waits 26 = .ok (.iload_n 1, 1) := dk_27 (dk_at dksX1_waits_1 3 rfl rfl)
theorem dX1_waits_27 : decode cX1_waits 27 = .ok (.invokevirtual 107, 3) := dk_182 0 107 (dk_at dksX1_waits_1 4 rfl rfl)
theorem dX1_waits_30 : decode cX1_waits 30 = .ok (.ifCond .eq 12, 3) := dk_153 0 12 (dk_at dksX1_waits_1 7 rfl rfl)
theorem dX1_waits_33 : decode cX1_waits 33 = .ok (.aload_n 0, 1) := dk_42 (dk_at dksX1_waits_1 10 rfl rfl)
theorem dX1_waits_34 : decode cX1_waits 34 = .ok (.iload_n 1, 1) := dk_27 (dk_at dksX1_waits_1 11 rfl rfl)
theorem dX1_waits_35 : decode cX1_waits 35 = .ok (.iload_n 2, 1) := dk_28 (dk_at dksX1_waits_1 12 rfl rfl)
theorem dX1_waits_36 : decode cX1_waits 36 = .ok (.invokevirtual 427, 3) := dk_182 1 171 (dk_at dksX1_waits_1 13 rfl rfl)
theorem dX1_waits_39 : decode cX1_waits 39 = .ok (.goto 5, 3) := dk_167 0 5 (dk_at dksX1_waits_1 16 rfl rfl)
theorem dX1_waits_42 : decode cX1_waits 42 = .ok (.bipush (-2), 2) := dk_16 254 (dk_at dksX1_waits_1 19 rfl rfl)
theorem dX1_waits_44 : decode cX1_waits 44 = .ok (.ireturn, 1) := dk_172 (dk_at dksX1_waits_1 21 rfl rfl)
abbrev cX1_waitsFor : ByteArray := prog_1_method_72_code
def yX1_waitsFor : MethodName := ⟨RX1, "waitsFor", "(II)I"⟩
def dkwX1_waitsFor_2 : List UInt8 := [100, 184, 1, 9, 172]
abbrev dktX1_waitsFor_2 : List UInt8 := dkwX1_waitsFor_2 ++ []
def dkwX1_waitsFor_1 : List UInt8 := [182, 1, 103, 87, 132, 3, 1, 167, 255, 238, 3, 42, 180, 0, 19, 42, 180, 0, 16, 180, 0, 110, 27, 46]
abbrev dktX1_waitsFor_1 : List UInt8 := dkwX1_waitsFor_1 ++ dktX1_waitsFor_2
def dkwX1_waitsFor_0 : List UInt8 := [42, 180, 0, 16, 42, 180, 0, 10, 182, 1, 45, 3, 62, 29, 28, 162, 0, 19, 42, 42, 180, 0, 16, 27]
abbrev dktX1_waitsFor_0 : List UInt8 := dkwX1_waitsFor_0 ++ dktX1_waitsFor_1
theorem dksX1_waitsFor_0 : cX1_waitsFor.data.toList.drop 0 = dktX1_waitsFor_0 := by decide +kernel
theorem dksX1_waitsFor_1 : cX1_waitsFor.data.toList.drop 24 = dktX1_waitsFor_1 := dk_seg dksX1_waitsFor_0 24 rfl rfl
theorem dksX1_waitsFor_2 : cX1_waitsFor.data.toList.drop 48 = dktX1_waitsFor_2 := dk_seg dksX1_waitsFor_1 24 rfl rfl
theorem dX1_waitsFor_0 : decode cX1_waitsFor 0 = .ok (.aload_n 0, 1) := dk_42 (dk_at dksX1_waitsFor_0 0 rfl rfl)
theorem dX1_waitsFor_1 : decode cX1_waitsFor 1 = .ok (.getfield 16, 3) := dk_180 0 16 (dk_at dksX1_waitsFor_0 1 rfl rfl)
theorem dX1_waitsFor_4 : decode cX1_waitsFor 4 = .ok (.aload_n 0, 1) := dk_42 (dk_at dksX1_waitsFor_0 4 rfl rfl)
theorem dX1_waitsFor_5 : decode cX1_waitsFor 5 = .ok (.getfield 10, 3) := dk_180 0 10 (dk_at dksX1_waitsFor_0 5 rfl rfl)
theorem dX1_waitsFor_8 : decode cX1_waitsFor 8 = .ok (.invokevirtual 301, 3) := dk_182 1 45 (dk_at dksX1_waitsFor_0 8 rfl rfl)
theorem dX1_waitsFor_11 : decode cX1_waitsFor 11 = .ok (.iconst 0, 1) := dk_3 (dk_at dksX1_waitsFor_0 11 rfl rfl)
theorem dX1_waitsFor_12 : decode cX1_waitsFor 12 = .ok (.istore_n 3, 1) := dk_62 (dk_at dksX1_waitsFor_0 12 rfl rfl)
theorem dX1_waitsFor_13 : decode cX1_waitsFor 13 = .ok (.iload_n 3, 1) := dk_29 (dk_at dksX1_waitsFor_0 13 rfl rfl)
theorem dX1_waitsFor_14 : decode cX1_waitsFor 14 = .ok (.iload_n 2, 1) := dk_28 (dk_at dksX1_waitsFor_0 14 rfl rfl)
theorem dX1_waitsFor_15 : decode cX1_waitsFor 15 = .ok (.if_icmp .ge 19, 3) := dk_162 0 19 (dk_at dksX1_waitsFor_0 15 rfl rfl)
theorem dX1_waitsFor_18 : decode cX1_waitsFor 18 = .ok (.aload_n 0, 1) := dk_42 (dk_at dksX1_waitsFor_0 18 rfl rfl)
theorem dX1_waitsFor_19 : decode cX1_waitsFor 19 = .ok (.aload_n 0, 1) := dk_42 (dk_at dksX1_waitsFor_0 19 rfl rfl)
theorem dX1_waitsFor_20 : decode cX1_waitsFor 20 = .ok (.getfield 16, 3) := dk_180 0 16 (dk_at dksX1_waitsFor_0 20 rfl rfl)
theorem dX1_waitsFor_23 : decode cX1_waitsFor 23 = .ok (.iload_n 1, 1) := dk_27 (dk_at dksX1_waitsFor_0 23 rfl rfl)
theorem dX1_waitsFor_24 : decode cX1_waitsFor 24 = .ok (.invokevirtual 359, 3) := dk_182 1 103 (dk_at dksX1_waitsFor_1 0 rfl rfl)
theorem dX1_waitsFor_27 : decode cX1_waitsFor 27 = .ok (.pop, 1) := dk_87 (dk_at dksX1_waitsFor_1 3 rfl rfl)
theorem dX1_waitsFor_28 : decode cX1_waitsFor 28 = .ok (.iinc 3 1, 3) := dk_132 3 1 (dk_at dksX1_waitsFor_1 4 rfl rfl)
theorem dX1_waitsFor_31 : decode cX1_waitsFor 31 = .ok (.goto (-18), 3) := dk_167 255 238 (dk_at dksX1_waitsFor_1 7 rfl rfl)
theorem dX1_waitsFor_34 : decode cX1_waitsFor 34 = .ok (.iconst 0, 1) := dk_3 (dk_at dksX1_waitsFor_1 10 rfl rfl)
theorem dX1_waitsFor_35 : decode cX1_waitsFor 35 = .ok (.aload_n 0, 1) := dk_42 (dk_at dksX1_waitsFor_1 11 rfl rfl)
theorem dX1_waitsFor_36 : decode cX1_waitsFor 36 = .ok (.getfield 19, 3) := dk_180 0 19 (dk_at dksX1_waitsFor_1 12 rfl rfl)
theorem dX1_waitsFor_39 : decode cX1_waitsFor 39 = .ok (.aload_n 0, 1) := dk_42 (dk_at dksX1_waitsFor_1 15 rfl rfl)
theorem dX1_waitsFor_40 : decode cX1_waitsFor 40 = .ok (.getfield 16, 3) := dk_180 0 16 (dk_at dksX1_waitsFor_1 16 rfl rfl)
theorem dX1_waitsFor_43 : decode cX1_waitsFor 43 = .ok (.getfield 110, 3) := dk_180 0 110 (dk_at dksX1_waitsFor_1 19 rfl rfl)
theorem dX1_waitsFor_46 : decode cX1_waitsFor 46 = .ok (.iload_n 1, 1) := dk_27 (dk_at dksX1_waitsFor_1 22 rfl rfl)
theorem dX1_waitsFor_47 : decode cX1_waitsFor 47 = .ok (.iaload, 1) := dk_46 (dk_at dksX1_waitsFor_1 23 rfl rfl)
theorem dX1_waitsFor_48 : decode cX1_waitsFor 48 = .ok (.isub, 1) := dk_100 (dk_at dksX1_waitsFor_2 0 rfl rfl)
theorem dX1_waitsFor_49 : decode cX1_waitsFor 49 = .ok (.invokestatic 265, 3) := dk_184 1 9 (dk_at dksX1_waitsFor_2 1 rfl rfl)
theorem dX1_waitsFor_52 : decode cX1_waitsFor 52 = .ok (.ireturn, 1) := dk_172 (dk_at dksX1_waitsFor_2 4 rfl rfl)
abbrev cX1_spares : ByteArray := prog_1_method_74_code
def yX1_spares : MethodName := ⟨RX1, "spares", "(II)I"⟩
def dkwX1_spares_3 : List UInt8 := [16, 254, 172]
abbrev dktX1_spares_3 : List UInt8 := dkwX1_spares_3 ++ []
def dkwX1_spares_2 : List UInt8 := [46, 96, 6, 163, 0, 21, 42, 27, 29, 182, 1, 171, 28, 161, 0, 5, 29, 172, 132, 3, 1, 167, 255, 226]
abbrev dktX1_spares_2 : List UInt8 := dkwX1_spares_2 ++ dktX1_spares_3
def dkwX1_spares_1 : List UInt8 := [180, 0, 10, 27, 182, 0, 107, 154, 0, 6, 16, 253, 172, 3, 62, 29, 42, 180, 0, 10, 180, 1, 26, 27]
abbrev dktX1_spares_1 : List UInt8 := dkwX1_spares_1 ++ dktX1_spares_2
def dkwX1_spares_0 : List UInt8 := [42, 27, 182, 0, 101, 153, 0, 15, 28, 133, 10, 20, 1, 174, 184, 0, 97, 154, 0, 5, 2, 172, 42]
abbrev dktX1_spares_0 : List UInt8 := dkwX1_spares_0 ++ dktX1_spares_1
theorem dksX1_spares_0 : cX1_spares.data.toList.drop 0 = dktX1_spares_0 := by decide +kernel
theorem dksX1_spares_1 : cX1_spares.data.toList.drop 23 = dktX1_spares_1 := dk_seg dksX1_spares_0 23 rfl rfl
theorem dksX1_spares_2 : cX1_spares.data.toList.drop 47 = dktX1_spares_2 := dk_seg dksX1_spares_1 24 rfl rfl
theorem dksX1_spares_3 : cX1_spares.data.toList.drop 71 = dktX1_spares_3 := dk_seg dksX1_spares_2 24 rfl rfl
theorem dX1_spares_0 : decode cX1_spares 0 = .ok (.aload_n 0, 1) := dk_42 (dk_at dksX1_spares_0 0 rfl rfl)
theorem dX1_spares_1 : decode cX1_spares 1 = .ok (.iload_n 1, 1) := dk_27 (dk_at dksX1_spares_0 1 rfl rfl)
theorem dX1_spares_2 : decode cX1_spares 2 = .ok (.invokevirtual 101, 3) := dk_182 0 101 (dk_at dksX1_spares_0 2 rfl rfl)
theorem dX1_spares_5 : decode cX1_spares 5 = .ok (.ifCond .eq 15, 3) := dk_153 0 15 (dk_at dksX1_spares_0 5 rfl rfl)
theorem dX1_spares_8 : decode cX1_spares 8 = .ok (.iload_n 2, 1) := dk_28 (dk_at dksX1_spares_0 8 rfl rfl)
theorem dX1_spares_9 : decode cX1_spares 9 = .ok (.i2l, 1) := dk_133 (dk_at dksX1_spares_0 9 rfl rfl)
theorem dX1_spares_10 : decode cX1_spares 10 = .ok (.lconst 1, 1) := dk_10 (dk_at dksX1_spares_0 10 rfl rfl)
theorem dX1_spares_11 : decode cX1_spares 11 = .ok (.ldc2_w 430, 3) := dk_20 1 174 (dk_at dksX1_spares_0 11 rfl rfl)
theorem dX1_spares_14 : decode cX1_spares 14 = .ok (.invokestatic 97, 3) := dk_184 0 97 (dk_at dksX1_spares_0 14 rfl rfl)
theorem dX1_spares_17 : decode cX1_spares 17 = .ok (.ifCond .ne 5, 3) := dk_154 0 5 (dk_at dksX1_spares_0 17 rfl rfl)
theorem dX1_spares_20 : decode cX1_spares 20 = .ok (.iconst (-1), 1) := dk_2 (dk_at dksX1_spares_0 20 rfl rfl)
theorem dX1_spares_21 : decode cX1_spares 21 = .ok (.ireturn, 1) := dk_172 (dk_at dksX1_spares_0 21 rfl rfl)
theorem dX1_spares_22 : decode cX1_spares 22 = .ok (.aload_n 0, 1) := dk_42 (dk_at dksX1_spares_0 22 rfl rfl)
theorem dX1_spares_23 : decode cX1_spares 23 = .ok (.getfield 10, 3) := dk_180 0 10 (dk_at dksX1_spares_1 0 rfl rfl)
theorem dX1_spares_26 : decode cX1_spares 26 = .ok (.iload_n 1, 1) := dk_27 (dk_at dksX1_spares_1 3 rfl rfl)
theorem dX1_spares_27 : decode cX1_spares 27 = .ok (.invokevirtual 107, 3) := dk_182 0 107 (dk_at dksX1_spares_1 4 rfl rfl)
theorem dX1_spares_30 : decode cX1_spares 30 = .ok (.ifCond .ne 6, 3) := dk_154 0 6 (dk_at dksX1_spares_1 7 rfl rfl)
theorem dX1_spares_33 : decode cX1_spares 33 = .ok (.bipush (-3), 2) := dk_16 253 (dk_at dksX1_spares_1 10 rfl rfl)
theorem dX1_spares_35 : decode cX1_spares 35 = .ok (.ireturn, 1) := dk_172 (dk_at dksX1_spares_1 12 rfl rfl)
theorem dX1_spares_36 : decode cX1_spares 36 = .ok (.iconst 0, 1) := dk_3 (dk_at dksX1_spares_1 13 rfl rfl)
theorem dX1_spares_37 : decode cX1_spares 37 = .ok (.istore_n 3, 1) := dk_62 (dk_at dksX1_spares_1 14 rfl rfl)
theorem dX1_spares_38 : decode cX1_spares 38 = .ok (.iload_n 3, 1) := dk_29 (dk_at dksX1_spares_1 15 rfl rfl)
theorem dX1_spares_39 : decode cX1_spares 39 = .ok (.aload_n 0, 1) := dk_42 (dk_at dksX1_spares_1 16 rfl rfl)
theorem dX1_spares_40 : decode cX1_spares 40 = .ok (.getfield 10, 3) := dk_180 0 10 (dk_at dksX1_spares_1 17 rfl rfl)
theorem dX1_spares_43 : decode cX1_spares 43 = .ok (.getfield 282, 3) := dk_180 1 26 (dk_at dksX1_spares_1 20 rfl rfl)
theorem dX1_spares_46 : decode cX1_spares 46 = .ok (.iload_n 1, 1) := dk_27 (dk_at dksX1_spares_1 23 rfl rfl)
theorem dX1_spares_47 : decode cX1_spares 47 = .ok (.iaload, 1) := dk_46 (dk_at dksX1_spares_2 0 rfl rfl)
theorem dX1_spares_48 : decode cX1_spares 48 = .ok (.iadd, 1) := dk_96 (dk_at dksX1_spares_2 1 rfl rfl)
theorem dX1_spares_49 : decode cX1_spares 49 = .ok (.iconst 3, 1) := dk_6 (dk_at dksX1_spares_2 2 rfl rfl)
theorem dX1_spares_50 : decode cX1_spares 50 = .ok (.if_icmp .gt 21, 3) := dk_163 0 21 (dk_at dksX1_spares_2 3 rfl rfl)
theorem dX1_spares_53 : decode cX1_spares 53 = .ok (.aload_n 0, 1) := dk_42 (dk_at dksX1_spares_2 6 rfl rfl)
theorem dX1_spares_54 : decode cX1_spares 54 = .ok (.iload_n 1, 1) := dk_27 (dk_at dksX1_spares_2 7 rfl rfl)
theorem dX1_spares_55 : decode cX1_spares 55 = .ok (.iload_n 3, 1) := dk_29 (dk_at dksX1_spares_2 8 rfl rfl)
theorem dX1_spares_56 : decode cX1_spares 56 = .ok (.invokevirtual 427, 3) := dk_182 1 171 (dk_at dksX1_spares_2 9 rfl rfl)
theorem dX1_spares_59 : decode cX1_spares 59 = .ok (.iload_n 2, 1) := dk_28 (dk_at dksX1_spares_2 12 rfl rfl)
theorem dX1_spares_60 : decode cX1_spares 60 = .ok (.if_icmp .lt 5, 3) := dk_161 0 5 (dk_at dksX1_spares_2 13 rfl rfl)
theorem dX1_spares_63 : decode cX1_spares 63 = .ok (.iload_n 3, 1) := dk_29 (dk_at dksX1_spares_2 16 rfl rfl)
theorem dX1_spares_64 : decode cX1_spares 64 = .ok (.ireturn, 1) := dk_172 (dk_at dksX1_spares_2 17 rfl rfl)
theorem dX1_spares_65 : decode cX1_spares 65 = .ok (.iinc 3 1, 3) := dk_132 3 1 (dk_at dksX1_spares_2 18 rfl rfl)
theorem dX1_spares_68 : decode cX1_spares 68 = .ok (.goto (-30), 3) := dk_167 255 226 (dk_at dksX1_spares_2 21 rfl rfl)
theorem dX1_spares_71 : decode cX1_spares 71 = .ok (.bipush (-2), 2) := dk_16 254 (dk_at dksX1_spares_3 0 rfl rfl)
theorem dX1_spares_73 : decode cX1_spares 73 = .ok (.ireturn, 1) := dk_172 (dk_at dksX1_spares_3 2 rfl rfl)
abbrev cX1_open : ByteArray := prog_1_method_75_code
def yX1_open : MethodName := ⟨RX1, "open", "()I"⟩
def dkwX1_open_1 : List UInt8 := [182, 1, 125, 42, 27, 42, 42, 180, 0, 10, 4, 182, 1, 76, 2, 130, 126, 133, 182, 1, 125, 27, 172]
abbrev dktX1_open_1 : List UInt8 := dkwX1_open_1 ++ []
def dkwX1_open_0 : List UInt8 := [42, 42, 180, 0, 10, 182, 1, 176, 60, 42, 3, 181, 1, 122, 42, 42, 42, 180, 0, 10, 182, 1, 52, 133]
abbrev dktX1_open_0 : List UInt8 := dkwX1_open_0 ++ dktX1_open_1
theorem dksX1_open_0 : cX1_open.data.toList.drop 0 = dktX1_open_0 := by decide +kernel
theorem dksX1_open_1 : cX1_open.data.toList.drop 24 = dktX1_open_1 := dk_seg dksX1_open_0 24 rfl rfl
theorem dX1_open_0 : decode cX1_open 0 = .ok (.aload_n 0, 1) := dk_42 (dk_at dksX1_open_0 0 rfl rfl)
theorem dX1_open_1 : decode cX1_open 1 = .ok (.aload_n 0, 1) := dk_42 (dk_at dksX1_open_0 1 rfl rfl)
theorem dX1_open_2 : decode cX1_open 2 = .ok (.getfield 10, 3) := dk_180 0 10 (dk_at dksX1_open_0 2 rfl rfl)
theorem dX1_open_5 : decode cX1_open 5 = .ok (.invokevirtual 432, 3) := dk_182 1 176 (dk_at dksX1_open_0 5 rfl rfl)
theorem dX1_open_8 : decode cX1_open 8 = .ok (.istore_n 1, 1) := dk_60 (dk_at dksX1_open_0 8 rfl rfl)
theorem dX1_open_9 : decode cX1_open 9 = .ok (.aload_n 0, 1) := dk_42 (dk_at dksX1_open_0 9 rfl rfl)
theorem dX1_open_10 : decode cX1_open 10 = .ok (.iconst 0, 1) := dk_3 (dk_at dksX1_open_0 10 rfl rfl)
theorem dX1_open_11 : decode cX1_open 11 = .ok (.putfield 378, 3) := dk_181 1 122 (dk_at dksX1_open_0 11 rfl rfl)
theorem dX1_open_14 : decode cX1_open 14 = .ok (.aload_n 0, 1) := dk_42 (dk_at dksX1_open_0 14 rfl rfl)
theorem dX1_open_15 : decode cX1_open 15 = .ok (.aload_n 0, 1) := dk_42 (dk_at dksX1_open_0 15 rfl rfl)
theorem dX1_open_16 : decode cX1_open 16 = .ok (.aload_n 0, 1) := dk_42 (dk_at dksX1_open_0 16 rfl rfl)
theorem dX1_open_17 : decode cX1_open 17 = .ok (.getfield 10, 3) := dk_180 0 10 (dk_at dksX1_open_0 17 rfl rfl)
theorem dX1_open_20 : decode cX1_open 20 = .ok (.invokevirtual 308, 3) := dk_182 1 52 (dk_at dksX1_open_0 20 rfl rfl)
theorem dX1_open_23 : decode cX1_open 23 = .ok (.i2l, 1) := dk_133 (dk_at dksX1_open_0 23 rfl rfl)
theorem dX1_open_24 : decode cX1_open 24 = .ok (.invokevirtual 381, 3) := dk_182 1 125 (dk_at dksX1_open_1 0 rfl rfl)
theorem dX1_open_27 : decode cX1_open 27 = .ok (.aload_n 0, 1) := dk_42 (dk_at dksX1_open_1 3 rfl rfl)
theorem dX1_open_28 : decode cX1_open 28 = .ok (.iload_n 1, 1) := dk_27 (dk_at dksX1_open_1 4 rfl rfl)
theorem dX1_open_29 : decode cX1_open 29 = .ok (.aload_n 0, 1) := dk_42 (dk_at dksX1_open_1 5 rfl rfl)
theorem dX1_open_30 : decode cX1_open 30 = .ok (.aload_n 0, 1) := dk_42 (dk_at dksX1_open_1 6 rfl rfl)
theorem dX1_open_31 : decode cX1_open 31 = .ok (.getfield 10, 3) := dk_180 0 10 (dk_at dksX1_open_1 7 rfl rfl)
theorem dX1_open_34 : decode cX1_open 34 = .ok (.iconst 1, 1) := dk_4 (dk_at dksX1_open_1 10 rfl rfl)
theorem dX1_open_35 : decode cX1_open 35 = .ok (.invokevirtual 332, 3) := dk_182 1 76 (dk_at dksX1_open_1 11 rfl rfl)
theorem dX1_open_38 : decode cX1_open 38 = .ok (.iconst (-1), 1) := dk_2 (dk_at dksX1_open_1 14 rfl rfl)
theorem dX1_open_39 : decode cX1_open 39 = .ok (.ixor, 1) := dk_130 (dk_at dksX1_open_1 15 rfl rfl)
theorem dX1_open_40 : decode cX1_open 40 = .ok (.iand, 1) := dk_126 (dk_at dksX1_open_1 16 rfl rfl)
theorem dX1_open_41 : decode cX1_open 41 = .ok (.i2l, 1) := dk_133 (dk_at dksX1_open_1 17 rfl rfl)
theorem dX1_open_42 : decode cX1_open 42 = .ok (.invokevirtual 381, 3) := dk_182 1 125 (dk_at dksX1_open_1 18 rfl rfl)
theorem dX1_open_45 : decode cX1_open 45 = .ok (.iload_n 1, 1) := dk_27 (dk_at dksX1_open_1 21 rfl rfl)
theorem dX1_open_46 : decode cX1_open 46 = .ok (.ireturn, 1) := dk_172 (dk_at dksX1_open_1 22 rfl rfl)
abbrev cX1_inTime : ByteArray := prog_1_method_11_code
def yX1_inTime : MethodName := ⟨RX1, "inTime", "(LCuckooByPost$Spring;)I"⟩
def dkwX1_inTime_1 : List UInt8 := [120, 167, 0, 4, 3, 128, 61, 132, 3, 1, 167, 255, 226, 28, 172]
abbrev dktX1_inTime_1 : List UInt8 := dkwX1_inTime_1 ++ []
def dkwX1_inTime_0 : List UInt8 := [3, 61, 3, 62, 29, 42, 180, 0, 94, 162, 0, 28, 28, 42, 43, 29, 182, 0, 116, 153, 0, 9, 4, 29]
abbrev dktX1_inTime_0 : List UInt8 := dkwX1_inTime_0 ++ dktX1_inTime_1
theorem dksX1_inTime_0 : cX1_inTime.data.toList.drop 0 = dktX1_inTime_0 := by decide +kernel
theorem dksX1_inTime_1 : cX1_inTime.data.toList.drop 24 = dktX1_inTime_1 := dk_seg dksX1_inTime_0 24 rfl rfl
theorem dX1_inTime_0 : decode cX1_inTime 0 = .ok (.iconst 0, 1) := dk_3 (dk_at dksX1_inTime_0 0 rfl rfl)
theorem dX1_inTime_1 : decode cX1_inTime 1 = .ok (.istore_n 2, 1) := dk_61 (dk_at dksX1_inTime_0 1 rfl rfl)
theorem dX1_inTime_2 : decode cX1_inTime 2 = .ok (.iconst 0, 1) := dk_3 (dk_at dksX1_inTime_0 2 rfl rfl)
theorem dX1_inTime_3 : decode cX1_inTime 3 = .ok (.istore_n 3, 1) := dk_62 (dk_at dksX1_inTime_0 3 rfl rfl)
theorem dX1_inTime_4 : decode cX1_inTime 4 = .ok (.iload_n 3, 1) := dk_29 (dk_at dksX1_inTime_0 4 rfl rfl)
theorem dX1_inTime_5 : decode cX1_inTime 5 = .ok (.aload_n 0, 1) := dk_42 (dk_at dksX1_inTime_0 5 rfl rfl)
theorem dX1_inTime_6 : decode cX1_inTime 6 = .ok (.getfield 94, 3) := dk_180 0 94 (dk_at dksX1_inTime_0 6 rfl rfl)
theorem dX1_inTime_9 : decode cX1_inTime 9 = .ok (.if_icmp .ge 28, 3) := dk_162 0 28 (dk_at dksX1_inTime_0 9 rfl rfl)
theorem dX1_inTime_12 : decode cX1_inTime 12 = .ok (.iload_n 2, 1) := dk_28 (dk_at dksX1_inTime_0 12 rfl rfl)
theorem dX1_inTime_13 : decode cX1_inTime 13 = .ok (.aload_n 0, 1) := dk_42 (dk_at dksX1_inTime_0 13 rfl rfl)
theorem dX1_inTime_14 : decode cX1_inTime 14 = .ok (.aload_n 1, 1) := dk_43 (dk_at dksX1_inTime_0 14 rfl rfl)
theorem dX1_inTime_15 : decode cX1_inTime 15 = .ok (.iload_n 3, 1) := dk_29 (dk_at dksX1_inTime_0 15 rfl rfl)
theorem dX1_inTime_16 : decode cX1_inTime 16 = .ok (.invokevirtual 116, 3) := dk_182 0 116 (dk_at dksX1_inTime_0 16 rfl rfl)
theorem dX1_inTime_19 : decode cX1_inTime 19 = .ok (.ifCond .eq 9, 3) := dk_153 0 9 (dk_at dksX1_inTime_0 19 rfl rfl)
theorem dX1_inTime_22 : decode cX1_inTime 22 = .ok (.iconst 1, 1) := dk_4 (dk_at dksX1_inTime_0 22 rfl rfl)
theorem dX1_inTime_23 : decode cX1_inTime 23 = .ok (.iload_n 3, 1) := dk_29 (dk_at dksX1_inTime_0 23 rfl rfl)
theorem dX1_inTime_24 : decode cX1_inTime 24 = .ok (.ishl, 1) := dk_120 (dk_at dksX1_inTime_1 0 rfl rfl)
theorem dX1_inTime_25 : decode cX1_inTime 25 = .ok (.goto 4, 3) := dk_167 0 4 (dk_at dksX1_inTime_1 1 rfl rfl)
theorem dX1_inTime_28 : decode cX1_inTime 28 = .ok (.iconst 0, 1) := dk_3 (dk_at dksX1_inTime_1 4 rfl rfl)
theorem dX1_inTime_29 : decode cX1_inTime 29 = .ok (.ior, 1) := dk_128 (dk_at dksX1_inTime_1 5 rfl rfl)
theorem dX1_inTime_30 : decode cX1_inTime 30 = .ok (.istore_n 2, 1) := dk_61 (dk_at dksX1_inTime_1 6 rfl rfl)
theorem dX1_inTime_31 : decode cX1_inTime 31 = .ok (.iinc 3 1, 3) := dk_132 3 1 (dk_at dksX1_inTime_1 7 rfl rfl)
theorem dX1_inTime_34 : decode cX1_inTime 34 = .ok (.goto (-30), 3) := dk_167 255 226 (dk_at dksX1_inTime_1 10 rfl rfl)
theorem dX1_inTime_37 : decode cX1_inTime 37 = .ok (.iload_n 2, 1) := dk_28 (dk_at dksX1_inTime_1 13 rfl rfl)
theorem dX1_inTime_38 : decode cX1_inTime 38 = .ok (.ireturn, 1) := dk_172 (dk_at dksX1_inTime_1 14 rfl rfl)
abbrev cX1_kinds : ByteArray := prog_1_method_76_code
def yX1_kinds : MethodName := ⟨RX1, "kinds", "(I)I"⟩
def dkwX1_kinds_4 : List UInt8 := [28, 42, 42, 180, 0, 10, 4, 182, 1, 76, 126, 184, 1, 56, 133, 182, 1, 125, 28, 172]
abbrev dktX1_kinds_4 : List UInt8 := dkwX1_kinds_4 ++ []
def dkwX1_kinds_3 : List UInt8 := [167, 255, 207, 42, 3, 181, 1, 122, 42, 28, 184, 1, 56, 133, 182, 1, 125, 42, 29, 133, 182, 1, 125, 42]
abbrev dktX1_kinds_3 : List UInt8 := dkwX1_kinds_3 ++ dktX1_kinds_4
def dkwX1_kinds_2 : List UInt8 := [4, 21, 4, 120, 128, 61, 29, 42, 180, 0, 10, 180, 0, 197, 21, 4, 46, 96, 62, 132, 4, 1]
abbrev dktX1_kinds_2 : List UInt8 := dkwX1_kinds_2 ++ dktX1_kinds_3
def dkwX1_kinds_1 : List UInt8 := [180, 0, 94, 162, 0, 46, 42, 180, 0, 10, 180, 0, 188, 21, 4, 46, 27, 159, 0, 6, 167, 0, 23, 28]
abbrev dktX1_kinds_1 : List UInt8 := dkwX1_kinds_1 ++ dktX1_kinds_2
def dkwX1_kinds_0 : List UInt8 := [27, 133, 9, 20, 1, 39, 184, 0, 97, 154, 0, 5, 2, 172, 3, 61, 3, 62, 3, 54, 4, 21, 4, 42]
abbrev dktX1_kinds_0 : List UInt8 := dkwX1_kinds_0 ++ dktX1_kinds_1
theorem dksX1_kinds_0 : cX1_kinds.data.toList.drop 0 = dktX1_kinds_0 := by decide +kernel
theorem dksX1_kinds_1 : cX1_kinds.data.toList.drop 24 = dktX1_kinds_1 := dk_seg dksX1_kinds_0 24 rfl rfl
theorem dksX1_kinds_2 : cX1_kinds.data.toList.drop 48 = dktX1_kinds_2 := dk_seg dksX1_kinds_1 24 rfl rfl
theorem dksX1_kinds_3 : cX1_kinds.data.toList.drop 70 = dktX1_kinds_3 := dk_seg dksX1_kinds_2 22 rfl rfl
theorem dksX1_kinds_4 : cX1_kinds.data.toList.drop 94 = dktX1_kinds_4 := dk_seg dksX1_kinds_3 24 rfl rfl
theorem dX1_kinds_0 : decode cX1_kinds 0 = .ok (.iload_n 1, 1) := dk_27 (dk_at dksX1_kinds_0 0 rfl rfl)
theorem dX1_kinds_1 : decode cX1_kinds 1 = .ok (.i2l, 1) := dk_133 (dk_at dksX1_kinds_0 1 rfl rfl)
theorem dX1_kinds_2 : decode cX1_kinds 2 = .ok (.lconst 0, 1) := dk_9 (dk_at dksX1_kinds_0 2 rfl rfl)
theorem dX1_kinds_3 : decode cX1_kinds 3 = .ok (.ldc2_w 295, 3) := dk_20 1 39 (dk_at dksX1_kinds_0 3 rfl rfl)
theorem dX1_kinds_6 : decode cX1_kinds 6 = .ok (.invokestatic 97, 3) := dk_184 0 97 (dk_at dksX1_kinds_0 6 rfl rfl)
theorem dX1_kinds_9 : decode cX1_kinds 9 = .ok (.ifCond .ne 5, 3) := dk_154 0 5 (dk_at dksX1_kinds_0 9 rfl rfl)
theorem dX1_kinds_12 : decode cX1_kinds 12 = .ok (.iconst (-1), 1) := dk_2 (dk_at dksX1_kinds_0 12 rfl rfl)
theorem dX1_kinds_13 : decode cX1_kinds 13 = .ok (.ireturn, 1) := dk_172 (dk_at dksX1_kinds_0 13 rfl rfl)
theorem dX1_kinds_14 : decode cX1_kinds 14 = .ok (.iconst 0, 1) := dk_3 (dk_at dksX1_kinds_0 14 rfl rfl)
theorem dX1_kinds_15 : decode cX1_kinds 15 = .ok (.istore_n 2, 1) := dk_61 (dk_at dksX1_kinds_0 15 rfl rfl)
theorem dX1_kinds_16 : decode cX1_kinds 16 = .ok (.iconst 0, 1) := dk_3 (dk_at dksX1_kinds_0 16 rfl rfl)
theorem dX1_kinds_17 : decode cX1_kinds 17 = .ok (.istore_n 3, 1) := dk_62 (dk_at dksX1_kinds_0 17 rfl rfl)
theorem dX1_kinds_18 : decode cX1_kinds 18 = .ok (.iconst 0, 1) := dk_3 (dk_at dksX1_kinds_0 18 rfl rfl)
theorem dX1_kinds_19 : decode cX1_kinds 19 = .ok (.istore 4, 2) := dk_54 4 (dk_at dksX1_kinds_0 19 rfl rfl)
theorem dX1_kinds_21 : decode cX1_kinds 21 = .ok (.iload 4, 2) := dk_21 4 (dk_at dksX1_kinds_0 21 rfl rfl)
theorem dX1_kinds_23 : decode cX1_kinds 23 = .ok (.aload_n 0, 1) := dk_42 (dk_at dksX1_kinds_0 23 rfl rfl)
theorem dX1_kinds_24 : decode cX1_kinds 24 = .ok (.getfield 94, 3) := dk_180 0 94 (dk_at dksX1_kinds_1 0 rfl rfl)
theorem dX1_kinds_27 : decode cX1_kinds 27 = .ok (.if_icmp .ge 46, 3) := dk_162 0 46 (dk_at dksX1_kinds_1 3 rfl rfl)
theorem dX1_kinds_30 : decode cX1_kinds 30 = .ok (.aload_n 0, 1) := dk_42 (dk_at dksX1_kinds_1 6 rfl rfl)
theorem dX1_kinds_31 : decode cX1_kinds 31 = .ok (.getfield 10, 3) := dk_180 0 10 (dk_at dksX1_kinds_1 7 rfl rfl)
theorem dX1_kinds_34 : decode cX1_kinds 34 = .ok (.getfield 188, 3) := dk_180 0 188 (dk_at dksX1_kinds_1 10 rfl rfl)
theorem dX1_kinds_37 : decode cX1_kinds 37 = .ok (.iload 4, 2) := dk_21 4 (dk_at dksX1_kinds_1 13 rfl rfl)
theorem dX1_kinds_39 : decode cX1_kinds 39 = .ok (.iaload, 1) := dk_46 (dk_at dksX1_kinds_1 15 rfl rfl)
theorem dX1_kinds_40 : decode cX1_kinds 40 = .ok (.iload_n 1, 1) := dk_27 (dk_at dksX1_kinds_1 16 rfl rfl)
theorem dX1_kinds_41 : decode cX1_kinds 41 = .ok (.if_icmp .eq 6, 3) := dk_159 0 6 (dk_at dksX1_kinds_1 17 rfl rfl)
theorem dX1_kinds_44 : decode cX1_kinds 44 = .ok (.goto 23, 3) := dk_167 0 23 (dk_at dksX1_kinds_1 20 rfl rfl)
theorem dX1_kinds_47 : decode cX1_kinds 47 = .ok (.iload_n 2, 1) := dk_28 (dk_at dksX1_kinds_1 23 rfl rfl)
theorem dX1_kinds_48 : decode cX1_kinds 48 = .ok (.iconst 1, 1) := dk_4 (dk_at dksX1_kinds_2 0 rfl rfl)
theorem dX1_kinds_49 : decode cX1_kinds 49 = .ok (.iload 4, 2) := dk_21 4 (dk_at dksX1_kinds_2 1 rfl rfl)
theorem dX1_kinds_51 : decode cX1_kinds 51 = .ok (.ishl, 1) := dk_120 (dk_at dksX1_kinds_2 3 rfl rfl)
theorem dX1_kinds_52 : decode cX1_kinds 52 = .ok (.ior, 1) := dk_128 (dk_at dksX1_kinds_2 4 rfl rfl)
theorem dX1_kinds_53 : decode cX1_kinds 53 = .ok (.istore_n 2, 1) := dk_61 (dk_at dksX1_kinds_2 5 rfl rfl)
theorem dX1_kinds_54 : decode cX1_kinds 54 = .ok (.iload_n 3, 1) := dk_29 (dk_at dksX1_kinds_2 6 rfl rfl)
theorem dX1_kinds_55 : decode cX1_kinds 55 = .ok (.aload_n 0, 1) := dk_42 (dk_at dksX1_kinds_2 7 rfl rfl)
theorem dX1_kinds_56 : decode cX1_kinds 56 = .ok (.getfield 10, 3) := dk_180 0 10 (dk_at dksX1_kinds_2 8 rfl rfl)
theorem dX1_kinds_59 : decode cX1_kinds 59 = .ok (.getfield 197, 3) := dk_180 0 197 (dk_at dksX1_kinds_2 11 rfl rfl)
theorem dX1_kinds_62 : decode cX1_kinds 62 = .ok (.iload 4, 2) := dk_21 4 (dk_at dksX1_kinds_2 14 rfl rfl)
theorem dX1_kinds_64 : decode cX1_kinds 64 = .ok (.iaload, 1) := dk_46 (dk_at dksX1_kinds_2 16 rfl rfl)
theorem dX1_kinds_65 : decode cX1_kinds 65 = .ok (.iadd, 1) := dk_96 (dk_at dksX1_kinds_2 17 rfl rfl)
theorem dX1_kinds_66 : decode cX1_kinds 66 = .ok (.istore_n 3, 1) := dk_62 (dk_at dksX1_kinds_2 18 rfl rfl)
theorem dX1_kinds_67 : decode cX1_kinds 67 = .ok (.iinc 4 1, 3) := dk_132 4 1 (dk_at dksX1_kinds_2 19 rfl rfl)
theorem dX1_kinds_70 : decode cX1_kinds 70 = .ok (.goto (-49), 3) := dk_167 255 207 (dk_at dksX1_kinds_3 0 rfl rfl)
theorem dX1_kinds_73 : decode cX1_kinds 73 = .ok (.aload_n 0, 1) := dk_42 (dk_at dksX1_kinds_3 3 rfl rfl)
theorem dX1_kinds_74 : decode cX1_kinds 74 = .ok (.iconst 0, 1) := dk_3 (dk_at dksX1_kinds_3 4 rfl rfl)
theorem dX1_kinds_75 : decode cX1_kinds 75 = .ok (.putfield 378, 3) := dk_181 1 122 (dk_at dksX1_kinds_3 5 rfl rfl)
theorem dX1_kinds_78 : decode cX1_kinds 78 = .ok (.aload_n 0, 1) := dk_42 (dk_at dksX1_kinds_3 8 rfl rfl)
theorem dX1_kinds_79 : decode cX1_kinds 79 = .ok (.iload_n 2, 1) := dk_28 (dk_at dksX1_kinds_3 9 rfl rfl)
theorem dX1_kinds_80 : decode cX1_kinds 80 = .ok (.invokestatic 312, 3) := dk_184 1 56 (dk_at dksX1_kinds_3 10 rfl rfl)
theorem dX1_kinds_83 : decode cX1_kinds 83 = .ok (.i2l, 1) := dk_133 (dk_at dksX1_kinds_3 13 rfl rfl)
theorem dX1_kinds_84 : decode cX1_kinds 84 = .ok (.invokevirtual 381, 3) := dk_182 1 125 (dk_at dksX1_kinds_3 14 rfl rfl)
theorem dX1_kinds_87 : decode cX1_kinds 87 = .ok (.aload_n 0, 1) := dk_42 (dk_at dksX1_kinds_3 17 rfl rfl)
theorem dX1_kinds_88 : decode cX1_kinds 88 = .ok (.iload_n 3, 1) := dk_29 (dk_at dksX1_kinds_3 18 rfl rfl)
theorem dX1_kinds_89 : decode cX1_kinds 89 = .ok (.i2l, 1) := dk_133 (dk_at dksX1_kinds_3 19 rfl rfl)
theorem dX1_kinds_90 : decode cX1_kinds 90 = .ok (.invokevirtual 381, 3) := dk_182 1 125 (dk_at dksX1_kinds_3 20 rfl rfl)
theorem dX1_kinds_93 : decode cX1_kinds 93 = .ok (.aload_n 0, 1) := dk_42 (dk_at dksX1_kinds_3 23 rfl rfl)
theorem dX1_kinds_94 : decode cX1_kinds 94 = .ok (.iload_n 2, 1) := dk_28 (dk_at dksX1_kinds_4 0 rfl rfl)
theorem dX1_kinds_95 : decode cX1_kinds 95 = .ok (.aload_n 0, 1) := dk_42 (dk_at dksX1_kinds_4 1 rfl rfl)
theorem dX1_kinds_96 : decode cX1_kinds 96 = .ok (.aload_n 0, 1) := dk_42 (dk_at dksX1_kinds_4 2 rfl rfl)
theorem dX1_kinds_97 : decode cX1_kinds 97 = .ok (.getfield 10, 3) := dk_180 0 10 (dk_at dksX1_kinds_4 3 rfl rfl)
theorem dX1_kinds_100 : decode cX1_kinds 100 = .ok (.iconst 1, 1) := dk_4 (dk_at dksX1_kinds_4 6 rfl rfl)
theorem dX1_kinds_101 : decode cX1_kinds 101 = .ok (.invokevirtual 332, 3) := dk_182 1 76 (dk_at dksX1_kinds_4 7 rfl rfl)
theorem dX1_kinds_104 : decode cX1_kinds 104 = .ok (.iand, 1) := dk_126 (dk_at dksX1_kinds_4 10 rfl rfl)
theorem dX1_kinds_105 : decode cX1_kinds 105 = .ok (.invokestatic 312, 3) := dk_184 1 56 (dk_at dksX1_kinds_4 11 rfl rfl)
theorem dX1_kinds_108 : decode cX1_kinds 108 = .ok (.i2l, 1) := dk_133 (dk_at dksX1_kinds_4 14 rfl rfl)
theorem dX1_kinds_109 : decode cX1_kinds 109 = .ok (.invokevirtual 381, 3) := dk_182 1 125 (dk_at dksX1_kinds_4 15 rfl rfl)
theorem dX1_kinds_112 : decode cX1_kinds 112 = .ok (.iload_n 2, 1) := dk_28 (dk_at dksX1_kinds_4 18 rfl rfl)
theorem dX1_kinds_113 : decode cX1_kinds 113 = .ok (.ireturn, 1) := dk_172 (dk_at dksX1_kinds_4 19 rfl rfl)
abbrev cX1_feeds : ByteArray := prog_1_method_80_code
def yX1_feeds : MethodName := ⟨RX1, "feeds", "(I)I"⟩
def dkwX1_feeds_1 : List UInt8 := [182, 1, 184, 133, 182, 1, 125, 42, 27, 3, 182, 1, 187, 172]
abbrev dktX1_feeds_1 : List UInt8 := dkwX1_feeds_1 ++ []
def dkwX1_feeds_0 : List UInt8 := [27, 133, 9, 20, 1, 182, 184, 0, 97, 154, 0, 5, 2, 172, 42, 3, 181, 1, 122, 42, 42, 27]
abbrev dktX1_feeds_0 : List UInt8 := dkwX1_feeds_0 ++ dktX1_feeds_1
theorem dksX1_feeds_0 : cX1_feeds.data.toList.drop 0 = dktX1_feeds_0 := by decide +kernel
theorem dksX1_feeds_1 : cX1_feeds.data.toList.drop 22 = dktX1_feeds_1 := dk_seg dksX1_feeds_0 22 rfl rfl
theorem dX1_feeds_0 : decode cX1_feeds 0 = .ok (.iload_n 1, 1) := dk_27 (dk_at dksX1_feeds_0 0 rfl rfl)
theorem dX1_feeds_1 : decode cX1_feeds 1 = .ok (.i2l, 1) := dk_133 (dk_at dksX1_feeds_0 1 rfl rfl)
theorem dX1_feeds_2 : decode cX1_feeds 2 = .ok (.lconst 0, 1) := dk_9 (dk_at dksX1_feeds_0 2 rfl rfl)
theorem dX1_feeds_3 : decode cX1_feeds 3 = .ok (.ldc2_w 438, 3) := dk_20 1 182 (dk_at dksX1_feeds_0 3 rfl rfl)
theorem dX1_feeds_6 : decode cX1_feeds 6 = .ok (.invokestatic 97, 3) := dk_184 0 97 (dk_at dksX1_feeds_0 6 rfl rfl)
theorem dX1_feeds_9 : decode cX1_feeds 9 = .ok (.ifCond .ne 5, 3) := dk_154 0 5 (dk_at dksX1_feeds_0 9 rfl rfl)
theorem dX1_feeds_12 : decode cX1_feeds 12 = .ok (.iconst (-1), 1) := dk_2 (dk_at dksX1_feeds_0 12 rfl rfl)
theorem dX1_feeds_13 : decode cX1_feeds 13 = .ok (.ireturn, 1) := dk_172 (dk_at dksX1_feeds_0 13 rfl rfl)
theorem dX1_feeds_14 : decode cX1_feeds 14 = .ok (.aload_n 0, 1) := dk_42 (dk_at dksX1_feeds_0 14 rfl rfl)
theorem dX1_feeds_15 : decode cX1_feeds 15 = .ok (.iconst 0, 1) := dk_3 (dk_at dksX1_feeds_0 15 rfl rfl)
theorem dX1_feeds_16 : decode cX1_feeds 16 = .ok (.putfield 378, 3) := dk_181 1 122 (dk_at dksX1_feeds_0 16 rfl rfl)
theorem dX1_feeds_19 : decode cX1_feeds 19 = .ok (.aload_n 0, 1) := dk_42 (dk_at dksX1_feeds_0 19 rfl rfl)
theorem dX1_feeds_20 : decode cX1_feeds 20 = .ok (.aload_n 0, 1) := dk_42 (dk_at dksX1_feeds_0 20 rfl rfl)
theorem dX1_feeds_21 : decode cX1_feeds 21 = .ok (.iload_n 1, 1) := dk_27 (dk_at dksX1_feeds_0 21 rfl rfl)
theorem dX1_feeds_22 : decode cX1_feeds 22 = .ok (.invokevirtual 440, 3) := dk_182 1 184 (dk_at dksX1_feeds_1 0 rfl rfl)
theorem dX1_feeds_25 : decode cX1_feeds 25 = .ok (.i2l, 1) := dk_133 (dk_at dksX1_feeds_1 3 rfl rfl)
theorem dX1_feeds_26 : decode cX1_feeds 26 = .ok (.invokevirtual 381, 3) := dk_182 1 125 (dk_at dksX1_feeds_1 4 rfl rfl)
theorem dX1_feeds_29 : decode cX1_feeds 29 = .ok (.aload_n 0, 1) := dk_42 (dk_at dksX1_feeds_1 7 rfl rfl)
theorem dX1_feeds_30 : decode cX1_feeds 30 = .ok (.iload_n 1, 1) := dk_27 (dk_at dksX1_feeds_1 8 rfl rfl)
theorem dX1_feeds_31 : decode cX1_feeds 31 = .ok (.iconst 0, 1) := dk_3 (dk_at dksX1_feeds_1 9 rfl rfl)
theorem dX1_feeds_32 : decode cX1_feeds 32 = .ok (.invokevirtual 443, 3) := dk_182 1 187 (dk_at dksX1_feeds_1 10 rfl rfl)
theorem dX1_feeds_35 : decode cX1_feeds 35 = .ok (.ireturn, 1) := dk_172 (dk_at dksX1_feeds_1 13 rfl rfl)
abbrev cX1_wanted : ByteArray := prog_1_method_79_code
def yX1_wanted : MethodName := ⟨RX1, "wanted", "(I)I"⟩
def dkwX1_wanted_0 : List UInt8 := [27, 42, 42, 180, 0, 10, 5, 182, 1, 76, 184, 1, 56, 104, 172]
abbrev dktX1_wanted_0 : List UInt8 := dkwX1_wanted_0 ++ []
theorem dksX1_wanted_0 : cX1_wanted.data.toList.drop 0 = dktX1_wanted_0 := by decide +kernel
theorem dX1_wanted_0 : decode cX1_wanted 0 = .ok (.iload_n 1, 1) := dk_27 (dk_at dksX1_wanted_0 0 rfl rfl)
theorem dX1_wanted_1 : decode cX1_wanted 1 = .ok (.aload_n 0, 1) := dk_42 (dk_at dksX1_wanted_0 1 rfl rfl)
theorem dX1_wanted_2 : decode cX1_wanted 2 = .ok (.aload_n 0, 1) := dk_42 (dk_at dksX1_wanted_0 2 rfl rfl)
theorem dX1_wanted_3 : decode cX1_wanted 3 = .ok (.getfield 10, 3) := dk_180 0 10 (dk_at dksX1_wanted_0 3 rfl rfl)
theorem dX1_wanted_6 : decode cX1_wanted 6 = .ok (.iconst 2, 1) := dk_5 (dk_at dksX1_wanted_0 6 rfl rfl)
theorem dX1_wanted_7 : decode cX1_wanted 7 = .ok (.invokevirtual 332, 3) := dk_182 1 76 (dk_at dksX1_wanted_0 7 rfl rfl)
theorem dX1_wanted_10 : decode cX1_wanted 10 = .ok (.invokestatic 312, 3) := dk_184 1 56 (dk_at dksX1_wanted_0 10 rfl rfl)
theorem dX1_wanted_13 : decode cX1_wanted 13 = .ok (.imul, 1) := dk_104 (dk_at dksX1_wanted_0 13 rfl rfl)
theorem dX1_wanted_14 : decode cX1_wanted 14 = .ok (.ireturn, 1) := dk_172 (dk_at dksX1_wanted_0 14 rfl rfl)
abbrev cX1_fedBy : ByteArray := prog_1_method_78_code
def yX1_fedBy : MethodName := ⟨RX1, "fedBy", "(II)I"⟩
def dkwX1_fedBy_5 : List UInt8 := [132, 5, 1, 167, 255, 154, 21, 4, 172]
abbrev dktX1_fedBy_5 : List UInt8 := dkwX1_fedBy_5 ++ []
def dkwX1_fedBy_4 : List UInt8 := [46, 167, 0, 4, 3, 96, 54, 6, 132, 8, 1, 167, 255, 215, 21, 4, 21, 6, 184, 0, 129, 54, 4]
abbrev dktX1_fedBy_4 : List UInt8 := dkwX1_fedBy_4 ++ dktX1_fedBy_5
def dkwX1_fedBy_3 : List UInt8 := [162, 0, 38, 21, 6, 21, 7, 21, 8, 184, 1, 85, 153, 0, 16, 42, 180, 0, 10, 180, 0, 191, 21, 8]
abbrev dktX1_fedBy_3 : List UInt8 := dkwX1_fedBy_3 ++ dktX1_fedBy_4
def dkwX1_fedBy_2 : List UInt8 := [54, 6, 42, 21, 5, 182, 1, 179, 28, 2, 130, 126, 54, 7, 3, 54, 8, 21, 8, 42, 180, 0, 94]
abbrev dktX1_fedBy_2 : List UInt8 := dkwX1_fedBy_2 ++ dktX1_fedBy_3
def dkwX1_fedBy_1 : List UInt8 := [21, 5, 29, 2, 130, 126, 153, 0, 6, 167, 0, 84, 27, 29, 21, 5, 2, 130, 126, 184, 1, 56, 104]
abbrev dktX1_fedBy_1 : List UInt8 := dkwX1_fedBy_1 ++ dktX1_fedBy_2
def dkwX1_fedBy_0 : List UInt8 := [42, 42, 180, 0, 10, 5, 182, 1, 76, 62, 19, 1, 167, 54, 4, 3, 54, 5, 21, 5, 29, 163, 0, 102]
abbrev dktX1_fedBy_0 : List UInt8 := dkwX1_fedBy_0 ++ dktX1_fedBy_1
theorem dksX1_fedBy_0 : cX1_fedBy.data.toList.drop 0 = dktX1_fedBy_0 := by decide +kernel
theorem dksX1_fedBy_1 : cX1_fedBy.data.toList.drop 24 = dktX1_fedBy_1 := dk_seg dksX1_fedBy_0 24 rfl rfl
theorem dksX1_fedBy_2 : cX1_fedBy.data.toList.drop 47 = dktX1_fedBy_2 := dk_seg dksX1_fedBy_1 23 rfl rfl
theorem dksX1_fedBy_3 : cX1_fedBy.data.toList.drop 70 = dktX1_fedBy_3 := dk_seg dksX1_fedBy_2 23 rfl rfl
theorem dksX1_fedBy_4 : cX1_fedBy.data.toList.drop 94 = dktX1_fedBy_4 := dk_seg dksX1_fedBy_3 24 rfl rfl
theorem dksX1_fedBy_5 : cX1_fedBy.data.toList.drop 117 = dktX1_fedBy_5 := dk_seg dksX1_fedBy_4 23 rfl rfl
theorem dX1_fedBy_0 : decode cX1_fedBy 0 = .ok (.aload_n 0, 1) := dk_42 (dk_at dksX1_fedBy_0 0 rfl rfl)
theorem dX1_fedBy_1 : decode cX1_fedBy 1 = .ok (.aload_n 0, 1) := dk_42 (dk_at dksX1_fedBy_0 1 rfl rfl)
theorem dX1_fedBy_2 : decode cX1_fedBy 2 = .ok (.getfield 10, 3) := dk_180 0 10 (dk_at dksX1_fedBy_0 2 rfl rfl)
theorem dX1_fedBy_5 : decode cX1_fedBy 5 = .ok (.iconst 2, 1) := dk_5 (dk_at dksX1_fedBy_0 5 rfl rfl)
theorem dX1_fedBy_6 : decode cX1_fedBy 6 = .ok (.invokevirtual 332, 3) := dk_182 1 76 (dk_at dksX1_fedBy_0 6 rfl rfl)
theorem dX1_fedBy_9 : decode cX1_fedBy 9 = .ok (.istore_n 3, 1) := dk_62 (dk_at dksX1_fedBy_0 9 rfl rfl)
theorem dX1_fedBy_10 : decode cX1_fedBy 10 = .ok (.ldc_w 423, 3) := dk_19 1 167 (dk_at dksX1_fedBy_0 10 rfl rfl)
theorem dX1_fedBy_13 : decode cX1_fedBy 13 = .ok (.istore 4, 2) := dk_54 4 (dk_at dksX1_fedBy_0 13 rfl rfl)
theorem dX1_fedBy_15 : decode cX1_fedBy 15 = .ok (.iconst 0, 1) := dk_3 (dk_at dksX1_fedBy_0 15 rfl rfl)
theorem dX1_fedBy_16 : decode cX1_fedBy 16 = .ok (.istore 5, 2) := dk_54 5 (dk_at dksX1_fedBy_0 16 rfl rfl)
theorem dX1_fedBy_18 : decode cX1_fedBy 18 = .ok (.iload 5, 2) := dk_21 5 (dk_at dksX1_fedBy_0 18 rfl rfl)
theorem dX1_fedBy_20 : decode cX1_fedBy 20 = .ok (.iload_n 3, 1) := dk_29 (dk_at dksX1_fedBy_0 20 rfl rfl)
theorem dX1_fedBy_21 : decode cX1_fedBy 21 = .ok (.if_icmp .gt 102, 3) := dk_163 0 102 (dk_at dksX1_fedBy_0 21 rfl rfl)
theorem dX1_fedBy_24 : decode cX1_fedBy 24 = .ok (.iload 5, 2) := dk_21 5 (dk_at dksX1_fedBy_1 0 rfl rfl)
theorem dX1_fedBy_26 : decode cX1_fedBy 26 = .ok (.iload_n 3, 1) := dk_29 (dk_at dksX1_fedBy_1 2 rfl rfl)
theorem dX1_fedBy_27 : decode cX1_fedBy 27 = .ok (.iconst (-1), 1) := dk_2 (dk_at dksX1_fedBy_1 3 rfl rfl)
theorem dX1_fedBy_28 : decode cX1_fedBy 28 = .ok (.ixor, 1) := dk_130 (dk_at dksX1_fedBy_1 4 rfl rfl)
theorem dX1_fedBy_29 : decode cX1_fedBy 29 = .ok (.iand, 1) := dk_126 (dk_at dksX1_fedBy_1 5 rfl rfl)
theorem dX1_fedBy_30 : decode cX1_fedBy 30 = .ok (.ifCond .eq 6, 3) := dk_153 0 6 (dk_at dksX1_fedBy_1 6 rfl rfl)
theorem dX1_fedBy_33 : decode cX1_fedBy 33 = .ok (.goto 84, 3) := dk_167 0 84 (dk_at dksX1_fedBy_1 9 rfl rfl)
theorem dX1_fedBy_36 : decode cX1_fedBy 36 = .ok (.iload_n 1, 1) := dk_27 (dk_at dksX1_fedBy_1 12 rfl rfl)
theorem dX1_fedBy_37 : decode cX1_fedBy 37 = .ok (.iload_n 3, 1) := dk_29 (dk_at dksX1_fedBy_1 13 rfl rfl)
theorem dX1_fedBy_38 : decode cX1_fedBy 38 = .ok (.iload 5, 2) := dk_21 5 (dk_at dksX1_fedBy_1 14 rfl rfl)
theorem dX1_fedBy_40 : decode cX1_fedBy 40 = .ok (.iconst (-1), 1) := dk_2 (dk_at dksX1_fedBy_1 16 rfl rfl)
theorem dX1_fedBy_41 : decode cX1_fedBy 41 = .ok (.ixor, 1) := dk_130 (dk_at dksX1_fedBy_1 17 rfl rfl)
theorem dX1_fedBy_42 : decode cX1_fedBy 42 = .ok (.iand, 1) := dk_126 (dk_at dksX1_fedBy_1 18 rfl rfl)
theorem dX1_fedBy_43 : decode cX1_fedBy 43 = .ok (.invokestatic 312, 3) := dk_184 1 56 (dk_at dksX1_fedBy_1 19 rfl rfl)
theorem dX1_fedBy_46 : decode cX1_fedBy 46 = .ok (.imul, 1) := dk_104 (dk_at dksX1_fedBy_1 22 rfl rfl)
theorem dX1_fedBy_47 : decode cX1_fedBy 47 = .ok (.istore 6, 2) := dk_54 6 (dk_at dksX1_fedBy_2 0 rfl rfl)
theorem dX1_fedBy_49 : decode cX1_fedBy 49 = .ok (.aload_n 0, 1) := dk_42 (dk_at dksX1_fedBy_2 2 rfl rfl)
theorem dX1_fedBy_50 : decode cX1_fedBy 50 = .ok (.iload 5, 2) := dk_21 5 (dk_at dksX1_fedBy_2 3 rfl rfl)
theorem dX1_fedBy_52 : decode cX1_fedBy 52 = .ok (.invokevirtual 435, 3) := dk_182 1 179 (dk_at dksX1_fedBy_2 5 rfl rfl)
theorem dX1_fedBy_55 : decode cX1_fedBy 55 = .ok (.iload_n 2, 1) := dk_28 (dk_at dksX1_fedBy_2 8 rfl rfl)
theorem dX1_fedBy_56 : decode cX1_fedBy 56 = .ok (.iconst (-1), 1) := dk_2 (dk_at dksX1_fedBy_2 9 rfl rfl)
theorem dX1_fedBy_57 : decode cX1_fedBy 57 = .ok (.ixor, 1) := dk_130 (dk_at dksX1_fedBy_2 10 rfl rfl)
theorem dX1_fedBy_58 : decode cX1_fedBy 58 = .ok (.iand, 1) := dk_126 (dk_at dksX1_fedBy_2 11 rfl rfl)
theorem dX1_fedBy_59 : decode cX1_fedBy 59 = .ok (.istore 7, 2) := dk_54 7 (dk_at dksX1_fedBy_2 12 rfl rfl)
theorem dX1_fedBy_61 : decode cX1_fedBy 61 = .ok (.iconst 0, 1) := dk_3 (dk_at dksX1_fedBy_2 14 rfl rfl)
theorem dX1_fedBy_62 : decode cX1_fedBy 62 = .ok (.istore 8, 2) := dk_54 8 (dk_at dksX1_fedBy_2 15 rfl rfl)
theorem dX1_fedBy_64 : decode cX1_fedBy 64 = .ok (.iload 8, 2) := dk_21 8 (dk_at dksX1_fedBy_2 17 rfl rfl)
theorem dX1_fedBy_66 : decode cX1_fedBy 66 = .ok (.aload_n 0, 1) := dk_42 (dk_at dksX1_fedBy_2 19 rfl rfl)
theorem dX1_fedBy_67 : decode cX1_fedBy 67 = .ok (.getfield 94, 3) := dk_180 0 94 (dk_at dksX1_fedBy_2 20 rfl rfl)
theorem dX1_fedBy_70 : decode cX1_fedBy 70 = .ok (.if_icmp .ge 38, 3) := dk_162 0 38 (dk_at dksX1_fedBy_3 0 rfl rfl)
theorem dX1_fedBy_73 : decode cX1_fedBy 73 = .ok (.iload 6, 2) := dk_21 6 (dk_at dksX1_fedBy_3 3 rfl rfl)
theorem dX1_fedBy_75 : decode cX1_fedBy 75 = .ok (.iload 7, 2) := dk_21 7 (dk_at dksX1_fedBy_3 5 rfl rfl)
theorem dX1_fedBy_77 : decode cX1_fedBy 77 = .ok (.iload 8, 2) := dk_21 8 (dk_at dksX1_fedBy_3 7 rfl rfl)
theorem dX1_fedBy_79 : decode cX1_fedBy 79 = .ok (.invokestatic 341, 3) := dk_184 1 85 (dk_at dksX1_fedBy_3 9 rfl rfl)
theorem dX1_fedBy_82 : decode cX1_fedBy 82 = .ok (.ifCond .eq 16, 3) := dk_153 0 16 (dk_at dksX1_fedBy_3 12 rfl rfl)
theorem dX1_fedBy_85 : decode cX1_fedBy 85 = .ok (.aload_n 0, 1) := dk_42 (dk_at dksX1_fedBy_3 15 rfl rfl)
theorem dX1_fedBy_86 : decode cX1_fedBy 86 = .ok (.getfield 10, 3) := dk_180 0 10 (dk_at dksX1_fedBy_3 16 rfl rfl)
theorem dX1_fedBy_89 : decode cX1_fedBy 89 = .ok (.getfield 191, 3) := dk_180 0 191 (dk_at dksX1_fedBy_3 19 rfl rfl)
theorem dX1_fedBy_92 : decode cX1_fedBy 92 = .ok (.iload 8, 2) := dk_21 8 (dk_at dksX1_fedBy_3 22 rfl rfl)
theorem dX1_fedBy_94 : decode cX1_fedBy 94 = .ok (.iaload, 1) := dk_46 (dk_at dksX1_fedBy_4 0 rfl rfl)
theorem dX1_fedBy_95 : decode cX1_fedBy 95 = .ok (.goto 4, 3) := dk_167 0 4 (dk_at dksX1_fedBy_4 1 rfl rfl)
theorem dX1_fedBy_98 : decode cX1_fedBy 98 = .ok (.iconst 0, 1) := dk_3 (dk_at dksX1_fedBy_4 4 rfl rfl)
theorem dX1_fedBy_99 : decode cX1_fedBy 99 = .ok (.iadd, 1) := dk_96 (dk_at dksX1_fedBy_4 5 rfl rfl)
theorem dX1_fedBy_100 : decode cX1_fedBy 100 = .ok (.istore 6, 2) := dk_54 6 (dk_at dksX1_fedBy_4 6 rfl rfl)
theorem dX1_fedBy_102 : decode cX1_fedBy 102 = .ok (.iinc 8 1, 3) := dk_132 8 1 (dk_at dksX1_fedBy_4 8 rfl rfl)
theorem dX1_fedBy_105 : decode cX1_fedBy 105 = .ok (.goto (-41), 3) := dk_167 255 215 (dk_at dksX1_fedBy_4 11 rfl rfl)
theorem dX1_fedBy_108 : decode cX1_fedBy 108 = .ok (.iload 4, 2) := dk_21 4 (dk_at dksX1_fedBy_4 14 rfl rfl)
theorem dX1_fedBy_110 : decode cX1_fedBy 110 = .ok (.iload 6, 2) := dk_21 6 (dk_at dksX1_fedBy_4 16 rfl rfl)
theorem dX1_fedBy_112 : decode cX1_fedBy 112 = .ok (.invokestatic 129, 3) := dk_184 0 129 (dk_at dksX1_fedBy_4 18 rfl rfl)
theorem dX1_fedBy_115 : decode cX1_fedBy 115 = .ok (.istore 4, 2) := dk_54 4 (dk_at dksX1_fedBy_4 21 rfl rfl)
theorem dX1_fedBy_117 : decode cX1_fedBy 117 = .ok (.iinc 5 1, 3) := dk_132 5 1 (dk_at dksX1_fedBy_5 0 rfl rfl)
theorem dX1_fedBy_120 : decode cX1_fedBy 120 = .ok (.goto (-102), 3) := dk_167 255 154 (dk_at dksX1_fedBy_5 3 rfl rfl)
theorem dX1_fedBy_123 : decode cX1_fedBy 123 = .ok (.iload 4, 2) := dk_21 4 (dk_at dksX1_fedBy_5 6 rfl rfl)
theorem dX1_fedBy_125 : decode cX1_fedBy 125 = .ok (.ireturn, 1) := dk_172 (dk_at dksX1_fedBy_5 8 rfl rfl)
abbrev cX1_beside : ByteArray := prog_1_method_77_code
def yX1_beside : MethodName := ⟨RX1, "beside", "(I)I"⟩
def dkwX1_beside_0 : List UInt8 := [27, 27, 4, 120, 128, 27, 4, 122, 128, 4, 42, 180, 0, 94, 120, 4, 100, 126, 172]
abbrev dktX1_beside_0 : List UInt8 := dkwX1_beside_0 ++ []
theorem dksX1_beside_0 : cX1_beside.data.toList.drop 0 = dktX1_beside_0 := by decide +kernel
theorem dX1_beside_0 : decode cX1_beside 0 = .ok (.iload_n 1, 1) := dk_27 (dk_at dksX1_beside_0 0 rfl rfl)
theorem dX1_beside_1 : decode cX1_beside 1 = .ok (.iload_n 1, 1) := dk_27 (dk_at dksX1_beside_0 1 rfl rfl)
theorem dX1_beside_2 : decode cX1_beside 2 = .ok (.iconst 1, 1) := dk_4 (dk_at dksX1_beside_0 2 rfl rfl)
theorem dX1_beside_3 : decode cX1_beside 3 = .ok (.ishl, 1) := dk_120 (dk_at dksX1_beside_0 3 rfl rfl)
theorem dX1_beside_4 : decode cX1_beside 4 = .ok (.ior, 1) := dk_128 (dk_at dksX1_beside_0 4 rfl rfl)
theorem dX1_beside_5 : decode cX1_beside 5 = .ok (.iload_n 1, 1) := dk_27 (dk_at dksX1_beside_0 5 rfl rfl)
theorem dX1_beside_6 : decode cX1_beside 6 = .ok (.iconst 1, 1) := dk_4 (dk_at dksX1_beside_0 6 rfl rfl)
theorem dX1_beside_7 : decode cX1_beside 7 = .ok (.ishr, 1) := dk_122 (dk_at dksX1_beside_0 7 rfl rfl)
theorem dX1_beside_8 : decode cX1_beside 8 = .ok (.ior, 1) := dk_128 (dk_at dksX1_beside_0 8 rfl rfl)
theorem dX1_beside_9 : decode cX1_beside 9 = .ok (.iconst 1, 1) := dk_4 (dk_at dksX1_beside_0 9 rfl rfl)
theorem dX1_beside_10 : decode cX1_beside 10 = .ok (.aload_n 0, 1) := dk_42 (dk_at dksX1_beside_0 10 rfl rfl)
theorem dX1_beside_11 : decode cX1_beside 11 = .ok (.getfield 94, 3) := dk_180 0 94 (dk_at dksX1_beside_0 11 rfl rfl)
theorem dX1_beside_14 : decode cX1_beside 14 = .ok (.ishl, 1) := dk_120 (dk_at dksX1_beside_0 14 rfl rfl)
theorem dX1_beside_15 : decode cX1_beside 15 = .ok (.iconst 1, 1) := dk_4 (dk_at dksX1_beside_0 15 rfl rfl)
theorem dX1_beside_16 : decode cX1_beside 16 = .ok (.isub, 1) := dk_100 (dk_at dksX1_beside_0 16 rfl rfl)
theorem dX1_beside_17 : decode cX1_beside 17 = .ok (.iand, 1) := dk_126 (dk_at dksX1_beside_0 17 rfl rfl)
theorem dX1_beside_18 : decode cX1_beside 18 = .ok (.ireturn, 1) := dk_172 (dk_at dksX1_beside_0 18 rfl rfl)
abbrev cX1_enough : ByteArray := prog_1_method_81_code
def yX1_enough : MethodName := ⟨RX1, "enough", "()I"⟩
def dkwX1_enough_1 : List UInt8 := [3, 181, 1, 122, 42, 42, 42, 180, 0, 10, 5, 182, 1, 76, 184, 1, 56, 133, 182, 1, 125, 27, 172]
abbrev dktX1_enough_1 : List UInt8 := dkwX1_enough_1 ++ []
def dkwX1_enough_0 : List UInt8 := [16, 30, 60, 42, 27, 3, 182, 1, 187, 42, 27, 182, 1, 184, 162, 0, 9, 132, 1, 255, 167, 255, 239, 42]
abbrev dktX1_enough_0 : List UInt8 := dkwX1_enough_0 ++ dktX1_enough_1
theorem dksX1_enough_0 : cX1_enough.data.toList.drop 0 = dktX1_enough_0 := by decide +kernel
theorem dksX1_enough_1 : cX1_enough.data.toList.drop 24 = dktX1_enough_1 := dk_seg dksX1_enough_0 24 rfl rfl
theorem dX1_enough_0 : decode cX1_enough 0 = .ok (.bipush 30, 2) := dk_16 30 (dk_at dksX1_enough_0 0 rfl rfl)
theorem dX1_enough_2 : decode cX1_enough 2 = .ok (.istore_n 1, 1) := dk_60 (dk_at dksX1_enough_0 2 rfl rfl)
theorem dX1_enough_3 : decode cX1_enough 3 = .ok (.aload_n 0, 1) := dk_42 (dk_at dksX1_enough_0 3 rfl rfl)
theorem dX1_enough_4 : decode cX1_enough 4 = .ok (.iload_n 1, 1) := dk_27 (dk_at dksX1_enough_0 4 rfl rfl)
theorem dX1_enough_5 : decode cX1_enough 5 = .ok (.iconst 0, 1) := dk_3 (dk_at dksX1_enough_0 5 rfl rfl)
theorem dX1_enough_6 : decode cX1_enough 6 = .ok (.invokevirtual 443, 3) := dk_182 1 187 (dk_at dksX1_enough_0 6 rfl rfl)
theorem dX1_enough_9 : decode cX1_enough 9 = .ok (.aload_n 0, 1) := dk_42 (dk_at dksX1_enough_0 9 rfl rfl)
theorem dX1_enough_10 : decode cX1_enough 10 = .ok (.iload_n 1, 1) := dk_27 (dk_at dksX1_enough_0 10 rfl rfl)
theorem dX1_enough_11 : decode cX1_enough 11 = .ok (.invokevirtual 440, 3) := dk_182 1 184 (dk_at dksX1_enough_0 11 rfl rfl)
theorem dX1_enough_14 : decode cX1_enough 14 = .ok (.if_icmp .ge 9, 3) := dk_162 0 9 (dk_at dksX1_enough_0 14 rfl rfl)
theorem dX1_enough_17 : decode cX1_enough 17 = .ok (.iinc 1 (-1), 3) := dk_132 1 255 (dk_at dksX1_enough_0 17 rfl rfl)
theorem dX1_enough_20 : decode cX1_enough 20 = .ok (.goto (-17), 3) := dk_167 255 239 (dk_at dksX1_enough_0 20 rfl rfl)
theorem dX1_enough_23 : decode cX1_enough 23 = .ok (.aload_n 0, 1) := dk_42 (dk_at dksX1_enough_0 23 rfl rfl)
theorem dX1_enough_24 : decode cX1_enough 24 = .ok (.iconst 0, 1) := dk_3 (dk_at dksX1_enough_1 0 rfl rfl)
theorem dX1_enough_25 : decode cX1_enough 25 = .ok (.putfield 378, 3) := dk_181 1 122 (dk_at dksX1_enough_1 1 rfl rfl)
theorem dX1_enough_28 : decode cX1_enough 28 = .ok (.aload_n 0, 1) := dk_42 (dk_at dksX1_enough_1 4 rfl rfl)
theorem dX1_enough_29 : decode cX1_enough 29 = .ok (.aload_n 0, 1) := dk_42 (dk_at dksX1_enough_1 5 rfl rfl)
theorem dX1_enough_30 : decode cX1_enough 30 = .ok (.aload_n 0, 1) := dk_42 (dk_at dksX1_enough_1 6 rfl rfl)
theorem dX1_enough_31 : decode cX1_enough 31 = .ok (.getfield 10, 3) := dk_180 0 10 (dk_at dksX1_enough_1 7 rfl rfl)
theorem dX1_enough_34 : decode cX1_enough 34 = .ok (.iconst 2, 1) := dk_5 (dk_at dksX1_enough_1 10 rfl rfl)
theorem dX1_enough_35 : decode cX1_enough 35 = .ok (.invokevirtual 332, 3) := dk_182 1 76 (dk_at dksX1_enough_1 11 rfl rfl)
theorem dX1_enough_38 : decode cX1_enough 38 = .ok (.invokestatic 312, 3) := dk_184 1 56 (dk_at dksX1_enough_1 14 rfl rfl)
theorem dX1_enough_41 : decode cX1_enough 41 = .ok (.i2l, 1) := dk_133 (dk_at dksX1_enough_1 17 rfl rfl)
theorem dX1_enough_42 : decode cX1_enough 42 = .ok (.invokevirtual 381, 3) := dk_182 1 125 (dk_at dksX1_enough_1 18 rfl rfl)
theorem dX1_enough_45 : decode cX1_enough 45 = .ok (.iload_n 1, 1) := dk_27 (dk_at dksX1_enough_1 21 rfl rfl)
theorem dX1_enough_46 : decode cX1_enough 46 = .ok (.ireturn, 1) := dk_172 (dk_at dksX1_enough_1 22 rfl rfl)
abbrev cX1_needed : ByteArray := prog_1_method_82_code
def yX1_needed : MethodName := ⟨RX1, "needed", "(I)I"⟩
def dkwX1_needed_4 : List UInt8 := [133, 182, 1, 125, 28, 172]
abbrev dktX1_needed_4 : List UInt8 := dkwX1_needed_4 ++ []
def dkwX1_needed_3 : List UInt8 := [156, 0, 6, 16, 254, 172, 42, 3, 181, 1, 122, 42, 29, 133, 182, 1, 125, 42, 42, 27, 3, 182, 1, 187]
abbrev dktX1_needed_3 : List UInt8 := dkwX1_needed_3 ++ dktX1_needed_4
def dkwX1_needed_2 : List UInt8 := [162, 0, 8, 21, 4, 167, 0, 4, 28, 61, 29, 21, 5, 184, 0, 129, 62, 132, 4, 1, 167, 255, 213, 28]
abbrev dktX1_needed_2 : List UInt8 := dkwX1_needed_2 ++ dktX1_needed_3
def dkwX1_needed_1 : List UInt8 := [21, 4, 42, 180, 0, 94, 162, 0, 40, 42, 27, 4, 21, 4, 120, 182, 1, 187, 54, 5, 21, 5, 29]
abbrev dktX1_needed_1 : List UInt8 := dkwX1_needed_1 ++ dktX1_needed_2
def dkwX1_needed_0 : List UInt8 := [27, 133, 9, 20, 1, 182, 184, 0, 97, 154, 0, 5, 2, 172, 16, 254, 61, 19, 1, 167, 62, 3, 54, 4]
abbrev dktX1_needed_0 : List UInt8 := dkwX1_needed_0 ++ dktX1_needed_1
theorem dksX1_needed_0 : cX1_needed.data.toList.drop 0 = dktX1_needed_0 := by decide +kernel
theorem dksX1_needed_1 : cX1_needed.data.toList.drop 24 = dktX1_needed_1 := dk_seg dksX1_needed_0 24 rfl rfl
theorem dksX1_needed_2 : cX1_needed.data.toList.drop 47 = dktX1_needed_2 := dk_seg dksX1_needed_1 23 rfl rfl
theorem dksX1_needed_3 : cX1_needed.data.toList.drop 71 = dktX1_needed_3 := dk_seg dksX1_needed_2 24 rfl rfl
theorem dksX1_needed_4 : cX1_needed.data.toList.drop 95 = dktX1_needed_4 := dk_seg dksX1_needed_3 24 rfl rfl
theorem dX1_needed_0 : decode cX1_needed 0 = .ok (.iload_n 1, 1) := dk_27 (dk_at dksX1_needed_0 0 rfl rfl)
theorem dX1_needed_1 : decode cX1_needed 1 = .ok (.i2l, 1) := dk_133 (dk_at dksX1_needed_0 1 rfl rfl)
theorem dX1_needed_2 : decode cX1_needed 2 = .ok (.lconst 0, 1) := dk_9 (dk_at dksX1_needed_0 2 rfl rfl)
theorem dX1_needed_3 : decode cX1_needed 3 = .ok (.ldc2_w 438, 3) := dk_20 1 182 (dk_at dksX1_needed_0 3 rfl rfl)
theorem dX1_needed_6 : decode cX1_needed 6 = .ok (.invokestatic 97, 3) := dk_184 0 97 (dk_at dksX1_needed_0 6 rfl rfl)
theorem dX1_needed_9 : decode cX1_needed 9 = .ok (.ifCond .ne 5, 3) := dk_154 0 5 (dk_at dksX1_needed_0 9 rfl rfl)
theorem dX1_needed_12 : decode cX1_needed 12 = .ok (.iconst (-1), 1) := dk_2 (dk_at dksX1_needed_0 12 rfl rfl)
theorem dX1_needed_13 : decode cX1_needed 13 = .ok (.ireturn, 1) := dk_172 (dk_at dksX1_needed_0 13 rfl rfl)
theorem dX1_needed_14 : decode cX1_needed 14 = .ok (.bipush (-2), 2) := dk_16 254 (dk_at dksX1_needed_0 14 rfl rfl)
theorem dX1_needed_16 : decode cX1_needed 16 = .ok (.istore_n 2, 1) := dk_61 (dk_at dksX1_needed_0 16 rfl rfl)
theorem dX1_needed_17 : decode cX1_needed 17 = .ok (.ldc_w 423, 3) := dk_19 1 167 (dk_at dksX1_needed_0 17 rfl rfl)
theorem dX1_needed_20 : decode cX1_needed 20 = .ok (.istore_n 3, 1) := dk_62 (dk_at dksX1_needed_0 20 rfl rfl)
theorem dX1_needed_21 : decode cX1_needed 21 = .ok (.iconst 0, 1) := dk_3 (dk_at dksX1_needed_0 21 rfl rfl)
theorem dX1_needed_22 : decode cX1_needed 22 = .ok (.istore 4, 2) := dk_54 4 (dk_at dksX1_needed_0 22 rfl rfl)
theorem dX1_needed_24 : decode cX1_needed 24 = .ok (.iload 4, 2) := dk_21 4 (dk_at dksX1_needed_1 0 rfl rfl)
theorem dX1_needed_26 : decode cX1_needed 26 = .ok (.aload_n 0, 1) := dk_42 (dk_at dksX1_needed_1 2 rfl rfl)
theorem dX1_needed_27 : decode cX1_needed 27 = .ok (.getfield 94, 3) := dk_180 0 94 (dk_at dksX1_needed_1 3 rfl rfl)
theorem dX1_needed_30 : decode cX1_needed 30 = .ok (.if_icmp .ge 40, 3) := dk_162 0 40 (dk_at dksX1_needed_1 6 rfl rfl)
theorem dX1_needed_33 : decode cX1_needed 33 = .ok (.aload_n 0, 1) := dk_42 (dk_at dksX1_needed_1 9 rfl rfl)
theorem dX1_needed_34 : decode cX1_needed 34 = .ok (.iload_n 1, 1) := dk_27 (dk_at dksX1_needed_1 10 rfl rfl)
theorem dX1_needed_35 : decode cX1_needed 35 = .ok (.iconst 1, 1) := dk_4 (dk_at dksX1_needed_1 11 rfl rfl)
theorem dX1_needed_36 : decode cX1_needed 36 = .ok (.iload 4, 2) := dk_21 4 (dk_at dksX1_needed_1 12 rfl rfl)
theorem dX1_needed_38 : decode cX1_needed 38 = .ok (.ishl, 1) := dk_120 (dk_at dksX1_needed_1 14 rfl rfl)
theorem dX1_needed_39 : decode cX1_needed 39 = .ok (.invokevirtual 443, 3) := dk_182 1 187 (dk_at dksX1_needed_1 15 rfl rfl)
theorem dX1_needed_42 : decode cX1_needed 42 = .ok (.istore 5, 2) := dk_54 5 (dk_at dksX1_needed_1 18 rfl rfl)
theorem dX1_needed_44 : decode cX1_needed 44 = .ok (.iload 5, 2) := dk_21 5 (dk_at dksX1_needed_1 20 rfl rfl)
theorem dX1_needed_46 : decode cX1_needed 46 = .ok (.iload_n 3, 1) := dk_29 (dk_at dksX1_needed_1 22 rfl rfl)
theorem dX1_needed_47 : decode cX1_needed 47 = .ok (.if_icmp .ge 8, 3) := dk_162 0 8 (dk_at dksX1_needed_2 0 rfl rfl)
theorem dX1_needed_50 : decode cX1_needed 50 = .ok (.iload 4, 2) := dk_21 4 (dk_at dksX1_needed_2 3 rfl rfl)
theorem dX1_needed_52 : decode cX1_needed 52 = .ok (.goto 4, 3) := dk_167 0 4 (dk_at dksX1_needed_2 5 rfl rfl)
theorem dX1_needed_55 : decode cX1_needed 55 = .ok (.iload_n 2, 1) := dk_28 (dk_at dksX1_needed_2 8 rfl rfl)
theorem dX1_needed_56 : decode cX1_needed 56 = .ok (.istore_n 2, 1) := dk_61 (dk_at dksX1_needed_2 9 rfl rfl)
theorem dX1_needed_57 : decode cX1_needed 57 = .ok (.iload_n 3, 1) := dk_29 (dk_at dksX1_needed_2 10 rfl rfl)
theorem dX1_needed_58 : decode cX1_needed 58 = .ok (.iload 5, 2) := dk_21 5 (dk_at dksX1_needed_2 11 rfl rfl)
theorem dX1_needed_60 : decode cX1_needed 60 = .ok (.invokestatic 129, 3) := dk_184 0 129 (dk_at dksX1_needed_2 13 rfl rfl)
theorem dX1_needed_63 : decode cX1_needed 63 = .ok (.istore_n 3, 1) := dk_62 (dk_at dksX1_needed_2 16 rfl rfl)
theorem dX1_needed_64 : decode cX1_needed 64 = .ok (.iinc 4 1, 3) := dk_132 4 1 (dk_at dksX1_needed_2 17 rfl rfl)
theorem dX1_needed_67 : decode cX1_needed 67 = .ok (.goto (-43), 3) := dk_167 255 213 (dk_at dksX1_needed_2 20 rfl rfl)
theorem dX1_needed_70 : decode cX1_needed 70 = .ok (.iload_n 2, 1) := dk_28 (dk_at dksX1_needed_2 23 rfl rfl)
theorem dX1_needed_71 : decode cX1_needed 71 = .ok (.ifCond .ge 6, 3) := dk_156 0 6 (dk_at dksX1_needed_3 0 rfl rfl)
theorem dX1_needed_74 : decode cX1_needed 74 = .ok (.bipush (-2), 2) := dk_16 254 (dk_at dksX1_needed_3 3 rfl rfl)
theorem dX1_needed_76 : decode cX1_needed 76 = .ok (.ireturn, 1) := dk_172 (dk_at dksX1_needed_3 5 rfl rfl)
theorem dX1_needed_77 : decode cX1_needed 77 = .ok (.aload_n 0, 1) := dk_42 (dk_at dksX1_needed_3 6 rfl rfl)
theorem dX1_needed_78 : decode cX1_needed 78 = .ok (.iconst 0, 1) := dk_3 (dk_at dksX1_needed_3 7 rfl rfl)
theorem dX1_needed_79 : decode cX1_needed 79 = .ok (.putfield 378, 3) := dk_181 1 122 (dk_at dksX1_needed_3 8 rfl rfl)
theorem dX1_needed_82 : decode cX1_needed 82 = .ok (.aload_n 0, 1) := dk_42 (dk_at dksX1_needed_3 11 rfl rfl)
theorem dX1_needed_83 : decode cX1_needed 83 = .ok (.iload_n 3, 1) := dk_29 (dk_at dksX1_needed_3 12 rfl rfl)
theorem dX1_needed_84 : decode cX1_needed 84 = .ok (.i2l, 1) := dk_133 (dk_at dksX1_needed_3 13 rfl rfl)
theorem dX1_needed_85 : decode cX1_needed 85 = .ok (.invokevirtual 381, 3) := dk_182 1 125 (dk_at dksX1_needed_3 14 rfl rfl)
theorem dX1_needed_88 : decode cX1_needed 88 = .ok (.aload_n 0, 1) := dk_42 (dk_at dksX1_needed_3 17 rfl rfl)
theorem dX1_needed_89 : decode cX1_needed 89 = .ok (.aload_n 0, 1) := dk_42 (dk_at dksX1_needed_3 18 rfl rfl)
theorem dX1_needed_90 : decode cX1_needed 90 = .ok (.iload_n 1, 1) := dk_27 (dk_at dksX1_needed_3 19 rfl rfl)
theorem dX1_needed_91 : decode cX1_needed 91 = .ok (.iconst 0, 1) := dk_3 (dk_at dksX1_needed_3 20 rfl rfl)
theorem dX1_needed_92 : decode cX1_needed 92 = .ok (.invokevirtual 443, 3) := dk_182 1 187 (dk_at dksX1_needed_3 21 rfl rfl)
theorem dX1_needed_95 : decode cX1_needed 95 = .ok (.i2l, 1) := dk_133 (dk_at dksX1_needed_4 0 rfl rfl)
theorem dX1_needed_96 : decode cX1_needed 96 = .ok (.invokevirtual 381, 3) := dk_182 1 125 (dk_at dksX1_needed_4 1 rfl rfl)
theorem dX1_needed_99 : decode cX1_needed 99 = .ok (.iload_n 2, 1) := dk_28 (dk_at dksX1_needed_4 4 rfl rfl)
theorem dX1_needed_100 : decode cX1_needed 100 = .ok (.ireturn, 1) := dk_172 (dk_at dksX1_needed_4 5 rfl rfl)
abbrev cX1_lodgings : ByteArray := prog_1_method_86_code
def yX1_lodgings : MethodName := ⟨RX1, "lodgings", "()I"⟩
def dkwX1_lodgings_2 : List UInt8 := [180, 0, 68, 3, 46, 172]
abbrev dktX1_lodgings_2 : List UInt8 := dkwX1_lodgings_2 ++ []
def dkwX1_lodgings_1 : List UInt8 := [27, 46, 133, 182, 1, 125, 132, 1, 1, 167, 255, 234, 42, 180, 0, 94, 154, 0, 7, 2, 167, 0, 9, 42]
abbrev dktX1_lodgings_1 : List UInt8 := dkwX1_lodgings_1 ++ dktX1_lodgings_2
def dkwX1_lodgings_0 : List UInt8 := [42, 182, 1, 199, 42, 3, 181, 1, 122, 3, 60, 27, 42, 180, 0, 94, 162, 0, 20, 42, 42, 180, 0, 68]
abbrev dktX1_lodgings_0 : List UInt8 := dkwX1_lodgings_0 ++ dktX1_lodgings_1
theorem dksX1_lodgings_0 : cX1_lodgings.data.toList.drop 0 = dktX1_lodgings_0 := by decide +kernel
theorem dksX1_lodgings_1 : cX1_lodgings.data.toList.drop 24 = dktX1_lodgings_1 := dk_seg dksX1_lodgings_0 24 rfl rfl
theorem dksX1_lodgings_2 : cX1_lodgings.data.toList.drop 48 = dktX1_lodgings_2 := dk_seg dksX1_lodgings_1 24 rfl rfl
theorem dX1_lodgings_0 : decode cX1_lodgings 0 = .ok (.aload_n 0, 1) := dk_42 (dk_at dksX1_lodgings_0 0 rfl rfl)
theorem dX1_lodgings_1 : decode cX1_lodgings 1 = .ok (.invokevirtual 455, 3) := dk_182 1 199 (dk_at dksX1_lodgings_0 1 rfl rfl)
theorem dX1_lodgings_4 : decode cX1_lodgings 4 = .ok (.aload_n 0, 1) := dk_42 (dk_at dksX1_lodgings_0 4 rfl rfl)
theorem dX1_lodgings_5 : decode cX1_lodgings 5 = .ok (.iconst 0, 1) := dk_3 (dk_at dksX1_lodgings_0 5 rfl rfl)
theorem dX1_lodgings_6 : decode cX1_lodgings 6 = .ok (.putfield 378, 3) := dk_181 1 122 (dk_at dksX1_lodgings_0 6 rfl rfl)
theorem dX1_lodgings_9 : decode cX1_lodgings 9 = .ok (.iconst 0, 1) := dk_3 (dk_at dksX1_lodgings_0 9 rfl rfl)
theorem dX1_lodgings_10 : decode cX1_lodgings 10 = .ok (.istore_n 1, 1) := dk_60 (dk_at dksX1_lodgings_0 10 rfl rfl)
theorem dX1_lodgings_11 : decode cX1_lodgings 11 = .ok (.iload_n 1, 1) := dk_27 (dk_at dksX1_lodgings_0 11 rfl rfl)
theorem dX1_lodgings_12 : decode cX1_lodgings 12 = .ok (.aload_n 0, 1) := dk_42 (dk_at dksX1_lodgings_0 12 rfl rfl)
theorem dX1_lodgings_13 : decode cX1_lodgings 13 = .ok (.getfield 94, 3) := dk_180 0 94 (dk_at dksX1_lodgings_0 13 rfl rfl)
theorem dX1_lodgings_16 : decode cX1_lodgings 16 = .ok (.if_icmp .ge 20, 3) := dk_162 0 20 (dk_at dksX1_lodgings_0 16 rfl rfl)
theorem dX1_lodgings_19 : decode cX1_lodgings 19 = .ok (.aload_n 0, 1) := dk_42 (dk_at dksX1_lodgings_0 19 rfl rfl)
theorem dX1_lodgings_20 : decode cX1_lodgings 20 = .ok (.aload_n 0, 1) := dk_42 (dk_at dksX1_lodgings_0 20 rfl rfl)
theorem dX1_lodgings_21 : decode cX1_lodgings 21 = .ok (.getfield 68, 3) := dk_180 0 68 (dk_at dksX1_lodgings_0 21 rfl rfl)
theorem dX1_lodgings_24 : decode cX1_lodgings 24 = .ok (.iload_n 1, 1) := dk_27 (dk_at dksX1_lodgings_1 0 rfl rfl)
theorem dX1_lodgings_25 : decode cX1_lodgings 25 = .ok (.iaload, 1) := dk_46 (dk_at dksX1_lodgings_1 1 rfl rfl)
theorem dX1_lodgings_26 : decode cX1_lodgings 26 = .ok (.i2l, 1) := dk_133 (dk_at dksX1_lodgings_1 2 rfl rfl)
theorem dX1_lodgings_27 : decode cX1_lodgings 27 = .ok (.invokevirtual 381, 3) := dk_182 1 125 (dk_at dksX1_lodgings_1 3 rfl rfl)
theorem dX1_lodgings_30 : decode cX1_lodgings 30 = .ok (.iinc 1 1, 3) := dk_132 1 1 (dk_at dksX1_lodgings_1 6 rfl rfl)
theorem dX1_lodgings_33 : decode cX1_lodgings 33 = .ok (.goto (-22), 3) := dk_167 255 234 (dk_at dksX1_lodgings_1 9 rfl rfl)
theorem dX1_lodgings_36 : decode cX1_lodgings 36 = .ok (.aload_n 0, 1) := dk_42 (dk_at dksX1_lodgings_1 12 rfl rfl)
theorem dX1_lodgings_37 : decode cX1_lodgings 37 = .ok (.getfield 94, 3) := dk_180 0 94 (dk_at dksX1_lodgings_1 13 rfl rfl)
theorem dX1_lodgings_40 : decode cX1_lodgings 40 = .ok (.ifCond .ne 7, 3) := dk_154 0 7 (dk_at dksX1_lodgings_1 16 rfl rfl)
theorem dX1_lodgings_43 : decode cX1_lodgings 43 = .ok (.iconst (-1), 1) := dk_2 (dk_at dksX1_lodgings_1 19 rfl rfl)
theorem dX1_lodgings_44 : decode cX1_lodgings 44 = .ok (.goto 9, 3) := dk_167 0 9 (dk_at dksX1_lodgings_1 20 rfl rfl)
theorem dX1_lodgings_47 : decode cX1_lodgings 47 = .ok (.aload_n 0, 1) := dk_42 (dk_at dksX1_lodgings_1 23 rfl rfl)
theorem dX1_lodgings_48 : decode cX1_lodgings 48 = .ok (.getfield 68, 3) := dk_180 0 68 (dk_at dksX1_lodgings_2 0 rfl rfl)
theorem dX1_lodgings_51 : decode cX1_lodgings 51 = .ok (.iconst 0, 1) := dk_3 (dk_at dksX1_lodgings_2 3 rfl rfl)
theorem dX1_lodgings_52 : decode cX1_lodgings 52 = .ok (.iaload, 1) := dk_46 (dk_at dksX1_lodgings_2 4 rfl rfl)
theorem dX1_lodgings_53 : decode cX1_lodgings 53 = .ok (.ireturn, 1) := dk_172 (dk_at dksX1_lodgings_2 5 rfl rfl)
abbrev cX1_laysLodgings : ByteArray := prog_1_method_85_code
def yX1_laysLodgings : MethodName := ⟨RX1, "laysLodgings", "()V"⟩
def dkwX1_laysLodgings_3 : List UInt8 := [42, 180, 0, 68, 28, 46, 61, 167, 255, 223, 27, 29, 2, 130, 126, 60, 167, 255, 180, 177]
abbrev dktX1_laysLodgings_3 : List UInt8 := dkwX1_laysLodgings_3 ++ []
def dkwX1_laysLodgings_2 : List UInt8 := [184, 1, 85, 154, 0, 31, 29, 4, 28, 120, 128, 62, 42, 180, 0, 68, 28, 42, 28, 27, 182, 1, 196, 79]
abbrev dktX1_laysLodgings_2 : List UInt8 := dkwX1_laysLodgings_2 ++ dktX1_laysLodgings_3
def dkwX1_laysLodgings_1 : List UInt8 := [180, 0, 94, 162, 0, 16, 42, 28, 27, 182, 1, 196, 61, 132, 3, 1, 167, 255, 238, 3, 62, 29, 28]
abbrev dktX1_laysLodgings_1 : List UInt8 := dkwX1_laysLodgings_1 ++ dktX1_laysLodgings_2
def dkwX1_laysLodgings_0 : List UInt8 := [4, 42, 180, 0, 94, 120, 4, 100, 60, 27, 153, 0, 78, 27, 184, 1, 193, 61, 3, 62, 29, 42]
abbrev dktX1_laysLodgings_0 : List UInt8 := dkwX1_laysLodgings_0 ++ dktX1_laysLodgings_1
theorem dksX1_laysLodgings_0 : cX1_laysLodgings.data.toList.drop 0 = dktX1_laysLodgings_0 := by decide +kernel
theorem dksX1_laysLodgings_1 : cX1_laysLodgings.data.toList.drop 22 = dktX1_laysLodgings_1 := dk_seg dksX1_laysLodgings_0 22 rfl rfl
theorem dksX1_laysLodgings_2 : cX1_laysLodgings.data.toList.drop 45 = dktX1_laysLodgings_2 := dk_seg dksX1_laysLodgings_1 23 rfl rfl
theorem dksX1_laysLodgings_3 : cX1_laysLodgings.data.toList.drop 69 = dktX1_laysLodgings_3 := dk_seg dksX1_laysLodgings_2 24 rfl rfl
theorem dX1_laysLodgings_0 : decode cX1_laysLodgings 0 = .ok (.iconst 1, 1) := dk_4 (dk_at dksX1_laysLodgings_0 0 rfl rfl)
theorem dX1_laysLodgings_1 : decode cX1_laysLodgings 1 = .ok (.aload_n 0, 1) := dk_42 (dk_at dksX1_laysLodgings_0 1 rfl rfl)
theorem dX1_laysLodgings_2 : decode cX1_laysLodgings 2 = .ok (.getfield 94, 3) := dk_180 0 94 (dk_at dksX1_laysLodgings_0 2 rfl rfl)
theorem dX1_laysLodgings_5 : decode cX1_laysLodgings 5 = .ok (.ishl, 1) := dk_120 (dk_at dksX1_laysLodgings_0 5 rfl rfl)
theorem dX1_laysLodgings_6 : decode cX1_laysLodgings 6 = .ok (.iconst 1, 1) := dk_4 (dk_at dksX1_laysLodgings_0 6 rfl rfl)
theorem dX1_laysLodgings_7 : decode cX1_laysLodgings 7 = .ok (.isub, 1) := dk_100 (dk_at dksX1_laysLodgings_0 7 rfl rfl)
theorem dX1_laysLodgings_8 : decode cX1_laysLodgings 8 = .ok (.istore_n 1, 1) := dk_60 (dk_at dksX1_laysLodgings_0 8 rfl rfl)
theorem dX1_laysLodgings_9 : decode cX1_laysLodgings 9 = .ok (.iload_n 1, 1) := dk_27 (dk_at dksX1_laysLodgings_0 9 rfl rfl)
theorem dX1_laysLodgings_10 : decode cX1_laysLodgings 10 = .ok (.ifCond .eq 78, 3) := dk_153 0 78 (dk_at dksX1_laysLodgings_0 10 rfl rfl)
theorem dX1_laysLodgings_13 : decode cX1_laysLodgings 13 = .ok (.iload_n 1, 1) := dk_27 (dk_at dksX1_laysLodgings_0 13 rfl rfl)
theorem dX1_laysLodgings_14 : decode cX1_laysLodgings 14 = .ok (.invokestatic 449, 3) := dk_184 1 193 (dk_at dksX1_laysLodgings_0 14 rfl rfl)
theorem dX1_laysLodgings_17 : decode cX1_laysLodgings 17 = .ok (.istore_n 2, 1) := dk_61 (dk_at dksX1_laysLodgings_0 17 rfl rfl)
theorem dX1_laysLodgings_18 : decode cX1_laysLodgings 18 = .ok (.iconst 0, 1) := dk_3 (dk_at dksX1_laysLodgings_0 18 rfl rfl)
theorem dX1_laysLodgings_19 : decode cX1_laysLodgings 19 = .ok (.istore_n 3, 1) := dk_62 (dk_at dksX1_laysLodgings_0 19 rfl rfl)
theorem dX1_laysLodgings_20 : decode cX1_laysLodgings 20 = .ok (.iload_n 3, 1) := dk_29 (dk_at dksX1_laysLodgings_0 20 rfl rfl)
theorem dX1_laysLodgings_21 : decode cX1_laysLodgings 21 = .ok (.aload_n 0, 1) := dk_42 (dk_at dksX1_laysLodgings_0 21 rfl rfl)
theorem dX1_laysLodgings_22 : decode cX1_laysLodgings 22 = .ok (.getfield 94, 3) := dk_180 0 94 (dk_at dksX1_laysLodgings_1 0 rfl rfl)
theorem dX1_laysLodgings_25 : decode cX1_laysLodgings 25 = .ok (.if_icmp .ge 16, 3) := dk_162 0 16 (dk_at dksX1_laysLodgings_1 3 rfl rfl)
theorem dX1_laysLodgings_28 : decode cX1_laysLodgings 28 = .ok (.aload_n 0, 1) := dk_42 (dk_at dksX1_laysLodgings_1 6 rfl rfl)
theorem dX1_laysLodgings_29 : decode cX1_laysLodgings 29 = .ok (.iload_n 2, 1) := dk_28 (dk_at dksX1_laysLodgings_1 7 rfl rfl)
theorem dX1_laysLodgings_30 : decode cX1_laysLodgings 30 = .ok (.iload_n 1, 1) := dk_27 (dk_at dksX1_laysLodgings_1 8 rfl rfl)
theorem dX1_laysLodgings_31 : decode cX1_laysLodgings 31 = .ok (.invokevirtual 452, 3) := dk_182 1 196 (dk_at dksX1_laysLodgings_1 9 rfl rfl)
theorem dX1_laysLodgings_34 : decode cX1_laysLodgings 34 = .ok (.istore_n 2, 1) := dk_61 (dk_at dksX1_laysLodgings_1 12 rfl rfl)
theorem dX1_laysLodgings_35 : decode cX1_laysLodgings 35 = .ok (.iinc 3 1, 3) := dk_132 3 1 (dk_at dksX1_laysLodgings_1 13 rfl rfl)
theorem dX1_laysLodgings_38 : decode cX1_laysLodgings 38 = .ok (.goto (-18), 3) := dk_167 255 238 (dk_at dksX1_laysLodgings_1 16 rfl rfl)
theorem dX1_laysLodgings_41 : decode cX1_laysLodgings 41 = .ok (.iconst 0, 1) := dk_3 (dk_at dksX1_laysLodgings_1 19 rfl rfl)
theorem dX1_laysLodgings_42 : decode cX1_laysLodgings 42 = .ok (.istore_n 3, 1) := dk_62 (dk_at dksX1_laysLodgings_1 20 rfl rfl)
theorem dX1_laysLodgings_43 : decode cX1_laysLodgings 43 = .ok (.iload_n 3, 1) := dk_29 (dk_at dksX1_laysLodgings_1 21 rfl rfl)
theorem dX1_laysLodgings_44 : decode cX1_laysLodgings 44 = .ok (.iload_n 2, 1) := dk_28 (dk_at dksX1_laysLodgings_1 22 rfl rfl)
theorem dX1_laysLodgings_45 : decode cX1_laysLodgings 45 = .ok (.invokestatic 341, 3) := dk_184 1 85 (dk_at dksX1_laysLodgings_2 0 rfl rfl)
theorem dX1_laysLodgings_48 : decode cX1_laysLodgings 48 = .ok (.ifCond .ne 31, 3) := dk_154 0 31 (dk_at dksX1_laysLodgings_2 3 rfl rfl)
theorem dX1_laysLodgings_51 : decode cX1_laysLodgings 51 = .ok (.iload_n 3, 1) := dk_29 (dk_at dksX1_laysLodgings_2 6 rfl rfl)
theorem dX1_laysLodgings_52 : decode cX1_laysLodgings 52 = .ok (.iconst 1, 1) := dk_4 (dk_at dksX1_laysLodgings_2 7 rfl rfl)
theorem dX1_laysLodgings_53 : decode cX1_laysLodgings 53 = .ok (.iload_n 2, 1) := dk_28 (dk_at dksX1_laysLodgings_2 8 rfl rfl)
theorem dX1_laysLodgings_54 : decode cX1_laysLodgings 54 = .ok (.ishl, 1) := dk_120 (dk_at dksX1_laysLodgings_2 9 rfl rfl)
theorem dX1_laysLodgings_55 : decode cX1_laysLodgings 55 = .ok (.ior, 1) := dk_128 (dk_at dksX1_laysLodgings_2 10 rfl rfl)
theorem dX1_laysLodgings_56 : decode cX1_laysLodgings 56 = .ok (.istore_n 3, 1) := dk_62 (dk_at dksX1_laysLodgings_2 11 rfl rfl)
theorem dX1_laysLodgings_57 : decode cX1_laysLodgings 57 = .ok (.aload_n 0, 1) := dk_42 (dk_at dksX1_laysLodgings_2 12 rfl rfl)
theorem dX1_laysLodgings_58 : decode cX1_laysLodgings 58 = .ok (.getfield 68, 3) := dk_180 0 68 (dk_at dksX1_laysLodgings_2 13 rfl rfl)
theorem dX1_laysLodgings_61 : decode cX1_laysLodgings 61 = .ok (.iload_n 2, 1) := dk_28 (dk_at dksX1_laysLodgings_2 16 rfl rfl)
theorem dX1_laysLodgings_62 : decode cX1_laysLodgings 62 = .ok (.aload_n 0, 1) := dk_42 (dk_at dksX1_laysLodgings_2 17 rfl rfl)
theorem dX1_laysLodgings_63 : decode cX1_laysLodgings 63 = .ok (.iload_n 2, 1) := dk_28 (dk_at dksX1_laysLodgings_2 18 rfl rfl)
theorem dX1_laysLodgings_64 : decode cX1_laysLodgings 64 = .ok (.iload_n 1, 1) := dk_27 (dk_at dksX1_laysLodgings_2 19 rfl rfl)
theorem dX1_laysLodgings_65 : decode cX1_laysLodgings 65 = .ok (.invokevirtual 452, 3) := dk_182 1 196 (dk_at dksX1_laysLodgings_2 20 rfl rfl)
theorem dX1_laysLodgings_68 : decode cX1_laysLodgings 68 = .ok (.iastore, 1) := dk_79 (dk_at dksX1_laysLodgings_2 23 rfl rfl)
theorem dX1_laysLodgings_69 : decode cX1_laysLodgings 69 = .ok (.aload_n 0, 1) := dk_42 (dk_at dksX1_laysLodgings_3 0 rfl rfl)
theorem dX1_laysLodgings_70 : decode cX1_laysLodgings 70 = .ok (.getfield 68, 3) := dk_180 0 68 (dk_at dksX1_laysLodgings_3 1 rfl rfl)
theorem dX1_laysLodgings_73 : decode cX1_laysLodgings 73 = .ok (.iload_n 2, 1) := dk_28 (dk_at dksX1_laysLodgings_3 4 rfl rfl)
theorem dX1_laysLodgings_74 : decode cX1_laysLodgings 74 = .ok (.iaload, 1) := dk_46 (dk_at dksX1_laysLodgings_3 5 rfl rfl)
theorem dX1_laysLodgings_75 : decode cX1_laysLodgings 75 = .ok (.istore_n 2, 1) := dk_61 (dk_at dksX1_laysLodgings_3 6 rfl rfl)
theorem dX1_laysLodgings_76 : decode cX1_laysLodgings 76 = .ok (.goto (-33), 3) := dk_167 255 223 (dk_at dksX1_laysLodgings_3 7 rfl rfl)
theorem dX1_laysLodgings_79 : decode cX1_laysLodgings 79 = .ok (.iload_n 1, 1) := dk_27 (dk_at dksX1_laysLodgings_3 10 rfl rfl)
theorem dX1_laysLodgings_80 : decode cX1_laysLodgings 80 = .ok (.iload_n 3, 1) := dk_29 (dk_at dksX1_laysLodgings_3 11 rfl rfl)
theorem dX1_laysLodgings_81 : decode cX1_laysLodgings 81 = .ok (.iconst (-1), 1) := dk_2 (dk_at dksX1_laysLodgings_3 12 rfl rfl)
theorem dX1_laysLodgings_82 : decode cX1_laysLodgings 82 = .ok (.ixor, 1) := dk_130 (dk_at dksX1_laysLodgings_3 13 rfl rfl)
theorem dX1_laysLodgings_83 : decode cX1_laysLodgings 83 = .ok (.iand, 1) := dk_126 (dk_at dksX1_laysLodgings_3 14 rfl rfl)
theorem dX1_laysLodgings_84 : decode cX1_laysLodgings 84 = .ok (.istore_n 1, 1) := dk_60 (dk_at dksX1_laysLodgings_3 15 rfl rfl)
theorem dX1_laysLodgings_85 : decode cX1_laysLodgings 85 = .ok (.goto (-76), 3) := dk_167 255 180 (dk_at dksX1_laysLodgings_3 16 rfl rfl)
theorem dX1_laysLodgings_88 : decode cX1_laysLodgings 88 = .ok (.return_, 1) := dk_177 (dk_at dksX1_laysLodgings_3 19 rfl rfl)
abbrev cX1_pointsTo : ByteArray := prog_1_method_84_code
def yX1_pointsTo : MethodName := ⟨RX1, "pointsTo", "(II)I"⟩
def dkwX1_pointsTo_2 : List UInt8 := [29, 62, 132, 4, 1, 167, 255, 208, 29, 172]
abbrev dktX1_pointsTo_2 : List UInt8 := dkwX1_pointsTo_2 ++ []
def dkwX1_pointsTo_1 : List UInt8 := [155, 0, 19, 42, 27, 21, 4, 182, 1, 190, 42, 27, 29, 182, 1, 190, 162, 0, 8, 21, 4, 167, 0, 4]
abbrev dktX1_pointsTo_1 : List UInt8 := dkwX1_pointsTo_1 ++ dktX1_pointsTo_2
def dkwX1_pointsTo_0 : List UInt8 := [2, 62, 3, 54, 4, 21, 4, 42, 180, 0, 94, 162, 0, 45, 28, 21, 4, 184, 1, 85, 153, 0, 28, 29]
abbrev dktX1_pointsTo_0 : List UInt8 := dkwX1_pointsTo_0 ++ dktX1_pointsTo_1
theorem dksX1_pointsTo_0 : cX1_pointsTo.data.toList.drop 0 = dktX1_pointsTo_0 := by decide +kernel
theorem dksX1_pointsTo_1 : cX1_pointsTo.data.toList.drop 24 = dktX1_pointsTo_1 := dk_seg dksX1_pointsTo_0 24 rfl rfl
theorem dksX1_pointsTo_2 : cX1_pointsTo.data.toList.drop 48 = dktX1_pointsTo_2 := dk_seg dksX1_pointsTo_1 24 rfl rfl
theorem dX1_pointsTo_0 : decode cX1_pointsTo 0 = .ok (.iconst (-1), 1) := dk_2 (dk_at dksX1_pointsTo_0 0 rfl rfl)
theorem dX1_pointsTo_1 : decode cX1_pointsTo 1 = .ok (.istore_n 3, 1) := dk_62 (dk_at dksX1_pointsTo_0 1 rfl rfl)
theorem dX1_pointsTo_2 : decode cX1_pointsTo 2 = .ok (.iconst 0, 1) := dk_3 (dk_at dksX1_pointsTo_0 2 rfl rfl)
theorem dX1_pointsTo_3 : decode cX1_pointsTo 3 = .ok (.istore 4, 2) := dk_54 4 (dk_at dksX1_pointsTo_0 3 rfl rfl)
theorem dX1_pointsTo_5 : decode cX1_pointsTo 5 = .ok (.iload 4, 2) := dk_21 4 (dk_at dksX1_pointsTo_0 5 rfl rfl)
theorem dX1_pointsTo_7 : decode cX1_pointsTo 7 = .ok (.aload_n 0, 1) := dk_42 (dk_at dksX1_pointsTo_0 7 rfl rfl)
theorem dX1_pointsTo_8 : decode cX1_pointsTo 8 = .ok (.getfield 94, 3) := dk_180 0 94 (dk_at dksX1_pointsTo_0 8 rfl rfl)
theorem dX1_pointsTo_11 : decode cX1_pointsTo 11 = .ok (.if_icmp .ge 45, 3) := dk_162 0 45 (dk_at dksX1_pointsTo_0 11 rfl rfl)
theorem dX1_pointsTo_14 : decode cX1_pointsTo 14 = .ok (.iload_n 2, 1) := dk_28 (dk_at dksX1_pointsTo_0 14 rfl rfl)
theorem dX1_pointsTo_15 : decode cX1_pointsTo 15 = .ok (.iload 4, 2) := dk_21 4 (dk_at dksX1_pointsTo_0 15 rfl rfl)
theorem dX1_pointsTo_17 : decode cX1_pointsTo 17 = .ok (.invokestatic 341, 3) := dk_184 1 85 (dk_at dksX1_pointsTo_0 17 rfl rfl)
theorem dX1_pointsTo_20 : decode cX1_pointsTo 20 = .ok (.ifCond .eq 28, 3) := dk_153 0 28 (dk_at dksX1_pointsTo_0 20 rfl rfl)
theorem dX1_pointsTo_23 : decode cX1_pointsTo 23 = .ok (.iload_n 3, 1) := dk_29 (dk_at dksX1_pointsTo_0 23 rfl rfl)
theorem dX1_pointsTo_24 : decode cX1_pointsTo 24 = .ok (.ifCond .lt 19, 3) := dk_155 0 19 (dk_at dksX1_pointsTo_1 0 rfl rfl)
theorem dX1_pointsTo_27 : decode cX1_pointsTo 27 = .ok (.aload_n 0, 1) := dk_42 (dk_at dksX1_pointsTo_1 3 rfl rfl)
theorem dX1_pointsTo_28 : decode cX1_pointsTo 28 = .ok (.iload_n 1, 1) := dk_27 (dk_at dksX1_pointsTo_1 4 rfl rfl)
theorem dX1_pointsTo_29 : decode cX1_pointsTo 29 = .ok (.iload 4, 2) := dk_21 4 (dk_at dksX1_pointsTo_1 5 rfl rfl)
theorem dX1_pointsTo_31 : decode cX1_pointsTo 31 = .ok (.invokevirtual 446, 3) := dk_182 1 190 (dk_at dksX1_pointsTo_1 7 rfl rfl)
theorem dX1_pointsTo_34 : decode cX1_pointsTo 34 = .ok (.aload_n 0, 1) := dk_42 (dk_at dksX1_pointsTo_1 10 rfl rfl)
theorem dX1_pointsTo_35 : decode cX1_pointsTo 35 = .ok (.iload_n 1, 1) := dk_27 (dk_at dksX1_pointsTo_1 11 rfl rfl)
theorem dX1_pointsTo_36 : decode cX1_pointsTo 36 = .ok (.iload_n 3, 1) := dk_29 (dk_at dksX1_pointsTo_1 12 rfl rfl)
theorem dX1_pointsTo_37 : decode cX1_pointsTo 37 = .ok (.invokevirtual 446, 3) := dk_182 1 190 (dk_at dksX1_pointsTo_1 13 rfl rfl)
theorem dX1_pointsTo_40 : decode cX1_pointsTo 40 = .ok (.if_icmp .ge 8, 3) := dk_162 0 8 (dk_at dksX1_pointsTo_1 16 rfl rfl)
theorem dX1_pointsTo_43 : decode cX1_pointsTo 43 = .ok (.iload 4, 2) := dk_21 4 (dk_at dksX1_pointsTo_1 19 rfl rfl)
theorem dX1_pointsTo_45 : decode cX1_pointsTo 45 = .ok (.goto 4, 3) := dk_167 0 4 (dk_at dksX1_pointsTo_1 21 rfl rfl)
theorem dX1_pointsTo_48 : decode cX1_pointsTo 48 = .ok (.iload_n 3, 1) := dk_29 (dk_at dksX1_pointsTo_2 0 rfl rfl)
theorem dX1_pointsTo_49 : decode cX1_pointsTo 49 = .ok (.istore_n 3, 1) := dk_62 (dk_at dksX1_pointsTo_2 1 rfl rfl)
theorem dX1_pointsTo_50 : decode cX1_pointsTo 50 = .ok (.iinc 4 1, 3) := dk_132 4 1 (dk_at dksX1_pointsTo_2 2 rfl rfl)
theorem dX1_pointsTo_53 : decode cX1_pointsTo 53 = .ok (.goto (-48), 3) := dk_167 255 208 (dk_at dksX1_pointsTo_2 5 rfl rfl)
theorem dX1_pointsTo_56 : decode cX1_pointsTo 56 = .ok (.iload_n 3, 1) := dk_29 (dk_at dksX1_pointsTo_2 8 rfl rfl)
theorem dX1_pointsTo_57 : decode cX1_pointsTo 57 = .ok (.ireturn, 1) := dk_172 (dk_at dksX1_pointsTo_2 9 rfl rfl)
abbrev cX1_dislikes : ByteArray := prog_1_method_83_code
def yX1_dislikes : MethodName := ⟨RX1, "dislikes", "(II)I"⟩
def dkwX1_dislikes_1 : List UInt8 := [172]
abbrev dktX1_dislikes_1 : List UInt8 := dkwX1_dislikes_1 ++ []
def dkwX1_dislikes_0 : List UInt8 := [16, 8, 6, 28, 104, 16, 10, 112, 42, 180, 0, 10, 180, 0, 194, 27, 46, 100, 184, 1, 6, 104, 28, 96]
abbrev dktX1_dislikes_0 : List UInt8 := dkwX1_dislikes_0 ++ dktX1_dislikes_1
theorem dksX1_dislikes_0 : cX1_dislikes.data.toList.drop 0 = dktX1_dislikes_0 := by decide +kernel
theorem dksX1_dislikes_1 : cX1_dislikes.data.toList.drop 24 = dktX1_dislikes_1 := dk_seg dksX1_dislikes_0 24 rfl rfl
theorem dX1_dislikes_0 : decode cX1_dislikes 0 = .ok (.bipush 8, 2) := dk_16 8 (dk_at dksX1_dislikes_0 0 rfl rfl)
theorem dX1_dislikes_2 : decode cX1_dislikes 2 = .ok (.iconst 3, 1) := dk_6 (dk_at dksX1_dislikes_0 2 rfl rfl)
theorem dX1_dislikes_3 : decode cX1_dislikes 3 = .ok (.iload_n 2, 1) := dk_28 (dk_at dksX1_dislikes_0 3 rfl rfl)
theorem dX1_dislikes_4 : decode cX1_dislikes 4 = .ok (.imul, 1) := dk_104 (dk_at dksX1_dislikes_0 4 rfl rfl)
theorem dX1_dislikes_5 : decode cX1_dislikes 5 = .ok (.bipush 10, 2) := dk_16 10 (dk_at dksX1_dislikes_0 5 rfl rfl)
theorem dX1_dislikes_7 : decode cX1_dislikes 7 = .ok (.irem, 1) := dk_112 (dk_at dksX1_dislikes_0 7 rfl rfl)
theorem dX1_dislikes_8 : decode cX1_dislikes 8 = .ok (.aload_n 0, 1) := dk_42 (dk_at dksX1_dislikes_0 8 rfl rfl)
theorem dX1_dislikes_9 : decode cX1_dislikes 9 = .ok (.getfield 10, 3) := dk_180 0 10 (dk_at dksX1_dislikes_0 9 rfl rfl)
theorem dX1_dislikes_12 : decode cX1_dislikes 12 = .ok (.getfield 194, 3) := dk_180 0 194 (dk_at dksX1_dislikes_0 12 rfl rfl)
theorem dX1_dislikes_15 : decode cX1_dislikes 15 = .ok (.iload_n 1, 1) := dk_27 (dk_at dksX1_dislikes_0 15 rfl rfl)
theorem dX1_dislikes_16 : decode cX1_dislikes 16 = .ok (.iaload, 1) := dk_46 (dk_at dksX1_dislikes_0 16 rfl rfl)
theorem dX1_dislikes_17 : decode cX1_dislikes 17 = .ok (.isub, 1) := dk_100 (dk_at dksX1_dislikes_0 17 rfl rfl)
theorem dX1_dislikes_18 : decode cX1_dislikes 18 = .ok (.invokestatic 262, 3) := dk_184 1 6 (dk_at dksX1_dislikes_0 18 rfl rfl)
theorem dX1_dislikes_21 : decode cX1_dislikes 21 = .ok (.imul, 1) := dk_104 (dk_at dksX1_dislikes_0 21 rfl rfl)
theorem dX1_dislikes_22 : decode cX1_dislikes 22 = .ok (.iload_n 2, 1) := dk_28 (dk_at dksX1_dislikes_0 22 rfl rfl)
theorem dX1_dislikes_23 : decode cX1_dislikes 23 = .ok (.iadd, 1) := dk_96 (dk_at dksX1_dislikes_0 23 rfl rfl)
theorem dX1_dislikes_24 : decode cX1_dislikes 24 = .ok (.ireturn, 1) := dk_172 (dk_at dksX1_dislikes_1 0 rfl rfl)
abbrev cX1_movers : ByteArray := prog_1_method_87_code
def yX1_movers : MethodName := ⟨RX1, "movers", "()I"⟩
def dkwX1_movers_2 : List UInt8 := [27, 133, 182, 1, 125, 27, 184, 1, 56, 172]
abbrev dktX1_movers_2 : List UInt8 := dkwX1_movers_2 ++ []
def dkwX1_movers_1 : List UInt8 := [160, 0, 7, 3, 167, 0, 6, 4, 28, 120, 128, 60, 132, 2, 1, 167, 255, 225, 42, 3, 181, 1, 122, 42]
abbrev dktX1_movers_1 : List UInt8 := dkwX1_movers_1 ++ dktX1_movers_2
def dkwX1_movers_0 : List UInt8 := [42, 182, 1, 199, 3, 60, 3, 61, 28, 42, 180, 0, 94, 162, 0, 29, 27, 42, 180, 0, 68, 28, 46, 28]
abbrev dktX1_movers_0 : List UInt8 := dkwX1_movers_0 ++ dktX1_movers_1
theorem dksX1_movers_0 : cX1_movers.data.toList.drop 0 = dktX1_movers_0 := by decide +kernel
theorem dksX1_movers_1 : cX1_movers.data.toList.drop 24 = dktX1_movers_1 := dk_seg dksX1_movers_0 24 rfl rfl
theorem dksX1_movers_2 : cX1_movers.data.toList.drop 48 = dktX1_movers_2 := dk_seg dksX1_movers_1 24 rfl rfl
theorem dX1_movers_0 : decode cX1_movers 0 = .ok (.aload_n 0, 1) := dk_42 (dk_at dksX1_movers_0 0 rfl rfl)
theorem dX1_movers_1 : decode cX1_movers 1 = .ok (.invokevirtual 455, 3) := dk_182 1 199 (dk_at dksX1_movers_0 1 rfl rfl)
theorem dX1_movers_4 : decode cX1_movers 4 = .ok (.iconst 0, 1) := dk_3 (dk_at dksX1_movers_0 4 rfl rfl)
theorem dX1_movers_5 : decode cX1_movers 5 = .ok (.istore_n 1, 1) := dk_60 (dk_at dksX1_movers_0 5 rfl rfl)
theorem dX1_movers_6 : decode cX1_movers 6 = .ok (.iconst 0, 1) := dk_3 (dk_at dksX1_movers_0 6 rfl rfl)
theorem dX1_movers_7 : decode cX1_movers 7 = .ok (.istore_n 2, 1) := dk_61 (dk_at dksX1_movers_0 7 rfl rfl)
theorem dX1_movers_8 : decode cX1_movers 8 = .ok (.iload_n 2, 1) := dk_28 (dk_at dksX1_movers_0 8 rfl rfl)
theorem dX1_movers_9 : decode cX1_movers 9 = .ok (.aload_n 0, 1) := dk_42 (dk_at dksX1_movers_0 9 rfl rfl)
theorem dX1_movers_10 : decode cX1_movers 10 = .ok (.getfield 94, 3) := dk_180 0 94 (dk_at dksX1_movers_0 10 rfl rfl)
theorem dX1_movers_13 : decode cX1_movers 13 = .ok (.if_icmp .ge 29, 3) := dk_162 0 29 (dk_at dksX1_movers_0 13 rfl rfl)
theorem dX1_movers_16 : decode cX1_movers 16 = .ok (.iload_n 1, 1) := dk_27 (dk_at dksX1_movers_0 16 rfl rfl)
theorem dX1_movers_17 : decode cX1_movers 17 = .ok (.aload_n 0, 1) := dk_42 (dk_at dksX1_movers_0 17 rfl rfl)
theorem dX1_movers_18 : decode cX1_movers 18 = .ok (.getfield 68, 3) := dk_180 0 68 (dk_at dksX1_movers_0 18 rfl rfl)
theorem dX1_movers_21 : decode cX1_movers 21 = .ok (.iload_n 2, 1) := dk_28 (dk_at dksX1_movers_0 21 rfl rfl)
theorem dX1_movers_22 : decode cX1_movers 22 = .ok (.iaload, 1) := dk_46 (dk_at dksX1_movers_0 22 rfl rfl)
theorem dX1_movers_23 : decode cX1_movers 23 = .ok (.iload_n 2, 1) := dk_28 (dk_at dksX1_movers_0 23 rfl rfl)
theorem dX1_movers_24 : decode cX1_movers 24 = .ok (.if_icmp .ne 7, 3) := dk_160 0 7 (dk_at dksX1_movers_1 0 rfl rfl)
theorem dX1_movers_27 : decode cX1_movers 27 = .ok (.iconst 0, 1) := dk_3 (dk_at dksX1_movers_1 3 rfl rfl)
theorem dX1_movers_28 : decode cX1_movers 28 = .ok (.goto 6, 3) := dk_167 0 6 (dk_at dksX1_movers_1 4 rfl rfl)
theorem dX1_movers_31 : decode cX1_movers 31 = .ok (.iconst 1, 1) := dk_4 (dk_at dksX1_movers_1 7 rfl rfl)
theorem dX1_movers_32 : decode cX1_movers 32 = .ok (.iload_n 2, 1) := dk_28 (dk_at dksX1_movers_1 8 rfl rfl)
theorem dX1_movers_33 : decode cX1_movers 33 = .ok (.ishl, 1) := dk_120 (dk_at dksX1_movers_1 9 rfl rfl)
theorem dX1_movers_34 : decode cX1_movers 34 = .ok (.ior, 1) := dk_128 (dk_at dksX1_movers_1 10 rfl rfl)
theorem dX1_movers_35 : decode cX1_movers 35 = .ok (.istore_n 1, 1) := dk_60 (dk_at dksX1_movers_1 11 rfl rfl)
theorem dX1_movers_36 : decode cX1_movers 36 = .ok (.iinc 2 1, 3) := dk_132 2 1 (dk_at dksX1_movers_1 12 rfl rfl)
theorem dX1_movers_39 : decode cX1_movers 39 = .ok (.goto (-31), 3) := dk_167 255 225 (dk_at dksX1_movers_1 15 rfl rfl)
theorem dX1_movers_42 : decode cX1_movers 42 = .ok (.aload_n 0, 1) := dk_42 (dk_at dksX1_movers_1 18 rfl rfl)
theorem dX1_movers_43 : decode cX1_movers 43 = .ok (.iconst 0, 1) := dk_3 (dk_at dksX1_movers_1 19 rfl rfl)
theorem dX1_movers_44 : decode cX1_movers 44 = .ok (.putfield 378, 3) := dk_181 1 122 (dk_at dksX1_movers_1 20 rfl rfl)
theorem dX1_movers_47 : decode cX1_movers 47 = .ok (.aload_n 0, 1) := dk_42 (dk_at dksX1_movers_1 23 rfl rfl)
theorem dX1_movers_48 : decode cX1_movers 48 = .ok (.iload_n 1, 1) := dk_27 (dk_at dksX1_movers_2 0 rfl rfl)
theorem dX1_movers_49 : decode cX1_movers 49 = .ok (.i2l, 1) := dk_133 (dk_at dksX1_movers_2 1 rfl rfl)
theorem dX1_movers_50 : decode cX1_movers 50 = .ok (.invokevirtual 381, 3) := dk_182 1 125 (dk_at dksX1_movers_2 2 rfl rfl)
theorem dX1_movers_53 : decode cX1_movers 53 = .ok (.iload_n 1, 1) := dk_27 (dk_at dksX1_movers_2 5 rfl rfl)
theorem dX1_movers_54 : decode cX1_movers 54 = .ok (.invokestatic 312, 3) := dk_184 1 56 (dk_at dksX1_movers_2 6 rfl rfl)
theorem dX1_movers_57 : decode cX1_movers 57 = .ok (.ireturn, 1) := dk_172 (dk_at dksX1_movers_2 9 rfl rfl)
abbrev cX1_leavers : ByteArray := prog_1_method_89_code
def yX1_leavers : MethodName := ⟨RX1, "leavers", "()I"⟩
def dkwX1_leavers_10 : List UInt8 := [28, 184, 1, 56, 133, 182, 1, 125, 28, 172]
abbrev dktX1_leavers_10 : List UInt8 := dkwX1_leavers_10 ++ []
def dkwX1_leavers_9 : List UInt8 := [167, 0, 4, 3, 128, 61, 132, 4, 1, 167, 255, 199, 132, 3, 1, 167, 255, 161, 42, 3, 181, 1, 122, 42]
abbrev dktX1_leavers_9 : List UInt8 := dkwX1_leavers_9 ++ dktX1_leavers_10
def dkwX1_leavers_8 : List UInt8 := [21, 4, 42, 180, 0, 71, 29, 46, 182, 1, 202, 153, 0, 14, 4, 29, 120, 4, 21, 4, 120, 128]
abbrev dktX1_leavers_8 : List UInt8 := dkwX1_leavers_8 ++ dktX1_leavers_9
def dkwX1_leavers_7 : List UInt8 := [42, 180, 0, 94, 162, 0, 54, 28, 42, 29, 42, 180, 0, 71, 21, 4, 46, 182, 1, 202, 153, 0, 29, 42]
abbrev dktX1_leavers_7 : List UInt8 := dkwX1_leavers_7 ++ dktX1_leavers_8
def dkwX1_leavers_6 : List UInt8 := [29, 29, 182, 1, 202, 153, 0, 9, 4, 29, 120, 167, 0, 4, 3, 128, 61, 29, 4, 96, 54, 4, 21, 4]
abbrev dktX1_leavers_6 : List UInt8 := dkwX1_leavers_6 ++ dktX1_leavers_7
def dkwX1_leavers_5 : List UInt8 := [162, 0, 10, 2, 42, 180, 0, 123, 100, 172, 3, 61, 3, 62, 29, 42, 180, 0, 94, 162, 0, 93, 28, 42]
abbrev dktX1_leavers_5 : List UInt8 := dkwX1_leavers_5 ++ dktX1_leavers_6
def dkwX1_leavers_4 : List UInt8 := [180, 0, 71, 28, 46, 120, 128, 60, 132, 2, 1, 167, 255, 161, 42, 180, 0, 123, 42, 180, 0, 135]
abbrev dktX1_leavers_4 : List UInt8 := dkwX1_leavers_4 ++ dktX1_leavers_5
def dkwX1_leavers_3 : List UInt8 := [154, 0, 10, 2, 42, 180, 0, 123, 100, 172, 42, 180, 0, 71, 28, 42, 4, 182, 0, 170, 79, 27, 4, 42]
abbrev dktX1_leavers_3 : List UInt8 := dkwX1_leavers_3 ++ dktX1_leavers_4
def dkwX1_leavers_2 : List UInt8 := [180, 0, 23, 42, 180, 0, 123, 46, 16, 48, 100, 184, 1, 85, 154, 0, 7, 4, 167, 0, 4, 3, 62, 29]
abbrev dktX1_leavers_2 : List UInt8 := dkwX1_leavers_2 ++ dktX1_leavers_3
def dkwX1_leavers_1 : List UInt8 := [153, 0, 45, 42, 42, 180, 0, 23, 42, 180, 0, 123, 46, 16, 48, 100, 182, 0, 101, 153, 0, 26, 27, 42]
abbrev dktX1_leavers_1 : List UInt8 := dkwX1_leavers_1 ++ dktX1_leavers_2
def dkwX1_leavers_0 : List UInt8 := [42, 16, 80, 182, 0, 175, 87, 3, 60, 3, 61, 28, 42, 180, 0, 94, 162, 0, 93, 42, 182, 0, 156]
abbrev dktX1_leavers_0 : List UInt8 := dkwX1_leavers_0 ++ dktX1_leavers_1
theorem dksX1_leavers_0 : cX1_leavers.data.toList.drop 0 = dktX1_leavers_0 := by decide +kernel
theorem dksX1_leavers_1 : cX1_leavers.data.toList.drop 23 = dktX1_leavers_1 := dk_seg dksX1_leavers_0 23 rfl rfl
theorem dksX1_leavers_2 : cX1_leavers.data.toList.drop 47 = dktX1_leavers_2 := dk_seg dksX1_leavers_1 24 rfl rfl
theorem dksX1_leavers_3 : cX1_leavers.data.toList.drop 71 = dktX1_leavers_3 := dk_seg dksX1_leavers_2 24 rfl rfl
theorem dksX1_leavers_4 : cX1_leavers.data.toList.drop 95 = dktX1_leavers_4 := dk_seg dksX1_leavers_3 24 rfl rfl
theorem dksX1_leavers_5 : cX1_leavers.data.toList.drop 117 = dktX1_leavers_5 := dk_seg dksX1_leavers_4 22 rfl rfl
theorem dksX1_leavers_6 : cX1_leavers.data.toList.drop 141 = dktX1_leavers_6 := dk_seg dksX1_leavers_5 24 rfl rfl
theorem dksX1_leavers_7 : cX1_leavers.data.toList.drop 165 = dktX1_leavers_7 := dk_seg dksX1_leavers_6 24 rfl rfl
theorem dksX1_leavers_8 : cX1_leavers.data.toList.drop 189 = dktX1_leavers_8 := dk_seg dksX1_leavers_7 24 rfl rfl
theorem dksX1_leavers_9 : cX1_leavers.data.toList.drop 211 = dktX1_leavers_9 := dk_seg dksX1_leavers_8 22 rfl rfl
theorem dksX1_leavers_10 : cX1_leavers.data.toList.drop 235 = dktX1_leavers_10 := dk_seg dksX1_leavers_9 24 rfl rfl
theorem dX1_leavers_0 : decode cX1_leavers 0 = .ok (.aload_n 0, 1) := dk_42 (dk_at dksX1_leavers_0 0 rfl rfl)
theorem dX1_leavers_1 : decode cX1_leavers 1 = .ok (.bipush 80, 2) := dk_16 80 (dk_at dksX1_leavers_0 1 rfl rfl)
theorem dX1_leavers_3 : decode cX1_leavers 3 = .ok (.invokevirtual 175, 3) := dk_182 0 175 (dk_at dksX1_leavers_0 3 rfl rfl)
theorem dX1_leavers_6 : decode cX1_leavers 6 = .ok (.pop, 1) := dk_87 (dk_at dksX1_leavers_0 6 rfl rfl)
theorem dX1_leavers_7 : decode cX1_leavers 7 = .ok (.iconst 0, 1) := dk_3 (dk_at dksX1_leavers_0 7 rfl rfl)
theorem dX1_leavers_8 : decode cX1_leavers 8 = .ok (.istore_n 1, 1) := dk_60 (dk_at dksX1_leavers_0 8 rfl rfl)
theorem dX1_leavers_9 : decode cX1_leavers 9 = .ok (.iconst 0, 1) := dk_3 (dk_at dksX1_leavers_0 9 rfl rfl)
theorem dX1_leavers_10 : decode cX1_leavers 10 = .ok (.istore_n 2, 1) := dk_61 (dk_at dksX1_leavers_0 10 rfl rfl)
theorem dX1_leavers_11 : decode cX1_leavers 11 = .ok (.iload_n 2, 1) := dk_28 (dk_at dksX1_leavers_0 11 rfl rfl)
theorem dX1_leavers_12 : decode cX1_leavers 12 = .ok (.aload_n 0, 1) := dk_42 (dk_at dksX1_leavers_0 12 rfl rfl)
theorem dX1_leavers_13 : decode cX1_leavers 13 = .ok (.getfield 94, 3) := dk_180 0 94 (dk_at dksX1_leavers_0 13 rfl rfl)
theorem dX1_leavers_16 : decode cX1_leavers 16 = .ok (.if_icmp .ge 93, 3) := dk_162 0 93 (dk_at dksX1_leavers_0 16 rfl rfl)
theorem dX1_leavers_19 : decode cX1_leavers 19 = .ok (.aload_n 0, 1) := dk_42 (dk_at dksX1_leavers_0 19 rfl rfl)
theorem dX1_leavers_20 : decode cX1_leavers 20 = .ok (.invokevirtual 156, 3) := dk_182 0 156 (dk_at dksX1_leavers_0 20 rfl rfl)
theorem dX1_leavers_23 : decode cX1_leavers 23 = .ok (.ifCond .eq 45, 3) := dk_153 0 45 (dk_at dksX1_leavers_1 0 rfl rfl)
theorem dX1_leavers_26 : decode cX1_leavers 26 = .ok (.aload_n 0, 1) := dk_42 (dk_at dksX1_leavers_1 3 rfl rfl)
theorem dX1_leavers_27 : decode cX1_leavers 27 = .ok (.aload_n 0, 1) := dk_42 (dk_at dksX1_leavers_1 4 rfl rfl)
theorem dX1_leavers_28 : decode cX1_leavers 28 = .ok (.getfield 23, 3) := dk_180 0 23 (dk_at dksX1_leavers_1 5 rfl rfl)
theorem dX1_leavers_31 : decode cX1_leavers 31 = .ok (.aload_n 0, 1) := dk_42 (dk_at dksX1_leavers_1 8 rfl rfl)
theorem dX1_leavers_32 : decode cX1_leavers 32 = .ok (.getfield 123, 3) := dk_180 0 123 (dk_at dksX1_leavers_1 9 rfl rfl)
theorem dX1_leavers_35 : decode cX1_leavers 35 = .ok (.iaload, 1) := dk_46 (dk_at dksX1_leavers_1 12 rfl rfl)
theorem dX1_leavers_36 : decode cX1_leavers 36 = .ok (.bipush 48, 2) := dk_16 48 (dk_at dksX1_leavers_1 13 rfl rfl)
theorem dX1_leavers_38 : decode cX1_leavers 38 = .ok (.isub, 1) := dk_100 (dk_at dksX1_leavers_1 15 rfl rfl)
theorem dX1_leavers_39 : decode cX1_leavers 39 = .ok (.invokevirtual 101, 3) := dk_182 0 101 (dk_at dksX1_leavers_1 16 rfl rfl)
theorem dX1_leavers_42 : decode cX1_leavers 42 = .ok (.ifCond .eq 26, 3) := dk_153 0 26 (dk_at dksX1_leavers_1 19 rfl rfl)
theorem dX1_leavers_45 : decode cX1_leavers 45 = .ok (.iload_n 1, 1) := dk_27 (dk_at dksX1_leavers_1 22 rfl rfl)
theorem dX1_leavers_46 : decode cX1_leavers 46 = .ok (.aload_n 0, 1) := dk_42 (dk_at dksX1_leavers_1 23 rfl rfl)
theorem dX1_leavers_47 : decode cX1_leavers 47 = .ok (.getfield 23, 3) := dk_180 0 23 (dk_at dksX1_leavers_2 0 rfl rfl)
theorem dX1_leavers_50 : decode cX1_leavers 50 = .ok (.aload_n 0, 1) := dk_42 (dk_at dksX1_leavers_2 3 rfl rfl)
theorem dX1_leavers_51 : decode cX1_leavers 51 = .ok (.getfield 123, 3) := dk_180 0 123 (dk_at dksX1_leavers_2 4 rfl rfl)
theorem dX1_leavers_54 : decode cX1_leavers 54 = .ok (.iaload, 1) := dk_46 (dk_at dksX1_leavers_2 7 rfl rfl)
theorem dX1_leavers_55 : decode cX1_leavers 55 = .ok (.bipush 48, 2) := dk_16 48 (dk_at dksX1_leavers_2 8 rfl rfl)
theorem dX1_leavers_57 : decode cX1_leavers 57 = .ok (.isub, 1) := dk_100 (dk_at dksX1_leavers_2 10 rfl rfl)
theorem dX1_leavers_58 : decode cX1_leavers 58 = .ok (.invokestatic 341, 3) := dk_184 1 85 (dk_at dksX1_leavers_2 11 rfl rfl)
theorem dX1_leavers_61 : decode cX1_leavers 61 = .ok (.ifCond .ne 7, 3) := dk_154 0 7 (dk_at dksX1_leavers_2 14 rfl rfl)
theorem dX1_leavers_64 : decode cX1_leavers 64 = .ok (.iconst 1, 1) := dk_4 (dk_at dksX1_leavers_2 17 rfl rfl)
theorem dX1_leavers_65 : decode cX1_leavers 65 = .ok (.goto 4, 3) := dk_167 0 4 (dk_at dksX1_leavers_2 18 rfl rfl)
theorem dX1_leavers_68 : decode cX1_leavers 68 = .ok (.iconst 0, 1) := dk_3 (dk_at dksX1_leavers_2 21 rfl rfl)
theorem dX1_leavers_69 : decode cX1_leavers 69 = .ok (.istore_n 3, 1) := dk_62 (dk_at dksX1_leavers_2 22 rfl rfl)
theorem dX1_leavers_70 : decode cX1_leavers 70 = .ok (.iload_n 3, 1) := dk_29 (dk_at dksX1_leavers_2 23 rfl rfl)
theorem dX1_leavers_71 : decode cX1_leavers 71 = .ok (.ifCond .ne 10, 3) := dk_154 0 10 (dk_at dksX1_leavers_3 0 rfl rfl)
theorem dX1_leavers_74 : decode cX1_leavers 74 = .ok (.iconst (-1), 1) := dk_2 (dk_at dksX1_leavers_3 3 rfl rfl)
theorem dX1_leavers_75 : decode cX1_leavers 75 = .ok (.aload_n 0, 1) := dk_42 (dk_at dksX1_leavers_3 4 rfl rfl)
theorem dX1_leavers_76 : decode cX1_leavers 76 = .ok (.getfield 123, 3) := dk_180 0 123 (dk_at dksX1_leavers_3 5 rfl rfl)
theorem dX1_leavers_79 : decode cX1_leavers 79 = .ok (.isub, 1) := dk_100 (dk_at dksX1_leavers_3 8 rfl rfl)
theorem dX1_leavers_80 : decode cX1_leavers 80 = .ok (.ireturn, 1) := dk_172 (dk_at dksX1_leavers_3 9 rfl rfl)
theorem dX1_leavers_81 : decode cX1_leavers 81 = .ok (.aload_n 0, 1) := dk_42 (dk_at dksX1_leavers_3 10 rfl rfl)
theorem dX1_leavers_82 : decode cX1_leavers 82 = .ok (.getfield 71, 3) := dk_180 0 71 (dk_at dksX1_leavers_3 11 rfl rfl)
theorem dX1_leavers_85 : decode cX1_leavers 85 = .ok (.iload_n 2, 1) := dk_28 (dk_at dksX1_leavers_3 14 rfl rfl)
theorem dX1_leavers_86 : decode cX1_leavers 86 = .ok (.aload_n 0, 1) := dk_42 (dk_at dksX1_leavers_3 15 rfl rfl)
theorem dX1_leavers_87 : decode cX1_leavers 87 = .ok (.iconst 1, 1) := dk_4 (dk_at dksX1_leavers_3 16 rfl rfl)
theorem dX1_leavers_88 : decode cX1_leavers 88 = .ok (.invokevirtual 170, 3) := dk_182 0 170 (dk_at dksX1_leavers_3 17 rfl rfl)
theorem dX1_leavers_91 : decode cX1_leavers 91 = .ok (.iastore, 1) := dk_79 (dk_at dksX1_leavers_3 20 rfl rfl)
theorem dX1_leavers_92 : decode cX1_leavers 92 = .ok (.iload_n 1, 1) := dk_27 (dk_at dksX1_leavers_3 21 rfl rfl)
theorem dX1_leavers_93 : decode cX1_leavers 93 = .ok (.iconst 1, 1) := dk_4 (dk_at dksX1_leavers_3 22 rfl rfl)
theorem dX1_leavers_94 : decode cX1_leavers 94 = .ok (.aload_n 0, 1) := dk_42 (dk_at dksX1_leavers_3 23 rfl rfl)
theorem dX1_leavers_95 : decode cX1_leavers 95 = .ok (.getfield 71, 3) := dk_180 0 71 (dk_at dksX1_leavers_4 0 rfl rfl)
theorem dX1_leavers_98 : decode cX1_leavers 98 = .ok (.iload_n 2, 1) := dk_28 (dk_at dksX1_leavers_4 3 rfl rfl)
theorem dX1_leavers_99 : decode cX1_leavers 99 = .ok (.iaload, 1) := dk_46 (dk_at dksX1_leavers_4 4 rfl rfl)
theorem dX1_leavers_100 : decode cX1_leavers 100 = .ok (.ishl, 1) := dk_120 (dk_at dksX1_leavers_4 5 rfl rfl)
theorem dX1_leavers_101 : decode cX1_leavers 101 = .ok (.ior, 1) := dk_128 (dk_at dksX1_leavers_4 6 rfl rfl)
theorem dX1_leavers_102 : decode cX1_leavers 102 = .ok (.istore_n 1, 1) := dk_60 (dk_at dksX1_leavers_4 7 rfl rfl)
theorem dX1_leavers_103 : decode cX1_leavers 103 = .ok (.iinc 2 1, 3) := dk_132 2 1 (dk_at dksX1_leavers_4 8 rfl rfl)
theorem dX1_leavers_106 : decode cX1_leavers 106 = .ok (.goto (-95), 3) := dk_167 255 161 (dk_at dksX1_leavers_4 11 rfl rfl)
theorem dX1_leavers_109 : decode cX1_leavers 109 = .ok (.aload_n 0, 1) := dk_42 (dk_at dksX1_leavers_4 14 rfl rfl)
theorem dX1_leavers_110 : decode cX1_leavers 110 = .ok (.getfield 123, 3) := dk_180 0 123 (dk_at dksX1_leavers_4 15 rfl rfl)
theorem dX1_leavers_113 : decode cX1_leavers 113 = .ok (.aload_n 0, 1) := dk_42 (dk_at dksX1_leavers_4 18 rfl rfl)
theorem dX1_leavers_114 : decode cX1_leavers 114 = .ok (.getfield 135, 3) := dk_180 0 135 (dk_at dksX1_leavers_4 19 rfl rfl)
theorem dX1_leavers_117 : decode cX1_leavers 117 = .ok (.if_icmp .ge 10, 3) := dk_162 0 10 (dk_at dksX1_leavers_5 0 rfl rfl)
theorem dX1_leavers_120 : decode cX1_leavers 120 = .ok (.iconst (-1), 1) := dk_2 (dk_at dksX1_leavers_5 3 rfl rfl)
theorem dX1_leavers_121 : decode cX1_leavers 121 = .ok (.aload_n 0, 1) := dk_42 (dk_at dksX1_leavers_5 4 rfl rfl)
theorem dX1_leavers_122 : decode cX1_leavers 122 = .ok (.getfield 123, 3) := dk_180 0 123 (dk_at dksX1_leavers_5 5 rfl rfl)
theorem dX1_leavers_125 : decode cX1_leavers 125 = .ok (.isub, 1) := dk_100 (dk_at dksX1_leavers_5 8 rfl rfl)
theorem dX1_leavers_126 : decode cX1_leavers 126 = .ok (.ireturn, 1) := dk_172 (dk_at dksX1_leavers_5 9 rfl rfl)
theorem dX1_leavers_127 : decode cX1_leavers 127 = .ok (.iconst 0, 1) := dk_3 (dk_at dksX1_leavers_5 10 rfl rfl)
theorem dX1_leavers_128 : decode cX1_leavers 128 = .ok (.istore_n 2, 1) := dk_61 (dk_at dksX1_leavers_5 11 rfl rfl)
theorem dX1_leavers_129 : decode cX1_leavers 129 = .ok (.iconst 0, 1) := dk_3 (dk_at dksX1_leavers_5 12 rfl rfl)
theorem dX1_leavers_130 : decode cX1_leavers 130 = .ok (.istore_n 3, 1) := dk_62 (dk_at dksX1_leavers_5 13 rfl rfl)
theorem dX1_leavers_131 : decode cX1_leavers 131 = .ok (.iload_n 3, 1) := dk_29 (dk_at dksX1_leavers_5 14 rfl rfl)
theorem dX1_leavers_132 : decode cX1_leavers 132 = .ok (.aload_n 0, 1) := dk_42 (dk_at dksX1_leavers_5 15 rfl rfl)
theorem dX1_leavers_133 : decode cX1_leavers 133 = .ok (.getfield 94, 3) := dk_180 0 94 (dk_at dksX1_leavers_5 16 rfl rfl)
theorem dX1_leavers_136 : decode cX1_leavers 136 = .ok (.if_icmp .ge 93, 3) := dk_162 0 93 (dk_at dksX1_leavers_5 19 rfl rfl)
theorem dX1_leavers_139 : decode cX1_leavers 139 = .ok (.iload_n 2, 1) := dk_28 (dk_at dksX1_leavers_5 22 rfl rfl)
theorem dX1_leavers_140 : decode cX1_leavers 140 = .ok (.aload_n 0, 1) := dk_42 (dk_at dksX1_leavers_5 23 rfl rfl)
theorem dX1_leavers_141 : decode cX1_leavers 141 = .ok (.iload_n 3, 1) := dk_29 (dk_at dksX1_leavers_6 0 rfl rfl)
theorem dX1_leavers_142 : decode cX1_leavers 142 = .ok (.iload_n 3, 1) := dk_29 (dk_at dksX1_leavers_6 1 rfl rfl)
theorem dX1_leavers_143 : decode cX1_leavers 143 = .ok (.invokevirtual 458, 3) := dk_182 1 202 (dk_at dksX1_leavers_6 2 rfl rfl)
theorem dX1_leavers_146 : decode cX1_leavers 146 = .ok (.ifCond .eq 9, 3) := dk_153 0 9 (dk_at dksX1_leavers_6 5 rfl rfl)
theorem dX1_leavers_149 : decode cX1_leavers 149 = .ok (.iconst 1, 1) := dk_4 (dk_at dksX1_leavers_6 8 rfl rfl)
theorem dX1_leavers_150 : decode cX1_leavers 150 = .ok (.iload_n 3, 1) := dk_29 (dk_at dksX1_leavers_6 9 rfl rfl)
theorem dX1_leavers_151 : decode cX1_leavers 151 = .ok (.ishl, 1) := dk_120 (dk_at dksX1_leavers_6 10 rfl rfl)
theorem dX1_leavers_152 : decode cX1_leavers 152 = .ok (.goto 4, 3) := dk_167 0 4 (dk_at dksX1_leavers_6 11 rfl rfl)
theorem dX1_leavers_155 : decode cX1_leavers 155 = .ok (.iconst 0, 1) := dk_3 (dk_at dksX1_leavers_6 14 rfl rfl)
theorem dX1_leavers_156 : decode cX1_leavers 156 = .ok (.ior, 1) := dk_128 (dk_at dksX1_leavers_6 15 rfl rfl)
theorem dX1_leavers_157 : decode cX1_leavers 157 = .ok (.istore_n 2, 1) := dk_61 (dk_at dksX1_leavers_6 16 rfl rfl)
theorem dX1_leavers_158 : decode cX1_leavers 158 = .ok (.iload_n 3, 1) := dk_29 (dk_at dksX1_leavers_6 17 rfl rfl)
theorem dX1_leavers_159 : decode cX1_leavers 159 = .ok (.iconst 1, 1) := dk_4 (dk_at dksX1_leavers_6 18 rfl rfl)
theorem dX1_leavers_160 : decode cX1_leavers 160 = .ok (.iadd, 1) := dk_96 (dk_at dksX1_leavers_6 19 rfl rfl)
theorem dX1_leavers_161 : decode cX1_leavers 161 = .ok (.istore 4, 2) := dk_54 4 (dk_at dksX1_leavers_6 20 rfl rfl)
theorem dX1_leavers_163 : decode cX1_leavers 163 = .ok (.iload 4, 2) := dk_21 4 (dk_at dksX1_leavers_6 22 rfl rfl)
theorem dX1_leavers_165 : decode cX1_leavers 165 = .ok (.aload_n 0, 1) := dk_42 (dk_at dksX1_leavers_7 0 rfl rfl)
theorem dX1_leavers_166 : decode cX1_leavers 166 = .ok (.getfield 94, 3) := dk_180 0 94 (dk_at dksX1_leavers_7 1 rfl rfl)
theorem dX1_leavers_169 : decode cX1_leavers 169 = .ok (.if_icmp .ge 54, 3) := dk_162 0 54 (dk_at dksX1_leavers_7 4 rfl rfl)
theorem dX1_leavers_172 : decode cX1_leavers 172 = .ok (.iload_n 2, 1) := dk_28 (dk_at dksX1_leavers_7 7 rfl rfl)
theorem dX1_leavers_173 : decode cX1_leavers 173 = .ok (.aload_n 0, 1) := dk_42 (dk_at dksX1_leavers_7 8 rfl rfl)
theorem dX1_leavers_174 : decode cX1_leavers 174 = .ok (.iload_n 3, 1) := dk_29 (dk_at dksX1_leavers_7 9 rfl rfl)
theorem dX1_leavers_175 : decode cX1_leavers 175 = .ok (.aload_n 0, 1) := dk_42 (dk_at dksX1_leavers_7 10 rfl rfl)
theorem dX1_leavers_176 : decode cX1_leavers 176 = .ok (.getfield 71, 3) := dk_180 0 71 (dk_at dksX1_leavers_7 11 rfl rfl)
theorem dX1_leavers_179 : decode cX1_leavers 179 = .ok (.iload 4, 2) := dk_21 4 (dk_at dksX1_leavers_7 14 rfl rfl)
theorem dX1_leavers_181 : decode cX1_leavers 181 = .ok (.iaload, 1) := dk_46 (dk_at dksX1_leavers_7 16 rfl rfl)
theorem dX1_leavers_182 : decode cX1_leavers 182 = .ok (.invokevirtual 458, 3) := dk_182 1 202 (dk_at dksX1_leavers_7 17 rfl rfl)
theorem dX1_leavers_185 : decode cX1_leavers 185 = .ok (.ifCond .eq 29, 3) := dk_153 0 29 (dk_at dksX1_leavers_7 20 rfl rfl)
theorem dX1_leavers_188 : decode cX1_leavers 188 = .ok (.aload_n 0, 1) := dk_42 (dk_at dksX1_leavers_7 23 rfl rfl)
theorem dX1_leavers_189 : decode cX1_leavers 189 = .ok (.iload 4, 2) := dk_21 4 (dk_at dksX1_leavers_8 0 rfl rfl)
theorem dX1_leavers_191 : decode cX1_leavers 191 = .ok (.aload_n 0, 1) := dk_42 (dk_at dksX1_leavers_8 2 rfl rfl)
theorem dX1_leavers_192 : decode cX1_leavers 192 = .ok (.getfield 71, 3) := dk_180 0 71 (dk_at dksX1_leavers_8 3 rfl rfl)
theorem dX1_leavers_195 : decode cX1_leavers 195 = .ok (.iload_n 3, 1) := dk_29 (dk_at dksX1_leavers_8 6 rfl rfl)
theorem dX1_leavers_196 : decode cX1_leavers 196 = .ok (.iaload, 1) := dk_46 (dk_at dksX1_leavers_8 7 rfl rfl)
theorem dX1_leavers_197 : decode cX1_leavers 197 = .ok (.invokevirtual 458, 3) := dk_182 1 202 (dk_at dksX1_leavers_8 8 rfl rfl)
theorem dX1_leavers_200 : decode cX1_leavers 200 = .ok (.ifCond .eq 14, 3) := dk_153 0 14 (dk_at dksX1_leavers_8 11 rfl rfl)
theorem dX1_leavers_203 : decode cX1_leavers 203 = .ok (.iconst 1, 1) := dk_4 (dk_at dksX1_leavers_8 14 rfl rfl)
theorem dX1_leavers_204 : decode cX1_leavers 204 = .ok (.iload_n 3, 1) := dk_29 (dk_at dksX1_leavers_8 15 rfl rfl)
theorem dX1_leavers_205 : decode cX1_leavers 205 = .ok (.ishl, 1) := dk_120 (dk_at dksX1_leavers_8 16 rfl rfl)
theorem dX1_leavers_206 : decode cX1_leavers 206 = .ok (.iconst 1, 1) := dk_4 (dk_at dksX1_leavers_8 17 rfl rfl)
theorem dX1_leavers_207 : decode cX1_leavers 207 = .ok (.iload 4, 2) := dk_21 4 (dk_at dksX1_leavers_8 18 rfl rfl)
theorem dX1_leavers_209 : decode cX1_leavers 209 = .ok (.ishl, 1) := dk_120 (dk_at dksX1_leavers_8 20 rfl rfl)
theorem dX1_leavers_210 : decode cX1_leavers 210 = .ok (.ior, 1) := dk_128 (dk_at dksX1_leavers_8 21 rfl rfl)
theorem dX1_leavers_211 : decode cX1_leavers 211 = .ok (.goto 4, 3) := dk_167 0 4 (dk_at dksX1_leavers_9 0 rfl rfl)
theorem dX1_leavers_214 : decode cX1_leavers 214 = .ok (.iconst 0, 1) := dk_3 (dk_at dksX1_leavers_9 3 rfl rfl)
theorem dX1_leavers_215 : decode cX1_leavers 215 = .ok (.ior, 1) := dk_128 (dk_at dksX1_leavers_9 4 rfl rfl)
theorem dX1_leavers_216 : decode cX1_leavers 216 = .ok (.istore_n 2, 1) := dk_61 (dk_at dksX1_leavers_9 5 rfl rfl)
theorem dX1_leavers_217 : decode cX1_leavers 217 = .ok (.iinc 4 1, 3) := dk_132 4 1 (dk_at dksX1_leavers_9 6 rfl rfl)
theorem dX1_leavers_220 : decode cX1_leavers 220 = .ok (.goto (-57), 3) := dk_167 255 199 (dk_at dksX1_leavers_9 9 rfl rfl)
theorem dX1_leavers_223 : decode cX1_leavers 223 = .ok (.iinc 3 1, 3) := dk_132 3 1 (dk_at dksX1_leavers_9 12 rfl rfl)
theorem dX1_leavers_226 : decode cX1_leavers 226 = .ok (.goto (-95), 3) := dk_167 255 161 (dk_at dksX1_leavers_9 15 rfl rfl)
theorem dX1_leavers_229 : decode cX1_leavers 229 = .ok (.aload_n 0, 1) := dk_42 (dk_at dksX1_leavers_9 18 rfl rfl)
theorem dX1_leavers_230 : decode cX1_leavers 230 = .ok (.iconst 0, 1) := dk_3 (dk_at dksX1_leavers_9 19 rfl rfl)
theorem dX1_leavers_231 : decode cX1_leavers 231 = .ok (.putfield 378, 3) := dk_181 1 122 (dk_at dksX1_leavers_9 20 rfl rfl)
theorem dX1_leavers_234 : decode cX1_leavers 234 = .ok (.aload_n 0, 1) := dk_42 (dk_at dksX1_leavers_9 23 rfl rfl)
theorem dX1_leavers_235 : decode cX1_leavers 235 = .ok (.iload_n 2, 1) := dk_28 (dk_at dksX1_leavers_10 0 rfl rfl)
theorem dX1_leavers_236 : decode cX1_leavers 236 = .ok (.invokestatic 312, 3) := dk_184 1 56 (dk_at dksX1_leavers_10 1 rfl rfl)
theorem dX1_leavers_239 : decode cX1_leavers 239 = .ok (.i2l, 1) := dk_133 (dk_at dksX1_leavers_10 4 rfl rfl)
theorem dX1_leavers_240 : decode cX1_leavers 240 = .ok (.invokevirtual 381, 3) := dk_182 1 125 (dk_at dksX1_leavers_10 5 rfl rfl)
theorem dX1_leavers_243 : decode cX1_leavers 243 = .ok (.iload_n 2, 1) := dk_28 (dk_at dksX1_leavers_10 8 rfl rfl)
theorem dX1_leavers_244 : decode cX1_leavers 244 = .ok (.ireturn, 1) := dk_172 (dk_at dksX1_leavers_10 9 rfl rfl)
abbrev cX1_wouldHave : ByteArray := prog_1_method_88_code
def yX1_wouldHave : MethodName := ⟨RX1, "wouldHave", "(II)Z"⟩
def dkwX1_wouldHave_1 : List UInt8 := [3, 172]
abbrev dktX1_wouldHave_1 : List UInt8 := dkwX1_wouldHave_1 ++ []
def dkwX1_wouldHave_0 : List UInt8 := [42, 27, 28, 182, 1, 190, 42, 27, 42, 180, 0, 71, 27, 46, 182, 1, 190, 162, 0, 7, 4, 167, 0, 4]
abbrev dktX1_wouldHave_0 : List UInt8 := dkwX1_wouldHave_0 ++ dktX1_wouldHave_1
theorem dksX1_wouldHave_0 : cX1_wouldHave.data.toList.drop 0 = dktX1_wouldHave_0 := by decide +kernel
theorem dksX1_wouldHave_1 : cX1_wouldHave.data.toList.drop 24 = dktX1_wouldHave_1 := dk_seg dksX1_wouldHave_0 24 rfl rfl
theorem dX1_wouldHave_0 : decode cX1_wouldHave 0 = .ok (.aload_n 0, 1) := dk_42 (dk_at dksX1_wouldHave_0 0 rfl rfl)
theorem dX1_wouldHave_1 : decode cX1_wouldHave 1 = .ok (.iload_n 1, 1) := dk_27 (dk_at dksX1_wouldHave_0 1 rfl rfl)
theorem dX1_wouldHave_2 : decode cX1_wouldHave 2 = .ok (.iload_n 2, 1) := dk_28 (dk_at dksX1_wouldHave_0 2 rfl rfl)
theorem dX1_wouldHave_3 : decode cX1_wouldHave 3 = .ok (.invokevirtual 446, 3) := dk_182 1 190 (dk_at dksX1_wouldHave_0 3 rfl rfl)
theorem dX1_wouldHave_6 : decode cX1_wouldHave 6 = .ok (.aload_n 0, 1) := dk_42 (dk_at dksX1_wouldHave_0 6 rfl rfl)
theorem dX1_wouldHave_7 : decode cX1_wouldHave 7 = .ok (.iload_n 1, 1) := dk_27 (dk_at dksX1_wouldHave_0 7 rfl rfl)
theorem dX1_wouldHave_8 : decode cX1_wouldHave 8 = .ok (.aload_n 0, 1) := dk_42 (dk_at dksX1_wouldHave_0 8 rfl rfl)
theorem dX1_wouldHave_9 : decode cX1_wouldHave 9 = .ok (.getfield 71, 3) := dk_180 0 71 (dk_at dksX1_wouldHave_0 9 rfl rfl)
theorem dX1_wouldHave_12 : decode cX1_wouldHave 12 = .ok (.iload_n 1, 1) := dk_27 (dk_at dksX1_wouldHave_0 12 rfl rfl)
theorem dX1_wouldHave_13 : decode cX1_wouldHave 13 = .ok (.iaload, 1) := dk_46 (dk_at dksX1_wouldHave_0 13 rfl rfl)
theorem dX1_wouldHave_14 : decode cX1_wouldHave 14 = .ok (.invokevirtual 446, 3) := dk_182 1 190 (dk_at dksX1_wouldHave_0 14 rfl rfl)
theorem dX1_wouldHave_17 : decode cX1_wouldHave 17 = .ok (.if_icmp .ge 7, 3) := dk_162 0 7 (dk_at dksX1_wouldHave_0 17 rfl rfl)
theorem dX1_wouldHave_20 : decode cX1_wouldHave 20 = .ok (.iconst 1, 1) := dk_4 (dk_at dksX1_wouldHave_0 20 rfl rfl)
theorem dX1_wouldHave_21 : decode cX1_wouldHave 21 = .ok (.goto 4, 3) := dk_167 0 4 (dk_at dksX1_wouldHave_0 21 rfl rfl)
theorem dX1_wouldHave_24 : decode cX1_wouldHave 24 = .ok (.iconst 0, 1) := dk_3 (dk_at dksX1_wouldHave_1 0 rfl rfl)
theorem dX1_wouldHave_25 : decode cX1_wouldHave 25 = .ok (.ireturn, 1) := dk_172 (dk_at dksX1_wouldHave_1 1 rfl rfl)
abbrev cX1_whose : ByteArray := prog_1_method_91_code
def yX1_whose : MethodName := ⟨RX1, "whose", "(IIIII)I"⟩
def dkwX1_whose_5 : List UInt8 := [181, 1, 122, 42, 22, 6, 22, 10, 109, 182, 1, 125, 42, 22, 8, 22, 10, 109, 182, 1, 125, 3, 172]
abbrev dktX1_whose_5 : List UInt8 := dkwX1_whose_5 ++ []
def dkwX1_whose_4 : List UInt8 := [97, 55, 8, 22, 8, 9, 148, 154, 0, 6, 16, 254, 172, 22, 6, 22, 8, 184, 0, 90, 55, 10, 42, 3]
abbrev dktX1_whose_4 : List UInt8 := dkwX1_whose_4 ++ dktX1_whose_5
def dkwX1_whose_3 : List UInt8 := [21, 5, 184, 1, 209, 105, 55, 6, 22, 6, 16, 10, 27, 100, 133, 29, 21, 4, 21, 5, 184, 1, 209, 105]
abbrev dktX1_whose_3 : List UInt8 := dkwX1_whose_3 ++ dktX1_whose_4
def dkwX1_whose_2 : List UInt8 := [153, 0, 16, 21, 5, 133, 9, 21, 4, 133, 184, 0, 97, 154, 0, 5, 2, 172, 27, 133, 28, 21, 4]
abbrev dktX1_whose_2 : List UInt8 := dkwX1_whose_2 ++ dktX1_whose_3
def dkwX1_whose_1 : List UInt8 := [29, 133, 9, 20, 1, 205, 184, 0, 97, 153, 0, 29, 21, 4, 133, 9, 20, 1, 207, 184, 0, 97]
abbrev dktX1_whose_1 : List UInt8 := dkwX1_whose_1 ++ dktX1_whose_2
def dkwX1_whose_0 : List UInt8 := [27, 133, 9, 20, 1, 205, 184, 0, 97, 153, 0, 53, 28, 133, 9, 20, 1, 205, 184, 0, 97, 153, 0, 41]
abbrev dktX1_whose_0 : List UInt8 := dkwX1_whose_0 ++ dktX1_whose_1
theorem dksX1_whose_0 : cX1_whose.data.toList.drop 0 = dktX1_whose_0 := by decide +kernel
theorem dksX1_whose_1 : cX1_whose.data.toList.drop 24 = dktX1_whose_1 := dk_seg dksX1_whose_0 24 rfl rfl
theorem dksX1_whose_2 : cX1_whose.data.toList.drop 46 = dktX1_whose_2 := dk_seg dksX1_whose_1 22 rfl rfl
theorem dksX1_whose_3 : cX1_whose.data.toList.drop 69 = dktX1_whose_3 := dk_seg dksX1_whose_2 23 rfl rfl
theorem dksX1_whose_4 : cX1_whose.data.toList.drop 93 = dktX1_whose_4 := dk_seg dksX1_whose_3 24 rfl rfl
theorem dksX1_whose_5 : cX1_whose.data.toList.drop 117 = dktX1_whose_5 := dk_seg dksX1_whose_4 24 rfl rfl
theorem dX1_whose_0 : decode cX1_whose 0 = .ok (.iload_n 1, 1) := dk_27 (dk_at dksX1_whose_0 0 rfl rfl)
theorem dX1_whose_1 : decode cX1_whose 1 = .ok (.i2l, 1) := dk_133 (dk_at dksX1_whose_0 1 rfl rfl)
theorem dX1_whose_2 : decode cX1_whose 2 = .ok (.lconst 0, 1) := dk_9 (dk_at dksX1_whose_0 2 rfl rfl)
theorem dX1_whose_3 : decode cX1_whose 3 = .ok (.ldc2_w 461, 3) := dk_20 1 205 (dk_at dksX1_whose_0 3 rfl rfl)
theorem dX1_whose_6 : decode cX1_whose 6 = .ok (.invokestatic 97, 3) := dk_184 0 97 (dk_at dksX1_whose_0 6 rfl rfl)
theorem dX1_whose_9 : decode cX1_whose 9 = .ok (.ifCond .eq 53, 3) := dk_153 0 53 (dk_at dksX1_whose_0 9 rfl rfl)
theorem dX1_whose_12 : decode cX1_whose 12 = .ok (.iload_n 2, 1) := dk_28 (dk_at dksX1_whose_0 12 rfl rfl)
theorem dX1_whose_13 : decode cX1_whose 13 = .ok (.i2l, 1) := dk_133 (dk_at dksX1_whose_0 13 rfl rfl)
theorem dX1_whose_14 : decode cX1_whose 14 = .ok (.lconst 0, 1) := dk_9 (dk_at dksX1_whose_0 14 rfl rfl)
theorem dX1_whose_15 : decode cX1_whose 15 = .ok (.ldc2_w 461, 3) := dk_20 1 205 (dk_at dksX1_whose_0 15 rfl rfl)
theorem dX1_whose_18 : decode cX1_whose 18 = .ok (.invokestatic 97, 3) := dk_184 0 97 (dk_at dksX1_whose_0 18 rfl rfl)
theorem dX1_whose_21 : decode cX1_whose 21 = .ok (.ifCond .eq 41, 3) := dk_153 0 41 (dk_at dksX1_whose_0 21 rfl rfl)
theorem dX1_whose_24 : decode cX1_whose 24 = .ok (.iload_n 3, 1) := dk_29 (dk_at dksX1_whose_1 0 rfl rfl)
theorem dX1_whose_25 : decode cX1_whose 25 = .ok (.i2l, 1) := dk_133 (dk_at dksX1_whose_1 1 rfl rfl)
theorem dX1_whose_26 : decode cX1_whose 26 = .ok (.lconst 0, 1) := dk_9 (dk_at dksX1_whose_1 2 rfl rfl)
theorem dX1_whose_27 : decode cX1_whose 27 = .ok (.ldc2_w 461, 3) := dk_20 1 205 (dk_at dksX1_whose_1 3 rfl rfl)
theorem dX1_whose_30 : decode cX1_whose 30 = .ok (.invokestatic 97, 3) := dk_184 0 97 (dk_at dksX1_whose_1 6 rfl rfl)
theorem dX1_whose_33 : decode cX1_whose 33 = .ok (.ifCond .eq 29, 3) := dk_153 0 29 (dk_at dksX1_whose_1 9 rfl rfl)
theorem dX1_whose_36 : decode cX1_whose 36 = .ok (.iload 4, 2) := dk_21 4 (dk_at dksX1_whose_1 12 rfl rfl)
theorem dX1_whose_38 : decode cX1_whose 38 = .ok (.i2l, 1) := dk_133 (dk_at dksX1_whose_1 14 rfl rfl)
theorem dX1_whose_39 : decode cX1_whose 39 = .ok (.lconst 0, 1) := dk_9 (dk_at dksX1_whose_1 15 rfl rfl)
theorem dX1_whose_40 : decode cX1_whose 40 = .ok (.ldc2_w 463, 3) := dk_20 1 207 (dk_at dksX1_whose_1 16 rfl rfl)
theorem dX1_whose_43 : decode cX1_whose 43 = .ok (.invokestatic 97, 3) := dk_184 0 97 (dk_at dksX1_whose_1 19 rfl rfl)
theorem dX1_whose_46 : decode cX1_whose 46 = .ok (.ifCond .eq 16, 3) := dk_153 0 16 (dk_at dksX1_whose_2 0 rfl rfl)
theorem dX1_whose_49 : decode cX1_whose 49 = .ok (.iload 5, 2) := dk_21 5 (dk_at dksX1_whose_2 3 rfl rfl)
theorem dX1_whose_51 : decode cX1_whose 51 = .ok (.i2l, 1) := dk_133 (dk_at dksX1_whose_2 5 rfl rfl)
theorem dX1_whose_52 : decode cX1_whose 52 = .ok (.lconst 0, 1) := dk_9 (dk_at dksX1_whose_2 6 rfl rfl)
theorem dX1_whose_53 : decode cX1_whose 53 = .ok (.iload 4, 2) := dk_21 4 (dk_at dksX1_whose_2 7 rfl rfl)
theorem dX1_whose_55 : decode cX1_whose 55 = .ok (.i2l, 1) := dk_133 (dk_at dksX1_whose_2 9 rfl rfl)
theorem dX1_whose_56 : decode cX1_whose 56 = .ok (.invokestatic 97, 3) := dk_184 0 97 (dk_at dksX1_whose_2 10 rfl rfl)
theorem dX1_whose_59 : decode cX1_whose 59 = .ok (.ifCond .ne 5, 3) := dk_154 0 5 (dk_at dksX1_whose_2 13 rfl rfl)
theorem dX1_whose_62 : decode cX1_whose 62 = .ok (.iconst (-1), 1) := dk_2 (dk_at dksX1_whose_2 16 rfl rfl)
theorem dX1_whose_63 : decode cX1_whose 63 = .ok (.ireturn, 1) := dk_172 (dk_at dksX1_whose_2 17 rfl rfl)
theorem dX1_whose_64 : decode cX1_whose 64 = .ok (.iload_n 1, 1) := dk_27 (dk_at dksX1_whose_2 18 rfl rfl)
theorem dX1_whose_65 : decode cX1_whose 65 = .ok (.i2l, 1) := dk_133 (dk_at dksX1_whose_2 19 rfl rfl)
theorem dX1_whose_66 : decode cX1_whose 66 = .ok (.iload_n 2, 1) := dk_28 (dk_at dksX1_whose_2 20 rfl rfl)
theorem dX1_whose_67 : decode cX1_whose 67 = .ok (.iload 4, 2) := dk_21 4 (dk_at dksX1_whose_2 21 rfl rfl)
theorem dX1_whose_69 : decode cX1_whose 69 = .ok (.iload 5, 2) := dk_21 5 (dk_at dksX1_whose_3 0 rfl rfl)
theorem dX1_whose_71 : decode cX1_whose 71 = .ok (.invokestatic 465, 3) := dk_184 1 209 (dk_at dksX1_whose_3 2 rfl rfl)
theorem dX1_whose_74 : decode cX1_whose 74 = .ok (.lmul, 1) := dk_105 (dk_at dksX1_whose_3 5 rfl rfl)
theorem dX1_whose_75 : decode cX1_whose 75 = .ok (.lstore 6, 2) := dk_55 6 (dk_at dksX1_whose_3 6 rfl rfl)
theorem dX1_whose_77 : decode cX1_whose 77 = .ok (.lload 6, 2) := dk_22 6 (dk_at dksX1_whose_3 8 rfl rfl)
theorem dX1_whose_79 : decode cX1_whose 79 = .ok (.bipush 10, 2) := dk_16 10 (dk_at dksX1_whose_3 10 rfl rfl)
theorem dX1_whose_81 : decode cX1_whose 81 = .ok (.iload_n 1, 1) := dk_27 (dk_at dksX1_whose_3 12 rfl rfl)
theorem dX1_whose_82 : decode cX1_whose 82 = .ok (.isub, 1) := dk_100 (dk_at dksX1_whose_3 13 rfl rfl)
theorem dX1_whose_83 : decode cX1_whose 83 = .ok (.i2l, 1) := dk_133 (dk_at dksX1_whose_3 14 rfl rfl)
theorem dX1_whose_84 : decode cX1_whose 84 = .ok (.iload_n 3, 1) := dk_29 (dk_at dksX1_whose_3 15 rfl rfl)
theorem dX1_whose_85 : decode cX1_whose 85 = .ok (.iload 4, 2) := dk_21 4 (dk_at dksX1_whose_3 16 rfl rfl)
theorem dX1_whose_87 : decode cX1_whose 87 = .ok (.iload 5, 2) := dk_21 5 (dk_at dksX1_whose_3 18 rfl rfl)
theorem dX1_whose_89 : decode cX1_whose 89 = .ok (.invokestatic 465, 3) := dk_184 1 209 (dk_at dksX1_whose_3 20 rfl rfl)
theorem dX1_whose_92 : decode cX1_whose 92 = .ok (.lmul, 1) := dk_105 (dk_at dksX1_whose_3 23 rfl rfl)
theorem dX1_whose_93 : decode cX1_whose 93 = .ok (.ladd, 1) := dk_97 (dk_at dksX1_whose_4 0 rfl rfl)
theorem dX1_whose_94 : decode cX1_whose 94 = .ok (.lstore 8, 2) := dk_55 8 (dk_at dksX1_whose_4 1 rfl rfl)
theorem dX1_whose_96 : decode cX1_whose 96 = .ok (.lload 8, 2) := dk_22 8 (dk_at dksX1_whose_4 3 rfl rfl)
theorem dX1_whose_98 : decode cX1_whose 98 = .ok (.lconst 0, 1) := dk_9 (dk_at dksX1_whose_4 5 rfl rfl)
theorem dX1_whose_99 : decode cX1_whose 99 = .ok (.lcmp, 1) := dk_148 (dk_at dksX1_whose_4 6 rfl rfl)
theorem dX1_whose_100 : decode cX1_whose 100 = .ok (.ifCond .ne 6, 3) := dk_154 0 6 (dk_at dksX1_whose_4 7 rfl rfl)
theorem dX1_whose_103 : decode cX1_whose 103 = .ok (.bipush (-2), 2) := dk_16 254 (dk_at dksX1_whose_4 10 rfl rfl)
theorem dX1_whose_105 : decode cX1_whose 105 = .ok (.ireturn, 1) := dk_172 (dk_at dksX1_whose_4 12 rfl rfl)
theorem dX1_whose_106 : decode cX1_whose 106 = .ok (.lload 6, 2) := dk_22 6 (dk_at dksX1_whose_4 13 rfl rfl)
theorem dX1_whose_108 : decode cX1_whose 108 = .ok (.lload 8, 2) := dk_22 8 (dk_at dksX1_whose_4 15 rfl rfl)
theorem dX1_whose_110 : decode cX1_whose 110 = .ok (.invokestatic 90, 3) := dk_184 0 90 (dk_at dksX1_whose_4 17 rfl rfl)
theorem dX1_whose_113 : decode cX1_whose 113 = .ok (.lstore 10, 2) := dk_55 10 (dk_at dksX1_whose_4 20 rfl rfl)
theorem dX1_whose_115 : decode cX1_whose 115 = .ok (.aload_n 0, 1) := dk_42 (dk_at dksX1_whose_4 22 rfl rfl)
theorem dX1_whose_116 : decode cX1_whose 116 = .ok (.iconst 0, 1) := dk_3 (dk_at dksX1_whose_4 23 rfl rfl)
theorem dX1_whose_117 : decode cX1_whose 117 = .ok (.putfield 378, 3) := dk_181 1 122 (dk_at dksX1_whose_5 0 rfl rfl)
theorem dX1_whose_120 : decode cX1_whose 120 = .ok (.aload_n 0, 1) := dk_42 (dk_at dksX1_whose_5 3 rfl rfl)
theorem dX1_whose_121 : decode cX1_whose 121 = .ok (.lload 6, 2) := dk_22 6 (dk_at dksX1_whose_5 4 rfl rfl)
theorem dX1_whose_123 : decode cX1_whose 123 = .ok (.lload 10, 2) := dk_22 10 (dk_at dksX1_whose_5 6 rfl rfl)
theorem dX1_whose_125 : decode cX1_whose 125 = .ok (.ldiv, 1) := dk_109 (dk_at dksX1_whose_5 8 rfl rfl)
theorem dX1_whose_126 : decode cX1_whose 126 = .ok (.invokevirtual 381, 3) := dk_182 1 125 (dk_at dksX1_whose_5 9 rfl rfl)
theorem dX1_whose_129 : decode cX1_whose 129 = .ok (.aload_n 0, 1) := dk_42 (dk_at dksX1_whose_5 12 rfl rfl)
theorem dX1_whose_130 : decode cX1_whose 130 = .ok (.lload 8, 2) := dk_22 8 (dk_at dksX1_whose_5 13 rfl rfl)
theorem dX1_whose_132 : decode cX1_whose 132 = .ok (.lload 10, 2) := dk_22 10 (dk_at dksX1_whose_5 15 rfl rfl)
theorem dX1_whose_134 : decode cX1_whose 134 = .ok (.ldiv, 1) := dk_109 (dk_at dksX1_whose_5 17 rfl rfl)
theorem dX1_whose_135 : decode cX1_whose 135 = .ok (.invokevirtual 381, 3) := dk_182 1 125 (dk_at dksX1_whose_5 18 rfl rfl)
theorem dX1_whose_138 : decode cX1_whose 138 = .ok (.iconst 0, 1) := dk_3 (dk_at dksX1_whose_5 21 rfl rfl)
theorem dX1_whose_139 : decode cX1_whose 139 = .ok (.ireturn, 1) := dk_172 (dk_at dksX1_whose_5 22 rfl rfl)
abbrev cX1_looks : ByteArray := prog_1_method_90_code
def yX1_looks : MethodName := ⟨RX1, "looks", "(III)J"⟩
def dkwX1_looks_1 : List UInt8 := [16, 10, 26, 100, 133, 105, 66, 132, 5, 1, 167, 255, 228, 33, 173]
abbrev dktX1_looks_1 : List UInt8 := dkwX1_looks_1 ++ []
def dkwX1_looks_0 : List UInt8 := [10, 66, 3, 54, 5, 21, 5, 27, 162, 0, 28, 33, 21, 5, 28, 162, 0, 8, 26, 133, 167, 0, 8]
abbrev dktX1_looks_0 : List UInt8 := dkwX1_looks_0 ++ dktX1_looks_1
theorem dksX1_looks_0 : cX1_looks.data.toList.drop 0 = dktX1_looks_0 := by decide +kernel
theorem dksX1_looks_1 : cX1_looks.data.toList.drop 23 = dktX1_looks_1 := dk_seg dksX1_looks_0 23 rfl rfl
theorem dX1_looks_0 : decode cX1_looks 0 = .ok (.lconst 1, 1) := dk_10 (dk_at dksX1_looks_0 0 rfl rfl)
theorem dX1_looks_1 : decode cX1_looks 1 = .ok (.lstore_n 3, 1) := dk_66 (dk_at dksX1_looks_0 1 rfl rfl)
theorem dX1_looks_2 : decode cX1_looks 2 = .ok (.iconst 0, 1) := dk_3 (dk_at dksX1_looks_0 2 rfl rfl)
theorem dX1_looks_3 : decode cX1_looks 3 = .ok (.istore 5, 2) := dk_54 5 (dk_at dksX1_looks_0 3 rfl rfl)
theorem dX1_looks_5 : decode cX1_looks 5 = .ok (.iload 5, 2) := dk_21 5 (dk_at dksX1_looks_0 5 rfl rfl)
theorem dX1_looks_7 : decode cX1_looks 7 = .ok (.iload_n 1, 1) := dk_27 (dk_at dksX1_looks_0 7 rfl rfl)
theorem dX1_looks_8 : decode cX1_looks 8 = .ok (.if_icmp .ge 28, 3) := dk_162 0 28 (dk_at dksX1_looks_0 8 rfl rfl)
theorem dX1_looks_11 : decode cX1_looks 11 = .ok (.lload_n 3, 1) := dk_33 (dk_at dksX1_looks_0 11 rfl rfl)
theorem dX1_looks_12 : decode cX1_looks 12 = .ok (.iload 5, 2) := dk_21 5 (dk_at dksX1_looks_0 12 rfl rfl)
theorem dX1_looks_14 : decode cX1_looks 14 = .ok (.iload_n 2, 1) := dk_28 (dk_at dksX1_looks_0 14 rfl rfl)
theorem dX1_looks_15 : decode cX1_looks 15 = .ok (.if_icmp .ge 8, 3) := dk_162 0 8 (dk_at dksX1_looks_0 15 rfl rfl)
theorem dX1_looks_18 : decode cX1_looks 18 = .ok (.iload_n 0, 1) := dk_26 (dk_at dksX1_looks_0 18 rfl rfl)
theorem dX1_looks_19 : decode cX1_looks 19 = .ok (.i2l, 1) := dk_133 (dk_at dksX1_looks_0 19 rfl rfl)
theorem dX1_looks_20 : decode cX1_looks 20 = .ok (.goto 8, 3) := dk_167 0 8 (dk_at dksX1_looks_0 20 rfl rfl)
theorem dX1_looks_23 : decode cX1_looks 23 = .ok (.bipush 10, 2) := dk_16 10 (dk_at dksX1_looks_1 0 rfl rfl)
theorem dX1_looks_25 : decode cX1_looks 25 = .ok (.iload_n 0, 1) := dk_26 (dk_at dksX1_looks_1 2 rfl rfl)
theorem dX1_looks_26 : decode cX1_looks 26 = .ok (.isub, 1) := dk_100 (dk_at dksX1_looks_1 3 rfl rfl)
theorem dX1_looks_27 : decode cX1_looks 27 = .ok (.i2l, 1) := dk_133 (dk_at dksX1_looks_1 4 rfl rfl)
theorem dX1_looks_28 : decode cX1_looks 28 = .ok (.lmul, 1) := dk_105 (dk_at dksX1_looks_1 5 rfl rfl)
theorem dX1_looks_29 : decode cX1_looks 29 = .ok (.lstore_n 3, 1) := dk_66 (dk_at dksX1_looks_1 6 rfl rfl)
theorem dX1_looks_30 : decode cX1_looks 30 = .ok (.iinc 5 1, 3) := dk_132 5 1 (dk_at dksX1_looks_1 7 rfl rfl)
theorem dX1_looks_33 : decode cX1_looks 33 = .ok (.goto (-28), 3) := dk_167 255 228 (dk_at dksX1_looks_1 10 rfl rfl)
theorem dX1_looks_36 : decode cX1_looks 36 = .ok (.lload_n 3, 1) := dk_33 (dk_at dksX1_looks_1 13 rfl rfl)
theorem dX1_looks_37 : decode cX1_looks 37 = .ok (.lreturn, 1) := dk_173 (dk_at dksX1_looks_1 14 rfl rfl)
abbrev cX1_common : ByteArray := prog_1_method_4_code
def yX1_common : MethodName := ⟨RX1, "common", "(JJ)J"⟩
def dkwX1_common_0 : List UInt8 := [32, 9, 148, 154, 0, 7, 30, 167, 0, 10, 32, 30, 32, 113, 184, 0, 90, 173]
abbrev dktX1_common_0 : List UInt8 := dkwX1_common_0 ++ []
theorem dksX1_common_0 : cX1_common.data.toList.drop 0 = dktX1_common_0 := by decide +kernel
theorem dX1_common_0 : decode cX1_common 0 = .ok (.lload_n 2, 1) := dk_32 (dk_at dksX1_common_0 0 rfl rfl)
theorem dX1_common_1 : decode cX1_common 1 = .ok (.lconst 0, 1) := dk_9 (dk_at dksX1_common_0 1 rfl rfl)
theorem dX1_common_2 : decode cX1_common 2 = .ok (.lcmp, 1) := dk_148 (dk_at dksX1_common_0 2 rfl rfl)
theorem dX1_common_3 : decode cX1_common 3 = .ok (.ifCond .ne 7, 3) := dk_154 0 7 (dk_at dksX1_common_0 3 rfl rfl)
theorem dX1_common_6 : decode cX1_common 6 = .ok (.lload_n 0, 1) := dk_30 (dk_at dksX1_common_0 6 rfl rfl)
theorem dX1_common_7 : decode cX1_common 7 = .ok (.goto 10, 3) := dk_167 0 10 (dk_at dksX1_common_0 7 rfl rfl)
theorem dX1_common_10 : decode cX1_common 10 = .ok (.lload_n 2, 1) := dk_32 (dk_at dksX1_common_0 10 rfl rfl)
theorem dX1_common_11 : decode cX1_common 11 = .ok (.lload_n 0, 1) := dk_30 (dk_at dksX1_common_0 11 rfl rfl)
theorem dX1_common_12 : decode cX1_common 12 = .ok (.lload_n 2, 1) := dk_32 (dk_at dksX1_common_0 12 rfl rfl)
theorem dX1_common_13 : decode cX1_common 13 = .ok (.lrem, 1) := dk_113 (dk_at dksX1_common_0 13 rfl rfl)
theorem dX1_common_14 : decode cX1_common 14 = .ok (.invokestatic 90, 3) := dk_184 0 90 (dk_at dksX1_common_0 14 rfl rfl)
theorem dX1_common_17 : decode cX1_common 17 = .ok (.lreturn, 1) := dk_173 (dk_at dksX1_common_0 17 rfl rfl)
abbrev cX1_wrote : ByteArray := prog_1_method_92_code
def yX1_wrote : MethodName := ⟨RX1, "wrote", "(II)I"⟩
def dkwX1_wrote_4 : List UInt8 := [181, 1, 215, 42, 180, 1, 215, 172]
abbrev dktX1_wrote_4 : List UInt8 := dkwX1_wrote_4 ++ []
def dkwX1_wrote_3 : List UInt8 := [42, 180, 1, 215, 27, 79, 42, 180, 0, 77, 42, 180, 1, 215, 28, 79, 42, 89, 180, 1, 215, 4, 96]
abbrev dktX1_wrote_3 : List UInt8 := dkwX1_wrote_3 ++ dktX1_wrote_4
def dkwX1_wrote_2 : List UInt8 := [21, 4, 133, 184, 0, 97, 153, 0, 12, 42, 180, 1, 215, 16, 12, 160, 0, 5, 2, 172, 42, 180, 0, 74]
abbrev dktX1_wrote_2 : List UInt8 := dkwX1_wrote_2 ++ dktX1_wrote_3
def dkwX1_wrote_1 : List UInt8 := [4, 167, 0, 5, 16, 9, 54, 4, 27, 133, 9, 20, 1, 213, 184, 0, 97, 153, 0, 25, 28, 133, 29, 133]
abbrev dktX1_wrote_1 : List UInt8 := dkwX1_wrote_1 ++ dktX1_wrote_2
def dkwX1_wrote_0 : List UInt8 := [27, 4, 160, 0, 7, 4, 167, 0, 4, 3, 62, 27, 154, 0, 7, 6, 167, 0, 14, 27, 5, 164, 0, 7]
abbrev dktX1_wrote_0 : List UInt8 := dkwX1_wrote_0 ++ dktX1_wrote_1
theorem dksX1_wrote_0 : cX1_wrote.data.toList.drop 0 = dktX1_wrote_0 := by decide +kernel
theorem dksX1_wrote_1 : cX1_wrote.data.toList.drop 24 = dktX1_wrote_1 := dk_seg dksX1_wrote_0 24 rfl rfl
theorem dksX1_wrote_2 : cX1_wrote.data.toList.drop 48 = dktX1_wrote_2 := dk_seg dksX1_wrote_1 24 rfl rfl
theorem dksX1_wrote_3 : cX1_wrote.data.toList.drop 72 = dktX1_wrote_3 := dk_seg dksX1_wrote_2 24 rfl rfl
theorem dksX1_wrote_4 : cX1_wrote.data.toList.drop 95 = dktX1_wrote_4 := dk_seg dksX1_wrote_3 23 rfl rfl
theorem dX1_wrote_0 : decode cX1_wrote 0 = .ok (.iload_n 1, 1) := dk_27 (dk_at dksX1_wrote_0 0 rfl rfl)
theorem dX1_wrote_1 : decode cX1_wrote 1 = .ok (.iconst 1, 1) := dk_4 (dk_at dksX1_wrote_0 1 rfl rfl)
theorem dX1_wrote_2 : decode cX1_wrote 2 = .ok (.if_icmp .ne 7, 3) := dk_160 0 7 (dk_at dksX1_wrote_0 2 rfl rfl)
theorem dX1_wrote_5 : decode cX1_wrote 5 = .ok (.iconst 1, 1) := dk_4 (dk_at dksX1_wrote_0 5 rfl rfl)
theorem dX1_wrote_6 : decode cX1_wrote 6 = .ok (.goto 4, 3) := dk_167 0 4 (dk_at dksX1_wrote_0 6 rfl rfl)
theorem dX1_wrote_9 : decode cX1_wrote 9 = .ok (.iconst 0, 1) := dk_3 (dk_at dksX1_wrote_0 9 rfl rfl)
theorem dX1_wrote_10 : decode cX1_wrote 10 = .ok (.istore_n 3, 1) := dk_62 (dk_at dksX1_wrote_0 10 rfl rfl)
theorem dX1_wrote_11 : decode cX1_wrote 11 = .ok (.iload_n 1, 1) := dk_27 (dk_at dksX1_wrote_0 11 rfl rfl)
theorem dX1_wrote_12 : decode cX1_wrote 12 = .ok (.ifCond .ne 7, 3) := dk_154 0 7 (dk_at dksX1_wrote_0 12 rfl rfl)
theorem dX1_wrote_15 : decode cX1_wrote 15 = .ok (.iconst 3, 1) := dk_6 (dk_at dksX1_wrote_0 15 rfl rfl)
theorem dX1_wrote_16 : decode cX1_wrote 16 = .ok (.goto 14, 3) := dk_167 0 14 (dk_at dksX1_wrote_0 16 rfl rfl)
theorem dX1_wrote_19 : decode cX1_wrote 19 = .ok (.iload_n 1, 1) := dk_27 (dk_at dksX1_wrote_0 19 rfl rfl)
theorem dX1_wrote_20 : decode cX1_wrote 20 = .ok (.iconst 2, 1) := dk_5 (dk_at dksX1_wrote_0 20 rfl rfl)
theorem dX1_wrote_21 : decode cX1_wrote 21 = .ok (.if_icmp .le 7, 3) := dk_164 0 7 (dk_at dksX1_wrote_0 21 rfl rfl)
theorem dX1_wrote_24 : decode cX1_wrote 24 = .ok (.iconst 1, 1) := dk_4 (dk_at dksX1_wrote_1 0 rfl rfl)
theorem dX1_wrote_25 : decode cX1_wrote 25 = .ok (.goto 5, 3) := dk_167 0 5 (dk_at dksX1_wrote_1 1 rfl rfl)
theorem dX1_wrote_28 : decode cX1_wrote 28 = .ok (.bipush 9, 2) := dk_16 9 (dk_at dksX1_wrote_1 4 rfl rfl)
theorem dX1_wrote_30 : decode cX1_wrote 30 = .ok (.istore 4, 2) := dk_54 4 (dk_at dksX1_wrote_1 6 rfl rfl)
theorem dX1_wrote_32 : decode cX1_wrote 32 = .ok (.iload_n 1, 1) := dk_27 (dk_at dksX1_wrote_1 8 rfl rfl)
theorem dX1_wrote_33 : decode cX1_wrote 33 = .ok (.i2l, 1) := dk_133 (dk_at dksX1_wrote_1 9 rfl rfl)
theorem dX1_wrote_34 : decode cX1_wrote 34 = .ok (.lconst 0, 1) := dk_9 (dk_at dksX1_wrote_1 10 rfl rfl)
theorem dX1_wrote_35 : decode cX1_wrote 35 = .ok (.ldc2_w 469, 3) := dk_20 1 213 (dk_at dksX1_wrote_1 11 rfl rfl)
theorem dX1_wrote_38 : decode cX1_wrote 38 = .ok (.invokestatic 97, 3) := dk_184 0 97 (dk_at dksX1_wrote_1 14 rfl rfl)
theorem dX1_wrote_41 : decode cX1_wrote 41 = .ok (.ifCond .eq 25, 3) := dk_153 0 25 (dk_at dksX1_wrote_1 17 rfl rfl)
theorem dX1_wrote_44 : decode cX1_wrote 44 = .ok (.iload_n 2, 1) := dk_28 (dk_at dksX1_wrote_1 20 rfl rfl)
theorem dX1_wrote_45 : decode cX1_wrote 45 = .ok (.i2l, 1) := dk_133 (dk_at dksX1_wrote_1 21 rfl rfl)
theorem dX1_wrote_46 : decode cX1_wrote 46 = .ok (.iload_n 3, 1) := dk_29 (dk_at dksX1_wrote_1 22 rfl rfl)
theorem dX1_wrote_47 : decode cX1_wrote 47 = .ok (.i2l, 1) := dk_133 (dk_at dksX1_wrote_1 23 rfl rfl)
theorem dX1_wrote_48 : decode cX1_wrote 48 = .ok (.iload 4, 2) := dk_21 4 (dk_at dksX1_wrote_2 0 rfl rfl)
theorem dX1_wrote_50 : decode cX1_wrote 50 = .ok (.i2l, 1) := dk_133 (dk_at dksX1_wrote_2 2 rfl rfl)
theorem dX1_wrote_51 : decode cX1_wrote 51 = .ok (.invokestatic 97, 3) := dk_184 0 97 (dk_at dksX1_wrote_2 3 rfl rfl)
theorem dX1_wrote_54 : decode cX1_wrote 54 = .ok (.ifCond .eq 12, 3) := dk_153 0 12 (dk_at dksX1_wrote_2 6 rfl rfl)
theorem dX1_wrote_57 : decode cX1_wrote 57 = .ok (.aload_n 0, 1) := dk_42 (dk_at dksX1_wrote_2 9 rfl rfl)
theorem dX1_wrote_58 : decode cX1_wrote 58 = .ok (.getfield 471, 3) := dk_180 1 215 (dk_at dksX1_wrote_2 10 rfl rfl)
theorem dX1_wrote_61 : decode cX1_wrote 61 = .ok (.bipush 12, 2) := dk_16 12 (dk_at dksX1_wrote_2 13 rfl rfl)
theorem dX1_wrote_63 : decode cX1_wrote 63 = .ok (.if_icmp .ne 5, 3) := dk_160 0 5 (dk_at dksX1_wrote_2 15 rfl rfl)
theorem dX1_wrote_66 : decode cX1_wrote 66 = .ok (.iconst (-1), 1) := dk_2 (dk_at dksX1_wrote_2 18 rfl rfl)
theorem dX1_wrote_67 : decode cX1_wrote 67 = .ok (.ireturn, 1) := dk_172 (dk_at dksX1_wrote_2 19 rfl rfl)
theorem dX1_wrote_68 : decode cX1_wrote 68 = .ok (.aload_n 0, 1) := dk_42 (dk_at dksX1_wrote_2 20 rfl rfl)
theorem dX1_wrote_69 : decode cX1_wrote 69 = .ok (.getfield 74, 3) := dk_180 0 74 (dk_at dksX1_wrote_2 21 rfl rfl)
theorem dX1_wrote_72 : decode cX1_wrote 72 = .ok (.aload_n 0, 1) := dk_42 (dk_at dksX1_wrote_3 0 rfl rfl)
theorem dX1_wrote_73 : decode cX1_wrote 73 = .ok (.getfield 471, 3) := dk_180 1 215 (dk_at dksX1_wrote_3 1 rfl rfl)
theorem dX1_wrote_76 : decode cX1_wrote 76 = .ok (.iload_n 1, 1) := dk_27 (dk_at dksX1_wrote_3 4 rfl rfl)
theorem dX1_wrote_77 : decode cX1_wrote 77 = .ok (.iastore, 1) := dk_79 (dk_at dksX1_wrote_3 5 rfl rfl)
theorem dX1_wrote_78 : decode cX1_wrote 78 = .ok (.aload_n 0, 1) := dk_42 (dk_at dksX1_wrote_3 6 rfl rfl)
theorem dX1_wrote_79 : decode cX1_wrote 79 = .ok (.getfield 77, 3) := dk_180 0 77 (dk_at dksX1_wrote_3 7 rfl rfl)
theorem dX1_wrote_82 : decode cX1_wrote 82 = .ok (.aload_n 0, 1) := dk_42 (dk_at dksX1_wrote_3 10 rfl rfl)
theorem dX1_wrote_83 : decode cX1_wrote 83 = .ok (.getfield 471, 3) := dk_180 1 215 (dk_at dksX1_wrote_3 11 rfl rfl)
theorem dX1_wrote_86 : decode cX1_wrote 86 = .ok (.iload_n 2, 1) := dk_28 (dk_at dksX1_wrote_3 14 rfl rfl)
theorem dX1_wrote_87 : decode cX1_wrote 87 = .ok (.iastore, 1) := dk_79 (dk_at dksX1_wrote_3 15 rfl rfl)
theorem dX1_wrote_88 : decode cX1_wrote 88 = .ok (.aload_n 0, 1) := dk_42 (dk_at dksX1_wrote_3 16 rfl rfl)
theorem dX1_wrote_89 : decode cX1_wrote 89 = .ok (.dup, 1) := dk_89 (dk_at dksX1_wrote_3 17 rfl rfl)
theorem dX1_wrote_90 : decode cX1_wrote 90 = .ok (.getfield 471, 3) := dk_180 1 215 (dk_at dksX1_wrote_3 18 rfl rfl)
theorem dX1_wrote_93 : decode cX1_wrote 93 = .ok (.iconst 1, 1) := dk_4 (dk_at dksX1_wrote_3 21 rfl rfl)
theorem dX1_wrote_94 : decode cX1_wrote 94 = .ok (.iadd, 1) := dk_96 (dk_at dksX1_wrote_3 22 rfl rfl)
theorem dX1_wrote_95 : decode cX1_wrote 95 = .ok (.putfield 471, 3) := dk_181 1 215 (dk_at dksX1_wrote_4 0 rfl rfl)
theorem dX1_wrote_98 : decode cX1_wrote 98 = .ok (.aload_n 0, 1) := dk_42 (dk_at dksX1_wrote_4 3 rfl rfl)
theorem dX1_wrote_99 : decode cX1_wrote 99 = .ok (.getfield 471, 3) := dk_180 1 215 (dk_at dksX1_wrote_4 4 rfl rfl)
theorem dX1_wrote_102 : decode cX1_wrote 102 = .ok (.ireturn, 1) := dk_172 (dk_at dksX1_wrote_4 7 rfl rfl)
abbrev cX1_burn : ByteArray := prog_1_method_93_code
def yX1_burn : MethodName := ⟨RX1, "burn", "()I"⟩
def dkwX1_burn_0 : List UInt8 := [42, 180, 1, 215, 60, 42, 3, 181, 1, 215, 27, 172]
abbrev dktX1_burn_0 : List UInt8 := dkwX1_burn_0 ++ []
theorem dksX1_burn_0 : cX1_burn.data.toList.drop 0 = dktX1_burn_0 := by decide +kernel
theorem dX1_burn_0 : decode cX1_burn 0 = .ok (.aload_n 0, 1) := dk_42 (dk_at dksX1_burn_0 0 rfl rfl)
theorem dX1_burn_1 : decode cX1_burn 1 = .ok (.getfield 471, 3) := dk_180 1 215 (dk_at dksX1_burn_0 1 rfl rfl)
theorem dX1_burn_4 : decode cX1_burn 4 = .ok (.istore_n 1, 1) := dk_60 (dk_at dksX1_burn_0 4 rfl rfl)
theorem dX1_burn_5 : decode cX1_burn 5 = .ok (.aload_n 0, 1) := dk_42 (dk_at dksX1_burn_0 5 rfl rfl)
theorem dX1_burn_6 : decode cX1_burn 6 = .ok (.iconst 0, 1) := dk_3 (dk_at dksX1_burn_0 6 rfl rfl)
theorem dX1_burn_7 : decode cX1_burn 7 = .ok (.putfield 471, 3) := dk_181 1 215 (dk_at dksX1_burn_0 7 rfl rfl)
theorem dX1_burn_10 : decode cX1_burn 10 = .ok (.iload_n 1, 1) := dk_27 (dk_at dksX1_burn_0 10 rfl rfl)
theorem dX1_burn_11 : decode cX1_burn 11 = .ok (.ireturn, 1) := dk_172 (dk_at dksX1_burn_0 11 rfl rfl)
abbrev cX1_fits : ByteArray := prog_1_method_96_code
def yX1_fits : MethodName := ⟨RX1, "fits", "()I"⟩
def dkwX1_fits_0 : List UInt8 := [42, 182, 1, 222, 60, 42, 3, 181, 1, 122, 42, 27, 184, 1, 56, 133, 182, 1, 125, 27, 172]
abbrev dktX1_fits_0 : List UInt8 := dkwX1_fits_0 ++ []
theorem dksX1_fits_0 : cX1_fits.data.toList.drop 0 = dktX1_fits_0 := by decide +kernel
theorem dX1_fits_0 : decode cX1_fits 0 = .ok (.aload_n 0, 1) := dk_42 (dk_at dksX1_fits_0 0 rfl rfl)
theorem dX1_fits_1 : decode cX1_fits 1 = .ok (.invokevirtual 478, 3) := dk_182 1 222 (dk_at dksX1_fits_0 1 rfl rfl)
theorem dX1_fits_4 : decode cX1_fits 4 = .ok (.istore_n 1, 1) := dk_60 (dk_at dksX1_fits_0 4 rfl rfl)
theorem dX1_fits_5 : decode cX1_fits 5 = .ok (.aload_n 0, 1) := dk_42 (dk_at dksX1_fits_0 5 rfl rfl)
theorem dX1_fits_6 : decode cX1_fits 6 = .ok (.iconst 0, 1) := dk_3 (dk_at dksX1_fits_0 6 rfl rfl)
theorem dX1_fits_7 : decode cX1_fits 7 = .ok (.putfield 378, 3) := dk_181 1 122 (dk_at dksX1_fits_0 7 rfl rfl)
theorem dX1_fits_10 : decode cX1_fits 10 = .ok (.aload_n 0, 1) := dk_42 (dk_at dksX1_fits_0 10 rfl rfl)
theorem dX1_fits_11 : decode cX1_fits 11 = .ok (.iload_n 1, 1) := dk_27 (dk_at dksX1_fits_0 11 rfl rfl)
theorem dX1_fits_12 : decode cX1_fits 12 = .ok (.invokestatic 312, 3) := dk_184 1 56 (dk_at dksX1_fits_0 12 rfl rfl)
theorem dX1_fits_15 : decode cX1_fits 15 = .ok (.i2l, 1) := dk_133 (dk_at dksX1_fits_0 15 rfl rfl)
theorem dX1_fits_16 : decode cX1_fits 16 = .ok (.invokevirtual 381, 3) := dk_182 1 125 (dk_at dksX1_fits_0 16 rfl rfl)
theorem dX1_fits_19 : decode cX1_fits 19 = .ok (.iload_n 1, 1) := dk_27 (dk_at dksX1_fits_0 19 rfl rfl)
theorem dX1_fits_20 : decode cX1_fits 20 = .ok (.ireturn, 1) := dk_172 (dk_at dksX1_fits_0 20 rfl rfl)
abbrev cX1_fitting : ByteArray := prog_1_method_95_code
def yX1_fitting : MethodName := ⟨RX1, "fitting", "()I"⟩
def dkwX1_fitting_3 : List UInt8 := [28, 120, 167, 0, 4, 3, 128, 60, 132, 2, 1, 167, 255, 179, 27, 172]
abbrev dktX1_fitting_3 : List UInt8 := dkwX1_fitting_3 ++ []
def dkwX1_fitting_2 : List UInt8 := [182, 1, 218, 153, 0, 7, 4, 167, 0, 4, 3, 62, 132, 4, 1, 167, 255, 212, 27, 29, 153, 0, 9, 4]
abbrev dktX1_fitting_2 : List UInt8 := dkwX1_fitting_2 ++ dktX1_fitting_3
def dkwX1_fitting_1 : List UInt8 := [162, 0, 41, 29, 153, 0, 29, 42, 28, 42, 180, 0, 74, 21, 4, 46, 42, 180, 0, 77, 21, 4, 46]
abbrev dktX1_fitting_1 : List UInt8 := dkwX1_fitting_1 ++ dktX1_fitting_2
def dkwX1_fitting_0 : List UInt8 := [3, 60, 3, 61, 28, 42, 180, 0, 94, 162, 0, 75, 4, 62, 3, 54, 4, 21, 4, 42, 180, 1, 215]
abbrev dktX1_fitting_0 : List UInt8 := dkwX1_fitting_0 ++ dktX1_fitting_1
theorem dksX1_fitting_0 : cX1_fitting.data.toList.drop 0 = dktX1_fitting_0 := by decide +kernel
theorem dksX1_fitting_1 : cX1_fitting.data.toList.drop 23 = dktX1_fitting_1 := dk_seg dksX1_fitting_0 23 rfl rfl
theorem dksX1_fitting_2 : cX1_fitting.data.toList.drop 46 = dktX1_fitting_2 := dk_seg dksX1_fitting_1 23 rfl rfl
theorem dksX1_fitting_3 : cX1_fitting.data.toList.drop 70 = dktX1_fitting_3 := dk_seg dksX1_fitting_2 24 rfl rfl
theorem dX1_fitting_0 : decode cX1_fitting 0 = .ok (.iconst 0, 1) := dk_3 (dk_at dksX1_fitting_0 0 rfl rfl)
theorem dX1_fitting_1 : decode cX1_fitting 1 = .ok (.istore_n 1, 1) := dk_60 (dk_at dksX1_fitting_0 1 rfl rfl)
theorem dX1_fitting_2 : decode cX1_fitting 2 = .ok (.iconst 0, 1) := dk_3 (dk_at dksX1_fitting_0 2 rfl rfl)
theorem dX1_fitting_3 : decode cX1_fitting 3 = .ok (.istore_n 2, 1) := dk_61 (dk_at dksX1_fitting_0 3 rfl rfl)
theorem dX1_fitting_4 : decode cX1_fitting 4 = .ok (.iload_n 2, 1) := dk_28 (dk_at dksX1_fitting_0 4 rfl rfl)
theorem dX1_fitting_5 : decode cX1_fitting 5 = .ok (.aload_n 0, 1) := dk_42 (dk_at dksX1_fitting_0 5 rfl rfl)
theorem dX1_fitting_6 : decode cX1_fitting 6 = .ok (.getfield 94, 3) := dk_180 0 94 (dk_at dksX1_fitting_0 6 rfl rfl)
theorem dX1_fitting_9 : decode cX1_fitting 9 = .ok (.if_icmp .ge 75, 3) := dk_162 0 75 (dk_at dksX1_fitting_0 9 rfl rfl)
theorem dX1_fitting_12 : decode cX1_fitting 12 = .ok (.iconst 1, 1) := dk_4 (dk_at dksX1_fitting_0 12 rfl rfl)
theorem dX1_fitting_13 : decode cX1_fitting 13 = .ok (.istore_n 3, 1) := dk_62 (dk_at dksX1_fitting_0 13 rfl rfl)
theorem dX1_fitting_14 : decode cX1_fitting 14 = .ok (.iconst 0, 1) := dk_3 (dk_at dksX1_fitting_0 14 rfl rfl)
theorem dX1_fitting_15 : decode cX1_fitting 15 = .ok (.istore 4, 2) := dk_54 4 (dk_at dksX1_fitting_0 15 rfl rfl)
theorem dX1_fitting_17 : decode cX1_fitting 17 = .ok (.iload 4, 2) := dk_21 4 (dk_at dksX1_fitting_0 17 rfl rfl)
theorem dX1_fitting_19 : decode cX1_fitting 19 = .ok (.aload_n 0, 1) := dk_42 (dk_at dksX1_fitting_0 19 rfl rfl)
theorem dX1_fitting_20 : decode cX1_fitting 20 = .ok (.getfield 471, 3) := dk_180 1 215 (dk_at dksX1_fitting_0 20 rfl rfl)
theorem dX1_fitting_23 : decode cX1_fitting 23 = .ok (.if_icmp .ge 41, 3) := dk_162 0 41 (dk_at dksX1_fitting_1 0 rfl rfl)
theorem dX1_fitting_26 : decode cX1_fitting 26 = .ok (.iload_n 3, 1) := dk_29 (dk_at dksX1_fitting_1 3 rfl rfl)
theorem dX1_fitting_27 : decode cX1_fitting 27 = .ok (.ifCond .eq 29, 3) := dk_153 0 29 (dk_at dksX1_fitting_1 4 rfl rfl)
theorem dX1_fitting_30 : decode cX1_fitting 30 = .ok (.aload_n 0, 1) := dk_42 (dk_at dksX1_fitting_1 7 rfl rfl)
theorem dX1_fitting_31 : decode cX1_fitting 31 = .ok (.iload_n 2, 1) := dk_28 (dk_at dksX1_fitting_1 8 rfl rfl)
theorem dX1_fitting_32 : decode cX1_fitting 32 = .ok (.aload_n 0, 1) := dk_42 (dk_at dksX1_fitting_1 9 rfl rfl)
theorem dX1_fitting_33 : decode cX1_fitting 33 = .ok (.getfield 74, 3) := dk_180 0 74 (dk_at dksX1_fitting_1 10 rfl rfl)
theorem dX1_fitting_36 : decode cX1_fitting 36 = .ok (.iload 4, 2) := dk_21 4 (dk_at dksX1_fitting_1 13 rfl rfl)
theorem dX1_fitting_38 : decode cX1_fitting 38 = .ok (.iaload, 1) := dk_46 (dk_at dksX1_fitting_1 15 rfl rfl)
theorem dX1_fitting_39 : decode cX1_fitting 39 = .ok (.aload_n 0, 1) := dk_42 (dk_at dksX1_fitting_1 16 rfl rfl)
theorem dX1_fitting_40 : decode cX1_fitting 40 = .ok (.getfield 77, 3) := dk_180 0 77 (dk_at dksX1_fitting_1 17 rfl rfl)
theorem dX1_fitting_43 : decode cX1_fitting 43 = .ok (.iload 4, 2) := dk_21 4 (dk_at dksX1_fitting_1 20 rfl rfl)
theorem dX1_fitting_45 : decode cX1_fitting 45 = .ok (.iaload, 1) := dk_46 (dk_at dksX1_fitting_1 22 rfl rfl)
theorem dX1_fitting_46 : decode cX1_fitting 46 = .ok (.invokevirtual 474, 3) := dk_182 1 218 (dk_at dksX1_fitting_2 0 rfl rfl)
theorem dX1_fitting_49 : decode cX1_fitting 49 = .ok (.ifCond .eq 7, 3) := dk_153 0 7 (dk_at dksX1_fitting_2 3 rfl rfl)
theorem dX1_fitting_52 : decode cX1_fitting 52 = .ok (.iconst 1, 1) := dk_4 (dk_at dksX1_fitting_2 6 rfl rfl)
theorem dX1_fitting_53 : decode cX1_fitting 53 = .ok (.goto 4, 3) := dk_167 0 4 (dk_at dksX1_fitting_2 7 rfl rfl)
theorem dX1_fitting_56 : decode cX1_fitting 56 = .ok (.iconst 0, 1) := dk_3 (dk_at dksX1_fitting_2 10 rfl rfl)
theorem dX1_fitting_57 : decode cX1_fitting 57 = .ok (.istore_n 3, 1) := dk_62 (dk_at dksX1_fitting_2 11 rfl rfl)
theorem dX1_fitting_58 : decode cX1_fitting 58 = .ok (.iinc 4 1, 3) := dk_132 4 1 (dk_at dksX1_fitting_2 12 rfl rfl)
theorem dX1_fitting_61 : decode cX1_fitting 61 = .ok (.goto (-44), 3) := dk_167 255 212 (dk_at dksX1_fitting_2 15 rfl rfl)
theorem dX1_fitting_64 : decode cX1_fitting 64 = .ok (.iload_n 1, 1) := dk_27 (dk_at dksX1_fitting_2 18 rfl rfl)
theorem dX1_fitting_65 : decode cX1_fitting 65 = .ok (.iload_n 3, 1) := dk_29 (dk_at dksX1_fitting_2 19 rfl rfl)
theorem dX1_fitting_66 : decode cX1_fitting 66 = .ok (.ifCond .eq 9, 3) := dk_153 0 9 (dk_at dksX1_fitting_2 20 rfl rfl)
theorem dX1_fitting_69 : decode cX1_fitting 69 = .ok (.iconst 1, 1) := dk_4 (dk_at dksX1_fitting_2 23 rfl rfl)
theorem dX1_fitting_70 : decode cX1_fitting 70 = .ok (.iload_n 2, 1) := dk_28 (dk_at dksX1_fitting_3 0 rfl rfl)
theorem dX1_fitting_71 : decode cX1_fitting 71 = .ok (.ishl, 1) := dk_120 (dk_at dksX1_fitting_3 1 rfl rfl)
theorem dX1_fitting_72 : decode cX1_fitting 72 = .ok (.goto 4, 3) := dk_167 0 4 (dk_at dksX1_fitting_3 2 rfl rfl)
theorem dX1_fitting_75 : decode cX1_fitting 75 = .ok (.iconst 0, 1) := dk_3 (dk_at dksX1_fitting_3 5 rfl rfl)
theorem dX1_fitting_76 : decode cX1_fitting 76 = .ok (.ior, 1) := dk_128 (dk_at dksX1_fitting_3 6 rfl rfl)
theorem dX1_fitting_77 : decode cX1_fitting 77 = .ok (.istore_n 1, 1) := dk_60 (dk_at dksX1_fitting_3 7 rfl rfl)
theorem dX1_fitting_78 : decode cX1_fitting 78 = .ok (.iinc 2 1, 3) := dk_132 2 1 (dk_at dksX1_fitting_3 8 rfl rfl)
theorem dX1_fitting_81 : decode cX1_fitting 81 = .ok (.goto (-77), 3) := dk_167 255 179 (dk_at dksX1_fitting_3 11 rfl rfl)
theorem dX1_fitting_84 : decode cX1_fitting 84 = .ok (.iload_n 1, 1) := dk_27 (dk_at dksX1_fitting_3 14 rfl rfl)
theorem dX1_fitting_85 : decode cX1_fitting 85 = .ok (.ireturn, 1) := dk_172 (dk_at dksX1_fitting_3 15 rfl rfl)
abbrev cX1_isSo : ByteArray := prog_1_method_94_code
def yX1_isSo : MethodName := ⟨RX1, "isSo", "(III)Z"⟩
def dkwX1_isSo_7 : List UInt8 := [3, 172]
abbrev dktX1_isSo_7 : List UInt8 := dkwX1_isSo_7 ++ []
def dkwX1_isSo_6 : List UInt8 := [180, 0, 10, 27, 182, 0, 107, 29, 4, 160, 0, 7, 4, 167, 0, 4, 3, 160, 0, 7, 4, 167, 0, 4]
abbrev dktX1_isSo_6 : List UInt8 := dkwX1_isSo_6 ++ dktX1_isSo_7
def dkwX1_isSo_5 : List UInt8 := [167, 0, 4, 3, 29, 4, 160, 0, 7, 4, 167, 0, 4, 3, 160, 0, 7, 4, 167, 0, 4, 3, 172, 42]
abbrev dktX1_isSo_5 : List UInt8 := dkwX1_isSo_5 ++ dktX1_isSo_6
def dkwX1_isSo_4 : List UInt8 := [29, 160, 0, 7, 4, 167, 0, 4, 3, 172, 42, 180, 0, 10, 180, 0, 113, 27, 46, 153, 0, 7, 4]
abbrev dktX1_isSo_4 : List UInt8 := dkwX1_isSo_4 ++ dktX1_isSo_5
def dkwX1_isSo_3 : List UInt8 := [180, 0, 191, 27, 46, 29, 161, 0, 7, 4, 167, 0, 4, 3, 172, 42, 180, 0, 10, 180, 0, 194, 27, 46]
abbrev dktX1_isSo_3 : List UInt8 := dkwX1_isSo_3 ++ dktX1_isSo_4
def dkwX1_isSo_2 : List UInt8 := [42, 180, 0, 10, 180, 0, 188, 27, 46, 29, 160, 0, 7, 4, 167, 0, 4, 3, 172, 42, 180, 0, 10]
abbrev dktX1_isSo_2 : List UInt8 := dkwX1_isSo_2 ++ dktX1_isSo_3
def dkwX1_isSo_1 : List UInt8 := [170, 0, 0, 0, 0, 0, 124, 0, 0, 0, 0, 0, 0, 0, 3, 0, 0, 0, 31, 0, 0, 0, 50, 0, 0, 0, 69, 0, 0, 0, 88]
abbrev dktX1_isSo_1 : List UInt8 := dkwX1_isSo_1 ++ dktX1_isSo_2
def dkwX1_isSo_0 : List UInt8 := [28]
abbrev dktX1_isSo_0 : List UInt8 := dkwX1_isSo_0 ++ dktX1_isSo_1
theorem dksX1_isSo_0 : cX1_isSo.data.toList.drop 0 = dktX1_isSo_0 := by decide +kernel
theorem dksX1_isSo_1 : cX1_isSo.data.toList.drop 1 = dktX1_isSo_1 := dk_seg dksX1_isSo_0 1 rfl rfl
theorem dksX1_isSo_2 : cX1_isSo.data.toList.drop 32 = dktX1_isSo_2 := dk_seg dksX1_isSo_1 31 rfl rfl
theorem dksX1_isSo_3 : cX1_isSo.data.toList.drop 55 = dktX1_isSo_3 := dk_seg dksX1_isSo_2 23 rfl rfl
theorem dksX1_isSo_4 : cX1_isSo.data.toList.drop 79 = dktX1_isSo_4 := dk_seg dksX1_isSo_3 24 rfl rfl
theorem dksX1_isSo_5 : cX1_isSo.data.toList.drop 102 = dktX1_isSo_5 := dk_seg dksX1_isSo_4 23 rfl rfl
theorem dksX1_isSo_6 : cX1_isSo.data.toList.drop 126 = dktX1_isSo_6 := dk_seg dksX1_isSo_5 24 rfl rfl
theorem dksX1_isSo_7 : cX1_isSo.data.toList.drop 150 = dktX1_isSo_7 := dk_seg dksX1_isSo_6 24 rfl rfl
theorem dX1_isSo_0 : decode cX1_isSo 0 = .ok (.iload_n 2, 1) := dk_28 (dk_at dksX1_isSo_0 0 rfl rfl)
theorem dX1_isSo_1 : decode cX1_isSo 1 = .ok (.tableswitch 124 0 3 #[31, 50, 69, 88], 31) := by decide +kernel
theorem dX1_isSo_32 : decode cX1_isSo 32 = .ok (.aload_n 0, 1) := dk_42 (dk_at dksX1_isSo_2 0 rfl rfl)
theorem dX1_isSo_33 : decode cX1_isSo 33 = .ok (.getfield 10, 3) := dk_180 0 10 (dk_at dksX1_isSo_2 1 rfl rfl)
theorem dX1_isSo_36 : decode cX1_isSo 36 = .ok (.getfield 188, 3) := dk_180 0 188 (dk_at dksX1_isSo_2 4 rfl rfl)
theorem dX1_isSo_39 : decode cX1_isSo 39 = .ok (.iload_n 1, 1) := dk_27 (dk_at dksX1_isSo_2 7 rfl rfl)
theorem dX1_isSo_40 : decode cX1_isSo 40 = .ok (.iaload, 1) := dk_46 (dk_at dksX1_isSo_2 8 rfl rfl)
theorem dX1_isSo_41 : decode cX1_isSo 41 = .ok (.iload_n 3, 1) := dk_29 (dk_at dksX1_isSo_2 9 rfl rfl)
theorem dX1_isSo_42 : decode cX1_isSo 42 = .ok (.if_icmp .ne 7, 3) := dk_160 0 7 (dk_at dksX1_isSo_2 10 rfl rfl)
theorem dX1_isSo_45 : decode cX1_isSo 45 = .ok (.iconst 1, 1) := dk_4 (dk_at dksX1_isSo_2 13 rfl rfl)
theorem dX1_isSo_46 : decode cX1_isSo 46 = .ok (.goto 4, 3) := dk_167 0 4 (dk_at dksX1_isSo_2 14 rfl rfl)
theorem dX1_isSo_49 : decode cX1_isSo 49 = .ok (.iconst 0, 1) := dk_3 (dk_at dksX1_isSo_2 17 rfl rfl)
theorem dX1_isSo_50 : decode cX1_isSo 50 = .ok (.ireturn, 1) := dk_172 (dk_at dksX1_isSo_2 18 rfl rfl)
theorem dX1_isSo_51 : decode cX1_isSo 51 = .ok (.aload_n 0, 1) := dk_42 (dk_at dksX1_isSo_2 19 rfl rfl)
theorem dX1_isSo_52 : decode cX1_isSo 52 = .ok (.getfield 10, 3) := dk_180 0 10 (dk_at dksX1_isSo_2 20 rfl rfl)
theorem dX1_isSo_55 : decode cX1_isSo 55 = .ok (.getfield 191, 3) := dk_180 0 191 (dk_at dksX1_isSo_3 0 rfl rfl)
theorem dX1_isSo_58 : decode cX1_isSo 58 = .ok (.iload_n 1, 1) := dk_27 (dk_at dksX1_isSo_3 3 rfl rfl)
theorem dX1_isSo_59 : decode cX1_isSo 59 = .ok (.iaload, 1) := dk_46 (dk_at dksX1_isSo_3 4 rfl rfl)
theorem dX1_isSo_60 : decode cX1_isSo 60 = .ok (.iload_n 3, 1) := dk_29 (dk_at dksX1_isSo_3 5 rfl rfl)
theorem dX1_isSo_61 : decode cX1_isSo 61 = .ok (.if_icmp .lt 7, 3) := dk_161 0 7 (dk_at dksX1_isSo_3 6 rfl rfl)
theorem dX1_isSo_64 : decode cX1_isSo 64 = .ok (.iconst 1, 1) := dk_4 (dk_at dksX1_isSo_3 9 rfl rfl)
theorem dX1_isSo_65 : decode cX1_isSo 65 = .ok (.goto 4, 3) := dk_167 0 4 (dk_at dksX1_isSo_3 10 rfl rfl)
theorem dX1_isSo_68 : decode cX1_isSo 68 = .ok (.iconst 0, 1) := dk_3 (dk_at dksX1_isSo_3 13 rfl rfl)
theorem dX1_isSo_69 : decode cX1_isSo 69 = .ok (.ireturn, 1) := dk_172 (dk_at dksX1_isSo_3 14 rfl rfl)
theorem dX1_isSo_70 : decode cX1_isSo 70 = .ok (.aload_n 0, 1) := dk_42 (dk_at dksX1_isSo_3 15 rfl rfl)
theorem dX1_isSo_71 : decode cX1_isSo 71 = .ok (.getfield 10, 3) := dk_180 0 10 (dk_at dksX1_isSo_3 16 rfl rfl)
theorem dX1_isSo_74 : decode cX1_isSo 74 = .ok (.getfield 194, 3) := dk_180 0 194 (dk_at dksX1_isSo_3 19 rfl rfl)
theorem dX1_isSo_77 : decode cX1_isSo 77 = .ok (.iload_n 1, 1) := dk_27 (dk_at dksX1_isSo_3 22 rfl rfl)
theorem dX1_isSo_78 : decode cX1_isSo 78 = .ok (.iaload, 1) := dk_46 (dk_at dksX1_isSo_3 23 rfl rfl)
theorem dX1_isSo_79 : decode cX1_isSo 79 = .ok (.iload_n 3, 1) := dk_29 (dk_at dksX1_isSo_4 0 rfl rfl)
theorem dX1_isSo_80 : decode cX1_isSo 80 = .ok (.if_icmp .ne 7, 3) := dk_160 0 7 (dk_at dksX1_isSo_4 1 rfl rfl)
theorem dX1_isSo_83 : decode cX1_isSo 83 = .ok (.iconst 1, 1) := dk_4 (dk_at dksX1_isSo_4 4 rfl rfl)
theorem dX1_isSo_84 : decode cX1_isSo 84 = .ok (.goto 4, 3) := dk_167 0 4 (dk_at dksX1_isSo_4 5 rfl rfl)
theorem dX1_isSo_87 : decode cX1_isSo 87 = .ok (.iconst 0, 1) := dk_3 (dk_at dksX1_isSo_4 8 rfl rfl)
theorem dX1_isSo_88 : decode cX1_isSo 88 = .ok (.ireturn, 1) := dk_172 (dk_at dksX1_isSo_4 9 rfl rfl)
theorem dX1_isSo_89 : decode cX1_isSo 89 = .ok (.aload_n 0, 1) := dk_42 (dk_at dksX1_isSo_4 10 rfl rfl)
theorem dX1_isSo_90 : decode cX1_isSo 90 = .ok (.getfield 10, 3) := dk_180 0 10 (dk_at dksX1_isSo_4 11 rfl rfl)
theorem dX1_isSo_93 : decode cX1_isSo 93 = .ok (.getfield 113, 3) := dk_180 0 113 (dk_at dksX1_isSo_4 14 rfl rfl)
theorem dX1_isSo_96 : decode cX1_isSo 96 = .ok (.iload_n 1, 1) := dk_27 (dk_at dksX1_isSo_4 17 rfl rfl)
theorem dX1_isSo_97 : decode cX1_isSo 97 = .ok (.iaload, 1) := dk_46 (dk_at dksX1_isSo_4 18 rfl rfl)
theorem dX1_isSo_98 : decode cX1_isSo 98 = .ok (.ifCond .eq 7, 3) := dk_153 0 7 (dk_at dksX1_isSo_4 19 rfl rfl)
theorem dX1_isSo_101 : decode cX1_isSo 101 = .ok (.iconst 1, 1) := dk_4 (dk_at dksX1_isSo_4 22 rfl rfl)
theorem dX1_isSo_102 : decode cX1_isSo 102 = .ok (.goto 4, 3) := dk_167 0 4 (dk_at dksX1_isSo_5 0 rfl rfl)
theorem dX1_isSo_105 : decode cX1_isSo 105 = .ok (.iconst 0, 1) := dk_3 (dk_at dksX1_isSo_5 3 rfl rfl)
theorem dX1_isSo_106 : decode cX1_isSo 106 = .ok (.iload_n 3, 1) := dk_29 (dk_at dksX1_isSo_5 4 rfl rfl)
theorem dX1_isSo_107 : decode cX1_isSo 107 = .ok (.iconst 1, 1) := dk_4 (dk_at dksX1_isSo_5 5 rfl rfl)
theorem dX1_isSo_108 : decode cX1_isSo 108 = .ok (.if_icmp .ne 7, 3) := dk_160 0 7 (dk_at dksX1_isSo_5 6 rfl rfl)
theorem dX1_isSo_111 : decode cX1_isSo 111 = .ok (.iconst 1, 1) := dk_4 (dk_at dksX1_isSo_5 9 rfl rfl)
theorem dX1_isSo_112 : decode cX1_isSo 112 = .ok (.goto 4, 3) := dk_167 0 4 (dk_at dksX1_isSo_5 10 rfl rfl)
theorem dX1_isSo_115 : decode cX1_isSo 115 = .ok (.iconst 0, 1) := dk_3 (dk_at dksX1_isSo_5 13 rfl rfl)
theorem dX1_isSo_116 : decode cX1_isSo 116 = .ok (.if_icmp .ne 7, 3) := dk_160 0 7 (dk_at dksX1_isSo_5 14 rfl rfl)
theorem dX1_isSo_119 : decode cX1_isSo 119 = .ok (.iconst 1, 1) := dk_4 (dk_at dksX1_isSo_5 17 rfl rfl)
theorem dX1_isSo_120 : decode cX1_isSo 120 = .ok (.goto 4, 3) := dk_167 0 4 (dk_at dksX1_isSo_5 18 rfl rfl)
theorem dX1_isSo_123 : decode cX1_isSo 123 = .ok (.iconst 0, 1) := dk_3 (dk_at dksX1_isSo_5 21 rfl rfl)
theorem dX1_isSo_124 : decode cX1_isSo 124 = .ok (.ireturn, 1) := dk_172 (dk_at dksX1_isSo_5 22 rfl rfl)
theorem dX1_isSo_125 : decode cX1_isSo 125 = .ok (.aload_n 0, 1) := dk_42 (dk_at dksX1_isSo_5 23 rfl rfl)
theorem dX1_isSo_126 : decode cX1_isSo 126 = .ok (.getfield 10, 3) := dk_180 0 10 (dk_at dksX1_isSo_6 0 rfl rfl)
theorem dX1_isSo_129 : decode cX1_isSo 129 = .ok (.iload_n 1, 1) := dk_27 (dk_at dksX1_isSo_6 3 rfl rfl)
theorem dX1_isSo_130 : decode cX1_isSo 130 = .ok (.invokevirtual 107, 3) := dk_182 0 107 (dk_at dksX1_isSo_6 4 rfl rfl)
theorem dX1_isSo_133 : decode cX1_isSo 133 = .ok (.iload_n 3, 1) := dk_29 (dk_at dksX1_isSo_6 7 rfl rfl)
theorem dX1_isSo_134 : decode cX1_isSo 134 = .ok (.iconst 1, 1) := dk_4 (dk_at dksX1_isSo_6 8 rfl rfl)
theorem dX1_isSo_135 : decode cX1_isSo 135 = .ok (.if_icmp .ne 7, 3) := dk_160 0 7 (dk_at dksX1_isSo_6 9 rfl rfl)
theorem dX1_isSo_138 : decode cX1_isSo 138 = .ok (.iconst 1, 1) := dk_4 (dk_at dksX1_isSo_6 12 rfl rfl)
theorem dX1_isSo_139 : decode cX1_isSo 139 = .ok (.goto 4, 3) := dk_167 0 4 (dk_at dksX1_isSo_6 13 rfl rfl)
theorem dX1_isSo_142 : decode cX1_isSo 142 = .ok (.iconst 0, 1) := dk_3 (dk_at dksX1_isSo_6 16 rfl rfl)
theorem dX1_isSo_143 : decode cX1_isSo 143 = .ok (.if_icmp .ne 7, 3) := dk_160 0 7 (dk_at dksX1_isSo_6 17 rfl rfl)
theorem dX1_isSo_146 : decode cX1_isSo 146 = .ok (.iconst 1, 1) := dk_4 (dk_at dksX1_isSo_6 20 rfl rfl)
theorem dX1_isSo_147 : decode cX1_isSo 147 = .ok (.goto 4, 3) := dk_167 0 4 (dk_at dksX1_isSo_6 21 rfl rfl)
theorem dX1_isSo_150 : decode cX1_isSo 150 = .ok (.iconst 0, 1) := dk_3 (dk_at dksX1_isSo_7 0 rfl rfl)
theorem dX1_isSo_151 : decode cX1_isSo 151 = .ok (.ireturn, 1) := dk_172 (dk_at dksX1_isSo_7 1 rfl rfl)
abbrev cX1_ask : ByteArray := prog_1_method_97_code
def yX1_ask : MethodName := ⟨RX1, "ask", "()I"⟩
def dkwX1_ask_5 : List UInt8 := [62, 132, 4, 1, 167, 255, 157, 42, 3, 181, 1, 122, 42, 29, 133, 182, 1, 125, 28, 172]
abbrev dktX1_ask_5 : List UInt8 := dkwX1_ask_5 ++ []
def dkwX1_ask_4 : List UInt8 := [184, 1, 9, 54, 6, 21, 6, 29, 162, 0, 8, 21, 4, 167, 0, 4, 28, 61, 29, 21, 6, 184, 0, 129]
abbrev dktX1_ask_4 : List UInt8 := dkwX1_ask_4 ++ dktX1_ask_5
def dkwX1_ask_3 : List UInt8 := [167, 0, 4, 3, 96, 54, 5, 132, 6, 1, 167, 255, 210, 21, 5, 27, 184, 1, 56, 21, 5, 100]
abbrev dktX1_ask_3 : List UInt8 := dkwX1_ask_3 ++ dktX1_ask_4
def dkwX1_ask_2 : List UInt8 := [21, 6, 184, 1, 85, 153, 0, 22, 42, 180, 0, 10, 180, 0, 194, 21, 6, 46, 21, 4, 163, 0, 7, 4]
abbrev dktX1_ask_2 : List UInt8 := dkwX1_ask_2 ++ dktX1_ask_3
def dkwX1_ask_1 : List UInt8 := [16, 10, 162, 0, 98, 3, 54, 5, 3, 54, 6, 21, 6, 42, 180, 0, 94, 162, 0, 43, 21, 5, 27]
abbrev dktX1_ask_1 : List UInt8 := dkwX1_ask_1 ++ dktX1_ask_2
def dkwX1_ask_0 : List UInt8 := [42, 182, 1, 222, 60, 27, 154, 0, 6, 16, 254, 172, 3, 61, 19, 1, 167, 62, 3, 54, 4, 21, 4]
abbrev dktX1_ask_0 : List UInt8 := dkwX1_ask_0 ++ dktX1_ask_1
theorem dksX1_ask_0 : cX1_ask.data.toList.drop 0 = dktX1_ask_0 := by decide +kernel
theorem dksX1_ask_1 : cX1_ask.data.toList.drop 23 = dktX1_ask_1 := dk_seg dksX1_ask_0 23 rfl rfl
theorem dksX1_ask_2 : cX1_ask.data.toList.drop 46 = dktX1_ask_2 := dk_seg dksX1_ask_1 23 rfl rfl
theorem dksX1_ask_3 : cX1_ask.data.toList.drop 70 = dktX1_ask_3 := dk_seg dksX1_ask_2 24 rfl rfl
theorem dksX1_ask_4 : cX1_ask.data.toList.drop 92 = dktX1_ask_4 := dk_seg dksX1_ask_3 22 rfl rfl
theorem dksX1_ask_5 : cX1_ask.data.toList.drop 116 = dktX1_ask_5 := dk_seg dksX1_ask_4 24 rfl rfl
theorem dX1_ask_0 : decode cX1_ask 0 = .ok (.aload_n 0, 1) := dk_42 (dk_at dksX1_ask_0 0 rfl rfl)
theorem dX1_ask_1 : decode cX1_ask 1 = .ok (.invokevirtual 478, 3) := dk_182 1 222 (dk_at dksX1_ask_0 1 rfl rfl)
theorem dX1_ask_4 : decode cX1_ask 4 = .ok (.istore_n 1, 1) := dk_60 (dk_at dksX1_ask_0 4 rfl rfl)
theorem dX1_ask_5 : decode cX1_ask 5 = .ok (.iload_n 1, 1) := dk_27 (dk_at dksX1_ask_0 5 rfl rfl)
theorem dX1_ask_6 : decode cX1_ask 6 = .ok (.ifCond .ne 6, 3) := dk_154 0 6 (dk_at dksX1_ask_0 6 rfl rfl)
theorem dX1_ask_9 : decode cX1_ask 9 = .ok (.bipush (-2), 2) := dk_16 254 (dk_at dksX1_ask_0 9 rfl rfl)
theorem dX1_ask_11 : decode cX1_ask 11 = .ok (.ireturn, 1) := dk_172 (dk_at dksX1_ask_0 11 rfl rfl)
theorem dX1_ask_12 : decode cX1_ask 12 = .ok (.iconst 0, 1) := dk_3 (dk_at dksX1_ask_0 12 rfl rfl)
theorem dX1_ask_13 : decode cX1_ask 13 = .ok (.istore_n 2, 1) := dk_61 (dk_at dksX1_ask_0 13 rfl rfl)
theorem dX1_ask_14 : decode cX1_ask 14 = .ok (.ldc_w 423, 3) := dk_19 1 167 (dk_at dksX1_ask_0 14 rfl rfl)
theorem dX1_ask_17 : decode cX1_ask 17 = .ok (.istore_n 3, 1) := dk_62 (dk_at dksX1_ask_0 17 rfl rfl)
theorem dX1_ask_18 : decode cX1_ask 18 = .ok (.iconst 0, 1) := dk_3 (dk_at dksX1_ask_0 18 rfl rfl)
theorem dX1_ask_19 : decode cX1_ask 19 = .ok (.istore 4, 2) := dk_54 4 (dk_at dksX1_ask_0 19 rfl rfl)
theorem dX1_ask_21 : decode cX1_ask 21 = .ok (.iload 4, 2) := dk_21 4 (dk_at dksX1_ask_0 21 rfl rfl)
theorem dX1_ask_23 : decode cX1_ask 23 = .ok (.bipush 10, 2) := dk_16 10 (dk_at dksX1_ask_1 0 rfl rfl)
theorem dX1_ask_25 : decode cX1_ask 25 = .ok (.if_icmp .ge 98, 3) := dk_162 0 98 (dk_at dksX1_ask_1 2 rfl rfl)
theorem dX1_ask_28 : decode cX1_ask 28 = .ok (.iconst 0, 1) := dk_3 (dk_at dksX1_ask_1 5 rfl rfl)
theorem dX1_ask_29 : decode cX1_ask 29 = .ok (.istore 5, 2) := dk_54 5 (dk_at dksX1_ask_1 6 rfl rfl)
theorem dX1_ask_31 : decode cX1_ask 31 = .ok (.iconst 0, 1) := dk_3 (dk_at dksX1_ask_1 8 rfl rfl)
theorem dX1_ask_32 : decode cX1_ask 32 = .ok (.istore 6, 2) := dk_54 6 (dk_at dksX1_ask_1 9 rfl rfl)
theorem dX1_ask_34 : decode cX1_ask 34 = .ok (.iload 6, 2) := dk_21 6 (dk_at dksX1_ask_1 11 rfl rfl)
theorem dX1_ask_36 : decode cX1_ask 36 = .ok (.aload_n 0, 1) := dk_42 (dk_at dksX1_ask_1 13 rfl rfl)
theorem dX1_ask_37 : decode cX1_ask 37 = .ok (.getfield 94, 3) := dk_180 0 94 (dk_at dksX1_ask_1 14 rfl rfl)
theorem dX1_ask_40 : decode cX1_ask 40 = .ok (.if_icmp .ge 43, 3) := dk_162 0 43 (dk_at dksX1_ask_1 17 rfl rfl)
theorem dX1_ask_43 : decode cX1_ask 43 = .ok (.iload 5, 2) := dk_21 5 (dk_at dksX1_ask_1 20 rfl rfl)
theorem dX1_ask_45 : decode cX1_ask 45 = .ok (.iload_n 1, 1) := dk_27 (dk_at dksX1_ask_1 22 rfl rfl)
theorem dX1_ask_46 : decode cX1_ask 46 = .ok (.iload 6, 2) := dk_21 6 (dk_at dksX1_ask_2 0 rfl rfl)
theorem dX1_ask_48 : decode cX1_ask 48 = .ok (.invokestatic 341, 3) := dk_184 1 85 (dk_at dksX1_ask_2 2 rfl rfl)
theorem dX1_ask_51 : decode cX1_ask 51 = .ok (.ifCond .eq 22, 3) := dk_153 0 22 (dk_at dksX1_ask_2 5 rfl rfl)
theorem dX1_ask_54 : decode cX1_ask 54 = .ok (.aload_n 0, 1) := dk_42 (dk_at dksX1_ask_2 8 rfl rfl)
theorem dX1_ask_55 : decode cX1_ask 55 = .ok (.getfield 10, 3) := dk_180 0 10 (dk_at dksX1_ask_2 9 rfl rfl)
theorem dX1_ask_58 : decode cX1_ask 58 = .ok (.getfield 194, 3) := dk_180 0 194 (dk_at dksX1_ask_2 12 rfl rfl)
theorem dX1_ask_61 : decode cX1_ask 61 = .ok (.iload 6, 2) := dk_21 6 (dk_at dksX1_ask_2 15 rfl rfl)
theorem dX1_ask_63 : decode cX1_ask 63 = .ok (.iaload, 1) := dk_46 (dk_at dksX1_ask_2 17 rfl rfl)
theorem dX1_ask_64 : decode cX1_ask 64 = .ok (.iload 4, 2) := dk_21 4 (dk_at dksX1_ask_2 18 rfl rfl)
theorem dX1_ask_66 : decode cX1_ask 66 = .ok (.if_icmp .gt 7, 3) := dk_163 0 7 (dk_at dksX1_ask_2 20 rfl rfl)
theorem dX1_ask_69 : decode cX1_ask 69 = .ok (.iconst 1, 1) := dk_4 (dk_at dksX1_ask_2 23 rfl rfl)
theorem dX1_ask_70 : decode cX1_ask 70 = .ok (.goto 4, 3) := dk_167 0 4 (dk_at dksX1_ask_3 0 rfl rfl)
theorem dX1_ask_73 : decode cX1_ask 73 = .ok (.iconst 0, 1) := dk_3 (dk_at dksX1_ask_3 3 rfl rfl)
theorem dX1_ask_74 : decode cX1_ask 74 = .ok (.iadd, 1) := dk_96 (dk_at dksX1_ask_3 4 rfl rfl)
theorem dX1_ask_75 : decode cX1_ask 75 = .ok (.istore 5, 2) := dk_54 5 (dk_at dksX1_ask_3 5 rfl rfl)
theorem dX1_ask_77 : decode cX1_ask 77 = .ok (.iinc 6 1, 3) := dk_132 6 1 (dk_at dksX1_ask_3 7 rfl rfl)
theorem dX1_ask_80 : decode cX1_ask 80 = .ok (.goto (-46), 3) := dk_167 255 210 (dk_at dksX1_ask_3 10 rfl rfl)
theorem dX1_ask_83 : decode cX1_ask 83 = .ok (.iload 5, 2) := dk_21 5 (dk_at dksX1_ask_3 13 rfl rfl)
theorem dX1_ask_85 : decode cX1_ask 85 = .ok (.iload_n 1, 1) := dk_27 (dk_at dksX1_ask_3 15 rfl rfl)
theorem dX1_ask_86 : decode cX1_ask 86 = .ok (.invokestatic 312, 3) := dk_184 1 56 (dk_at dksX1_ask_3 16 rfl rfl)
theorem dX1_ask_89 : decode cX1_ask 89 = .ok (.iload 5, 2) := dk_21 5 (dk_at dksX1_ask_3 19 rfl rfl)
theorem dX1_ask_91 : decode cX1_ask 91 = .ok (.isub, 1) := dk_100 (dk_at dksX1_ask_3 21 rfl rfl)
theorem dX1_ask_92 : decode cX1_ask 92 = .ok (.invokestatic 265, 3) := dk_184 1 9 (dk_at dksX1_ask_4 0 rfl rfl)
theorem dX1_ask_95 : decode cX1_ask 95 = .ok (.istore 6, 2) := dk_54 6 (dk_at dksX1_ask_4 3 rfl rfl)
theorem dX1_ask_97 : decode cX1_ask 97 = .ok (.iload 6, 2) := dk_21 6 (dk_at dksX1_ask_4 5 rfl rfl)
theorem dX1_ask_99 : decode cX1_ask 99 = .ok (.iload_n 3, 1) := dk_29 (dk_at dksX1_ask_4 7 rfl rfl)
theorem dX1_ask_100 : decode cX1_ask 100 = .ok (.if_icmp .ge 8, 3) := dk_162 0 8 (dk_at dksX1_ask_4 8 rfl rfl)
theorem dX1_ask_103 : decode cX1_ask 103 = .ok (.iload 4, 2) := dk_21 4 (dk_at dksX1_ask_4 11 rfl rfl)
theorem dX1_ask_105 : decode cX1_ask 105 = .ok (.goto 4, 3) := dk_167 0 4 (dk_at dksX1_ask_4 13 rfl rfl)
theorem dX1_ask_108 : decode cX1_ask 108 = .ok (.iload_n 2, 1) := dk_28 (dk_at dksX1_ask_4 16 rfl rfl)
theorem dX1_ask_109 : decode cX1_ask 109 = .ok (.istore_n 2, 1) := dk_61 (dk_at dksX1_ask_4 17 rfl rfl)
theorem dX1_ask_110 : decode cX1_ask 110 = .ok (.iload_n 3, 1) := dk_29 (dk_at dksX1_ask_4 18 rfl rfl)
theorem dX1_ask_111 : decode cX1_ask 111 = .ok (.iload 6, 2) := dk_21 6 (dk_at dksX1_ask_4 19 rfl rfl)
theorem dX1_ask_113 : decode cX1_ask 113 = .ok (.invokestatic 129, 3) := dk_184 0 129 (dk_at dksX1_ask_4 21 rfl rfl)
theorem dX1_ask_116 : decode cX1_ask 116 = .ok (.istore_n 3, 1) := dk_62 (dk_at dksX1_ask_5 0 rfl rfl)
theorem dX1_ask_117 : decode cX1_ask 117 = .ok (.iinc 4 1, 3) := dk_132 4 1 (dk_at dksX1_ask_5 1 rfl rfl)
theorem dX1_ask_120 : decode cX1_ask 120 = .ok (.goto (-99), 3) := dk_167 255 157 (dk_at dksX1_ask_5 4 rfl rfl)
theorem dX1_ask_123 : decode cX1_ask 123 = .ok (.aload_n 0, 1) := dk_42 (dk_at dksX1_ask_5 7 rfl rfl)
theorem dX1_ask_124 : decode cX1_ask 124 = .ok (.iconst 0, 1) := dk_3 (dk_at dksX1_ask_5 8 rfl rfl)
theorem dX1_ask_125 : decode cX1_ask 125 = .ok (.putfield 378, 3) := dk_181 1 122 (dk_at dksX1_ask_5 9 rfl rfl)
theorem dX1_ask_128 : decode cX1_ask 128 = .ok (.aload_n 0, 1) := dk_42 (dk_at dksX1_ask_5 12 rfl rfl)
theorem dX1_ask_129 : decode cX1_ask 129 = .ok (.iload_n 3, 1) := dk_29 (dk_at dksX1_ask_5 13 rfl rfl)
theorem dX1_ask_130 : decode cX1_ask 130 = .ok (.i2l, 1) := dk_133 (dk_at dksX1_ask_5 14 rfl rfl)
theorem dX1_ask_131 : decode cX1_ask 131 = .ok (.invokevirtual 381, 3) := dk_182 1 125 (dk_at dksX1_ask_5 15 rfl rfl)
theorem dX1_ask_134 : decode cX1_ask 134 = .ok (.iload_n 2, 1) := dk_28 (dk_at dksX1_ask_5 18 rfl rfl)
theorem dX1_ask_135 : decode cX1_ask 135 = .ok (.ireturn, 1) := dk_172 (dk_at dksX1_ask_5 19 rfl rfl)
abbrev cX1_rests : ByteArray := prog_1_method_99_code
def yX1_rests : MethodName := ⟨RX1, "rests", "(I)I"⟩
def dkwX1_rests_3 : List UInt8 := [21, 4, 133, 182, 1, 125, 132, 4, 1, 167, 255, 209, 132, 3, 1, 167, 255, 194, 28, 172]
abbrev dktX1_rests_3 : List UInt8 := dkwX1_rests_3 ++ []
def dkwX1_rests_2 : List UInt8 := [154, 0, 6, 167, 0, 27, 132, 2, 1, 28, 4, 164, 0, 6, 167, 0, 16, 42, 29, 133, 182, 1, 125, 42]
abbrev dktX1_rests_2 : List UInt8 := dkwX1_rests_2 ++ dktX1_rests_3
def dkwX1_rests_1 : List UInt8 := [16, 9, 163, 0, 62, 3, 54, 4, 21, 4, 16, 9, 163, 0, 46, 29, 21, 4, 27, 184, 1, 225]
abbrev dktX1_rests_1 : List UInt8 := dkwX1_rests_1 ++ dktX1_rests_2
def dkwX1_rests_0 : List UInt8 := [27, 133, 9, 20, 1, 174, 184, 0, 97, 154, 0, 5, 2, 172, 3, 61, 42, 3, 181, 1, 122, 3, 62, 29]
abbrev dktX1_rests_0 : List UInt8 := dkwX1_rests_0 ++ dktX1_rests_1
theorem dksX1_rests_0 : cX1_rests.data.toList.drop 0 = dktX1_rests_0 := by decide +kernel
theorem dksX1_rests_1 : cX1_rests.data.toList.drop 24 = dktX1_rests_1 := dk_seg dksX1_rests_0 24 rfl rfl
theorem dksX1_rests_2 : cX1_rests.data.toList.drop 46 = dktX1_rests_2 := dk_seg dksX1_rests_1 22 rfl rfl
theorem dksX1_rests_3 : cX1_rests.data.toList.drop 70 = dktX1_rests_3 := dk_seg dksX1_rests_2 24 rfl rfl
theorem dX1_rests_0 : decode cX1_rests 0 = .ok (.iload_n 1, 1) := dk_27 (dk_at dksX1_rests_0 0 rfl rfl)
theorem dX1_rests_1 : decode cX1_rests 1 = .ok (.i2l, 1) := dk_133 (dk_at dksX1_rests_0 1 rfl rfl)
theorem dX1_rests_2 : decode cX1_rests 2 = .ok (.lconst 0, 1) := dk_9 (dk_at dksX1_rests_0 2 rfl rfl)
theorem dX1_rests_3 : decode cX1_rests 3 = .ok (.ldc2_w 430, 3) := dk_20 1 174 (dk_at dksX1_rests_0 3 rfl rfl)
theorem dX1_rests_6 : decode cX1_rests 6 = .ok (.invokestatic 97, 3) := dk_184 0 97 (dk_at dksX1_rests_0 6 rfl rfl)
theorem dX1_rests_9 : decode cX1_rests 9 = .ok (.ifCond .ne 5, 3) := dk_154 0 5 (dk_at dksX1_rests_0 9 rfl rfl)
theorem dX1_rests_12 : decode cX1_rests 12 = .ok (.iconst (-1), 1) := dk_2 (dk_at dksX1_rests_0 12 rfl rfl)
theorem dX1_rests_13 : decode cX1_rests 13 = .ok (.ireturn, 1) := dk_172 (dk_at dksX1_rests_0 13 rfl rfl)
theorem dX1_rests_14 : decode cX1_rests 14 = .ok (.iconst 0, 1) := dk_3 (dk_at dksX1_rests_0 14 rfl rfl)
theorem dX1_rests_15 : decode cX1_rests 15 = .ok (.istore_n 2, 1) := dk_61 (dk_at dksX1_rests_0 15 rfl rfl)
theorem dX1_rests_16 : decode cX1_rests 16 = .ok (.aload_n 0, 1) := dk_42 (dk_at dksX1_rests_0 16 rfl rfl)
theorem dX1_rests_17 : decode cX1_rests 17 = .ok (.iconst 0, 1) := dk_3 (dk_at dksX1_rests_0 17 rfl rfl)
theorem dX1_rests_18 : decode cX1_rests 18 = .ok (.putfield 378, 3) := dk_181 1 122 (dk_at dksX1_rests_0 18 rfl rfl)
theorem dX1_rests_21 : decode cX1_rests 21 = .ok (.iconst 0, 1) := dk_3 (dk_at dksX1_rests_0 21 rfl rfl)
theorem dX1_rests_22 : decode cX1_rests 22 = .ok (.istore_n 3, 1) := dk_62 (dk_at dksX1_rests_0 22 rfl rfl)
theorem dX1_rests_23 : decode cX1_rests 23 = .ok (.iload_n 3, 1) := dk_29 (dk_at dksX1_rests_0 23 rfl rfl)
theorem dX1_rests_24 : decode cX1_rests 24 = .ok (.bipush 9, 2) := dk_16 9 (dk_at dksX1_rests_1 0 rfl rfl)
theorem dX1_rests_26 : decode cX1_rests 26 = .ok (.if_icmp .gt 62, 3) := dk_163 0 62 (dk_at dksX1_rests_1 2 rfl rfl)
theorem dX1_rests_29 : decode cX1_rests 29 = .ok (.iconst 0, 1) := dk_3 (dk_at dksX1_rests_1 5 rfl rfl)
theorem dX1_rests_30 : decode cX1_rests 30 = .ok (.istore 4, 2) := dk_54 4 (dk_at dksX1_rests_1 6 rfl rfl)
theorem dX1_rests_32 : decode cX1_rests 32 = .ok (.iload 4, 2) := dk_21 4 (dk_at dksX1_rests_1 8 rfl rfl)
theorem dX1_rests_34 : decode cX1_rests 34 = .ok (.bipush 9, 2) := dk_16 9 (dk_at dksX1_rests_1 10 rfl rfl)
theorem dX1_rests_36 : decode cX1_rests 36 = .ok (.if_icmp .gt 46, 3) := dk_163 0 46 (dk_at dksX1_rests_1 12 rfl rfl)
theorem dX1_rests_39 : decode cX1_rests 39 = .ok (.iload_n 3, 1) := dk_29 (dk_at dksX1_rests_1 15 rfl rfl)
theorem dX1_rests_40 : decode cX1_rests 40 = .ok (.iload 4, 2) := dk_21 4 (dk_at dksX1_rests_1 16 rfl rfl)
theorem dX1_rests_42 : decode cX1_rests 42 = .ok (.iload_n 1, 1) := dk_27 (dk_at dksX1_rests_1 18 rfl rfl)
theorem dX1_rests_43 : decode cX1_rests 43 = .ok (.invokestatic 481, 3) := dk_184 1 225 (dk_at dksX1_rests_1 19 rfl rfl)
theorem dX1_rests_46 : decode cX1_rests 46 = .ok (.ifCond .ne 6, 3) := dk_154 0 6 (dk_at dksX1_rests_2 0 rfl rfl)
theorem dX1_rests_49 : decode cX1_rests 49 = .ok (.goto 27, 3) := dk_167 0 27 (dk_at dksX1_rests_2 3 rfl rfl)
theorem dX1_rests_52 : decode cX1_rests 52 = .ok (.iinc 2 1, 3) := dk_132 2 1 (dk_at dksX1_rests_2 6 rfl rfl)
theorem dX1_rests_55 : decode cX1_rests 55 = .ok (.iload_n 2, 1) := dk_28 (dk_at dksX1_rests_2 9 rfl rfl)
theorem dX1_rests_56 : decode cX1_rests 56 = .ok (.iconst 1, 1) := dk_4 (dk_at dksX1_rests_2 10 rfl rfl)
theorem dX1_rests_57 : decode cX1_rests 57 = .ok (.if_icmp .le 6, 3) := dk_164 0 6 (dk_at dksX1_rests_2 11 rfl rfl)
theorem dX1_rests_60 : decode cX1_rests 60 = .ok (.goto 16, 3) := dk_167 0 16 (dk_at dksX1_rests_2 14 rfl rfl)
theorem dX1_rests_63 : decode cX1_rests 63 = .ok (.aload_n 0, 1) := dk_42 (dk_at dksX1_rests_2 17 rfl rfl)
theorem dX1_rests_64 : decode cX1_rests 64 = .ok (.iload_n 3, 1) := dk_29 (dk_at dksX1_rests_2 18 rfl rfl)
theorem dX1_rests_65 : decode cX1_rests 65 = .ok (.i2l, 1) := dk_133 (dk_at dksX1_rests_2 19 rfl rfl)
theorem dX1_rests_66 : decode cX1_rests 66 = .ok (.invokevirtual 381, 3) := dk_182 1 125 (dk_at dksX1_rests_2 20 rfl rfl)
theorem dX1_rests_69 : decode cX1_rests 69 = .ok (.aload_n 0, 1) := dk_42 (dk_at dksX1_rests_2 23 rfl rfl)
theorem dX1_rests_70 : decode cX1_rests 70 = .ok (.iload 4, 2) := dk_21 4 (dk_at dksX1_rests_3 0 rfl rfl)
theorem dX1_rests_72 : decode cX1_rests 72 = .ok (.i2l, 1) := dk_133 (dk_at dksX1_rests_3 2 rfl rfl)
theorem dX1_rests_73 : decode cX1_rests 73 = .ok (.invokevirtual 381, 3) := dk_182 1 125 (dk_at dksX1_rests_3 3 rfl rfl)
theorem dX1_rests_76 : decode cX1_rests 76 = .ok (.iinc 4 1, 3) := dk_132 4 1 (dk_at dksX1_rests_3 6 rfl rfl)
theorem dX1_rests_79 : decode cX1_rests 79 = .ok (.goto (-47), 3) := dk_167 255 209 (dk_at dksX1_rests_3 9 rfl rfl)
theorem dX1_rests_82 : decode cX1_rests 82 = .ok (.iinc 3 1, 3) := dk_132 3 1 (dk_at dksX1_rests_3 12 rfl rfl)
theorem dX1_rests_85 : decode cX1_rests 85 = .ok (.goto (-62), 3) := dk_167 255 194 (dk_at dksX1_rests_3 15 rfl rfl)
theorem dX1_rests_88 : decode cX1_rests 88 = .ok (.iload_n 2, 1) := dk_28 (dk_at dksX1_rests_3 18 rfl rfl)
theorem dX1_rests_89 : decode cX1_rests 89 = .ok (.ireturn, 1) := dk_172 (dk_at dksX1_rests_3 19 rfl rfl)
abbrev cX1_isRest : ByteArray := prog_1_method_98_code
def yX1_isRest : MethodName := ⟨RX1, "isRest", "(III)Z"⟩
def dkwX1_isRest_3 : List UInt8 := [164, 0, 5, 3, 172, 132, 5, 1, 167, 255, 207, 4, 172]
abbrev dktX1_isRest_3 : List UInt8 := dkwX1_isRest_3 ++ []
def dkwX1_isRest_2 : List UInt8 := [21, 5, 100, 29, 163, 0, 22, 26, 21, 5, 164, 0, 7, 3, 167, 0, 4, 28, 21, 5, 100, 21, 4]
abbrev dktX1_isRest_2 : List UInt8 := dkwX1_isRest_2 ++ dktX1_isRest_3
def dkwX1_isRest_1 : List UInt8 := [100, 54, 4, 3, 54, 5, 21, 5, 16, 9, 163, 0, 48, 21, 5, 27, 164, 0, 7, 28, 167, 0, 4, 3]
abbrev dktX1_isRest_1 : List UInt8 := dkwX1_isRest_1 ++ dktX1_isRest_2
def dkwX1_isRest_0 : List UInt8 := [26, 27, 164, 0, 7, 28, 167, 0, 4, 3, 26, 100, 62, 26, 27, 164, 0, 7, 3, 167, 0, 4, 28, 27]
abbrev dktX1_isRest_0 : List UInt8 := dkwX1_isRest_0 ++ dktX1_isRest_1
theorem dksX1_isRest_0 : cX1_isRest.data.toList.drop 0 = dktX1_isRest_0 := by decide +kernel
theorem dksX1_isRest_1 : cX1_isRest.data.toList.drop 24 = dktX1_isRest_1 := dk_seg dksX1_isRest_0 24 rfl rfl
theorem dksX1_isRest_2 : cX1_isRest.data.toList.drop 48 = dktX1_isRest_2 := dk_seg dksX1_isRest_1 24 rfl rfl
theorem dksX1_isRest_3 : cX1_isRest.data.toList.drop 71 = dktX1_isRest_3 := dk_seg dksX1_isRest_2 23 rfl rfl
theorem dX1_isRest_0 : decode cX1_isRest 0 = .ok (.iload_n 0, 1) := dk_26 (dk_at dksX1_isRest_0 0 rfl rfl)
theorem dX1_isRest_1 : decode cX1_isRest 1 = .ok (.iload_n 1, 1) := dk_27 (dk_at dksX1_isRest_0 1 rfl rfl)
theorem dX1_isRest_2 : decode cX1_isRest 2 = .ok (.if_icmp .le 7, 3) := dk_164 0 7 (dk_at dksX1_isRest_0 2 rfl rfl)
theorem dX1_isRest_5 : decode cX1_isRest 5 = .ok (.iload_n 2, 1) := dk_28 (dk_at dksX1_isRest_0 5 rfl rfl)
theorem dX1_isRest_6 : decode cX1_isRest 6 = .ok (.goto 4, 3) := dk_167 0 4 (dk_at dksX1_isRest_0 6 rfl rfl)
theorem dX1_isRest_9 : decode cX1_isRest 9 = .ok (.iconst 0, 1) := dk_3 (dk_at dksX1_isRest_0 9 rfl rfl)
theorem dX1_isRest_10 : decode cX1_isRest 10 = .ok (.iload_n 0, 1) := dk_26 (dk_at dksX1_isRest_0 10 rfl rfl)
theorem dX1_isRest_11 : decode cX1_isRest 11 = .ok (.isub, 1) := dk_100 (dk_at dksX1_isRest_0 11 rfl rfl)
theorem dX1_isRest_12 : decode cX1_isRest 12 = .ok (.istore_n 3, 1) := dk_62 (dk_at dksX1_isRest_0 12 rfl rfl)
theorem dX1_isRest_13 : decode cX1_isRest 13 = .ok (.iload_n 0, 1) := dk_26 (dk_at dksX1_isRest_0 13 rfl rfl)
theorem dX1_isRest_14 : decode cX1_isRest 14 = .ok (.iload_n 1, 1) := dk_27 (dk_at dksX1_isRest_0 14 rfl rfl)
theorem dX1_isRest_15 : decode cX1_isRest 15 = .ok (.if_icmp .le 7, 3) := dk_164 0 7 (dk_at dksX1_isRest_0 15 rfl rfl)
theorem dX1_isRest_18 : decode cX1_isRest 18 = .ok (.iconst 0, 1) := dk_3 (dk_at dksX1_isRest_0 18 rfl rfl)
theorem dX1_isRest_19 : decode cX1_isRest 19 = .ok (.goto 4, 3) := dk_167 0 4 (dk_at dksX1_isRest_0 19 rfl rfl)
theorem dX1_isRest_22 : decode cX1_isRest 22 = .ok (.iload_n 2, 1) := dk_28 (dk_at dksX1_isRest_0 22 rfl rfl)
theorem dX1_isRest_23 : decode cX1_isRest 23 = .ok (.iload_n 1, 1) := dk_27 (dk_at dksX1_isRest_0 23 rfl rfl)
theorem dX1_isRest_24 : decode cX1_isRest 24 = .ok (.isub, 1) := dk_100 (dk_at dksX1_isRest_1 0 rfl rfl)
theorem dX1_isRest_25 : decode cX1_isRest 25 = .ok (.istore 4, 2) := dk_54 4 (dk_at dksX1_isRest_1 1 rfl rfl)
theorem dX1_isRest_27 : decode cX1_isRest 27 = .ok (.iconst 0, 1) := dk_3 (dk_at dksX1_isRest_1 3 rfl rfl)
theorem dX1_isRest_28 : decode cX1_isRest 28 = .ok (.istore 5, 2) := dk_54 5 (dk_at dksX1_isRest_1 4 rfl rfl)
theorem dX1_isRest_30 : decode cX1_isRest 30 = .ok (.iload 5, 2) := dk_21 5 (dk_at dksX1_isRest_1 6 rfl rfl)
theorem dX1_isRest_32 : decode cX1_isRest 32 = .ok (.bipush 9, 2) := dk_16 9 (dk_at dksX1_isRest_1 8 rfl rfl)
theorem dX1_isRest_34 : decode cX1_isRest 34 = .ok (.if_icmp .gt 48, 3) := dk_163 0 48 (dk_at dksX1_isRest_1 10 rfl rfl)
theorem dX1_isRest_37 : decode cX1_isRest 37 = .ok (.iload 5, 2) := dk_21 5 (dk_at dksX1_isRest_1 13 rfl rfl)
theorem dX1_isRest_39 : decode cX1_isRest 39 = .ok (.iload_n 1, 1) := dk_27 (dk_at dksX1_isRest_1 15 rfl rfl)
theorem dX1_isRest_40 : decode cX1_isRest 40 = .ok (.if_icmp .le 7, 3) := dk_164 0 7 (dk_at dksX1_isRest_1 16 rfl rfl)
theorem dX1_isRest_43 : decode cX1_isRest 43 = .ok (.iload_n 2, 1) := dk_28 (dk_at dksX1_isRest_1 19 rfl rfl)
theorem dX1_isRest_44 : decode cX1_isRest 44 = .ok (.goto 4, 3) := dk_167 0 4 (dk_at dksX1_isRest_1 20 rfl rfl)
theorem dX1_isRest_47 : decode cX1_isRest 47 = .ok (.iconst 0, 1) := dk_3 (dk_at dksX1_isRest_1 23 rfl rfl)
theorem dX1_isRest_48 : decode cX1_isRest 48 = .ok (.iload 5, 2) := dk_21 5 (dk_at dksX1_isRest_2 0 rfl rfl)
theorem dX1_isRest_50 : decode cX1_isRest 50 = .ok (.isub, 1) := dk_100 (dk_at dksX1_isRest_2 2 rfl rfl)
theorem dX1_isRest_51 : decode cX1_isRest 51 = .ok (.iload_n 3, 1) := dk_29 (dk_at dksX1_isRest_2 3 rfl rfl)
theorem dX1_isRest_52 : decode cX1_isRest 52 = .ok (.if_icmp .gt 22, 3) := dk_163 0 22 (dk_at dksX1_isRest_2 4 rfl rfl)
theorem dX1_isRest_55 : decode cX1_isRest 55 = .ok (.iload_n 0, 1) := dk_26 (dk_at dksX1_isRest_2 7 rfl rfl)
theorem dX1_isRest_56 : decode cX1_isRest 56 = .ok (.iload 5, 2) := dk_21 5 (dk_at dksX1_isRest_2 8 rfl rfl)
theorem dX1_isRest_58 : decode cX1_isRest 58 = .ok (.if_icmp .le 7, 3) := dk_164 0 7 (dk_at dksX1_isRest_2 10 rfl rfl)
theorem dX1_isRest_61 : decode cX1_isRest 61 = .ok (.iconst 0, 1) := dk_3 (dk_at dksX1_isRest_2 13 rfl rfl)
theorem dX1_isRest_62 : decode cX1_isRest 62 = .ok (.goto 4, 3) := dk_167 0 4 (dk_at dksX1_isRest_2 14 rfl rfl)
theorem dX1_isRest_65 : decode cX1_isRest 65 = .ok (.iload_n 2, 1) := dk_28 (dk_at dksX1_isRest_2 17 rfl rfl)
theorem dX1_isRest_66 : decode cX1_isRest 66 = .ok (.iload 5, 2) := dk_21 5 (dk_at dksX1_isRest_2 18 rfl rfl)
theorem dX1_isRest_68 : decode cX1_isRest 68 = .ok (.isub, 1) := dk_100 (dk_at dksX1_isRest_2 20 rfl rfl)
theorem dX1_isRest_69 : decode cX1_isRest 69 = .ok (.iload 4, 2) := dk_21 4 (dk_at dksX1_isRest_2 21 rfl rfl)
theorem dX1_isRest_71 : decode cX1_isRest 71 = .ok (.if_icmp .le 5, 3) := dk_164 0 5 (dk_at dksX1_isRest_3 0 rfl rfl)
theorem dX1_isRest_74 : decode cX1_isRest 74 = .ok (.iconst 0, 1) := dk_3 (dk_at dksX1_isRest_3 3 rfl rfl)
theorem dX1_isRest_75 : decode cX1_isRest 75 = .ok (.ireturn, 1) := dk_172 (dk_at dksX1_isRest_3 4 rfl rfl)
theorem dX1_isRest_76 : decode cX1_isRest 76 = .ok (.iinc 5 1, 3) := dk_132 5 1 (dk_at dksX1_isRest_3 5 rfl rfl)
theorem dX1_isRest_79 : decode cX1_isRest 79 = .ok (.goto (-49), 3) := dk_167 255 207 (dk_at dksX1_isRest_3 8 rfl rfl)
theorem dX1_isRest_82 : decode cX1_isRest 82 = .ok (.iconst 1, 1) := dk_4 (dk_at dksX1_isRest_3 11 rfl rfl)
theorem dX1_isRest_83 : decode cX1_isRest 83 = .ok (.ireturn, 1) := dk_172 (dk_at dksX1_isRest_3 12 rfl rfl)
abbrev cX1_law : ByteArray := prog_1_method_101_code
def yX1_law : MethodName := ⟨RX1, "law", "()I"⟩
def dkwX1_law_3 : List UInt8 := [100, 172]
abbrev dktX1_law_3 : List UInt8 := dkwX1_law_3 ++ []
def dkwX1_law_2 : List UInt8 := [181, 1, 0, 42, 3, 181, 1, 122, 42, 21, 4, 133, 182, 1, 125, 42, 28, 133, 182, 1, 125, 21, 4, 28]
abbrev dktX1_law_2 : List UInt8 := dkwX1_law_2 ++ dktX1_law_3
def dkwX1_law_1 : List UInt8 := [42, 180, 1, 0, 78, 42, 42, 180, 0, 248, 181, 1, 0, 42, 16, 60, 182, 1, 228, 54, 4, 42, 45]
abbrev dktX1_law_1 : List UInt8 := dkwX1_law_1 ++ dktX1_law_2
def dkwX1_law_0 : List UInt8 := [42, 182, 0, 252, 60, 27, 156, 0, 11, 27, 4, 96, 17, 39, 16, 100, 172, 42, 16, 60, 182, 1, 228, 61]
abbrev dktX1_law_0 : List UInt8 := dkwX1_law_0 ++ dktX1_law_1
theorem dksX1_law_0 : cX1_law.data.toList.drop 0 = dktX1_law_0 := by decide +kernel
theorem dksX1_law_1 : cX1_law.data.toList.drop 24 = dktX1_law_1 := dk_seg dksX1_law_0 24 rfl rfl
theorem dksX1_law_2 : cX1_law.data.toList.drop 47 = dktX1_law_2 := dk_seg dksX1_law_1 23 rfl rfl
theorem dksX1_law_3 : cX1_law.data.toList.drop 71 = dktX1_law_3 := dk_seg dksX1_law_2 24 rfl rfl
theorem dX1_law_0 : decode cX1_law 0 = .ok (.aload_n 0, 1) := dk_42 (dk_at dksX1_law_0 0 rfl rfl)
theorem dX1_law_1 : decode cX1_law 1 = .ok (.invokevirtual 252, 3) := dk_182 0 252 (dk_at dksX1_law_0 1 rfl rfl)
theorem dX1_law_4 : decode cX1_law 4 = .ok (.istore_n 1, 1) := dk_60 (dk_at dksX1_law_0 4 rfl rfl)
theorem dX1_law_5 : decode cX1_law 5 = .ok (.iload_n 1, 1) := dk_27 (dk_at dksX1_law_0 5 rfl rfl)
theorem dX1_law_6 : decode cX1_law 6 = .ok (.ifCond .ge 11, 3) := dk_156 0 11 (dk_at dksX1_law_0 6 rfl rfl)
theorem dX1_law_9 : decode cX1_law 9 = .ok (.iload_n 1, 1) := dk_27 (dk_at dksX1_law_0 9 rfl rfl)
theorem dX1_law_10 : decode cX1_law 10 = .ok (.iconst 1, 1) := dk_4 (dk_at dksX1_law_0 10 rfl rfl)
theorem dX1_law_11 : decode cX1_law 11 = .ok (.iadd, 1) := dk_96 (dk_at dksX1_law_0 11 rfl rfl)
theorem dX1_law_12 : decode cX1_law 12 = .ok (.sipush 10000, 3) := dk_17 39 16 (dk_at dksX1_law_0 12 rfl rfl)
theorem dX1_law_15 : decode cX1_law 15 = .ok (.isub, 1) := dk_100 (dk_at dksX1_law_0 15 rfl rfl)
theorem dX1_law_16 : decode cX1_law 16 = .ok (.ireturn, 1) := dk_172 (dk_at dksX1_law_0 16 rfl rfl)
theorem dX1_law_17 : decode cX1_law 17 = .ok (.aload_n 0, 1) := dk_42 (dk_at dksX1_law_0 17 rfl rfl)
theorem dX1_law_18 : decode cX1_law 18 = .ok (.bipush 60, 2) := dk_16 60 (dk_at dksX1_law_0 18 rfl rfl)
theorem dX1_law_20 : decode cX1_law 20 = .ok (.invokevirtual 484, 3) := dk_182 1 228 (dk_at dksX1_law_0 20 rfl rfl)
theorem dX1_law_23 : decode cX1_law 23 = .ok (.istore_n 2, 1) := dk_61 (dk_at dksX1_law_0 23 rfl rfl)
theorem dX1_law_24 : decode cX1_law 24 = .ok (.aload_n 0, 1) := dk_42 (dk_at dksX1_law_1 0 rfl rfl)
theorem dX1_law_25 : decode cX1_law 25 = .ok (.getfield 256, 3) := dk_180 1 0 (dk_at dksX1_law_1 1 rfl rfl)
theorem dX1_law_28 : decode cX1_law 28 = .ok (.astore_n 3, 1) := dk_78 (dk_at dksX1_law_1 4 rfl rfl)
theorem dX1_law_29 : decode cX1_law 29 = .ok (.aload_n 0, 1) := dk_42 (dk_at dksX1_law_1 5 rfl rfl)
theorem dX1_law_30 : decode cX1_law 30 = .ok (.aload_n 0, 1) := dk_42 (dk_at dksX1_law_1 6 rfl rfl)
theorem dX1_law_31 : decode cX1_law 31 = .ok (.getfield 248, 3) := dk_180 0 248 (dk_at dksX1_law_1 7 rfl rfl)
theorem dX1_law_34 : decode cX1_law 34 = .ok (.putfield 256, 3) := dk_181 1 0 (dk_at dksX1_law_1 10 rfl rfl)
theorem dX1_law_37 : decode cX1_law 37 = .ok (.aload_n 0, 1) := dk_42 (dk_at dksX1_law_1 13 rfl rfl)
theorem dX1_law_38 : decode cX1_law 38 = .ok (.bipush 60, 2) := dk_16 60 (dk_at dksX1_law_1 14 rfl rfl)
theorem dX1_law_40 : decode cX1_law 40 = .ok (.invokevirtual 484, 3) := dk_182 1 228 (dk_at dksX1_law_1 16 rfl rfl)
theorem dX1_law_43 : decode cX1_law 43 = .ok (.istore 4, 2) := dk_54 4 (dk_at dksX1_law_1 19 rfl rfl)
theorem dX1_law_45 : decode cX1_law 45 = .ok (.aload_n 0, 1) := dk_42 (dk_at dksX1_law_1 21 rfl rfl)
theorem dX1_law_46 : decode cX1_law 46 = .ok (.aload_n 3, 1) := dk_45 (dk_at dksX1_law_1 22 rfl rfl)
theorem dX1_law_47 : decode cX1_law 47 = .ok (.putfield 256, 3) := dk_181 1 0 (dk_at dksX1_law_2 0 rfl rfl)
theorem dX1_law_50 : decode cX1_law 50 = .ok (.aload_n 0, 1) := dk_42 (dk_at dksX1_law_2 3 rfl rfl)
theorem dX1_law_51 : decode cX1_law 51 = .ok (.iconst 0, 1) := dk_3 (dk_at dksX1_law_2 4 rfl rfl)
theorem dX1_law_52 : decode cX1_law 52 = .ok (.putfield 378, 3) := dk_181 1 122 (dk_at dksX1_law_2 5 rfl rfl)
theorem dX1_law_55 : decode cX1_law 55 = .ok (.aload_n 0, 1) := dk_42 (dk_at dksX1_law_2 8 rfl rfl)
theorem dX1_law_56 : decode cX1_law 56 = .ok (.iload 4, 2) := dk_21 4 (dk_at dksX1_law_2 9 rfl rfl)
theorem dX1_law_58 : decode cX1_law 58 = .ok (.i2l, 1) := dk_133 (dk_at dksX1_law_2 11 rfl rfl)
theorem dX1_law_59 : decode cX1_law 59 = .ok (.invokevirtual 381, 3) := dk_182 1 125 (dk_at dksX1_law_2 12 rfl rfl)
theorem dX1_law_62 : decode cX1_law 62 = .ok (.aload_n 0, 1) := dk_42 (dk_at dksX1_law_2 15 rfl rfl)
theorem dX1_law_63 : decode cX1_law 63 = .ok (.iload_n 2, 1) := dk_28 (dk_at dksX1_law_2 16 rfl rfl)
theorem dX1_law_64 : decode cX1_law 64 = .ok (.i2l, 1) := dk_133 (dk_at dksX1_law_2 17 rfl rfl)
theorem dX1_law_65 : decode cX1_law 65 = .ok (.invokevirtual 381, 3) := dk_182 1 125 (dk_at dksX1_law_2 18 rfl rfl)
theorem dX1_law_68 : decode cX1_law 68 = .ok (.iload 4, 2) := dk_21 4 (dk_at dksX1_law_2 21 rfl rfl)
theorem dX1_law_70 : decode cX1_law 70 = .ok (.iload_n 2, 1) := dk_28 (dk_at dksX1_law_2 23 rfl rfl)
theorem dX1_law_71 : decode cX1_law 71 = .ok (.isub, 1) := dk_100 (dk_at dksX1_law_3 0 rfl rfl)
theorem dX1_law_72 : decode cX1_law 72 = .ok (.ireturn, 1) := dk_172 (dk_at dksX1_law_3 1 rfl rfl)
abbrev cX1_flownIn : ByteArray := prog_1_method_100_code
def yX1_flownIn : MethodName := ⟨RX1, "flownIn", "(I)I"⟩
def dkwX1_flownIn_1 : List UInt8 := [180, 1, 88, 42, 180, 0, 10, 180, 1, 88, 100, 172]
abbrev dktX1_flownIn_1 : List UInt8 := dkwX1_flownIn_1 ++ []
def dkwX1_flownIn_0 : List UInt8 := [42, 180, 0, 16, 42, 180, 0, 10, 182, 1, 45, 42, 42, 180, 0, 16, 27, 182, 1, 118, 42, 180, 0, 16]
abbrev dktX1_flownIn_0 : List UInt8 := dkwX1_flownIn_0 ++ dktX1_flownIn_1
theorem dksX1_flownIn_0 : cX1_flownIn.data.toList.drop 0 = dktX1_flownIn_0 := by decide +kernel
theorem dksX1_flownIn_1 : cX1_flownIn.data.toList.drop 24 = dktX1_flownIn_1 := dk_seg dksX1_flownIn_0 24 rfl rfl
theorem dX1_flownIn_0 : decode cX1_flownIn 0 = .ok (.aload_n 0, 1) := dk_42 (dk_at dksX1_flownIn_0 0 rfl rfl)
theorem dX1_flownIn_1 : decode cX1_flownIn 1 = .ok (.getfield 16, 3) := dk_180 0 16 (dk_at dksX1_flownIn_0 1 rfl rfl)
theorem dX1_flownIn_4 : decode cX1_flownIn 4 = .ok (.aload_n 0, 1) := dk_42 (dk_at dksX1_flownIn_0 4 rfl rfl)
theorem dX1_flownIn_5 : decode cX1_flownIn 5 = .ok (.getfield 10, 3) := dk_180 0 10 (dk_at dksX1_flownIn_0 5 rfl rfl)
theorem dX1_flownIn_8 : decode cX1_flownIn 8 = .ok (.invokevirtual 301, 3) := dk_182 1 45 (dk_at dksX1_flownIn_0 8 rfl rfl)
theorem dX1_flownIn_11 : decode cX1_flownIn 11 = .ok (.aload_n 0, 1) := dk_42 (dk_at dksX1_flownIn_0 11 rfl rfl)
theorem dX1_flownIn_12 : decode cX1_flownIn 12 = .ok (.aload_n 0, 1) := dk_42 (dk_at dksX1_flownIn_0 12 rfl rfl)
theorem dX1_flownIn_13 : decode cX1_flownIn 13 = .ok (.getfield 16, 3) := dk_180 0 16 (dk_at dksX1_flownIn_0 13 rfl rfl)
theorem dX1_flownIn_16 : decode cX1_flownIn 16 = .ok (.iload_n 1, 1) := dk_27 (dk_at dksX1_flownIn_0 16 rfl rfl)
theorem dX1_flownIn_17 : decode cX1_flownIn 17 = .ok (.invokevirtual 374, 3) := dk_182 1 118 (dk_at dksX1_flownIn_0 17 rfl rfl)
theorem dX1_flownIn_20 : decode cX1_flownIn 20 = .ok (.aload_n 0, 1) := dk_42 (dk_at dksX1_flownIn_0 20 rfl rfl)
theorem dX1_flownIn_21 : decode cX1_flownIn 21 = .ok (.getfield 16, 3) := dk_180 0 16 (dk_at dksX1_flownIn_0 21 rfl rfl)
theorem dX1_flownIn_24 : decode cX1_flownIn 24 = .ok (.getfield 344, 3) := dk_180 1 88 (dk_at dksX1_flownIn_1 0 rfl rfl)
theorem dX1_flownIn_27 : decode cX1_flownIn 27 = .ok (.aload_n 0, 1) := dk_42 (dk_at dksX1_flownIn_1 3 rfl rfl)
theorem dX1_flownIn_28 : decode cX1_flownIn 28 = .ok (.getfield 10, 3) := dk_180 0 10 (dk_at dksX1_flownIn_1 4 rfl rfl)
theorem dX1_flownIn_31 : decode cX1_flownIn 31 = .ok (.getfield 344, 3) := dk_180 1 88 (dk_at dksX1_flownIn_1 7 rfl rfl)
theorem dX1_flownIn_34 : decode cX1_flownIn 34 = .ok (.isub, 1) := dk_100 (dk_at dksX1_flownIn_1 10 rfl rfl)
theorem dX1_flownIn_35 : decode cX1_flownIn 35 = .ok (.ireturn, 1) := dk_172 (dk_at dksX1_flownIn_1 11 rfl rfl)
abbrev cX1_years : ByteArray := prog_1_method_103_code
def yX1_years : MethodName := ⟨RX1, "years", "(II)I"⟩
def dkwX1_years_8 : List UInt8 := [180, 0, 10, 180, 1, 88, 100, 172]
abbrev dktX1_years_8 : List UInt8 := dkwX1_years_8 ++ []
def dkwX1_years_7 : List UInt8 := [42, 42, 42, 180, 0, 16, 4, 182, 1, 76, 133, 182, 1, 125, 42, 180, 0, 16, 180, 1, 88, 42]
abbrev dktX1_years_7 : List UInt8 := dkwX1_years_7 ++ dktX1_years_8
def dkwX1_years_6 : List UInt8 := [3, 181, 1, 122, 42, 42, 180, 0, 16, 180, 1, 82, 42, 180, 0, 10, 180, 1, 82, 100, 133, 182, 1, 125]
abbrev dktX1_years_6 : List UInt8 := dkwX1_years_6 ++ dktX1_years_7
def dkwX1_years_5 : List UInt8 := [42, 42, 180, 0, 16, 21, 5, 42, 16, 10, 182, 1, 235, 182, 1, 106, 87, 132, 3, 1, 167, 255, 150, 42]
abbrev dktX1_years_5 : List UInt8 := dkwX1_years_5 ++ dktX1_years_6
def dkwX1_years_4 : List UInt8 := [87, 167, 0, 40, 21, 4, 6, 160, 0, 17, 42, 42, 180, 0, 16, 21, 5, 182, 1, 103, 87, 167, 0, 20]
abbrev dktX1_years_4 : List UInt8 := dkwX1_years_4 ++ dktX1_years_5
def dkwX1_years_3 : List UInt8 := [180, 0, 94, 182, 1, 235, 54, 5, 21, 4, 5, 160, 0, 17, 42, 42, 180, 0, 16, 21, 5, 182, 1, 97]
abbrev dktX1_years_3 : List UInt8 := dkwX1_years_3 ++ dktX1_years_4
def dkwX1_years_2 : List UInt8 := [162, 0, 14, 42, 42, 180, 0, 16, 182, 1, 94, 167, 0, 77, 42, 180, 0, 94, 158, 0, 70, 42, 42]
abbrev dktX1_years_2 : List UInt8 := dkwX1_years_2 ++ dktX1_years_3
def dkwX1_years_1 : List UInt8 := [180, 0, 10, 182, 1, 45, 3, 62, 29, 28, 162, 0, 107, 42, 8, 182, 1, 235, 54, 4, 21, 4, 5]
abbrev dktX1_years_1 : List UInt8 := dkwX1_years_1 ++ dktX1_years_2
def dkwX1_years_0 : List UInt8 := [28, 133, 10, 20, 1, 116, 184, 0, 97, 154, 0, 5, 2, 172, 42, 27, 181, 1, 231, 42, 180, 0, 16, 42]
abbrev dktX1_years_0 : List UInt8 := dkwX1_years_0 ++ dktX1_years_1
theorem dksX1_years_0 : cX1_years.data.toList.drop 0 = dktX1_years_0 := by decide +kernel
theorem dksX1_years_1 : cX1_years.data.toList.drop 24 = dktX1_years_1 := dk_seg dksX1_years_0 24 rfl rfl
theorem dksX1_years_2 : cX1_years.data.toList.drop 47 = dktX1_years_2 := dk_seg dksX1_years_1 23 rfl rfl
theorem dksX1_years_3 : cX1_years.data.toList.drop 70 = dktX1_years_3 := dk_seg dksX1_years_2 23 rfl rfl
theorem dksX1_years_4 : cX1_years.data.toList.drop 94 = dktX1_years_4 := dk_seg dksX1_years_3 24 rfl rfl
theorem dksX1_years_5 : cX1_years.data.toList.drop 118 = dktX1_years_5 := dk_seg dksX1_years_4 24 rfl rfl
theorem dksX1_years_6 : cX1_years.data.toList.drop 142 = dktX1_years_6 := dk_seg dksX1_years_5 24 rfl rfl
theorem dksX1_years_7 : cX1_years.data.toList.drop 166 = dktX1_years_7 := dk_seg dksX1_years_6 24 rfl rfl
theorem dksX1_years_8 : cX1_years.data.toList.drop 188 = dktX1_years_8 := dk_seg dksX1_years_7 22 rfl rfl
theorem dX1_years_0 : decode cX1_years 0 = .ok (.iload_n 2, 1) := dk_28 (dk_at dksX1_years_0 0 rfl rfl)
theorem dX1_years_1 : decode cX1_years 1 = .ok (.i2l, 1) := dk_133 (dk_at dksX1_years_0 1 rfl rfl)
theorem dX1_years_2 : decode cX1_years 2 = .ok (.lconst 1, 1) := dk_10 (dk_at dksX1_years_0 2 rfl rfl)
theorem dX1_years_3 : decode cX1_years 3 = .ok (.ldc2_w 372, 3) := dk_20 1 116 (dk_at dksX1_years_0 3 rfl rfl)
theorem dX1_years_6 : decode cX1_years 6 = .ok (.invokestatic 97, 3) := dk_184 0 97 (dk_at dksX1_years_0 6 rfl rfl)
theorem dX1_years_9 : decode cX1_years 9 = .ok (.ifCond .ne 5, 3) := dk_154 0 5 (dk_at dksX1_years_0 9 rfl rfl)
theorem dX1_years_12 : decode cX1_years 12 = .ok (.iconst (-1), 1) := dk_2 (dk_at dksX1_years_0 12 rfl rfl)
theorem dX1_years_13 : decode cX1_years 13 = .ok (.ireturn, 1) := dk_172 (dk_at dksX1_years_0 13 rfl rfl)
theorem dX1_years_14 : decode cX1_years 14 = .ok (.aload_n 0, 1) := dk_42 (dk_at dksX1_years_0 14 rfl rfl)
theorem dX1_years_15 : decode cX1_years 15 = .ok (.iload_n 1, 1) := dk_27 (dk_at dksX1_years_0 15 rfl rfl)
theorem dX1_years_16 : decode cX1_years 16 = .ok (.putfield 487, 3) := dk_181 1 231 (dk_at dksX1_years_0 16 rfl rfl)
theorem dX1_years_19 : decode cX1_years 19 = .ok (.aload_n 0, 1) := dk_42 (dk_at dksX1_years_0 19 rfl rfl)
theorem dX1_years_20 : decode cX1_years 20 = .ok (.getfield 16, 3) := dk_180 0 16 (dk_at dksX1_years_0 20 rfl rfl)
theorem dX1_years_23 : decode cX1_years 23 = .ok (.aload_n 0, 1) := dk_42 (dk_at dksX1_years_0 23 rfl rfl)
theorem dX1_years_24 : decode cX1_years 24 = .ok (.getfield 10, 3) := dk_180 0 10 (dk_at dksX1_years_1 0 rfl rfl)
theorem dX1_years_27 : decode cX1_years 27 = .ok (.invokevirtual 301, 3) := dk_182 1 45 (dk_at dksX1_years_1 3 rfl rfl)
theorem dX1_years_30 : decode cX1_years 30 = .ok (.iconst 0, 1) := dk_3 (dk_at dksX1_years_1 6 rfl rfl)
theorem dX1_years_31 : decode cX1_years 31 = .ok (.istore_n 3, 1) := dk_62 (dk_at dksX1_years_1 7 rfl rfl)
theorem dX1_years_32 : decode cX1_years 32 = .ok (.iload_n 3, 1) := dk_29 (dk_at dksX1_years_1 8 rfl rfl)
theorem dX1_years_33 : decode cX1_years 33 = .ok (.iload_n 2, 1) := dk_28 (dk_at dksX1_years_1 9 rfl rfl)
theorem dX1_years_34 : decode cX1_years 34 = .ok (.if_icmp .ge 107, 3) := dk_162 0 107 (dk_at dksX1_years_1 10 rfl rfl)
theorem dX1_years_37 : decode cX1_years 37 = .ok (.aload_n 0, 1) := dk_42 (dk_at dksX1_years_1 13 rfl rfl)
theorem dX1_years_38 : decode cX1_years 38 = .ok (.iconst 5, 1) := dk_8 (dk_at dksX1_years_1 14 rfl rfl)
theorem dX1_years_39 : decode cX1_years 39 = .ok (.invokevirtual 491, 3) := dk_182 1 235 (dk_at dksX1_years_1 15 rfl rfl)
theorem dX1_years_42 : decode cX1_years 42 = .ok (.istore 4, 2) := dk_54 4 (dk_at dksX1_years_1 18 rfl rfl)
theorem dX1_years_44 : decode cX1_years 44 = .ok (.iload 4, 2) := dk_21 4 (dk_at dksX1_years_1 20 rfl rfl)
theorem dX1_years_46 : decode cX1_years 46 = .ok (.iconst 2, 1) := dk_5 (dk_at dksX1_years_1 22 rfl rfl)
theorem dX1_years_47 : decode cX1_years 47 = .ok (.if_icmp .ge 14, 3) := dk_162 0 14 (dk_at dksX1_years_2 0 rfl rfl)
theorem dX1_years_50 : decode cX1_years 50 = .ok (.aload_n 0, 1) := dk_42 (dk_at dksX1_years_2 3 rfl rfl)
theorem dX1_years_51 : decode cX1_years 51 = .ok (.aload_n 0, 1) := dk_42 (dk_at dksX1_years_2 4 rfl rfl)
theorem dX1_years_52 : decode cX1_years 52 = .ok (.getfield 16, 3) := dk_180 0 16 (dk_at dksX1_years_2 5 rfl rfl)
theorem dX1_years_55 : decode cX1_years 55 = .ok (.invokevirtual 350, 3) := dk_182 1 94 (dk_at dksX1_years_2 8 rfl rfl)
theorem dX1_years_58 : decode cX1_years 58 = .ok (.goto 77, 3) := dk_167 0 77 (dk_at dksX1_years_2 11 rfl rfl)
theorem dX1_years_61 : decode cX1_years 61 = .ok (.aload_n 0, 1) := dk_42 (dk_at dksX1_years_2 14 rfl rfl)
theorem dX1_years_62 : decode cX1_years 62 = .ok (.getfield 94, 3) := dk_180 0 94 (dk_at dksX1_years_2 15 rfl rfl)
theorem dX1_years_65 : decode cX1_years 65 = .ok (.ifCond .le 70, 3) := dk_158 0 70 (dk_at dksX1_years_2 18 rfl rfl)
theorem dX1_years_68 : decode cX1_years 68 = .ok (.aload_n 0, 1) := dk_42 (dk_at dksX1_years_2 21 rfl rfl)
theorem dX1_years_69 : decode cX1_years 69 = .ok (.aload_n 0, 1) := dk_42 (dk_at dksX1_years_2 22 rfl rfl)
theorem dX1_years_70 : decode cX1_years 70 = .ok (.getfield 94, 3) := dk_180 0 94 (dk_at dksX1_years_3 0 rfl rfl)
theorem dX1_years_73 : decode cX1_years 73 = .ok (.invokevirtual 491, 3) := dk_182 1 235 (dk_at dksX1_years_3 3 rfl rfl)
theorem dX1_years_76 : decode cX1_years 76 = .ok (.istore 5, 2) := dk_54 5 (dk_at dksX1_years_3 6 rfl rfl)
theorem dX1_years_78 : decode cX1_years 78 = .ok (.iload 4, 2) := dk_21 4 (dk_at dksX1_years_3 8 rfl rfl)
theorem dX1_years_80 : decode cX1_years 80 = .ok (.iconst 2, 1) := dk_5 (dk_at dksX1_years_3 10 rfl rfl)
theorem dX1_years_81 : decode cX1_years 81 = .ok (.if_icmp .ne 17, 3) := dk_160 0 17 (dk_at dksX1_years_3 11 rfl rfl)
theorem dX1_years_84 : decode cX1_years 84 = .ok (.aload_n 0, 1) := dk_42 (dk_at dksX1_years_3 14 rfl rfl)
theorem dX1_years_85 : decode cX1_years 85 = .ok (.aload_n 0, 1) := dk_42 (dk_at dksX1_years_3 15 rfl rfl)
theorem dX1_years_86 : decode cX1_years 86 = .ok (.getfield 16, 3) := dk_180 0 16 (dk_at dksX1_years_3 16 rfl rfl)
theorem dX1_years_89 : decode cX1_years 89 = .ok (.iload 5, 2) := dk_21 5 (dk_at dksX1_years_3 19 rfl rfl)
theorem dX1_years_91 : decode cX1_years 91 = .ok (.invokevirtual 353, 3) := dk_182 1 97 (dk_at dksX1_years_3 21 rfl rfl)
theorem dX1_years_94 : decode cX1_years 94 = .ok (.pop, 1) := dk_87 (dk_at dksX1_years_4 0 rfl rfl)
theorem dX1_years_95 : decode cX1_years 95 = .ok (.goto 40, 3) := dk_167 0 40 (dk_at dksX1_years_4 1 rfl rfl)
theorem dX1_years_98 : decode cX1_years 98 = .ok (.iload 4, 2) := dk_21 4 (dk_at dksX1_years_4 4 rfl rfl)
theorem dX1_years_100 : decode cX1_years 100 = .ok (.iconst 3, 1) := dk_6 (dk_at dksX1_years_4 6 rfl rfl)
theorem dX1_years_101 : decode cX1_years 101 = .ok (.if_icmp .ne 17, 3) := dk_160 0 17 (dk_at dksX1_years_4 7 rfl rfl)
theorem dX1_years_104 : decode cX1_years 104 = .ok (.aload_n 0, 1) := dk_42 (dk_at dksX1_years_4 10 rfl rfl)
theorem dX1_years_105 : decode cX1_years 105 = .ok (.aload_n 0, 1) := dk_42 (dk_at dksX1_years_4 11 rfl rfl)
theorem dX1_years_106 : decode cX1_years 106 = .ok (.getfield 16, 3) := dk_180 0 16 (dk_at dksX1_years_4 12 rfl rfl)
theorem dX1_years_109 : decode cX1_years 109 = .ok (.iload 5, 2) := dk_21 5 (dk_at dksX1_years_4 15 rfl rfl)
theorem dX1_years_111 : decode cX1_years 111 = .ok (.invokevirtual 359, 3) := dk_182 1 103 (dk_at dksX1_years_4 17 rfl rfl)
theorem dX1_years_114 : decode cX1_years 114 = .ok (.pop, 1) := dk_87 (dk_at dksX1_years_4 20 rfl rfl)
theorem dX1_years_115 : decode cX1_years 115 = .ok (.goto 20, 3) := dk_167 0 20 (dk_at dksX1_years_4 21 rfl rfl)
theorem dX1_years_118 : decode cX1_years 118 = .ok (.aload_n 0, 1) := dk_42 (dk_at dksX1_years_5 0 rfl rfl)
theorem dX1_years_119 : decode cX1_years 119 = .ok (.aload_n 0, 1) := dk_42 (dk_at dksX1_years_5 1 rfl rfl)
theorem dX1_years_120 : decode cX1_years 120 = .ok (.getfield 16, 3) := dk_180 0 16 (dk_at dksX1_years_5 2 rfl rfl)
theorem dX1_years_123 : decode cX1_years 123 = .ok (.iload 5, 2) := dk_21 5 (dk_at dksX1_years_5 5 rfl rfl)
theorem dX1_years_125 : decode cX1_years 125 = .ok (.aload_n 0, 1) := dk_42 (dk_at dksX1_years_5 7 rfl rfl)
theorem dX1_years_126 : decode cX1_years 126 = .ok (.bipush 10, 2) := dk_16 10 (dk_at dksX1_years_5 8 rfl rfl)
theorem dX1_years_128 : decode cX1_years 128 = .ok (.invokevirtual 491, 3) := dk_182 1 235 (dk_at dksX1_years_5 10 rfl rfl)
theorem dX1_years_131 : decode cX1_years 131 = .ok (.invokevirtual 362, 3) := dk_182 1 106 (dk_at dksX1_years_5 13 rfl rfl)
theorem dX1_years_134 : decode cX1_years 134 = .ok (.pop, 1) := dk_87 (dk_at dksX1_years_5 16 rfl rfl)
theorem dX1_years_135 : decode cX1_years 135 = .ok (.iinc 3 1, 3) := dk_132 3 1 (dk_at dksX1_years_5 17 rfl rfl)
theorem dX1_years_138 : decode cX1_years 138 = .ok (.goto (-106), 3) := dk_167 255 150 (dk_at dksX1_years_5 20 rfl rfl)
theorem dX1_years_141 : decode cX1_years 141 = .ok (.aload_n 0, 1) := dk_42 (dk_at dksX1_years_5 23 rfl rfl)
theorem dX1_years_142 : decode cX1_years 142 = .ok (.iconst 0, 1) := dk_3 (dk_at dksX1_years_6 0 rfl rfl)
theorem dX1_years_143 : decode cX1_years 143 = .ok (.putfield 378, 3) := dk_181 1 122 (dk_at dksX1_years_6 1 rfl rfl)
theorem dX1_years_146 : decode cX1_years 146 = .ok (.aload_n 0, 1) := dk_42 (dk_at dksX1_years_6 4 rfl rfl)
theorem dX1_years_147 : decode cX1_years 147 = .ok (.aload_n 0, 1) := dk_42 (dk_at dksX1_years_6 5 rfl rfl)
theorem dX1_years_148 : decode cX1_years 148 = .ok (.getfield 16, 3) := dk_180 0 16 (dk_at dksX1_years_6 6 rfl rfl)
theorem dX1_years_151 : decode cX1_years 151 = .ok (.getfield 338, 3) := dk_180 1 82 (dk_at dksX1_years_6 9 rfl rfl)
theorem dX1_years_154 : decode cX1_years 154 = .ok (.aload_n 0, 1) := dk_42 (dk_at dksX1_years_6 12 rfl rfl)
theorem dX1_years_155 : decode cX1_years 155 = .ok (.getfield 10, 3) := dk_180 0 10 (dk_at dksX1_years_6 13 rfl rfl)
theorem dX1_years_158 : decode cX1_years 158 = .ok (.getfield 338, 3) := dk_180 1 82 (dk_at dksX1_years_6 16 rfl rfl)
theorem dX1_years_161 : decode cX1_years 161 = .ok (.isub, 1) := dk_100 (dk_at dksX1_years_6 19 rfl rfl)
theorem dX1_years_162 : decode cX1_years 162 = .ok (.i2l, 1) := dk_133 (dk_at dksX1_years_6 20 rfl rfl)
theorem dX1_years_163 : decode cX1_years 163 = .ok (.invokevirtual 381, 3) := dk_182 1 125 (dk_at dksX1_years_6 21 rfl rfl)
theorem dX1_years_166 : decode cX1_years 166 = .ok (.aload_n 0, 1) := dk_42 (dk_at dksX1_years_7 0 rfl rfl)
theorem dX1_years_167 : decode cX1_years 167 = .ok (.aload_n 0, 1) := dk_42 (dk_at dksX1_years_7 1 rfl rfl)
theorem dX1_years_168 : decode cX1_years 168 = .ok (.aload_n 0, 1) := dk_42 (dk_at dksX1_years_7 2 rfl rfl)
theorem dX1_years_169 : decode cX1_years 169 = .ok (.getfield 16, 3) := dk_180 0 16 (dk_at dksX1_years_7 3 rfl rfl)
theorem dX1_years_172 : decode cX1_years 172 = .ok (.iconst 1, 1) := dk_4 (dk_at dksX1_years_7 6 rfl rfl)
theorem dX1_years_173 : decode cX1_years 173 = .ok (.invokevirtual 332, 3) := dk_182 1 76 (dk_at dksX1_years_7 7 rfl rfl)
theorem dX1_years_176 : decode cX1_years 176 = .ok (.i2l, 1) := dk_133 (dk_at dksX1_years_7 10 rfl rfl)
theorem dX1_years_177 : decode cX1_years 177 = .ok (.invokevirtual 381, 3) := dk_182 1 125 (dk_at dksX1_years_7 11 rfl rfl)
theorem dX1_years_180 : decode cX1_years 180 = .ok (.aload_n 0, 1) := dk_42 (dk_at dksX1_years_7 14 rfl rfl)
theorem dX1_years_181 : decode cX1_years 181 = .ok (.getfield 16, 3) := dk_180 0 16 (dk_at dksX1_years_7 15 rfl rfl)
theorem dX1_years_184 : decode cX1_years 184 = .ok (.getfield 344, 3) := dk_180 1 88 (dk_at dksX1_years_7 18 rfl rfl)
theorem dX1_years_187 : decode cX1_years 187 = .ok (.aload_n 0, 1) := dk_42 (dk_at dksX1_years_7 21 rfl rfl)
theorem dX1_years_188 : decode cX1_years 188 = .ok (.getfield 10, 3) := dk_180 0 10 (dk_at dksX1_years_8 0 rfl rfl)
theorem dX1_years_191 : decode cX1_years 191 = .ok (.getfield 344, 3) := dk_180 1 88 (dk_at dksX1_years_8 3 rfl rfl)
theorem dX1_years_194 : decode cX1_years 194 = .ok (.isub, 1) := dk_100 (dk_at dksX1_years_8 6 rfl rfl)
theorem dX1_years_195 : decode cX1_years 195 = .ok (.ireturn, 1) := dk_172 (dk_at dksX1_years_8 7 rfl rfl)
abbrev cX1_draws : ByteArray := prog_1_method_102_code
def yX1_draws : MethodName := ⟨RX1, "draws", "(I)I"⟩
def dkwX1_draws_1 : List UInt8 := [112, 172]
abbrev dktX1_draws_1 : List UInt8 := dkwX1_draws_1 ++ []
def dkwX1_draws_0 : List UInt8 := [42, 42, 180, 1, 231, 19, 1, 234, 104, 17, 48, 57, 96, 181, 1, 231, 42, 180, 1, 231, 16, 16, 124, 27]
abbrev dktX1_draws_0 : List UInt8 := dkwX1_draws_0 ++ dktX1_draws_1
theorem dksX1_draws_0 : cX1_draws.data.toList.drop 0 = dktX1_draws_0 := by decide +kernel
theorem dksX1_draws_1 : cX1_draws.data.toList.drop 24 = dktX1_draws_1 := dk_seg dksX1_draws_0 24 rfl rfl
theorem dX1_draws_0 : decode cX1_draws 0 = .ok (.aload_n 0, 1) := dk_42 (dk_at dksX1_draws_0 0 rfl rfl)
theorem dX1_draws_1 : decode cX1_draws 1 = .ok (.aload_n 0, 1) := dk_42 (dk_at dksX1_draws_0 1 rfl rfl)
theorem dX1_draws_2 : decode cX1_draws 2 = .ok (.getfield 487, 3) := dk_180 1 231 (dk_at dksX1_draws_0 2 rfl rfl)
theorem dX1_draws_5 : decode cX1_draws 5 = .ok (.ldc_w 490, 3) := dk_19 1 234 (dk_at dksX1_draws_0 5 rfl rfl)
theorem dX1_draws_8 : decode cX1_draws 8 = .ok (.imul, 1) := dk_104 (dk_at dksX1_draws_0 8 rfl rfl)
theorem dX1_draws_9 : decode cX1_draws 9 = .ok (.sipush 12345, 3) := dk_17 48 57 (dk_at dksX1_draws_0 9 rfl rfl)
theorem dX1_draws_12 : decode cX1_draws 12 = .ok (.iadd, 1) := dk_96 (dk_at dksX1_draws_0 12 rfl rfl)
theorem dX1_draws_13 : decode cX1_draws 13 = .ok (.putfield 487, 3) := dk_181 1 231 (dk_at dksX1_draws_0 13 rfl rfl)
theorem dX1_draws_16 : decode cX1_draws 16 = .ok (.aload_n 0, 1) := dk_42 (dk_at dksX1_draws_0 16 rfl rfl)
theorem dX1_draws_17 : decode cX1_draws 17 = .ok (.getfield 487, 3) := dk_180 1 231 (dk_at dksX1_draws_0 17 rfl rfl)
theorem dX1_draws_20 : decode cX1_draws 20 = .ok (.bipush 16, 2) := dk_16 16 (dk_at dksX1_draws_0 20 rfl rfl)
theorem dX1_draws_22 : decode cX1_draws 22 = .ok (.iushr, 1) := dk_124 (dk_at dksX1_draws_0 22 rfl rfl)
theorem dX1_draws_23 : decode cX1_draws 23 = .ok (.iload_n 1, 1) := dk_27 (dk_at dksX1_draws_0 23 rfl rfl)
theorem dX1_draws_24 : decode cX1_draws 24 = .ok (.irem, 1) := dk_112 (dk_at dksX1_draws_1 0 rfl rfl)
theorem dX1_draws_25 : decode cX1_draws 25 = .ok (.ireturn, 1) := dk_172 (dk_at dksX1_draws_1 1 rfl rfl)
abbrev cX1_keep : ByteArray := prog_1_method_104_code
def yX1_keep : MethodName := ⟨RX1, "keep", "(I)Z"⟩
def dkwX1_keep_2 : List UInt8 := [182, 1, 45, 42, 180, 0, 83, 27, 42, 180, 0, 207, 79, 4, 172]
abbrev dktX1_keep_2 : List UInt8 := dkwX1_keep_2 ++ []
def dkwX1_keep_1 : List UInt8 := [180, 0, 80, 27, 187, 0, 7, 89, 183, 0, 9, 83, 42, 180, 0, 80, 27, 50, 42, 180, 0, 10]
abbrev dktX1_keep_1 : List UInt8 := dkwX1_keep_1 ++ dktX1_keep_2
def dkwX1_keep_0 : List UInt8 := [27, 133, 9, 10, 184, 0, 97, 154, 0, 5, 3, 172, 42, 180, 0, 80, 27, 50, 199, 0, 16, 42]
abbrev dktX1_keep_0 : List UInt8 := dkwX1_keep_0 ++ dktX1_keep_1
theorem dksX1_keep_0 : cX1_keep.data.toList.drop 0 = dktX1_keep_0 := by decide +kernel
theorem dksX1_keep_1 : cX1_keep.data.toList.drop 22 = dktX1_keep_1 := dk_seg dksX1_keep_0 22 rfl rfl
theorem dksX1_keep_2 : cX1_keep.data.toList.drop 44 = dktX1_keep_2 := dk_seg dksX1_keep_1 22 rfl rfl
theorem dX1_keep_0 : decode cX1_keep 0 = .ok (.iload_n 1, 1) := dk_27 (dk_at dksX1_keep_0 0 rfl rfl)
theorem dX1_keep_1 : decode cX1_keep 1 = .ok (.i2l, 1) := dk_133 (dk_at dksX1_keep_0 1 rfl rfl)
theorem dX1_keep_2 : decode cX1_keep 2 = .ok (.lconst 0, 1) := dk_9 (dk_at dksX1_keep_0 2 rfl rfl)
theorem dX1_keep_3 : decode cX1_keep 3 = .ok (.lconst 1, 1) := dk_10 (dk_at dksX1_keep_0 3 rfl rfl)
theorem dX1_keep_4 : decode cX1_keep 4 = .ok (.invokestatic 97, 3) := dk_184 0 97 (dk_at dksX1_keep_0 4 rfl rfl)
theorem dX1_keep_7 : decode cX1_keep 7 = .ok (.ifCond .ne 5, 3) := dk_154 0 5 (dk_at dksX1_keep_0 7 rfl rfl)
theorem dX1_keep_10 : decode cX1_keep 10 = .ok (.iconst 0, 1) := dk_3 (dk_at dksX1_keep_0 10 rfl rfl)
theorem dX1_keep_11 : decode cX1_keep 11 = .ok (.ireturn, 1) := dk_172 (dk_at dksX1_keep_0 11 rfl rfl)
theorem dX1_keep_12 : decode cX1_keep 12 = .ok (.aload_n 0, 1) := dk_42 (dk_at dksX1_keep_0 12 rfl rfl)
theorem dX1_keep_13 : decode cX1_keep 13 = .ok (.getfield 80, 3) := dk_180 0 80 (dk_at dksX1_keep_0 13 rfl rfl)
theorem dX1_keep_16 : decode cX1_keep 16 = .ok (.iload_n 1, 1) := dk_27 (dk_at dksX1_keep_0 16 rfl rfl)
theorem dX1_keep_17 : decode cX1_keep 17 = .ok (.aaload, 1) := dk_50 (dk_at dksX1_keep_0 17 rfl rfl)
theorem dX1_keep_18 : decode cX1_keep 18 = .ok (.ifnonnull 16, 3) := dk_199 0 16 (dk_at dksX1_keep_0 18 rfl rfl)
theorem dX1_keep_21 : decode cX1_keep 21 = .ok (.aload_n 0, 1) := dk_42 (dk_at dksX1_keep_0 21 rfl rfl)
theorem dX1_keep_22 : decode cX1_keep 22 = .ok (.getfield 80, 3) := dk_180 0 80 (dk_at dksX1_keep_1 0 rfl rfl)
theorem dX1_keep_25 : decode cX1_keep 25 = .ok (.iload_n 1, 1) := dk_27 (dk_at dksX1_keep_1 3 rfl rfl)
theorem dX1_keep_26 : decode cX1_keep 26 = .ok (.new 7, 3) := dk_187 0 7 (dk_at dksX1_keep_1 4 rfl rfl)
theorem dX1_keep_29 : decode cX1_keep 29 = .ok (.dup, 1) := dk_89 (dk_at dksX1_keep_1 7 rfl rfl)
theorem dX1_keep_30 : decode cX1_keep 30 = .ok (.invokespecial 9, 3) := dk_183 0 9 (dk_at dksX1_keep_1 8 rfl rfl)
theorem dX1_keep_33 : decode cX1_keep 33 = .ok (.aastore, 1) := dk_83 (dk_at dksX1_keep_1 11 rfl rfl)
theorem dX1_keep_34 : decode cX1_keep 34 = .ok (.aload_n 0, 1) := dk_42 (dk_at dksX1_keep_1 12 rfl rfl)
theorem dX1_keep_35 : decode cX1_keep 35 = .ok (.getfield 80, 3) := dk_180 0 80 (dk_at dksX1_keep_1 13 rfl rfl)
theorem dX1_keep_38 : decode cX1_keep 38 = .ok (.iload_n 1, 1) := dk_27 (dk_at dksX1_keep_1 16 rfl rfl)
theorem dX1_keep_39 : decode cX1_keep 39 = .ok (.aaload, 1) := dk_50 (dk_at dksX1_keep_1 17 rfl rfl)
theorem dX1_keep_40 : decode cX1_keep 40 = .ok (.aload_n 0, 1) := dk_42 (dk_at dksX1_keep_1 18 rfl rfl)
theorem dX1_keep_41 : decode cX1_keep 41 = .ok (.getfield 10, 3) := dk_180 0 10 (dk_at dksX1_keep_1 19 rfl rfl)
theorem dX1_keep_44 : decode cX1_keep 44 = .ok (.invokevirtual 301, 3) := dk_182 1 45 (dk_at dksX1_keep_2 0 rfl rfl)
theorem dX1_keep_47 : decode cX1_keep 47 = .ok (.aload_n 0, 1) := dk_42 (dk_at dksX1_keep_2 3 rfl rfl)
theorem dX1_keep_48 : decode cX1_keep 48 = .ok (.getfield 83, 3) := dk_180 0 83 (dk_at dksX1_keep_2 4 rfl rfl)
theorem dX1_keep_51 : decode cX1_keep 51 = .ok (.iload_n 1, 1) := dk_27 (dk_at dksX1_keep_2 7 rfl rfl)
theorem dX1_keep_52 : decode cX1_keep 52 = .ok (.aload_n 0, 1) := dk_42 (dk_at dksX1_keep_2 8 rfl rfl)
theorem dX1_keep_53 : decode cX1_keep 53 = .ok (.getfield 207, 3) := dk_180 0 207 (dk_at dksX1_keep_2 9 rfl rfl)
theorem dX1_keep_56 : decode cX1_keep 56 = .ok (.iastore, 1) := dk_79 (dk_at dksX1_keep_2 12 rfl rfl)
theorem dX1_keep_57 : decode cX1_keep 57 = .ok (.iconst 1, 1) := dk_4 (dk_at dksX1_keep_2 13 rfl rfl)
theorem dX1_keep_58 : decode cX1_keep 58 = .ok (.ireturn, 1) := dk_172 (dk_at dksX1_keep_2 14 rfl rfl)
abbrev cX1_again : ByteArray := prog_1_method_105_code
def yX1_again : MethodName := ⟨RX1, "again", "(I)Z"⟩
def dkwX1_again_2 : List UInt8 := [3, 181, 0, 204, 4, 172]
abbrev dktX1_again_2 : List UInt8 := dkwX1_again_2 ++ []
def dkwX1_again_1 : List UInt8 := [46, 42, 180, 0, 207, 159, 0, 5, 3, 172, 42, 180, 0, 10, 42, 180, 0, 80, 27, 50, 182, 1, 45, 42]
abbrev dktX1_again_1 : List UInt8 := dkwX1_again_1 ++ dktX1_again_2
def dkwX1_again_0 : List UInt8 := [27, 133, 9, 10, 184, 0, 97, 153, 0, 25, 42, 180, 0, 80, 27, 50, 198, 0, 16, 42, 180, 0, 83, 27]
abbrev dktX1_again_0 : List UInt8 := dkwX1_again_0 ++ dktX1_again_1
theorem dksX1_again_0 : cX1_again.data.toList.drop 0 = dktX1_again_0 := by decide +kernel
theorem dksX1_again_1 : cX1_again.data.toList.drop 24 = dktX1_again_1 := dk_seg dksX1_again_0 24 rfl rfl
theorem dksX1_again_2 : cX1_again.data.toList.drop 48 = dktX1_again_2 := dk_seg dksX1_again_1 24 rfl rfl
theorem dX1_again_0 : decode cX1_again 0 = .ok (.iload_n 1, 1) := dk_27 (dk_at dksX1_again_0 0 rfl rfl)
theorem dX1_again_1 : decode cX1_again 1 = .ok (.i2l, 1) := dk_133 (dk_at dksX1_again_0 1 rfl rfl)
theorem dX1_again_2 : decode cX1_again 2 = .ok (.lconst 0, 1) := dk_9 (dk_at dksX1_again_0 2 rfl rfl)
theorem dX1_again_3 : decode cX1_again 3 = .ok (.lconst 1, 1) := dk_10 (dk_at dksX1_again_0 3 rfl rfl)
theorem dX1_again_4 : decode cX1_again 4 = .ok (.invokestatic 97, 3) := dk_184 0 97 (dk_at dksX1_again_0 4 rfl rfl)
theorem dX1_again_7 : decode cX1_again 7 = .ok (.ifCond .eq 25, 3) := dk_153 0 25 (dk_at dksX1_again_0 7 rfl rfl)
theorem dX1_again_10 : decode cX1_again 10 = .ok (.aload_n 0, 1) := dk_42 (dk_at dksX1_again_0 10 rfl rfl)
theorem dX1_again_11 : decode cX1_again 11 = .ok (.getfield 80, 3) := dk_180 0 80 (dk_at dksX1_again_0 11 rfl rfl)
theorem dX1_again_14 : decode cX1_again 14 = .ok (.iload_n 1, 1) := dk_27 (dk_at dksX1_again_0 14 rfl rfl)
theorem dX1_again_15 : decode cX1_again 15 = .ok (.aaload, 1) := dk_50 (dk_at dksX1_again_0 15 rfl rfl)
theorem dX1_again_16 : decode cX1_again 16 = .ok (.ifnull 16, 3) := dk_198 0 16 (dk_at dksX1_again_0 16 rfl rfl)
theorem dX1_again_19 : decode cX1_again 19 = .ok (.aload_n 0, 1) := dk_42 (dk_at dksX1_again_0 19 rfl rfl)
theorem dX1_again_20 : decode cX1_again 20 = .ok (.getfield 83, 3) := dk_180 0 83 (dk_at dksX1_again_0 20 rfl rfl)
theorem dX1_again_23 : decode cX1_again 23 = .ok (.iload_n 1, 1) := dk_27 (dk_at dksX1_again_0 23 rfl rfl)
theorem dX1_again_24 : decode cX1_again 24 = .ok (.iaload, 1) := dk_46 (dk_at dksX1_again_1 0 rfl rfl)
theorem dX1_again_25 : decode cX1_again 25 = .ok (.aload_n 0, 1) := dk_42 (dk_at dksX1_again_1 1 rfl rfl)
theorem dX1_again_26 : decode cX1_again 26 = .ok (.getfield 207, 3) := dk_180 0 207 (dk_at dksX1_again_1 2 rfl rfl)
theorem dX1_again_29 : decode cX1_again 29 = .ok (.if_icmp .eq 5, 3) := dk_159 0 5 (dk_at dksX1_again_1 5 rfl rfl)
theorem dX1_again_32 : decode cX1_again 32 = .ok (.iconst 0, 1) := dk_3 (dk_at dksX1_again_1 8 rfl rfl)
theorem dX1_again_33 : decode cX1_again 33 = .ok (.ireturn, 1) := dk_172 (dk_at dksX1_again_1 9 rfl rfl)
theorem dX1_again_34 : decode cX1_again 34 = .ok (.aload_n 0, 1) := dk_42 (dk_at dksX1_again_1 10 rfl rfl)
theorem dX1_again_35 : decode cX1_again 35 = .ok (.getfield 10, 3) := dk_180 0 10 (dk_at dksX1_again_1 11 rfl rfl)
theorem dX1_again_38 : decode cX1_again 38 = .ok (.aload_n 0, 1) := dk_42 (dk_at dksX1_again_1 14 rfl rfl)
theorem dX1_again_39 : decode cX1_again 39 = .ok (.getfield 80, 3) := dk_180 0 80 (dk_at dksX1_again_1 15 rfl rfl)
theorem dX1_again_42 : decode cX1_again 42 = .ok (.iload_n 1, 1) := dk_27 (dk_at dksX1_again_1 18 rfl rfl)
theorem dX1_again_43 : decode cX1_again 43 = .ok (.aaload, 1) := dk_50 (dk_at dksX1_again_1 19 rfl rfl)
theorem dX1_again_44 : decode cX1_again 44 = .ok (.invokevirtual 301, 3) := dk_182 1 45 (dk_at dksX1_again_1 20 rfl rfl)
theorem dX1_again_47 : decode cX1_again 47 = .ok (.aload_n 0, 1) := dk_42 (dk_at dksX1_again_1 23 rfl rfl)
theorem dX1_again_48 : decode cX1_again 48 = .ok (.iconst 0, 1) := dk_3 (dk_at dksX1_again_2 0 rfl rfl)
theorem dX1_again_49 : decode cX1_again 49 = .ok (.putfield 204, 3) := dk_181 0 204 (dk_at dksX1_again_2 1 rfl rfl)
theorem dX1_again_52 : decode cX1_again 52 = .ok (.iconst 1, 1) := dk_4 (dk_at dksX1_again_2 4 rfl rfl)
theorem dX1_again_53 : decode cX1_again 53 = .ok (.ireturn, 1) := dk_172 (dk_at dksX1_again_2 5 rfl rfl)
abbrev cX1_count : ByteArray := prog_1_method_106_code
def yX1_count : MethodName := ⟨RX1, "count", "(I)I"⟩
def dkwX1_count_6 : List UInt8 := [180, 0, 120, 172, 2, 172]
abbrev dktX1_count_6 : List UInt8 := dkwX1_count_6 ++ []
def dkwX1_count_5 : List UInt8 := [180, 0, 197, 182, 1, 41, 172, 42, 180, 1, 215, 172, 42, 180, 0, 204, 172, 42, 180, 1, 122, 172, 42]
abbrev dktX1_count_5 : List UInt8 := dkwX1_count_5 ++ dktX1_count_6
def dkwX1_count_4 : List UInt8 := [180, 0, 10, 5, 182, 1, 76, 172, 42, 42, 180, 0, 10, 182, 1, 52, 172, 42, 42, 180, 0, 10]
abbrev dktX1_count_4 : List UInt8 := dkwX1_count_4 ++ dktX1_count_5
def dkwX1_count_3 : List UInt8 := [180, 1, 88, 172, 42, 180, 0, 10, 180, 1, 82, 172, 42, 42, 180, 0, 10, 4, 182, 1, 76, 172, 42, 42]
abbrev dktX1_count_3 : List UInt8 := dkwX1_count_3 ++ dktX1_count_4
def dkwX1_count_2 : List UInt8 := [42, 180, 0, 94, 172, 42, 180, 0, 19, 172, 42, 180, 0, 10, 180, 1, 91, 172, 42, 180, 0, 10]
abbrev dktX1_count_2 : List UInt8 := dkwX1_count_2 ++ dktX1_count_3
def dkwX1_count_1 : List UInt8 := [170, 0, 0, 0, 0, 0, 162, 0, 0, 0, 0, 0, 0, 0, 12, 0, 0, 0, 67, 0, 0, 0, 72, 0, 0, 0, 77, 0, 0, 0, 85, 0, 0, 0, 93, 0, 0, 0, 101, 0, 0, 0, 111, 0, 0, 0, 121, 0, 0, 0, 130, 0, 0, 0, 142, 0, 0, 0, 147, 0, 0, 0, 152, 0, 0, 0, 157]
abbrev dktX1_count_1 : List UInt8 := dkwX1_count_1 ++ dktX1_count_2
def dkwX1_count_0 : List UInt8 := [27]
abbrev dktX1_count_0 : List UInt8 := dkwX1_count_0 ++ dktX1_count_1
theorem dksX1_count_0 : cX1_count.data.toList.drop 0 = dktX1_count_0 := by decide +kernel
theorem dksX1_count_1 : cX1_count.data.toList.drop 1 = dktX1_count_1 := dk_seg dksX1_count_0 1 rfl rfl
theorem dksX1_count_2 : cX1_count.data.toList.drop 68 = dktX1_count_2 := dk_seg dksX1_count_1 67 rfl rfl
theorem dksX1_count_3 : cX1_count.data.toList.drop 90 = dktX1_count_3 := dk_seg dksX1_count_2 22 rfl rfl
theorem dksX1_count_4 : cX1_count.data.toList.drop 114 = dktX1_count_4 := dk_seg dksX1_count_3 24 rfl rfl
theorem dksX1_count_5 : cX1_count.data.toList.drop 136 = dktX1_count_5 := dk_seg dksX1_count_4 22 rfl rfl
theorem dksX1_count_6 : cX1_count.data.toList.drop 159 = dktX1_count_6 := dk_seg dksX1_count_5 23 rfl rfl
theorem dX1_count_0 : decode cX1_count 0 = .ok (.iload_n 1, 1) := dk_27 (dk_at dksX1_count_0 0 rfl rfl)
theorem dX1_count_1 : decode cX1_count 1 = .ok (.tableswitch 162 0 12 #[67, 72, 77, 85, 93, 101, 111, 121, 130, 142, 147, 152, 157], 67) := by decide +kernel
theorem dX1_count_68 : decode cX1_count 68 = .ok (.aload_n 0, 1) := dk_42 (dk_at dksX1_count_2 0 rfl rfl)
theorem dX1_count_69 : decode cX1_count 69 = .ok (.getfield 94, 3) := dk_180 0 94 (dk_at dksX1_count_2 1 rfl rfl)
theorem dX1_count_72 : decode cX1_count 72 = .ok (.ireturn, 1) := dk_172 (dk_at dksX1_count_2 4 rfl rfl)
theorem dX1_count_73 : decode cX1_count 73 = .ok (.aload_n 0, 1) := dk_42 (dk_at dksX1_count_2 5 rfl rfl)
theorem dX1_count_74 : decode cX1_count 74 = .ok (.getfield 19, 3) := dk_180 0 19 (dk_at dksX1_count_2 6 rfl rfl)
theorem dX1_count_77 : decode cX1_count 77 = .ok (.ireturn, 1) := dk_172 (dk_at dksX1_count_2 9 rfl rfl)
theorem dX1_count_78 : decode cX1_count 78 = .ok (.aload_n 0, 1) := dk_42 (dk_at dksX1_count_2 10 rfl rfl)
theorem dX1_count_79 : decode cX1_count 79 = .ok (.getfield 10, 3) := dk_180 0 10 (dk_at dksX1_count_2 11 rfl rfl)
theorem dX1_count_82 : decode cX1_count 82 = .ok (.getfield 347, 3) := dk_180 1 91 (dk_at dksX1_count_2 14 rfl rfl)
theorem dX1_count_85 : decode cX1_count 85 = .ok (.ireturn, 1) := dk_172 (dk_at dksX1_count_2 17 rfl rfl)
theorem dX1_count_86 : decode cX1_count 86 = .ok (.aload_n 0, 1) := dk_42 (dk_at dksX1_count_2 18 rfl rfl)
theorem dX1_count_87 : decode cX1_count 87 = .ok (.getfield 10, 3) := dk_180 0 10 (dk_at dksX1_count_2 19 rfl rfl)
theorem dX1_count_90 : decode cX1_count 90 = .ok (.getfield 344, 3) := dk_180 1 88 (dk_at dksX1_count_3 0 rfl rfl)
theorem dX1_count_93 : decode cX1_count 93 = .ok (.ireturn, 1) := dk_172 (dk_at dksX1_count_3 3 rfl rfl)
theorem dX1_count_94 : decode cX1_count 94 = .ok (.aload_n 0, 1) := dk_42 (dk_at dksX1_count_3 4 rfl rfl)
theorem dX1_count_95 : decode cX1_count 95 = .ok (.getfield 10, 3) := dk_180 0 10 (dk_at dksX1_count_3 5 rfl rfl)
theorem dX1_count_98 : decode cX1_count 98 = .ok (.getfield 338, 3) := dk_180 1 82 (dk_at dksX1_count_3 8 rfl rfl)
theorem dX1_count_101 : decode cX1_count 101 = .ok (.ireturn, 1) := dk_172 (dk_at dksX1_count_3 11 rfl rfl)
theorem dX1_count_102 : decode cX1_count 102 = .ok (.aload_n 0, 1) := dk_42 (dk_at dksX1_count_3 12 rfl rfl)
theorem dX1_count_103 : decode cX1_count 103 = .ok (.aload_n 0, 1) := dk_42 (dk_at dksX1_count_3 13 rfl rfl)
theorem dX1_count_104 : decode cX1_count 104 = .ok (.getfield 10, 3) := dk_180 0 10 (dk_at dksX1_count_3 14 rfl rfl)
theorem dX1_count_107 : decode cX1_count 107 = .ok (.iconst 1, 1) := dk_4 (dk_at dksX1_count_3 17 rfl rfl)
theorem dX1_count_108 : decode cX1_count 108 = .ok (.invokevirtual 332, 3) := dk_182 1 76 (dk_at dksX1_count_3 18 rfl rfl)
theorem dX1_count_111 : decode cX1_count 111 = .ok (.ireturn, 1) := dk_172 (dk_at dksX1_count_3 21 rfl rfl)
theorem dX1_count_112 : decode cX1_count 112 = .ok (.aload_n 0, 1) := dk_42 (dk_at dksX1_count_3 22 rfl rfl)
theorem dX1_count_113 : decode cX1_count 113 = .ok (.aload_n 0, 1) := dk_42 (dk_at dksX1_count_3 23 rfl rfl)
theorem dX1_count_114 : decode cX1_count 114 = .ok (.getfield 10, 3) := dk_180 0 10 (dk_at dksX1_count_4 0 rfl rfl)
theorem dX1_count_117 : decode cX1_count 117 = .ok (.iconst 2, 1) := dk_5 (dk_at dksX1_count_4 3 rfl rfl)
theorem dX1_count_118 : decode cX1_count 118 = .ok (.invokevirtual 332, 3) := dk_182 1 76 (dk_at dksX1_count_4 4 rfl rfl)
theorem dX1_count_121 : decode cX1_count 121 = .ok (.ireturn, 1) := dk_172 (dk_at dksX1_count_4 7 rfl rfl)
theorem dX1_count_122 : decode cX1_count 122 = .ok (.aload_n 0, 1) := dk_42 (dk_at dksX1_count_4 8 rfl rfl)
theorem dX1_count_123 : decode cX1_count 123 = .ok (.aload_n 0, 1) := dk_42 (dk_at dksX1_count_4 9 rfl rfl)
theorem dX1_count_124 : decode cX1_count 124 = .ok (.getfield 10, 3) := dk_180 0 10 (dk_at dksX1_count_4 10 rfl rfl)
theorem dX1_count_127 : decode cX1_count 127 = .ok (.invokevirtual 308, 3) := dk_182 1 52 (dk_at dksX1_count_4 13 rfl rfl)
theorem dX1_count_130 : decode cX1_count 130 = .ok (.ireturn, 1) := dk_172 (dk_at dksX1_count_4 16 rfl rfl)
theorem dX1_count_131 : decode cX1_count 131 = .ok (.aload_n 0, 1) := dk_42 (dk_at dksX1_count_4 17 rfl rfl)
theorem dX1_count_132 : decode cX1_count 132 = .ok (.aload_n 0, 1) := dk_42 (dk_at dksX1_count_4 18 rfl rfl)
theorem dX1_count_133 : decode cX1_count 133 = .ok (.getfield 10, 3) := dk_180 0 10 (dk_at dksX1_count_4 19 rfl rfl)
theorem dX1_count_136 : decode cX1_count 136 = .ok (.getfield 197, 3) := dk_180 0 197 (dk_at dksX1_count_5 0 rfl rfl)
theorem dX1_count_139 : decode cX1_count 139 = .ok (.invokevirtual 297, 3) := dk_182 1 41 (dk_at dksX1_count_5 3 rfl rfl)
theorem dX1_count_142 : decode cX1_count 142 = .ok (.ireturn, 1) := dk_172 (dk_at dksX1_count_5 6 rfl rfl)
theorem dX1_count_143 : decode cX1_count 143 = .ok (.aload_n 0, 1) := dk_42 (dk_at dksX1_count_5 7 rfl rfl)
theorem dX1_count_144 : decode cX1_count 144 = .ok (.getfield 471, 3) := dk_180 1 215 (dk_at dksX1_count_5 8 rfl rfl)
theorem dX1_count_147 : decode cX1_count 147 = .ok (.ireturn, 1) := dk_172 (dk_at dksX1_count_5 11 rfl rfl)
theorem dX1_count_148 : decode cX1_count 148 = .ok (.aload_n 0, 1) := dk_42 (dk_at dksX1_count_5 12 rfl rfl)
theorem dX1_count_149 : decode cX1_count 149 = .ok (.getfield 204, 3) := dk_180 0 204 (dk_at dksX1_count_5 13 rfl rfl)
theorem dX1_count_152 : decode cX1_count 152 = .ok (.ireturn, 1) := dk_172 (dk_at dksX1_count_5 16 rfl rfl)
theorem dX1_count_153 : decode cX1_count 153 = .ok (.aload_n 0, 1) := dk_42 (dk_at dksX1_count_5 17 rfl rfl)
theorem dX1_count_154 : decode cX1_count 154 = .ok (.getfield 378, 3) := dk_180 1 122 (dk_at dksX1_count_5 18 rfl rfl)
theorem dX1_count_157 : decode cX1_count 157 = .ok (.ireturn, 1) := dk_172 (dk_at dksX1_count_5 21 rfl rfl)
theorem dX1_count_158 : decode cX1_count 158 = .ok (.aload_n 0, 1) := dk_42 (dk_at dksX1_count_5 22 rfl rfl)
theorem dX1_count_159 : decode cX1_count 159 = .ok (.getfield 120, 3) := dk_180 0 120 (dk_at dksX1_count_6 0 rfl rfl)
theorem dX1_count_162 : decode cX1_count 162 = .ok (.ireturn, 1) := dk_172 (dk_at dksX1_count_6 3 rfl rfl)
theorem dX1_count_163 : decode cX1_count 163 = .ok (.iconst (-1), 1) := dk_2 (dk_at dksX1_count_6 4 rfl rfl)
theorem dX1_count_164 : decode cX1_count 164 = .ok (.ireturn, 1) := dk_172 (dk_at dksX1_count_6 5 rfl rfl)
abbrev cX1_nest : ByteArray := prog_1_method_31_code
def yX1_nest : MethodName := ⟨RX1, "nest", "(II)I"⟩
def dkwX1_nest_5 : List UInt8 := [4, 167, 0, 4, 3, 172, 187, 1, 23, 89, 183, 1, 25, 191]
abbrev dktX1_nest_5 : List UInt8 := dkwX1_nest_5 ++ []
def dkwX1_nest_4 : List UInt8 := [46, 172, 42, 180, 0, 10, 180, 1, 26, 27, 46, 172, 42, 42, 180, 0, 10, 27, 182, 0, 116, 153, 0, 7]
abbrev dktX1_nest_4 : List UInt8 := dkwX1_nest_4 ++ dktX1_nest_5
def dkwX1_nest_3 : List UInt8 := [180, 0, 194, 27, 46, 172, 42, 180, 0, 10, 180, 0, 197, 27, 46, 172, 42, 180, 0, 10, 180, 0, 110, 27]
abbrev dktX1_nest_3 : List UInt8 := dkwX1_nest_3 ++ dktX1_nest_4
def dkwX1_nest_2 : List UInt8 := [42, 180, 0, 10, 180, 0, 188, 27, 46, 172, 42, 180, 0, 10, 180, 0, 191, 27, 46, 172, 42, 180, 0, 10]
abbrev dktX1_nest_2 : List UInt8 := dkwX1_nest_2 ++ dktX1_nest_3
def dkwX1_nest_1 : List UInt8 := [170, 0, 0, 0, 0, 0, 121, 0, 0, 0, 0, 0, 0, 0, 6, 0, 0, 0, 43, 0, 0, 0, 53, 0, 0, 0, 63, 0, 0, 0, 73, 0, 0, 0, 83, 0, 0, 0, 93, 0, 0, 0, 103]
abbrev dktX1_nest_1 : List UInt8 := dkwX1_nest_1 ++ dktX1_nest_2
def dkwX1_nest_0 : List UInt8 := [42, 27, 182, 0, 101, 154, 0, 11, 187, 1, 23, 89, 183, 1, 25, 191, 28]
abbrev dktX1_nest_0 : List UInt8 := dkwX1_nest_0 ++ dktX1_nest_1
theorem dksX1_nest_0 : cX1_nest.data.toList.drop 0 = dktX1_nest_0 := by decide +kernel
theorem dksX1_nest_1 : cX1_nest.data.toList.drop 17 = dktX1_nest_1 := dk_seg dksX1_nest_0 17 rfl rfl
theorem dksX1_nest_2 : cX1_nest.data.toList.drop 60 = dktX1_nest_2 := dk_seg dksX1_nest_1 43 rfl rfl
theorem dksX1_nest_3 : cX1_nest.data.toList.drop 84 = dktX1_nest_3 := dk_seg dksX1_nest_2 24 rfl rfl
theorem dksX1_nest_4 : cX1_nest.data.toList.drop 108 = dktX1_nest_4 := dk_seg dksX1_nest_3 24 rfl rfl
theorem dksX1_nest_5 : cX1_nest.data.toList.drop 132 = dktX1_nest_5 := dk_seg dksX1_nest_4 24 rfl rfl
theorem dX1_nest_0 : decode cX1_nest 0 = .ok (.aload_n 0, 1) := dk_42 (dk_at dksX1_nest_0 0 rfl rfl)
theorem dX1_nest_1 : decode cX1_nest 1 = .ok (.iload_n 1, 1) := dk_27 (dk_at dksX1_nest_0 1 rfl rfl)
theorem dX1_nest_2 : decode cX1_nest 2 = .ok (.invokevirtual 101, 3) := dk_182 0 101 (dk_at dksX1_nest_0 2 rfl rfl)
theorem dX1_nest_5 : decode cX1_nest 5 = .ok (.ifCond .ne 11, 3) := dk_154 0 11 (dk_at dksX1_nest_0 5 rfl rfl)
theorem dX1_nest_8 : decode cX1_nest 8 = .ok (.new 279, 3) := dk_187 1 23 (dk_at dksX1_nest_0 8 rfl rfl)
theorem dX1_nest_11 : decode cX1_nest 11 = .ok (.dup, 1) := dk_89 (dk_at dksX1_nest_0 11 rfl rfl)
theorem dX1_nest_12 : decode cX1_nest 12 = .ok (.invokespecial 281, 3) := dk_183 1 25 (dk_at dksX1_nest_0 12 rfl rfl)
theorem dX1_nest_15 : decode cX1_nest 15 = .ok (.athrow, 1) := dk_191 (dk_at dksX1_nest_0 15 rfl rfl)
theorem dX1_nest_16 : decode cX1_nest 16 = .ok (.iload_n 2, 1) := dk_28 (dk_at dksX1_nest_0 16 rfl rfl)
theorem dX1_nest_17 : decode cX1_nest 17 = .ok (.tableswitch 121 0 6 #[43, 53, 63, 73, 83, 93, 103], 43) := by decide +kernel
theorem dX1_nest_60 : decode cX1_nest 60 = .ok (.aload_n 0, 1) := dk_42 (dk_at dksX1_nest_2 0 rfl rfl)
theorem dX1_nest_61 : decode cX1_nest 61 = .ok (.getfield 10, 3) := dk_180 0 10 (dk_at dksX1_nest_2 1 rfl rfl)
theorem dX1_nest_64 : decode cX1_nest 64 = .ok (.getfield 188, 3) := dk_180 0 188 (dk_at dksX1_nest_2 4 rfl rfl)
theorem dX1_nest_67 : decode cX1_nest 67 = .ok (.iload_n 1, 1) := dk_27 (dk_at dksX1_nest_2 7 rfl rfl)
theorem dX1_nest_68 : decode cX1_nest 68 = .ok (.iaload, 1) := dk_46 (dk_at dksX1_nest_2 8 rfl rfl)
theorem dX1_nest_69 : decode cX1_nest 69 = .ok (.ireturn, 1) := dk_172 (dk_at dksX1_nest_2 9 rfl rfl)
theorem dX1_nest_70 : decode cX1_nest 70 = .ok (.aload_n 0, 1) := dk_42 (dk_at dksX1_nest_2 10 rfl rfl)
theorem dX1_nest_71 : decode cX1_nest 71 = .ok (.getfield 10, 3) := dk_180 0 10 (dk_at dksX1_nest_2 11 rfl rfl)
theorem dX1_nest_74 : decode cX1_nest 74 = .ok (.getfield 191, 3) := dk_180 0 191 (dk_at dksX1_nest_2 14 rfl rfl)
theorem dX1_nest_77 : decode cX1_nest 77 = .ok (.iload_n 1, 1) := dk_27 (dk_at dksX1_nest_2 17 rfl rfl)
theorem dX1_nest_78 : decode cX1_nest 78 = .ok (.iaload, 1) := dk_46 (dk_at dksX1_nest_2 18 rfl rfl)
theorem dX1_nest_79 : decode cX1_nest 79 = .ok (.ireturn, 1) := dk_172 (dk_at dksX1_nest_2 19 rfl rfl)
theorem dX1_nest_80 : decode cX1_nest 80 = .ok (.aload_n 0, 1) := dk_42 (dk_at dksX1_nest_2 20 rfl rfl)
theorem dX1_nest_81 : decode cX1_nest 81 = .ok (.getfield 10, 3) := dk_180 0 10 (dk_at dksX1_nest_2 21 rfl rfl)
theorem dX1_nest_84 : decode cX1_nest 84 = .ok (.getfield 194, 3) := dk_180 0 194 (dk_at dksX1_nest_3 0 rfl rfl)
theorem dX1_nest_87 : decode cX1_nest 87 = .ok (.iload_n 1, 1) := dk_27 (dk_at dksX1_nest_3 3 rfl rfl)
theorem dX1_nest_88 : decode cX1_nest 88 = .ok (.iaload, 1) := dk_46 (dk_at dksX1_nest_3 4 rfl rfl)
theorem dX1_nest_89 : decode cX1_nest 89 = .ok (.ireturn, 1) := dk_172 (dk_at dksX1_nest_3 5 rfl rfl)
theorem dX1_nest_90 : decode cX1_nest 90 = .ok (.aload_n 0, 1) := dk_42 (dk_at dksX1_nest_3 6 rfl rfl)
theorem dX1_nest_91 : decode cX1_nest 91 = .ok (.getfield 10, 3) := dk_180 0 10 (dk_at dksX1_nest_3 7 rfl rfl)
theorem dX1_nest_94 : decode cX1_nest 94 = .ok (.getfield 197, 3) := dk_180 0 197 (dk_at dksX1_nest_3 10 rfl rfl)
theorem dX1_nest_97 : decode cX1_nest 97 = .ok (.iload_n 1, 1) := dk_27 (dk_at dksX1_nest_3 13 rfl rfl)
theorem dX1_nest_98 : decode cX1_nest 98 = .ok (.iaload, 1) := dk_46 (dk_at dksX1_nest_3 14 rfl rfl)
theorem dX1_nest_99 : decode cX1_nest 99 = .ok (.ireturn, 1) := dk_172 (dk_at dksX1_nest_3 15 rfl rfl)
theorem dX1_nest_100 : decode cX1_nest 100 = .ok (.aload_n 0, 1) := dk_42 (dk_at dksX1_nest_3 16 rfl rfl)
theorem dX1_nest_101 : decode cX1_nest 101 = .ok (.getfield 10, 3) := dk_180 0 10 (dk_at dksX1_nest_3 17 rfl rfl)
theorem dX1_nest_104 : decode cX1_nest 104 = .ok (.getfield 110, 3) := dk_180 0 110 (dk_at dksX1_nest_3 20 rfl rfl)
theorem dX1_nest_107 : decode cX1_nest 107 = .ok (.iload_n 1, 1) := dk_27 (dk_at dksX1_nest_3 23 rfl rfl)
theorem dX1_nest_108 : decode cX1_nest 108 = .ok (.iaload, 1) := dk_46 (dk_at dksX1_nest_4 0 rfl rfl)
theorem dX1_nest_109 : decode cX1_nest 109 = .ok (.ireturn, 1) := dk_172 (dk_at dksX1_nest_4 1 rfl rfl)
theorem dX1_nest_110 : decode cX1_nest 110 = .ok (.aload_n 0, 1) := dk_42 (dk_at dksX1_nest_4 2 rfl rfl)
theorem dX1_nest_111 : decode cX1_nest 111 = .ok (.getfield 10, 3) := dk_180 0 10 (dk_at dksX1_nest_4 3 rfl rfl)
theorem dX1_nest_114 : decode cX1_nest 114 = .ok (.getfield 282, 3) := dk_180 1 26 (dk_at dksX1_nest_4 6 rfl rfl)
theorem dX1_nest_117 : decode cX1_nest 117 = .ok (.iload_n 1, 1) := dk_27 (dk_at dksX1_nest_4 9 rfl rfl)
theorem dX1_nest_118 : decode cX1_nest 118 = .ok (.iaload, 1) := dk_46 (dk_at dksX1_nest_4 10 rfl rfl)
theorem dX1_nest_119 : decode cX1_nest 119 = .ok (.ireturn, 1) := dk_172 (dk_at dksX1_nest_4 11 rfl rfl)
theorem dX1_nest_120 : decode cX1_nest 120 = .ok (.aload_n 0, 1) := dk_42 (dk_at dksX1_nest_4 12 rfl rfl)
theorem dX1_nest_121 : decode cX1_nest 121 = .ok (.aload_n 0, 1) := dk_42 (dk_at dksX1_nest_4 13 rfl rfl)
theorem dX1_nest_122 : decode cX1_nest 122 = .ok (.getfield 10, 3) := dk_180 0 10 (dk_at dksX1_nest_4 14 rfl rfl)
theorem dX1_nest_125 : decode cX1_nest 125 = .ok (.iload_n 1, 1) := dk_27 (dk_at dksX1_nest_4 17 rfl rfl)
theorem dX1_nest_126 : decode cX1_nest 126 = .ok (.invokevirtual 116, 3) := dk_182 0 116 (dk_at dksX1_nest_4 18 rfl rfl)
theorem dX1_nest_129 : decode cX1_nest 129 = .ok (.ifCond .eq 7, 3) := dk_153 0 7 (dk_at dksX1_nest_4 21 rfl rfl)
theorem dX1_nest_132 : decode cX1_nest 132 = .ok (.iconst 1, 1) := dk_4 (dk_at dksX1_nest_5 0 rfl rfl)
theorem dX1_nest_133 : decode cX1_nest 133 = .ok (.goto 4, 3) := dk_167 0 4 (dk_at dksX1_nest_5 1 rfl rfl)
theorem dX1_nest_136 : decode cX1_nest 136 = .ok (.iconst 0, 1) := dk_3 (dk_at dksX1_nest_5 4 rfl rfl)
theorem dX1_nest_137 : decode cX1_nest 137 = .ok (.ireturn, 1) := dk_172 (dk_at dksX1_nest_5 5 rfl rfl)
theorem dX1_nest_138 : decode cX1_nest 138 = .ok (.new 279, 3) := dk_187 1 23 (dk_at dksX1_nest_5 6 rfl rfl)
theorem dX1_nest_141 : decode cX1_nest 141 = .ok (.dup, 1) := dk_89 (dk_at dksX1_nest_5 9 rfl rfl)
theorem dX1_nest_142 : decode cX1_nest 142 = .ok (.invokespecial 281, 3) := dk_183 1 25 (dk_at dksX1_nest_5 10 rfl rfl)
theorem dX1_nest_145 : decode cX1_nest 145 = .ok (.athrow, 1) := dk_191 (dk_at dksX1_nest_5 13 rfl rfl)
abbrev cX1_guest : ByteArray := prog_1_method_32_code
def yX1_guest : MethodName := ⟨RX1, "guest", "(II)I"⟩
def dkwX1_guest_5 : List UInt8 := [183, 1, 25, 191]
abbrev dktX1_guest_5 : List UInt8 := dkwX1_guest_5 ++ []
def dkwX1_guest_4 : List UInt8 := [46, 154, 0, 7, 3, 167, 0, 12, 42, 42, 180, 0, 10, 27, 182, 1, 35, 172, 187, 1, 23, 89]
abbrev dktX1_guest_4 : List UInt8 := dkwX1_guest_4 ++ dktX1_guest_5
def dkwX1_guest_3 : List UInt8 := [180, 1, 29, 27, 46, 172, 42, 180, 0, 10, 180, 1, 32, 27, 46, 172, 42, 180, 0, 10, 180, 0, 113, 27]
abbrev dktX1_guest_3 : List UInt8 := dkwX1_guest_3 ++ dktX1_guest_4
def dkwX1_guest_2 : List UInt8 := [42, 180, 0, 10, 180, 0, 113, 27, 46, 172, 42, 180, 0, 10, 180, 1, 3, 27, 46, 172, 42, 180, 0, 10]
abbrev dktX1_guest_2 : List UInt8 := dkwX1_guest_2 ++ dktX1_guest_3
def dkwX1_guest_1 : List UInt8 := [170, 0, 0, 0, 0, 0, 101, 0, 0, 0, 0, 0, 0, 0, 4, 0, 0, 0, 35, 0, 0, 0, 45, 0, 0, 0, 55, 0, 0, 0, 65, 0, 0, 0, 75]
abbrev dktX1_guest_1 : List UInt8 := dkwX1_guest_1 ++ dktX1_guest_2
def dkwX1_guest_0 : List UInt8 := [42, 27, 182, 0, 101, 154, 0, 11, 187, 1, 23, 89, 183, 1, 25, 191, 28]
abbrev dktX1_guest_0 : List UInt8 := dkwX1_guest_0 ++ dktX1_guest_1
theorem dksX1_guest_0 : cX1_guest.data.toList.drop 0 = dktX1_guest_0 := by decide +kernel
theorem dksX1_guest_1 : cX1_guest.data.toList.drop 17 = dktX1_guest_1 := dk_seg dksX1_guest_0 17 rfl rfl
theorem dksX1_guest_2 : cX1_guest.data.toList.drop 52 = dktX1_guest_2 := dk_seg dksX1_guest_1 35 rfl rfl
theorem dksX1_guest_3 : cX1_guest.data.toList.drop 76 = dktX1_guest_3 := dk_seg dksX1_guest_2 24 rfl rfl
theorem dksX1_guest_4 : cX1_guest.data.toList.drop 100 = dktX1_guest_4 := dk_seg dksX1_guest_3 24 rfl rfl
theorem dksX1_guest_5 : cX1_guest.data.toList.drop 122 = dktX1_guest_5 := dk_seg dksX1_guest_4 22 rfl rfl
theorem dX1_guest_0 : decode cX1_guest 0 = .ok (.aload_n 0, 1) := dk_42 (dk_at dksX1_guest_0 0 rfl rfl)
theorem dX1_guest_1 : decode cX1_guest 1 = .ok (.iload_n 1, 1) := dk_27 (dk_at dksX1_guest_0 1 rfl rfl)
theorem dX1_guest_2 : decode cX1_guest 2 = .ok (.invokevirtual 101, 3) := dk_182 0 101 (dk_at dksX1_guest_0 2 rfl rfl)
theorem dX1_guest_5 : decode cX1_guest 5 = .ok (.ifCond .ne 11, 3) := dk_154 0 11 (dk_at dksX1_guest_0 5 rfl rfl)
theorem dX1_guest_8 : decode cX1_guest 8 = .ok (.new 279, 3) := dk_187 1 23 (dk_at dksX1_guest_0 8 rfl rfl)
theorem dX1_guest_11 : decode cX1_guest 11 = .ok (.dup, 1) := dk_89 (dk_at dksX1_guest_0 11 rfl rfl)
theorem dX1_guest_12 : decode cX1_guest 12 = .ok (.invokespecial 281, 3) := dk_183 1 25 (dk_at dksX1_guest_0 12 rfl rfl)
theorem dX1_guest_15 : decode cX1_guest 15 = .ok (.athrow, 1) := dk_191 (dk_at dksX1_guest_0 15 rfl rfl)
theorem dX1_guest_16 : decode cX1_guest 16 = .ok (.iload_n 2, 1) := dk_28 (dk_at dksX1_guest_0 16 rfl rfl)
theorem dX1_guest_17 : decode cX1_guest 17 = .ok (.tableswitch 101 0 4 #[35, 45, 55, 65, 75], 35) := by decide +kernel
theorem dX1_guest_52 : decode cX1_guest 52 = .ok (.aload_n 0, 1) := dk_42 (dk_at dksX1_guest_2 0 rfl rfl)
theorem dX1_guest_53 : decode cX1_guest 53 = .ok (.getfield 10, 3) := dk_180 0 10 (dk_at dksX1_guest_2 1 rfl rfl)
theorem dX1_guest_56 : decode cX1_guest 56 = .ok (.getfield 113, 3) := dk_180 0 113 (dk_at dksX1_guest_2 4 rfl rfl)
theorem dX1_guest_59 : decode cX1_guest 59 = .ok (.iload_n 1, 1) := dk_27 (dk_at dksX1_guest_2 7 rfl rfl)
theorem dX1_guest_60 : decode cX1_guest 60 = .ok (.iaload, 1) := dk_46 (dk_at dksX1_guest_2 8 rfl rfl)
theorem dX1_guest_61 : decode cX1_guest 61 = .ok (.ireturn, 1) := dk_172 (dk_at dksX1_guest_2 9 rfl rfl)
theorem dX1_guest_62 : decode cX1_guest 62 = .ok (.aload_n 0, 1) := dk_42 (dk_at dksX1_guest_2 10 rfl rfl)
theorem dX1_guest_63 : decode cX1_guest 63 = .ok (.getfield 10, 3) := dk_180 0 10 (dk_at dksX1_guest_2 11 rfl rfl)
theorem dX1_guest_66 : decode cX1_guest 66 = .ok (.getfield 259, 3) := dk_180 1 3 (dk_at dksX1_guest_2 14 rfl rfl)
theorem dX1_guest_69 : decode cX1_guest 69 = .ok (.iload_n 1, 1) := dk_27 (dk_at dksX1_guest_2 17 rfl rfl)
theorem dX1_guest_70 : decode cX1_guest 70 = .ok (.iaload, 1) := dk_46 (dk_at dksX1_guest_2 18 rfl rfl)
theorem dX1_guest_71 : decode cX1_guest 71 = .ok (.ireturn, 1) := dk_172 (dk_at dksX1_guest_2 19 rfl rfl)
theorem dX1_guest_72 : decode cX1_guest 72 = .ok (.aload_n 0, 1) := dk_42 (dk_at dksX1_guest_2 20 rfl rfl)
theorem dX1_guest_73 : decode cX1_guest 73 = .ok (.getfield 10, 3) := dk_180 0 10 (dk_at dksX1_guest_2 21 rfl rfl)
theorem dX1_guest_76 : decode cX1_guest 76 = .ok (.getfield 285, 3) := dk_180 1 29 (dk_at dksX1_guest_3 0 rfl rfl)
theorem dX1_guest_79 : decode cX1_guest 79 = .ok (.iload_n 1, 1) := dk_27 (dk_at dksX1_guest_3 3 rfl rfl)
theorem dX1_guest_80 : decode cX1_guest 80 = .ok (.iaload, 1) := dk_46 (dk_at dksX1_guest_3 4 rfl rfl)
theorem dX1_guest_81 : decode cX1_guest 81 = .ok (.ireturn, 1) := dk_172 (dk_at dksX1_guest_3 5 rfl rfl)
theorem dX1_guest_82 : decode cX1_guest 82 = .ok (.aload_n 0, 1) := dk_42 (dk_at dksX1_guest_3 6 rfl rfl)
theorem dX1_guest_83 : decode cX1_guest 83 = .ok (.getfield 10, 3) := dk_180 0 10 (dk_at dksX1_guest_3 7 rfl rfl)
theorem dX1_guest_86 : decode cX1_guest 86 = .ok (.getfield 288, 3) := dk_180 1 32 (dk_at dksX1_guest_3 10 rfl rfl)
theorem dX1_guest_89 : decode cX1_guest 89 = .ok (.iload_n 1, 1) := dk_27 (dk_at dksX1_guest_3 13 rfl rfl)
theorem dX1_guest_90 : decode cX1_guest 90 = .ok (.iaload, 1) := dk_46 (dk_at dksX1_guest_3 14 rfl rfl)
theorem dX1_guest_91 : decode cX1_guest 91 = .ok (.ireturn, 1) := dk_172 (dk_at dksX1_guest_3 15 rfl rfl)
theorem dX1_guest_92 : decode cX1_guest 92 = .ok (.aload_n 0, 1) := dk_42 (dk_at dksX1_guest_3 16 rfl rfl)
theorem dX1_guest_93 : decode cX1_guest 93 = .ok (.getfield 10, 3) := dk_180 0 10 (dk_at dksX1_guest_3 17 rfl rfl)
theorem dX1_guest_96 : decode cX1_guest 96 = .ok (.getfield 113, 3) := dk_180 0 113 (dk_at dksX1_guest_3 20 rfl rfl)
theorem dX1_guest_99 : decode cX1_guest 99 = .ok (.iload_n 1, 1) := dk_27 (dk_at dksX1_guest_3 23 rfl rfl)
theorem dX1_guest_100 : decode cX1_guest 100 = .ok (.iaload, 1) := dk_46 (dk_at dksX1_guest_4 0 rfl rfl)
theorem dX1_guest_101 : decode cX1_guest 101 = .ok (.ifCond .ne 7, 3) := dk_154 0 7 (dk_at dksX1_guest_4 1 rfl rfl)
theorem dX1_guest_104 : decode cX1_guest 104 = .ok (.iconst 0, 1) := dk_3 (dk_at dksX1_guest_4 4 rfl rfl)
theorem dX1_guest_105 : decode cX1_guest 105 = .ok (.goto 12, 3) := dk_167 0 12 (dk_at dksX1_guest_4 5 rfl rfl)
theorem dX1_guest_108 : decode cX1_guest 108 = .ok (.aload_n 0, 1) := dk_42 (dk_at dksX1_guest_4 8 rfl rfl)
theorem dX1_guest_109 : decode cX1_guest 109 = .ok (.aload_n 0, 1) := dk_42 (dk_at dksX1_guest_4 9 rfl rfl)
theorem dX1_guest_110 : decode cX1_guest 110 = .ok (.getfield 10, 3) := dk_180 0 10 (dk_at dksX1_guest_4 10 rfl rfl)
theorem dX1_guest_113 : decode cX1_guest 113 = .ok (.iload_n 1, 1) := dk_27 (dk_at dksX1_guest_4 13 rfl rfl)
theorem dX1_guest_114 : decode cX1_guest 114 = .ok (.invokevirtual 291, 3) := dk_182 1 35 (dk_at dksX1_guest_4 14 rfl rfl)
theorem dX1_guest_117 : decode cX1_guest 117 = .ok (.ireturn, 1) := dk_172 (dk_at dksX1_guest_4 17 rfl rfl)
theorem dX1_guest_118 : decode cX1_guest 118 = .ok (.new 279, 3) := dk_187 1 23 (dk_at dksX1_guest_4 18 rfl rfl)
theorem dX1_guest_121 : decode cX1_guest 121 = .ok (.dup, 1) := dk_89 (dk_at dksX1_guest_4 21 rfl rfl)
theorem dX1_guest_122 : decode cX1_guest 122 = .ok (.invokespecial 281, 3) := dk_183 1 25 (dk_at dksX1_guest_5 0 rfl rfl)
theorem dX1_guest_125 : decode cX1_guest 125 = .ok (.athrow, 1) := dk_191 (dk_at dksX1_guest_5 3 rfl rfl)
abbrev cX1_row : ByteArray := prog_1_method_108_code
def yX1_row : MethodName := ⟨RX1, "row", "(I)J"⟩
def dkwX1_row_1 : List UInt8 := [42, 180, 0, 86, 27, 47, 173]
abbrev dktX1_row_1 : List UInt8 := dkwX1_row_1 ++ []
def dkwX1_row_0 : List UInt8 := [27, 133, 9, 42, 180, 1, 122, 4, 100, 133, 184, 0, 97, 154, 0, 11, 187, 1, 23, 89, 183, 1, 25, 191]
abbrev dktX1_row_0 : List UInt8 := dkwX1_row_0 ++ dktX1_row_1
theorem dksX1_row_0 : cX1_row.data.toList.drop 0 = dktX1_row_0 := by decide +kernel
theorem dksX1_row_1 : cX1_row.data.toList.drop 24 = dktX1_row_1 := dk_seg dksX1_row_0 24 rfl rfl
theorem dX1_row_0 : decode cX1_row 0 = .ok (.iload_n 1, 1) := dk_27 (dk_at dksX1_row_0 0 rfl rfl)
theorem dX1_row_1 : decode cX1_row 1 = .ok (.i2l, 1) := dk_133 (dk_at dksX1_row_0 1 rfl rfl)
theorem dX1_row_2 : decode cX1_row 2 = .ok (.lconst 0, 1) := dk_9 (dk_at dksX1_row_0 2 rfl rfl)
theorem dX1_row_3 : decode cX1_row 3 = .ok (.aload_n 0, 1) := dk_42 (dk_at dksX1_row_0 3 rfl rfl)
theorem dX1_row_4 : decode cX1_row 4 = .ok (.getfield 378, 3) := dk_180 1 122 (dk_at dksX1_row_0 4 rfl rfl)
theorem dX1_row_7 : decode cX1_row 7 = .ok (.iconst 1, 1) := dk_4 (dk_at dksX1_row_0 7 rfl rfl)
theorem dX1_row_8 : decode cX1_row 8 = .ok (.isub, 1) := dk_100 (dk_at dksX1_row_0 8 rfl rfl)
theorem dX1_row_9 : decode cX1_row 9 = .ok (.i2l, 1) := dk_133 (dk_at dksX1_row_0 9 rfl rfl)
theorem dX1_row_10 : decode cX1_row 10 = .ok (.invokestatic 97, 3) := dk_184 0 97 (dk_at dksX1_row_0 10 rfl rfl)
theorem dX1_row_13 : decode cX1_row 13 = .ok (.ifCond .ne 11, 3) := dk_154 0 11 (dk_at dksX1_row_0 13 rfl rfl)
theorem dX1_row_16 : decode cX1_row 16 = .ok (.new 279, 3) := dk_187 1 23 (dk_at dksX1_row_0 16 rfl rfl)
theorem dX1_row_19 : decode cX1_row 19 = .ok (.dup, 1) := dk_89 (dk_at dksX1_row_0 19 rfl rfl)
theorem dX1_row_20 : decode cX1_row 20 = .ok (.invokespecial 281, 3) := dk_183 1 25 (dk_at dksX1_row_0 20 rfl rfl)
theorem dX1_row_23 : decode cX1_row 23 = .ok (.athrow, 1) := dk_191 (dk_at dksX1_row_0 23 rfl rfl)
theorem dX1_row_24 : decode cX1_row 24 = .ok (.aload_n 0, 1) := dk_42 (dk_at dksX1_row_1 0 rfl rfl)
theorem dX1_row_25 : decode cX1_row 25 = .ok (.getfield 86, 3) := dk_180 0 86 (dk_at dksX1_row_1 1 rfl rfl)
theorem dX1_row_28 : decode cX1_row 28 = .ok (.iload_n 1, 1) := dk_27 (dk_at dksX1_row_1 4 rfl rfl)
theorem dX1_row_29 : decode cX1_row 29 = .ok (.laload, 1) := dk_47 (dk_at dksX1_row_1 5 rfl rfl)
theorem dX1_row_30 : decode cX1_row 30 = .ok (.lreturn, 1) := dk_173 (dk_at dksX1_row_1 6 rfl rfl)
theorem q102 : (Jvm.Cond.initialized "CuckooByPost") ∈ lw_all := lw_g (lw_at lw_m1 1 rfl) rfl
theorem q123 : (Jvm.Cond.instantiable "CuckooByPost" (41 : Nat)) ∈ lw_all := lw_g (lw_at lw_m1 22 rfl) rfl
theorem q125 : (Jvm.Cond.instanceMethod ({ cls := "CuckooByPost", name := "<init>", desc := "()V" } : Jvm.MethodName)) ∈ lw_all := lw_g (lw_at lw_m1 24 rfl) rfl
theorem q126 : (Jvm.Cond.code ({ cls := "CuckooByPost", name := "<init>", desc := "()V" } : Jvm.MethodName) prog_1_method_1_code (1 : Nat) (Option.none : Option Jvm.ClassFile.FieldType)) ∈ lw_all := lw_g (lw_at lw_m1 25 rfl) rfl
theorem q127 : (Jvm.Cond.methodLink "CuckooByPost" (1 : Nat) ({ cls := "java/lang/Object", name := "<init>", desc := "()V" } : Jvm.MethodName)) ∈ lw_all := lw_g (lw_at lw_m1 26 rfl) rfl
theorem q130 : (Jvm.Cond.classLink "CuckooByPost" (7 : Nat) "CuckooByPost$Spring") ∈ lw_all := lw_g (lw_at lw_m1 29 rfl) rfl
theorem q132 : (Jvm.Cond.methodLinkNest "CuckooByPost" (9 : Nat) ({ cls := "CuckooByPost$Spring", name := "<init>", desc := "()V" } : Jvm.MethodName) "CuckooByPost") ∈ lw_tbl := lw_at lw_m1 31 rfl
theorem q138 : (Jvm.Cond.fieldLinkNest "CuckooByPost" (188 : Nat) "CuckooByPost$Spring" "kind" "[I" "CuckooByPost") ∈ lw_tbl := lw_at lw_m1 37 rfl
theorem q141 : (Jvm.Cond.fieldLinkNest "CuckooByPost" (191 : Nat) "CuckooByPost$Spring" "strength" "[I" "CuckooByPost") ∈ lw_tbl := lw_at lw_m1 40 rfl
theorem q144 : (Jvm.Cond.fieldLinkNest "CuckooByPost" (194 : Nat) "CuckooByPost$Spring" "colour" "[I" "CuckooByPost") ∈ lw_tbl := lw_at lw_m1 43 rfl
theorem q147 : (Jvm.Cond.fieldLinkNest "CuckooByPost" (197 : Nat) "CuckooByPost$Spring" "own" "[I" "CuckooByPost") ∈ lw_tbl := lw_at lw_m1 46 rfl
theorem q150 : (Jvm.Cond.fieldLinkNest "CuckooByPost" (110 : Nat) "CuckooByPost$Spring" "notice" "[I" "CuckooByPost") ∈ lw_tbl := lw_at lw_m1 49 rfl
theorem q152 : (Jvm.Cond.fieldLinkNest "CuckooByPost" (282 : Nat) "CuckooByPost$Spring" "replies" "[I" "CuckooByPost") ∈ lw_tbl := lw_at lw_m1 51 rfl
theorem q154 : (Jvm.Cond.fieldLinkNest "CuckooByPost" (113 : Nat) "CuckooByPost$Spring" "guest" "[I" "CuckooByPost") ∈ lw_tbl := lw_at lw_m1 53 rfl
theorem q157 : (Jvm.Cond.fieldLinkNest "CuckooByPost" (259 : Nat) "CuckooByPost$Spring" "tint" "[I" "CuckooByPost") ∈ lw_tbl := lw_at lw_m1 56 rfl
theorem q160 : (Jvm.Cond.fieldLinkNest "CuckooByPost" (285 : Nat) "CuckooByPost$Spring" "age" "[I" "CuckooByPost") ∈ lw_tbl := lw_at lw_m1 59 rfl
theorem q162 : (Jvm.Cond.fieldLinkNest "CuckooByPost" (288 : Nat) "CuckooByPost$Spring" "fed" "[I" "CuckooByPost") ∈ lw_tbl := lw_at lw_m1 61 rfl
theorem q165 : (Jvm.Cond.fieldLinkNest "CuckooByPost" (347 : Nat) "CuckooByPost$Spring" "day" "I" "CuckooByPost") ∈ lw_tbl := lw_at lw_m1 64 rfl
theorem q167 : (Jvm.Cond.fieldLinkNest "CuckooByPost" (344 : Nat) "CuckooByPost$Spring" "flown" "I" "CuckooByPost") ∈ lw_tbl := lw_at lw_m1 66 rfl
theorem q169 : (Jvm.Cond.fieldLinkNest "CuckooByPost" (338 : Nat) "CuckooByPost$Spring" "turned" "I" "CuckooByPost") ∈ lw_tbl := lw_at lw_m1 68 rfl
theorem q199 : (Jvm.Cond.fieldLink "CuckooByPost" (10 : Nat) "CuckooByPost" "now" "LCuckooByPost$Spring;") ∈ lw_all := lw_g (lw_at lw_m1 98 rfl) rfl
theorem q200 : (Jvm.Cond.fieldLink "CuckooByPost" (16 : Nat) "CuckooByPost" "tried" "LCuckooByPost$Spring;") ∈ lw_all := lw_g (lw_at lw_m1 99 rfl) rfl
theorem q201 : (Jvm.Cond.fieldLink "CuckooByPost" (94 : Nat) "CuckooByPost" "nests" "I") ∈ lw_all := lw_g (lw_at lw_m1 100 rfl) rfl
theorem q202 : (Jvm.Cond.fieldLink "CuckooByPost" (19 : Nat) "CuckooByPost" "clear" "I") ∈ lw_all := lw_g (lw_at lw_m1 101 rfl) rfl
theorem q203 : (Jvm.Cond.fieldLink "CuckooByPost" (207 : Nat) "CuckooByPost" "changes" "I") ∈ lw_all := lw_g (lw_at lw_m1 102 rfl) rfl
theorem q204 : (Jvm.Cond.fieldLink "CuckooByPost" (23 : Nat) "CuckooByPost" "text" "[I") ∈ lw_all := lw_g (lw_at lw_m1 103 rfl) rfl
theorem q205 : (Jvm.Cond.fieldLink "CuckooByPost" (120 : Nat) "CuckooByPost" "signMany" "I") ∈ lw_all := lw_g (lw_at lw_m1 104 rfl) rfl
theorem q206 : (Jvm.Cond.fieldLink "CuckooByPost" (123 : Nat) "CuckooByPost" "at" "I") ∈ lw_all := lw_g (lw_at lw_m1 105 rfl) rfl
theorem q207 : (Jvm.Cond.fieldLink "CuckooByPost" (135 : Nat) "CuckooByPost" "end" "I") ∈ lw_all := lw_g (lw_at lw_m1 106 rfl) rfl
theorem q208 : (Jvm.Cond.fieldLink "CuckooByPost" (126 : Nat) "CuckooByPost" "nest" "I") ∈ lw_all := lw_g (lw_at lw_m1 107 rfl) rfl
theorem q209 : (Jvm.Cond.fieldLink "CuckooByPost" (27 : Nat) "CuckooByPost" "readKind" "[I") ∈ lw_all := lw_g (lw_at lw_m1 108 rfl) rfl
theorem q210 : (Jvm.Cond.fieldLink "CuckooByPost" (30 : Nat) "CuckooByPost" "readStrength" "[I") ∈ lw_all := lw_g (lw_at lw_m1 109 rfl) rfl
theorem q211 : (Jvm.Cond.fieldLink "CuckooByPost" (33 : Nat) "CuckooByPost" "readColour" "[I") ∈ lw_all := lw_g (lw_at lw_m1 110 rfl) rfl
theorem q212 : (Jvm.Cond.fieldLink "CuckooByPost" (36 : Nat) "CuckooByPost" "readOwn" "[I") ∈ lw_all := lw_g (lw_at lw_m1 111 rfl) rfl
theorem q213 : (Jvm.Cond.fieldLink "CuckooByPost" (160 : Nat) "CuckooByPost" "readMany" "I") ∈ lw_all := lw_g (lw_at lw_m1 112 rfl) rfl
theorem q215 : (Jvm.Cond.fieldLink "CuckooByPost" (268 : Nat) "CuckooByPost" "askedSpring" "LCuckooByPost$Spring;") ∈ lw_all := lw_g (lw_at lw_m1 114 rfl) rfl
theorem q217 : (Jvm.Cond.fieldLink "CuckooByPost" (271 : Nat) "CuckooByPost" "askedNest" "I") ∈ lw_all := lw_g (lw_at lw_m1 116 rfl) rfl
theorem q218 : (Jvm.Cond.fieldLink "CuckooByPost" (256 : Nat) "CuckooByPost" "rule" "LCuckooByPost$Node;") ∈ lw_all := lw_g (lw_at lw_m1 117 rfl) rfl
theorem q219 : (Jvm.Cond.fieldLink "CuckooByPost" (248 : Nat) "CuckooByPost" "readRule" "LCuckooByPost$Node;") ∈ lw_all := lw_g (lw_at lw_m1 118 rfl) rfl
theorem q220 : (Jvm.Cond.fieldLink "CuckooByPost" (39 : Nat) "CuckooByPost" "undone" "[LCuckooByPost$Spring;") ∈ lw_all := lw_g (lw_at lw_m1 119 rfl) rfl
theorem q221 : (Jvm.Cond.fieldLink "CuckooByPost" (43 : Nat) "CuckooByPost" "wasAhead" "LCuckooByPost$Spring;") ∈ lw_all := lw_g (lw_at lw_m1 120 rfl) rfl
theorem q222 : (Jvm.Cond.fieldLink "CuckooByPost" (204 : Nat) "CuckooByPost" "undoMany" "I") ∈ lw_all := lw_g (lw_at lw_m1 121 rfl) rfl
theorem q223 : (Jvm.Cond.fieldLink "CuckooByPost" (46 : Nat) "CuckooByPost" "isOut" "[Z") ∈ lw_all := lw_g (lw_at lw_m1 122 rfl) rfl
theorem q224 : (Jvm.Cond.fieldLink "CuckooByPost" (50 : Nat) "CuckooByPost" "actSign" "[I") ∈ lw_all := lw_g (lw_at lw_m1 123 rfl) rfl
theorem q225 : (Jvm.Cond.fieldLink "CuckooByPost" (53 : Nat) "CuckooByPost" "actOne" "[I") ∈ lw_all := lw_g (lw_at lw_m1 124 rfl) rfl
theorem q226 : (Jvm.Cond.fieldLink "CuckooByPost" (56 : Nat) "CuckooByPost" "actTwo" "[I") ∈ lw_all := lw_g (lw_at lw_m1 125 rfl) rfl
theorem q227 : (Jvm.Cond.fieldLink "CuckooByPost" (385 : Nat) "CuckooByPost" "actMany" "I") ∈ lw_all := lw_g (lw_at lw_m1 126 rfl) rfl
theorem q228 : (Jvm.Cond.fieldLink "CuckooByPost" (59 : Nat) "CuckooByPost" "laidColour" "[I") ∈ lw_all := lw_g (lw_at lw_m1 127 rfl) rfl
theorem q229 : (Jvm.Cond.fieldLink "CuckooByPost" (62 : Nat) "CuckooByPost" "laidIn" "[I") ∈ lw_all := lw_g (lw_at lw_m1 128 rfl) rfl
theorem q230 : (Jvm.Cond.fieldLink "CuckooByPost" (65 : Nat) "CuckooByPost" "bestIn" "[I") ∈ lw_all := lw_g (lw_at lw_m1 129 rfl) rfl
theorem q231 : (Jvm.Cond.fieldLink "CuckooByPost" (410 : Nat) "CuckooByPost" "bestFlown" "I") ∈ lw_all := lw_g (lw_at lw_m1 130 rfl) rfl
theorem q232 : (Jvm.Cond.fieldLink "CuckooByPost" (68 : Nat) "CuckooByPost" "lodging" "[I") ∈ lw_all := lw_g (lw_at lw_m1 131 rfl) rfl
theorem q233 : (Jvm.Cond.fieldLink "CuckooByPost" (71 : Nat) "CuckooByPost" "told" "[I") ∈ lw_all := lw_g (lw_at lw_m1 132 rfl) rfl
theorem q234 : (Jvm.Cond.fieldLink "CuckooByPost" (471 : Nat) "CuckooByPost" "writtenMany" "I") ∈ lw_all := lw_g (lw_at lw_m1 133 rfl) rfl
theorem q235 : (Jvm.Cond.fieldLink "CuckooByPost" (74 : Nat) "CuckooByPost" "writtenWhat" "[I") ∈ lw_all := lw_g (lw_at lw_m1 134 rfl) rfl
theorem q236 : (Jvm.Cond.fieldLink "CuckooByPost" (77 : Nat) "CuckooByPost" "writtenOf" "[I") ∈ lw_all := lw_g (lw_at lw_m1 135 rfl) rfl
theorem q237 : (Jvm.Cond.fieldLink "CuckooByPost" (487 : Nat) "CuckooByPost" "random" "I") ∈ lw_all := lw_g (lw_at lw_m1 136 rfl) rfl
theorem q238 : (Jvm.Cond.fieldLink "CuckooByPost" (80 : Nat) "CuckooByPost" "kept" "[LCuckooByPost$Spring;") ∈ lw_all := lw_g (lw_at lw_m1 137 rfl) rfl
theorem q239 : (Jvm.Cond.fieldLink "CuckooByPost" (83 : Nat) "CuckooByPost" "keptChanges" "[I") ∈ lw_all := lw_g (lw_at lw_m1 138 rfl) rfl
theorem q240 : (Jvm.Cond.fieldLink "CuckooByPost" (86 : Nat) "CuckooByPost" "row" "[J") ∈ lw_all := lw_g (lw_at lw_m1 139 rfl) rfl
theorem q241 : (Jvm.Cond.fieldLink "CuckooByPost" (378 : Nat) "CuckooByPost" "rowMany" "I") ∈ lw_all := lw_g (lw_at lw_m1 140 rfl) rfl
theorem q242 : (Jvm.Cond.laysFinal "CuckooByPost" "CuckooByPost" "now" "LCuckooByPost$Spring;") ∈ lw_all := lw_g (lw_at lw_m1 141 rfl) rfl
theorem q243 : (Jvm.Cond.soleField "CuckooByPost" "now") ∈ lw_all := lw_g (lw_at lw_m1 142 rfl) rfl
theorem q244 : (Jvm.Cond.laysFinal "CuckooByPost" "CuckooByPost" "tried" "LCuckooByPost$Spring;") ∈ lw_all := lw_g (lw_at lw_m1 143 rfl) rfl
theorem q245 : (Jvm.Cond.soleField "CuckooByPost" "tried") ∈ lw_all := lw_g (lw_at lw_m1 144 rfl) rfl
theorem q246 : (Jvm.Cond.lays "CuckooByPost" "CuckooByPost" "nests" "I") ∈ lw_all := lw_g (lw_at lw_m1 145 rfl) rfl
theorem q247 : (Jvm.Cond.soleField "CuckooByPost" "nests") ∈ lw_all := lw_g (lw_at lw_m1 146 rfl) rfl
theorem q248 : (Jvm.Cond.lays "CuckooByPost" "CuckooByPost" "clear" "I") ∈ lw_all := lw_g (lw_at lw_m1 147 rfl) rfl
theorem q249 : (Jvm.Cond.soleField "CuckooByPost" "clear") ∈ lw_all := lw_g (lw_at lw_m1 148 rfl) rfl
theorem q250 : (Jvm.Cond.lays "CuckooByPost" "CuckooByPost" "changes" "I") ∈ lw_all := lw_g (lw_at lw_m1 149 rfl) rfl
theorem q251 : (Jvm.Cond.soleField "CuckooByPost" "changes") ∈ lw_all := lw_g (lw_at lw_m1 150 rfl) rfl
theorem q252 : (Jvm.Cond.laysFinal "CuckooByPost" "CuckooByPost" "text" "[I") ∈ lw_all := lw_g (lw_at lw_m1 151 rfl) rfl
theorem q253 : (Jvm.Cond.soleField "CuckooByPost" "text") ∈ lw_all := lw_g (lw_at lw_m1 152 rfl) rfl
theorem q254 : (Jvm.Cond.lays "CuckooByPost" "CuckooByPost" "signMany" "I") ∈ lw_all := lw_g (lw_at lw_m1 153 rfl) rfl
theorem q255 : (Jvm.Cond.soleField "CuckooByPost" "signMany") ∈ lw_all := lw_g (lw_at lw_m1 154 rfl) rfl
theorem q256 : (Jvm.Cond.lays "CuckooByPost" "CuckooByPost" "at" "I") ∈ lw_all := lw_g (lw_at lw_m1 155 rfl) rfl
theorem q257 : (Jvm.Cond.soleField "CuckooByPost" "at") ∈ lw_all := lw_g (lw_at lw_m1 156 rfl) rfl
theorem q258 : (Jvm.Cond.lays "CuckooByPost" "CuckooByPost" "end" "I") ∈ lw_all := lw_g (lw_at lw_m1 157 rfl) rfl
theorem q259 : (Jvm.Cond.soleField "CuckooByPost" "end") ∈ lw_all := lw_g (lw_at lw_m1 158 rfl) rfl
theorem q260 : (Jvm.Cond.lays "CuckooByPost" "CuckooByPost" "nest" "I") ∈ lw_all := lw_g (lw_at lw_m1 159 rfl) rfl
theorem q261 : (Jvm.Cond.soleField "CuckooByPost" "nest") ∈ lw_all := lw_g (lw_at lw_m1 160 rfl) rfl
theorem q262 : (Jvm.Cond.laysFinal "CuckooByPost" "CuckooByPost" "readKind" "[I") ∈ lw_all := lw_g (lw_at lw_m1 161 rfl) rfl
theorem q263 : (Jvm.Cond.soleField "CuckooByPost" "readKind") ∈ lw_all := lw_g (lw_at lw_m1 162 rfl) rfl
theorem q264 : (Jvm.Cond.laysFinal "CuckooByPost" "CuckooByPost" "readStrength" "[I") ∈ lw_all := lw_g (lw_at lw_m1 163 rfl) rfl
theorem q265 : (Jvm.Cond.soleField "CuckooByPost" "readStrength") ∈ lw_all := lw_g (lw_at lw_m1 164 rfl) rfl
theorem q266 : (Jvm.Cond.laysFinal "CuckooByPost" "CuckooByPost" "readColour" "[I") ∈ lw_all := lw_g (lw_at lw_m1 165 rfl) rfl
theorem q267 : (Jvm.Cond.soleField "CuckooByPost" "readColour") ∈ lw_all := lw_g (lw_at lw_m1 166 rfl) rfl
theorem q268 : (Jvm.Cond.laysFinal "CuckooByPost" "CuckooByPost" "readOwn" "[I") ∈ lw_all := lw_g (lw_at lw_m1 167 rfl) rfl
theorem q269 : (Jvm.Cond.soleField "CuckooByPost" "readOwn") ∈ lw_all := lw_g (lw_at lw_m1 168 rfl) rfl
theorem q270 : (Jvm.Cond.lays "CuckooByPost" "CuckooByPost" "readMany" "I") ∈ lw_all := lw_g (lw_at lw_m1 169 rfl) rfl
theorem q271 : (Jvm.Cond.soleField "CuckooByPost" "readMany") ∈ lw_all := lw_g (lw_at lw_m1 170 rfl) rfl
theorem q272 : (Jvm.Cond.lays "CuckooByPost" "CuckooByPost" "askedSpring" "LCuckooByPost$Spring;") ∈ lw_all := lw_g (lw_at lw_m1 171 rfl) rfl
theorem q273 : (Jvm.Cond.soleField "CuckooByPost" "askedSpring") ∈ lw_all := lw_g (lw_at lw_m1 172 rfl) rfl
theorem q274 : (Jvm.Cond.lays "CuckooByPost" "CuckooByPost" "askedNest" "I") ∈ lw_all := lw_g (lw_at lw_m1 173 rfl) rfl
theorem q275 : (Jvm.Cond.soleField "CuckooByPost" "askedNest") ∈ lw_all := lw_g (lw_at lw_m1 174 rfl) rfl
theorem q276 : (Jvm.Cond.lays "CuckooByPost" "CuckooByPost" "rule" "LCuckooByPost$Node;") ∈ lw_all := lw_g (lw_at lw_m1 175 rfl) rfl
theorem q277 : (Jvm.Cond.soleField "CuckooByPost" "rule") ∈ lw_all := lw_g (lw_at lw_m1 176 rfl) rfl
theorem q278 : (Jvm.Cond.lays "CuckooByPost" "CuckooByPost" "readRule" "LCuckooByPost$Node;") ∈ lw_all := lw_g (lw_at lw_m1 177 rfl) rfl
theorem q279 : (Jvm.Cond.soleField "CuckooByPost" "readRule") ∈ lw_all := lw_g (lw_at lw_m1 178 rfl) rfl
theorem q280 : (Jvm.Cond.laysFinal "CuckooByPost" "CuckooByPost" "undone" "[LCuckooByPost$Spring;") ∈ lw_all := lw_g (lw_at lw_m1 179 rfl) rfl
theorem q281 : (Jvm.Cond.soleField "CuckooByPost" "undone") ∈ lw_all := lw_g (lw_at lw_m1 180 rfl) rfl
theorem q282 : (Jvm.Cond.laysFinal "CuckooByPost" "CuckooByPost" "wasAhead" "LCuckooByPost$Spring;") ∈ lw_all := lw_g (lw_at lw_m1 181 rfl) rfl
theorem q283 : (Jvm.Cond.soleField "CuckooByPost" "wasAhead") ∈ lw_all := lw_g (lw_at lw_m1 182 rfl) rfl
theorem q284 : (Jvm.Cond.lays "CuckooByPost" "CuckooByPost" "undoMany" "I") ∈ lw_all := lw_g (lw_at lw_m1 183 rfl) rfl
theorem q285 : (Jvm.Cond.soleField "CuckooByPost" "undoMany") ∈ lw_all := lw_g (lw_at lw_m1 184 rfl) rfl
theorem q286 : (Jvm.Cond.laysFinal "CuckooByPost" "CuckooByPost" "isOut" "[Z") ∈ lw_all := lw_g (lw_at lw_m1 185 rfl) rfl
theorem q287 : (Jvm.Cond.soleField "CuckooByPost" "isOut") ∈ lw_all := lw_g (lw_at lw_m1 186 rfl) rfl
theorem q288 : (Jvm.Cond.laysFinal "CuckooByPost" "CuckooByPost" "actSign" "[I") ∈ lw_all := lw_g (lw_at lw_m1 187 rfl) rfl
theorem q289 : (Jvm.Cond.soleField "CuckooByPost" "actSign") ∈ lw_all := lw_g (lw_at lw_m1 188 rfl) rfl
theorem q290 : (Jvm.Cond.laysFinal "CuckooByPost" "CuckooByPost" "actOne" "[I") ∈ lw_all := lw_g (lw_at lw_m1 189 rfl) rfl
theorem q291 : (Jvm.Cond.soleField "CuckooByPost" "actOne") ∈ lw_all := lw_g (lw_at lw_m1 190 rfl) rfl
theorem q292 : (Jvm.Cond.laysFinal "CuckooByPost" "CuckooByPost" "actTwo" "[I") ∈ lw_all := lw_g (lw_at lw_m1 191 rfl) rfl
theorem q293 : (Jvm.Cond.soleField "CuckooByPost" "actTwo") ∈ lw_all := lw_g (lw_at lw_m1 192 rfl) rfl
theorem q294 : (Jvm.Cond.lays "CuckooByPost" "CuckooByPost" "actMany" "I") ∈ lw_all := lw_g (lw_at lw_m1 193 rfl) rfl
theorem q295 : (Jvm.Cond.soleField "CuckooByPost" "actMany") ∈ lw_all := lw_g (lw_at lw_m1 194 rfl) rfl
theorem q296 : (Jvm.Cond.laysFinal "CuckooByPost" "CuckooByPost" "laidColour" "[I") ∈ lw_all := lw_g (lw_at lw_m1 195 rfl) rfl
theorem q297 : (Jvm.Cond.soleField "CuckooByPost" "laidColour") ∈ lw_all := lw_g (lw_at lw_m1 196 rfl) rfl
theorem q298 : (Jvm.Cond.laysFinal "CuckooByPost" "CuckooByPost" "laidIn" "[I") ∈ lw_all := lw_g (lw_at lw_m1 197 rfl) rfl
theorem q299 : (Jvm.Cond.soleField "CuckooByPost" "laidIn") ∈ lw_all := lw_g (lw_at lw_m1 198 rfl) rfl
theorem q300 : (Jvm.Cond.laysFinal "CuckooByPost" "CuckooByPost" "bestIn" "[I") ∈ lw_all := lw_g (lw_at lw_m1 199 rfl) rfl
theorem q301 : (Jvm.Cond.soleField "CuckooByPost" "bestIn") ∈ lw_all := lw_g (lw_at lw_m1 200 rfl) rfl
theorem q302 : (Jvm.Cond.lays "CuckooByPost" "CuckooByPost" "bestFlown" "I") ∈ lw_all := lw_g (lw_at lw_m1 201 rfl) rfl
theorem q303 : (Jvm.Cond.soleField "CuckooByPost" "bestFlown") ∈ lw_all := lw_g (lw_at lw_m1 202 rfl) rfl
theorem q304 : (Jvm.Cond.laysFinal "CuckooByPost" "CuckooByPost" "lodging" "[I") ∈ lw_all := lw_g (lw_at lw_m1 203 rfl) rfl
theorem q305 : (Jvm.Cond.soleField "CuckooByPost" "lodging") ∈ lw_all := lw_g (lw_at lw_m1 204 rfl) rfl
theorem q306 : (Jvm.Cond.laysFinal "CuckooByPost" "CuckooByPost" "told" "[I") ∈ lw_all := lw_g (lw_at lw_m1 205 rfl) rfl
theorem q307 : (Jvm.Cond.soleField "CuckooByPost" "told") ∈ lw_all := lw_g (lw_at lw_m1 206 rfl) rfl
theorem q308 : (Jvm.Cond.lays "CuckooByPost" "CuckooByPost" "writtenMany" "I") ∈ lw_all := lw_g (lw_at lw_m1 207 rfl) rfl
theorem q309 : (Jvm.Cond.soleField "CuckooByPost" "writtenMany") ∈ lw_all := lw_g (lw_at lw_m1 208 rfl) rfl
theorem q310 : (Jvm.Cond.laysFinal "CuckooByPost" "CuckooByPost" "writtenWhat" "[I") ∈ lw_all := lw_g (lw_at lw_m1 209 rfl) rfl
theorem q311 : (Jvm.Cond.soleField "CuckooByPost" "writtenWhat") ∈ lw_all := lw_g (lw_at lw_m1 210 rfl) rfl
theorem q312 : (Jvm.Cond.laysFinal "CuckooByPost" "CuckooByPost" "writtenOf" "[I") ∈ lw_all := lw_g (lw_at lw_m1 211 rfl) rfl
theorem q313 : (Jvm.Cond.soleField "CuckooByPost" "writtenOf") ∈ lw_all := lw_g (lw_at lw_m1 212 rfl) rfl
theorem q314 : (Jvm.Cond.lays "CuckooByPost" "CuckooByPost" "random" "I") ∈ lw_all := lw_g (lw_at lw_m1 213 rfl) rfl
theorem q315 : (Jvm.Cond.soleField "CuckooByPost" "random") ∈ lw_all := lw_g (lw_at lw_m1 214 rfl) rfl
theorem q316 : (Jvm.Cond.laysFinal "CuckooByPost" "CuckooByPost" "kept" "[LCuckooByPost$Spring;") ∈ lw_all := lw_g (lw_at lw_m1 215 rfl) rfl
theorem q317 : (Jvm.Cond.soleField "CuckooByPost" "kept") ∈ lw_all := lw_g (lw_at lw_m1 216 rfl) rfl
theorem q318 : (Jvm.Cond.laysFinal "CuckooByPost" "CuckooByPost" "keptChanges" "[I") ∈ lw_all := lw_g (lw_at lw_m1 217 rfl) rfl
theorem q319 : (Jvm.Cond.soleField "CuckooByPost" "keptChanges") ∈ lw_all := lw_g (lw_at lw_m1 218 rfl) rfl
theorem q320 : (Jvm.Cond.laysFinal "CuckooByPost" "CuckooByPost" "row" "[J") ∈ lw_all := lw_g (lw_at lw_m1 219 rfl) rfl
theorem q321 : (Jvm.Cond.soleField "CuckooByPost" "row") ∈ lw_all := lw_g (lw_at lw_m1 220 rfl) rfl
theorem q322 : (Jvm.Cond.lays "CuckooByPost" "CuckooByPost" "rowMany" "I") ∈ lw_all := lw_g (lw_at lw_m1 221 rfl) rfl
theorem q323 : (Jvm.Cond.soleField "CuckooByPost" "rowMany") ∈ lw_all := lw_g (lw_at lw_m1 222 rfl) rfl
theorem q324 : (Jvm.Cond.superclass "CuckooByPost" "java/lang/Object") ∈ lw_all := lw_g (lw_at lw_m1 223 rfl) rfl
theorem q328 : (Jvm.Cond.instanceMethod ({ cls := "CuckooByPost", name := "sign", desc := "(I)I" } : Jvm.MethodName)) ∈ lw_all := lw_g (lw_at lw_m1 227 rfl) rfl
theorem q329 : (Jvm.Cond.selects "CuckooByPost" ({ cls := "CuckooByPost", name := "sign", desc := "(I)I" } : Jvm.MethodName) ({ cls := "CuckooByPost", name := "sign", desc := "(I)I" } : Jvm.MethodName)) ∈ lw_all := lw_g (lw_at lw_m1 228 rfl) rfl
theorem q330 : (Jvm.Cond.code ({ cls := "CuckooByPost", name := "sign", desc := "(I)I" } : Jvm.MethodName) prog_1_method_13_code (3 : Nat) (Option.some Jvm.ClassFile.FieldType.int)) ∈ lw_all := lw_g (lw_at lw_m1 229 rfl) rfl
theorem q332 : (Jvm.Cond.instanceMethod ({ cls := "CuckooByPost", name := "end", desc := "(I)Z" } : Jvm.MethodName)) ∈ lw_all := lw_g (lw_at lw_m1 231 rfl) rfl
theorem q333 : (Jvm.Cond.selects "CuckooByPost" ({ cls := "CuckooByPost", name := "end", desc := "(I)Z" } : Jvm.MethodName) ({ cls := "CuckooByPost", name := "end", desc := "(I)Z" } : Jvm.MethodName)) ∈ lw_all := lw_g (lw_at lw_m1 232 rfl) rfl
theorem q334 : (Jvm.Cond.code ({ cls := "CuckooByPost", name := "end", desc := "(I)Z" } : Jvm.MethodName) prog_1_method_14_code (2 : Nat) (Option.some Jvm.ClassFile.FieldType.boolean)) ∈ lw_all := lw_g (lw_at lw_m1 233 rfl) rfl
theorem q335 : (Jvm.Cond.methodLink "CuckooByPost" (97 : Nat) ({ cls := "CuckooByPost", name := "in", desc := "(JJJ)Z" } : Jvm.MethodName)) ∈ lw_all := lw_g (lw_at lw_m1 234 rfl) rfl
theorem q336 : (Jvm.Cond.static ({ cls := "CuckooByPost", name := "in", desc := "(JJJ)Z" } : Jvm.MethodName)) ∈ lw_all := lw_g (lw_at lw_m1 235 rfl) rfl
theorem q337 : (Jvm.Cond.code ({ cls := "CuckooByPost", name := "in", desc := "(JJJ)Z" } : Jvm.MethodName) prog_1_method_2_code (6 : Nat) (Option.some Jvm.ClassFile.FieldType.boolean)) ∈ lw_all := lw_g (lw_at lw_m1 236 rfl) rfl
theorem q339 : (Jvm.Cond.instanceMethod ({ cls := "CuckooByPost", name := "nests", desc := "()I" } : Jvm.MethodName)) ∈ lw_all := lw_g (lw_at lw_m1 238 rfl) rfl
theorem q340 : (Jvm.Cond.selects "CuckooByPost" ({ cls := "CuckooByPost", name := "nests", desc := "()I" } : Jvm.MethodName) ({ cls := "CuckooByPost", name := "nests", desc := "()I" } : Jvm.MethodName)) ∈ lw_all := lw_g (lw_at lw_m1 239 rfl) rfl
theorem q341 : (Jvm.Cond.code ({ cls := "CuckooByPost", name := "nests", desc := "()I" } : Jvm.MethodName) prog_1_method_24_code (6 : Nat) (Option.some Jvm.ClassFile.FieldType.int)) ∈ lw_all := lw_g (lw_at lw_m2 0 rfl) rfl
theorem q342 : (Jvm.Cond.methodLink "CuckooByPost" (175 : Nat) ({ cls := "CuckooByPost", name := "begins", desc := "(I)I" } : Jvm.MethodName)) ∈ lw_all := lw_g (lw_at lw_m2 1 rfl) rfl
theorem q343 : (Jvm.Cond.privateMethod ({ cls := "CuckooByPost", name := "begins", desc := "(I)I" } : Jvm.MethodName)) ∈ lw_tbl := lw_at lw_m2 2 rfl
theorem q344 : (Jvm.Cond.instanceMethod ({ cls := "CuckooByPost", name := "begins", desc := "(I)I" } : Jvm.MethodName)) ∈ lw_all := lw_g (lw_at lw_m2 3 rfl) rfl
theorem q345 : (Jvm.Cond.code ({ cls := "CuckooByPost", name := "begins", desc := "(I)I" } : Jvm.MethodName) prog_1_method_15_code (3 : Nat) (Option.some Jvm.ClassFile.FieldType.int)) ∈ lw_all := lw_g (lw_at lw_m2 4 rfl) rfl
theorem q346 : (Jvm.Cond.methodLink "CuckooByPost" (129 : Nat) ({ cls := "java/lang/Math", name := "min", desc := "(II)I" } : Jvm.MethodName)) ∈ lw_all := lw_g (lw_at lw_m2 5 rfl) rfl
theorem q349 : (Jvm.Cond.methodLink "CuckooByPost" (178 : Nat) ({ cls := "CuckooByPost", name := "readsNest", desc := "()Z" } : Jvm.MethodName)) ∈ lw_all := lw_g (lw_at lw_m2 8 rfl) rfl
theorem q350 : (Jvm.Cond.privateMethod ({ cls := "CuckooByPost", name := "readsNest", desc := "()Z" } : Jvm.MethodName)) ∈ lw_tbl := lw_at lw_m2 9 rfl
theorem q351 : (Jvm.Cond.instanceMethod ({ cls := "CuckooByPost", name := "readsNest", desc := "()Z" } : Jvm.MethodName)) ∈ lw_all := lw_g (lw_at lw_m2 10 rfl) rfl
theorem q352 : (Jvm.Cond.code ({ cls := "CuckooByPost", name := "readsNest", desc := "()Z" } : Jvm.MethodName) prog_1_method_23_code (2 : Nat) (Option.some Jvm.ClassFile.FieldType.boolean)) ∈ lw_all := lw_g (lw_at lw_m2 11 rfl) rfl
theorem q353 : (Jvm.Cond.stringRef "CuckooByPost" (163 : Nat) "wpdr") ∈ lw_tbl := lw_at lw_m2 12 rfl
theorem q354 : (Jvm.Cond.methodLink "CuckooByPost" (165 : Nat) ({ cls := "CuckooByPost", name := "takesOf", desc := "(Ljava/lang/String;)I" } : Jvm.MethodName)) ∈ lw_all := lw_g (lw_at lw_m2 13 rfl) rfl
theorem q355 : (Jvm.Cond.privateMethod ({ cls := "CuckooByPost", name := "takesOf", desc := "(Ljava/lang/String;)I" } : Jvm.MethodName)) ∈ lw_tbl := lw_at lw_m2 14 rfl
theorem q356 : (Jvm.Cond.instanceMethod ({ cls := "CuckooByPost", name := "takesOf", desc := "(Ljava/lang/String;)I" } : Jvm.MethodName)) ∈ lw_all := lw_g (lw_at lw_m2 15 rfl) rfl
theorem q357 : (Jvm.Cond.code ({ cls := "CuckooByPost", name := "takesOf", desc := "(Ljava/lang/String;)I" } : Jvm.MethodName) prog_1_method_19_code (3 : Nat) (Option.some Jvm.ClassFile.FieldType.int)) ∈ lw_all := lw_g (lw_at lw_m2 16 rfl) rfl
theorem q358 : (Jvm.Cond.methodLink "CuckooByPost" (148 : Nat) ({ cls := "CuckooByPost", name := "among", desc := "(Ljava/lang/String;)I" } : Jvm.MethodName)) ∈ lw_all := lw_g (lw_at lw_m2 17 rfl) rfl
theorem q359 : (Jvm.Cond.privateMethod ({ cls := "CuckooByPost", name := "among", desc := "(Ljava/lang/String;)I" } : Jvm.MethodName)) ∈ lw_tbl := lw_at lw_m2 18 rfl
theorem q360 : (Jvm.Cond.instanceMethod ({ cls := "CuckooByPost", name := "among", desc := "(Ljava/lang/String;)I" } : Jvm.MethodName)) ∈ lw_all := lw_g (lw_at lw_m2 19 rfl) rfl
theorem q361 : (Jvm.Cond.code ({ cls := "CuckooByPost", name := "among", desc := "(Ljava/lang/String;)I" } : Jvm.MethodName) prog_1_method_18_code (2 : Nat) (Option.some Jvm.ClassFile.FieldType.int)) ∈ lw_all := lw_g (lw_at lw_m2 20 rfl) rfl
theorem q362 : (Jvm.Cond.methodLink "CuckooByPost" (142 : Nat) ({ cls := "java/lang/String", name := "indexOf", desc := "(I)I" } : Jvm.MethodName)) ∈ lw_all := lw_g (lw_at lw_m2 21 rfl) rfl
theorem q446 : (Jvm.Cond.stringRef "CuckooByPost" (168 : Nat) "123456789") ∈ lw_tbl := lw_at lw_m2 105 rfl
theorem q447 : (Jvm.Cond.methodLink "CuckooByPost" (170 : Nat) ({ cls := "CuckooByPost", name := "number", desc := "(I)I" } : Jvm.MethodName)) ∈ lw_all := lw_g (lw_at lw_m2 106 rfl) rfl
theorem q448 : (Jvm.Cond.privateMethod ({ cls := "CuckooByPost", name := "number", desc := "(I)I" } : Jvm.MethodName)) ∈ lw_tbl := lw_at lw_m2 107 rfl
theorem q449 : (Jvm.Cond.instanceMethod ({ cls := "CuckooByPost", name := "number", desc := "(I)I" } : Jvm.MethodName)) ∈ lw_all := lw_g (lw_at lw_m2 108 rfl) rfl
theorem q450 : (Jvm.Cond.code ({ cls := "CuckooByPost", name := "number", desc := "(I)I" } : Jvm.MethodName) prog_1_method_21_code (4 : Nat) (Option.some Jvm.ClassFile.FieldType.int)) ∈ lw_all := lw_g (lw_at lw_m2 109 rfl) rfl
theorem q451 : (Jvm.Cond.methodLink "CuckooByPost" (156 : Nat) ({ cls := "CuckooByPost", name := "isDigit", desc := "()Z" } : Jvm.MethodName)) ∈ lw_all := lw_g (lw_at lw_m2 110 rfl) rfl
theorem q452 : (Jvm.Cond.privateMethod ({ cls := "CuckooByPost", name := "isDigit", desc := "()Z" } : Jvm.MethodName)) ∈ lw_tbl := lw_at lw_m2 111 rfl
theorem q453 : (Jvm.Cond.instanceMethod ({ cls := "CuckooByPost", name := "isDigit", desc := "()Z" } : Jvm.MethodName)) ∈ lw_all := lw_g (lw_at lw_m2 112 rfl) rfl
theorem q454 : (Jvm.Cond.code ({ cls := "CuckooByPost", name := "isDigit", desc := "()Z" } : Jvm.MethodName) prog_1_method_20_code (1 : Nat) (Option.some Jvm.ClassFile.FieldType.boolean)) ∈ lw_all := lw_g (lw_at lw_m2 113 rfl) rfl
theorem q455 : (Jvm.Cond.constantLong "CuckooByPost" (152 : Nat) (48 : Int64)) ∈ lw_all := lw_g (lw_at lw_m2 114 rfl) rfl
theorem q456 : (Jvm.Cond.constantLong "CuckooByPost" (154 : Nat) (57 : Int64)) ∈ lw_all := lw_g (lw_at lw_m2 115 rfl) rfl
theorem q457 : (Jvm.Cond.stringRef "CuckooByPost" (173 : Nat) "012345") ∈ lw_tbl := lw_at lw_m2 116 rfl
theorem q458 : (Jvm.Cond.methodLink "CuckooByPost" (181 : Nat) ({ cls := "CuckooByPost", name := "takes", desc := "(C)Z" } : Jvm.MethodName)) ∈ lw_all := lw_g (lw_at lw_m2 117 rfl) rfl
theorem q459 : (Jvm.Cond.privateMethod ({ cls := "CuckooByPost", name := "takes", desc := "(C)Z" } : Jvm.MethodName)) ∈ lw_tbl := lw_at lw_m2 118 rfl
theorem q460 : (Jvm.Cond.instanceMethod ({ cls := "CuckooByPost", name := "takes", desc := "(C)Z" } : Jvm.MethodName)) ∈ lw_all := lw_g (lw_at lw_m2 119 rfl) rfl
theorem q461 : (Jvm.Cond.code ({ cls := "CuckooByPost", name := "takes", desc := "(C)Z" } : Jvm.MethodName) prog_1_method_17_code (3 : Nat) (Option.some Jvm.ClassFile.FieldType.boolean)) ∈ lw_all := lw_g (lw_at lw_m2 120 rfl) rfl
theorem q462 : (Jvm.Cond.methodLink "CuckooByPost" (138 : Nat) ({ cls := "CuckooByPost", name := "isAt", desc := "(C)Z" } : Jvm.MethodName)) ∈ lw_all := lw_g (lw_at lw_m2 121 rfl) rfl
theorem q463 : (Jvm.Cond.privateMethod ({ cls := "CuckooByPost", name := "isAt", desc := "(C)Z" } : Jvm.MethodName)) ∈ lw_tbl := lw_at lw_m2 122 rfl
theorem q464 : (Jvm.Cond.instanceMethod ({ cls := "CuckooByPost", name := "isAt", desc := "(C)Z" } : Jvm.MethodName)) ∈ lw_all := lw_g (lw_at lw_m2 123 rfl) rfl
theorem q465 : (Jvm.Cond.code ({ cls := "CuckooByPost", name := "isAt", desc := "(C)Z" } : Jvm.MethodName) prog_1_method_16_code (2 : Nat) (Option.some Jvm.ClassFile.FieldType.boolean)) ∈ lw_all := lw_g (lw_at lw_m2 124 rfl) rfl
theorem q466 : (Jvm.Cond.methodLink "CuckooByPost" (184 : Nat) ({ cls := "CuckooByPost", name := "faultOf", desc := "(IZ)I" } : Jvm.MethodName)) ∈ lw_all := lw_g (lw_at lw_m2 125 rfl) rfl
theorem q467 : (Jvm.Cond.privateMethod ({ cls := "CuckooByPost", name := "faultOf", desc := "(IZ)I" } : Jvm.MethodName)) ∈ lw_tbl := lw_at lw_m2 126 rfl
theorem q468 : (Jvm.Cond.instanceMethod ({ cls := "CuckooByPost", name := "faultOf", desc := "(IZ)I" } : Jvm.MethodName)) ∈ lw_all := lw_g (lw_at lw_m2 127 rfl) rfl
theorem q469 : (Jvm.Cond.code ({ cls := "CuckooByPost", name := "faultOf", desc := "(IZ)I" } : Jvm.MethodName) prog_1_method_22_code (4 : Nat) (Option.some Jvm.ClassFile.FieldType.int)) ∈ lw_all := lw_g (lw_at lw_m2 128 rfl) rfl
theorem q470 : (Jvm.Cond.methodLink "CuckooByPost" (200 : Nat) ({ cls := "CuckooByPost$Spring", name := "comes", desc := "(I)V" } : Jvm.MethodName)) ∈ lw_all := lw_g (lw_at lw_m2 129 rfl) rfl
theorem q480 : (Jvm.Cond.instanceMethod ({ cls := "CuckooByPost", name := "rule", desc := "()I" } : Jvm.MethodName)) ∈ lw_all := lw_g (lw_at lw_m2 139 rfl) rfl
theorem q481 : (Jvm.Cond.selects "CuckooByPost" ({ cls := "CuckooByPost", name := "rule", desc := "()I" } : Jvm.MethodName) ({ cls := "CuckooByPost", name := "rule", desc := "()I" } : Jvm.MethodName)) ∈ lw_all := lw_g (lw_at lw_m2 140 rfl) rfl
theorem q482 : (Jvm.Cond.code ({ cls := "CuckooByPost", name := "rule", desc := "()I" } : Jvm.MethodName) prog_1_method_29_code (2 : Nat) (Option.some Jvm.ClassFile.FieldType.int)) ∈ lw_all := lw_g (lw_at lw_m2 141 rfl) rfl
theorem q483 : (Jvm.Cond.methodLink "CuckooByPost" (252 : Nat) ({ cls := "CuckooByPost", name := "readsRule", desc := "()I" } : Jvm.MethodName)) ∈ lw_all := lw_g (lw_at lw_m2 142 rfl) rfl
theorem q484 : (Jvm.Cond.privateMethod ({ cls := "CuckooByPost", name := "readsRule", desc := "()I" } : Jvm.MethodName)) ∈ lw_tbl := lw_at lw_m2 143 rfl
theorem q485 : (Jvm.Cond.instanceMethod ({ cls := "CuckooByPost", name := "readsRule", desc := "()I" } : Jvm.MethodName)) ∈ lw_all := lw_g (lw_at lw_m2 144 rfl) rfl
theorem q486 : (Jvm.Cond.code ({ cls := "CuckooByPost", name := "readsRule", desc := "()I" } : Jvm.MethodName) prog_1_method_28_code (2 : Nat) (Option.some Jvm.ClassFile.FieldType.int)) ∈ lw_all := lw_g (lw_at lw_m2 145 rfl) rfl
theorem q487 : (Jvm.Cond.methodLink "CuckooByPost" (229 : Nat) ({ cls := "CuckooByPost", name := "reads", desc := "(I)LCuckooByPost$Node;" } : Jvm.MethodName)) ∈ lw_all := lw_g (lw_at lw_m2 146 rfl) rfl
theorem q488 : (Jvm.Cond.privateMethod ({ cls := "CuckooByPost", name := "reads", desc := "(I)LCuckooByPost$Node;" } : Jvm.MethodName)) ∈ lw_tbl := lw_at lw_m2 147 rfl
theorem q489 : (Jvm.Cond.instanceMethod ({ cls := "CuckooByPost", name := "reads", desc := "(I)LCuckooByPost$Node;" } : Jvm.MethodName)) ∈ lw_all := lw_g (lw_at lw_m2 148 rfl) rfl
theorem q490 : (Jvm.Cond.code ({ cls := "CuckooByPost", name := "reads", desc := "(I)LCuckooByPost$Node;" } : Jvm.MethodName) prog_1_method_27_code (6 : Nat) (Option.some (Jvm.ClassFile.FieldType.object "CuckooByPost$Node"))) ∈ lw_all := lw_g (lw_at lw_m2 149 rfl) rfl
theorem q491 : (Jvm.Cond.methodLink "CuckooByPost" (210 : Nat) ({ cls := "CuckooByPost", name := "readsThing", desc := "()LCuckooByPost$Node;" } : Jvm.MethodName)) ∈ lw_all := lw_g (lw_at lw_m2 150 rfl) rfl
theorem q492 : (Jvm.Cond.privateMethod ({ cls := "CuckooByPost", name := "readsThing", desc := "()LCuckooByPost$Node;" } : Jvm.MethodName)) ∈ lw_tbl := lw_at lw_m2 151 rfl
theorem q493 : (Jvm.Cond.instanceMethod ({ cls := "CuckooByPost", name := "readsThing", desc := "()LCuckooByPost$Node;" } : Jvm.MethodName)) ∈ lw_all := lw_g (lw_at lw_m2 152 rfl) rfl
theorem q494 : (Jvm.Cond.code ({ cls := "CuckooByPost", name := "readsThing", desc := "()LCuckooByPost$Node;" } : Jvm.MethodName) prog_1_method_25_code (2 : Nat) (Option.some (Jvm.ClassFile.FieldType.object "CuckooByPost$Node"))) ∈ lw_all := lw_g (lw_at lw_m2 153 rfl) rfl
theorem q495 : (Jvm.Cond.classLink "CuckooByPost" (214 : Nat) "CuckooByPost$Less") ∈ lw_all := lw_g (lw_at lw_m2 154 rfl) rfl
theorem q497 : (Jvm.Cond.methodLink "CuckooByPost" (216 : Nat) ({ cls := "CuckooByPost$Less", name := "<init>", desc := "(LCuckooByPost;LCuckooByPost$Node;)V" } : Jvm.MethodName)) ∈ lw_all := lw_g (lw_at lw_m2 156 rfl) rfl
theorem q514 : (Jvm.Cond.classLink "CuckooByPost" (219 : Nat) "CuckooByPost$Number") ∈ lw_all := lw_g (lw_at lw_m2 173 rfl) rfl
theorem q516 : (Jvm.Cond.methodLink "CuckooByPost" (221 : Nat) ({ cls := "CuckooByPost$Number", name := "<init>", desc := "(LCuckooByPost;I)V" } : Jvm.MethodName)) ∈ lw_all := lw_g (lw_at lw_m2 175 rfl) rfl
theorem q528 : (Jvm.Cond.stringRef "CuckooByPost" (224 : Nat) "cnkosaxd") ∈ lw_tbl := lw_at lw_m2 187 rfl
theorem q529 : (Jvm.Cond.classLink "CuckooByPost" (226 : Nat) "CuckooByPost$Sign") ∈ lw_all := lw_g (lw_at lw_m2 188 rfl) rfl
theorem q531 : (Jvm.Cond.methodLink "CuckooByPost" (228 : Nat) ({ cls := "CuckooByPost$Sign", name := "<init>", desc := "(LCuckooByPost;I)V" } : Jvm.MethodName)) ∈ lw_all := lw_g (lw_at lw_m2 190 rfl) rfl
theorem q543 : (Jvm.Cond.methodLink "CuckooByPost" (239 : Nat) ({ cls := "CuckooByPost", name := "acts", desc := "(I)Ljava/lang/String;" } : Jvm.MethodName)) ∈ lw_all := lw_g (lw_at lw_m2 202 rfl) rfl
theorem q544 : (Jvm.Cond.static ({ cls := "CuckooByPost", name := "acts", desc := "(I)Ljava/lang/String;" } : Jvm.MethodName)) ∈ lw_all := lw_g (lw_at lw_m2 203 rfl) rfl
theorem q545 : (Jvm.Cond.code ({ cls := "CuckooByPost", name := "acts", desc := "(I)Ljava/lang/String;" } : Jvm.MethodName) prog_1_method_26_code (1 : Nat) (Option.some (Jvm.ClassFile.FieldType.object "java/lang/String"))) ∈ lw_all := lw_g (lw_at lw_m2 204 rfl) rfl
theorem q546 : (Jvm.Cond.stringRef "CuckooByPost" (233 : Nat) "<>=") ∈ lw_tbl := lw_at lw_m2 205 rfl
theorem q547 : (Jvm.Cond.stringRef "CuckooByPost" (235 : Nat) "+-") ∈ lw_tbl := lw_at lw_m2 206 rfl
theorem q548 : (Jvm.Cond.stringRef "CuckooByPost" (237 : Nat) "*/") ∈ lw_tbl := lw_at lw_m2 207 rfl
theorem q549 : (Jvm.Cond.classLink "CuckooByPost" (243 : Nat) "CuckooByPost$Act") ∈ lw_all := lw_g (lw_at lw_m2 208 rfl) rfl
theorem q551 : (Jvm.Cond.methodLink "CuckooByPost" (245 : Nat) ({ cls := "CuckooByPost$Act", name := "<init>", desc := "(LCuckooByPost;CLCuckooByPost$Node;LCuckooByPost$Node;)V" } : Jvm.MethodName)) ∈ lw_all := lw_g (lw_at lw_m2 210 rfl) rfl
theorem q570 : (Jvm.Cond.instanceMethod ({ cls := "CuckooByPost", name := "clear", desc := "(I)I" } : Jvm.MethodName)) ∈ lw_all := lw_g (lw_at lw_m2 229 rfl) rfl
theorem q571 : (Jvm.Cond.selects "CuckooByPost" ({ cls := "CuckooByPost", name := "clear", desc := "(I)I" } : Jvm.MethodName) ({ cls := "CuckooByPost", name := "clear", desc := "(I)I" } : Jvm.MethodName)) ∈ lw_all := lw_g (lw_at lw_m2 230 rfl) rfl
theorem q572 : (Jvm.Cond.code ({ cls := "CuckooByPost", name := "clear", desc := "(I)I" } : Jvm.MethodName) prog_1_method_33_code (3 : Nat) (Option.some Jvm.ClassFile.FieldType.int)) ∈ lw_all := lw_g (lw_at lw_m2 231 rfl) rfl
theorem q573 : (Jvm.Cond.constantLong "CuckooByPost" (105 : Nat) (9 : Int64)) ∈ lw_all := lw_g (lw_at lw_m2 232 rfl) rfl
theorem q575 : (Jvm.Cond.instanceMethod ({ cls := "CuckooByPost", name := "sheet", desc := "(IIII)I" } : Jvm.MethodName)) ∈ lw_all := lw_g (lw_at lw_m2 234 rfl) rfl
theorem q576 : (Jvm.Cond.selects "CuckooByPost" ({ cls := "CuckooByPost", name := "sheet", desc := "(IIII)I" } : Jvm.MethodName) ({ cls := "CuckooByPost", name := "sheet", desc := "(IIII)I" } : Jvm.MethodName)) ∈ lw_all := lw_g (lw_at lw_m2 235 rfl) rfl
theorem q577 : (Jvm.Cond.code ({ cls := "CuckooByPost", name := "sheet", desc := "(IIII)I" } : Jvm.MethodName) prog_1_method_34_code (8 : Nat) (Option.some Jvm.ClassFile.FieldType.int)) ∈ lw_all := lw_g (lw_at lw_m2 236 rfl) rfl
theorem q578 : (Jvm.Cond.constantLong "CuckooByPost" (295 : Nat) (3 : Int64)) ∈ lw_all := lw_g (lw_at lw_m2 237 rfl) rfl
theorem q579 : (Jvm.Cond.methodLink "CuckooByPost" (265 : Nat) ({ cls := "java/lang/Math", name := "max", desc := "(II)I" } : Jvm.MethodName)) ∈ lw_all := lw_g (lw_at lw_m2 238 rfl) rfl
theorem q580 : (Jvm.Cond.methodLink "CuckooByPost" (297 : Nat) ({ cls := "CuckooByPost", name := "sumOf", desc := "([I)I" } : Jvm.MethodName)) ∈ lw_all := lw_g (lw_at lw_m2 239 rfl) rfl
theorem q581 : (Jvm.Cond.privateMethod ({ cls := "CuckooByPost", name := "sumOf", desc := "([I)I" } : Jvm.MethodName)) ∈ lw_tbl := lw_at lw_m3 0 rfl
theorem q582 : (Jvm.Cond.instanceMethod ({ cls := "CuckooByPost", name := "sumOf", desc := "([I)I" } : Jvm.MethodName)) ∈ lw_all := lw_g (lw_at lw_m3 1 rfl) rfl
theorem q583 : (Jvm.Cond.code ({ cls := "CuckooByPost", name := "sumOf", desc := "([I)I" } : Jvm.MethodName) prog_1_method_12_code (4 : Nat) (Option.some Jvm.ClassFile.FieldType.int)) ∈ lw_all := lw_g (lw_at lw_m3 2 rfl) rfl
theorem q585 : (Jvm.Cond.instanceMethod ({ cls := "CuckooByPost", name := "undo", desc := "()I" } : Jvm.MethodName)) ∈ lw_all := lw_g (lw_at lw_m3 4 rfl) rfl
theorem q586 : (Jvm.Cond.selects "CuckooByPost" ({ cls := "CuckooByPost", name := "undo", desc := "()I" } : Jvm.MethodName) ({ cls := "CuckooByPost", name := "undo", desc := "()I" } : Jvm.MethodName)) ∈ lw_all := lw_g (lw_at lw_m3 5 rfl) rfl
theorem q587 : (Jvm.Cond.code ({ cls := "CuckooByPost", name := "undo", desc := "()I" } : Jvm.MethodName) prog_1_method_36_code (1 : Nat) (Option.some Jvm.ClassFile.FieldType.int)) ∈ lw_all := lw_g (lw_at lw_m3 6 rfl) rfl
theorem q588 : (Jvm.Cond.methodLink "CuckooByPost" (301 : Nat) ({ cls := "CuckooByPost$Spring", name := "becomes", desc := "(LCuckooByPost$Spring;)V" } : Jvm.MethodName)) ∈ lw_all := lw_g (lw_at lw_m3 7 rfl) rfl
theorem q596 : (Jvm.Cond.instanceMethod ({ cls := "CuckooByPost", name := "announce", desc := "(I)I" } : Jvm.MethodName)) ∈ lw_all := lw_g (lw_at lw_m3 15 rfl) rfl
theorem q597 : (Jvm.Cond.selects "CuckooByPost" ({ cls := "CuckooByPost", name := "announce", desc := "(I)I" } : Jvm.MethodName) ({ cls := "CuckooByPost", name := "announce", desc := "(I)I" } : Jvm.MethodName)) ∈ lw_all := lw_g (lw_at lw_m3 16 rfl) rfl
theorem q598 : (Jvm.Cond.code ({ cls := "CuckooByPost", name := "announce", desc := "(I)I" } : Jvm.MethodName) prog_1_method_46_code (2 : Nat) (Option.some Jvm.ClassFile.FieldType.int)) ∈ lw_all := lw_g (lw_at lw_m3 17 rfl) rfl
theorem q599 : (Jvm.Cond.methodLink "CuckooByPost" (353 : Nat) ({ cls := "CuckooByPost", name := "announces", desc := "(LCuckooByPost$Spring;I)I" } : Jvm.MethodName)) ∈ lw_all := lw_g (lw_at lw_m3 18 rfl) rfl
theorem q600 : (Jvm.Cond.privateMethod ({ cls := "CuckooByPost", name := "announces", desc := "(LCuckooByPost$Spring;I)I" } : Jvm.MethodName)) ∈ lw_tbl := lw_at lw_m3 19 rfl
theorem q601 : (Jvm.Cond.instanceMethod ({ cls := "CuckooByPost", name := "announces", desc := "(LCuckooByPost$Spring;I)I" } : Jvm.MethodName)) ∈ lw_all := lw_g (lw_at lw_m3 20 rfl) rfl
theorem q602 : (Jvm.Cond.code ({ cls := "CuckooByPost", name := "announces", desc := "(LCuckooByPost$Spring;I)I" } : Jvm.MethodName) prog_1_method_38_code (3 : Nat) (Option.some Jvm.ClassFile.FieldType.int)) ∈ lw_all := lw_g (lw_at lw_m3 21 rfl) rfl
theorem q603 : (Jvm.Cond.methodLink "CuckooByPost" (101 : Nat) ({ cls := "CuckooByPost", name := "isNest", desc := "(I)Z" } : Jvm.MethodName)) ∈ lw_all := lw_g (lw_at lw_m3 22 rfl) rfl
theorem q604 : (Jvm.Cond.privateMethod ({ cls := "CuckooByPost", name := "isNest", desc := "(I)Z" } : Jvm.MethodName)) ∈ lw_tbl := lw_at lw_m3 23 rfl
theorem q605 : (Jvm.Cond.instanceMethod ({ cls := "CuckooByPost", name := "isNest", desc := "(I)Z" } : Jvm.MethodName)) ∈ lw_all := lw_g (lw_at lw_m3 24 rfl) rfl
theorem q606 : (Jvm.Cond.code ({ cls := "CuckooByPost", name := "isNest", desc := "(I)Z" } : Jvm.MethodName) prog_1_method_5_code (2 : Nat) (Option.some Jvm.ClassFile.FieldType.boolean)) ∈ lw_all := lw_g (lw_at lw_m3 25 rfl) rfl
theorem q607 : (Jvm.Cond.methodLink "CuckooByPost" (107 : Nat) ({ cls := "CuckooByPost$Spring", name := "isNoticed", desc := "(I)Z" } : Jvm.MethodName)) ∈ lw_all := lw_g (lw_at lw_m3 26 rfl) rfl
theorem q611 : (Jvm.Cond.methodLink "CuckooByPost" (308 : Nat) ({ cls := "CuckooByPost", name := "noticed", desc := "(LCuckooByPost$Spring;)I" } : Jvm.MethodName)) ∈ lw_all := lw_g (lw_at lw_m3 30 rfl) rfl
theorem q612 : (Jvm.Cond.privateMethod ({ cls := "CuckooByPost", name := "noticed", desc := "(LCuckooByPost$Spring;)I" } : Jvm.MethodName)) ∈ lw_tbl := lw_at lw_m3 31 rfl
theorem q613 : (Jvm.Cond.instanceMethod ({ cls := "CuckooByPost", name := "noticed", desc := "(LCuckooByPost$Spring;)I" } : Jvm.MethodName)) ∈ lw_all := lw_g (lw_at lw_m3 32 rfl) rfl
theorem q614 : (Jvm.Cond.code ({ cls := "CuckooByPost", name := "noticed", desc := "(LCuckooByPost$Spring;)I" } : Jvm.MethodName) prog_1_method_10_code (4 : Nat) (Option.some Jvm.ClassFile.FieldType.int)) ∈ lw_all := lw_g (lw_at lw_m3 33 rfl) rfl
theorem q615 : (Jvm.Cond.methodLink "CuckooByPost" (312 : Nat) ({ cls := "java/lang/Integer", name := "bitCount", desc := "(I)I" } : Jvm.MethodName)) ∈ lw_all := lw_g (lw_at lw_m3 34 rfl) rfl
theorem q621 : (Jvm.Cond.methodLink "CuckooByPost" (356 : Nat) ({ cls := "CuckooByPost", name := "counts", desc := "(I)I" } : Jvm.MethodName)) ∈ lw_all := lw_g (lw_at lw_m3 40 rfl) rfl
theorem q622 : (Jvm.Cond.privateMethod ({ cls := "CuckooByPost", name := "counts", desc := "(I)I" } : Jvm.MethodName)) ∈ lw_tbl := lw_at lw_m3 41 rfl
theorem q623 : (Jvm.Cond.instanceMethod ({ cls := "CuckooByPost", name := "counts", desc := "(I)I" } : Jvm.MethodName)) ∈ lw_all := lw_g (lw_at lw_m3 42 rfl) rfl
theorem q624 : (Jvm.Cond.code ({ cls := "CuckooByPost", name := "counts", desc := "(I)I" } : Jvm.MethodName) prog_1_method_37_code (2 : Nat) (Option.some Jvm.ClassFile.FieldType.int)) ∈ lw_all := lw_g (lw_at lw_m3 43 rfl) rfl
theorem q625 : (Jvm.Cond.methodLink "CuckooByPost" (305 : Nat) ({ cls := "CuckooByPost", name := "putsBy", desc := "(LCuckooByPost$Spring;)V" } : Jvm.MethodName)) ∈ lw_all := lw_g (lw_at lw_m3 44 rfl) rfl
theorem q626 : (Jvm.Cond.privateMethod ({ cls := "CuckooByPost", name := "putsBy", desc := "(LCuckooByPost$Spring;)V" } : Jvm.MethodName)) ∈ lw_tbl := lw_at lw_m3 45 rfl
theorem q627 : (Jvm.Cond.instanceMethod ({ cls := "CuckooByPost", name := "putsBy", desc := "(LCuckooByPost$Spring;)V" } : Jvm.MethodName)) ∈ lw_all := lw_g (lw_at lw_m3 46 rfl) rfl
theorem q628 : (Jvm.Cond.code ({ cls := "CuckooByPost", name := "putsBy", desc := "(LCuckooByPost$Spring;)V" } : Jvm.MethodName) prog_1_method_35_code (4 : Nat) (Option.none : Option Jvm.ClassFile.FieldType)) ∈ lw_all := lw_g (lw_at lw_m3 47 rfl) rfl
theorem q630 : (Jvm.Cond.instanceMethod ({ cls := "CuckooByPost", name := "reply", desc := "(I)I" } : Jvm.MethodName)) ∈ lw_all := lw_g (lw_at lw_m3 49 rfl) rfl
theorem q631 : (Jvm.Cond.selects "CuckooByPost" ({ cls := "CuckooByPost", name := "reply", desc := "(I)I" } : Jvm.MethodName) ({ cls := "CuckooByPost", name := "reply", desc := "(I)I" } : Jvm.MethodName)) ∈ lw_all := lw_g (lw_at lw_m3 50 rfl) rfl
theorem q632 : (Jvm.Cond.code ({ cls := "CuckooByPost", name := "reply", desc := "(I)I" } : Jvm.MethodName) prog_1_method_47_code (2 : Nat) (Option.some Jvm.ClassFile.FieldType.int)) ∈ lw_all := lw_g (lw_at lw_m3 51 rfl) rfl
theorem q633 : (Jvm.Cond.methodLink "CuckooByPost" (359 : Nat) ({ cls := "CuckooByPost", name := "repliesTo", desc := "(LCuckooByPost$Spring;I)I" } : Jvm.MethodName)) ∈ lw_all := lw_g (lw_at lw_m3 52 rfl) rfl
theorem q634 : (Jvm.Cond.privateMethod ({ cls := "CuckooByPost", name := "repliesTo", desc := "(LCuckooByPost$Spring;I)I" } : Jvm.MethodName)) ∈ lw_tbl := lw_at lw_m3 53 rfl
theorem q635 : (Jvm.Cond.instanceMethod ({ cls := "CuckooByPost", name := "repliesTo", desc := "(LCuckooByPost$Spring;I)I" } : Jvm.MethodName)) ∈ lw_all := lw_g (lw_at lw_m3 54 rfl) rfl
theorem q636 : (Jvm.Cond.code ({ cls := "CuckooByPost", name := "repliesTo", desc := "(LCuckooByPost$Spring;I)I" } : Jvm.MethodName) prog_1_method_39_code (3 : Nat) (Option.some Jvm.ClassFile.FieldType.int)) ∈ lw_all := lw_g (lw_at lw_m3 55 rfl) rfl
theorem q638 : (Jvm.Cond.instanceMethod ({ cls := "CuckooByPost", name := "lay", desc := "(II)I" } : Jvm.MethodName)) ∈ lw_all := lw_g (lw_at lw_m3 57 rfl) rfl
theorem q639 : (Jvm.Cond.selects "CuckooByPost" ({ cls := "CuckooByPost", name := "lay", desc := "(II)I" } : Jvm.MethodName) ({ cls := "CuckooByPost", name := "lay", desc := "(II)I" } : Jvm.MethodName)) ∈ lw_all := lw_g (lw_at lw_m3 58 rfl) rfl
theorem q640 : (Jvm.Cond.code ({ cls := "CuckooByPost", name := "lay", desc := "(II)I" } : Jvm.MethodName) prog_1_method_48_code (3 : Nat) (Option.some Jvm.ClassFile.FieldType.int)) ∈ lw_all := lw_g (lw_at lw_m3 59 rfl) rfl
theorem q641 : (Jvm.Cond.methodLink "CuckooByPost" (362 : Nat) ({ cls := "CuckooByPost", name := "lays", desc := "(LCuckooByPost$Spring;II)I" } : Jvm.MethodName)) ∈ lw_all := lw_g (lw_at lw_m3 60 rfl) rfl
theorem q642 : (Jvm.Cond.privateMethod ({ cls := "CuckooByPost", name := "lays", desc := "(LCuckooByPost$Spring;II)I" } : Jvm.MethodName)) ∈ lw_tbl := lw_at lw_m3 61 rfl
theorem q643 : (Jvm.Cond.instanceMethod ({ cls := "CuckooByPost", name := "lays", desc := "(LCuckooByPost$Spring;II)I" } : Jvm.MethodName)) ∈ lw_all := lw_g (lw_at lw_m3 62 rfl) rfl
theorem q644 : (Jvm.Cond.code ({ cls := "CuckooByPost", name := "lays", desc := "(LCuckooByPost$Spring;II)I" } : Jvm.MethodName) prog_1_method_40_code (4 : Nat) (Option.some Jvm.ClassFile.FieldType.int)) ∈ lw_all := lw_g (lw_at lw_m3 63 rfl) rfl
theorem q645 : (Jvm.Cond.methodLink "CuckooByPost" (317 : Nat) ({ cls := "CuckooByPost", name := "isColour", desc := "(I)Z" } : Jvm.MethodName)) ∈ lw_all := lw_g (lw_at lw_m3 64 rfl) rfl
theorem q646 : (Jvm.Cond.static ({ cls := "CuckooByPost", name := "isColour", desc := "(I)Z" } : Jvm.MethodName)) ∈ lw_all := lw_g (lw_at lw_m3 65 rfl) rfl
theorem q647 : (Jvm.Cond.code ({ cls := "CuckooByPost", name := "isColour", desc := "(I)Z" } : Jvm.MethodName) prog_1_method_7_code (1 : Nat) (Option.some Jvm.ClassFile.FieldType.boolean)) ∈ lw_all := lw_g (lw_at lw_m3 66 rfl) rfl
theorem q648 : (Jvm.Cond.methodLink "CuckooByPost" (116 : Nat) ({ cls := "CuckooByPost", name := "isInTime", desc := "(LCuckooByPost$Spring;I)Z" } : Jvm.MethodName)) ∈ lw_all := lw_g (lw_at lw_m3 67 rfl) rfl
theorem q649 : (Jvm.Cond.privateMethod ({ cls := "CuckooByPost", name := "isInTime", desc := "(LCuckooByPost$Spring;I)Z" } : Jvm.MethodName)) ∈ lw_tbl := lw_at lw_m3 68 rfl
theorem q650 : (Jvm.Cond.instanceMethod ({ cls := "CuckooByPost", name := "isInTime", desc := "(LCuckooByPost$Spring;I)Z" } : Jvm.MethodName)) ∈ lw_all := lw_g (lw_at lw_m3 69 rfl) rfl
theorem q651 : (Jvm.Cond.code ({ cls := "CuckooByPost", name := "isInTime", desc := "(LCuckooByPost$Spring;I)Z" } : Jvm.MethodName) prog_1_method_8_code (3 : Nat) (Option.some Jvm.ClassFile.FieldType.boolean)) ∈ lw_all := lw_g (lw_at lw_m3 70 rfl) rfl
theorem q652 : (Jvm.Cond.methodLink "CuckooByPost" (320 : Nat) ({ cls := "CuckooByPost$Spring", name := "lies", desc := "(II)V" } : Jvm.MethodName)) ∈ lw_all := lw_g (lw_at lw_m3 71 rfl) rfl
theorem q657 : (Jvm.Cond.methodLink "CuckooByPost" (291 : Nat) ({ cls := "CuckooByPost", name := "oddOf", desc := "(LCuckooByPost$Spring;I)I" } : Jvm.MethodName)) ∈ lw_all := lw_g (lw_at lw_m3 76 rfl) rfl
theorem q658 : (Jvm.Cond.privateMethod ({ cls := "CuckooByPost", name := "oddOf", desc := "(LCuckooByPost$Spring;I)I" } : Jvm.MethodName)) ∈ lw_tbl := lw_at lw_m3 77 rfl
theorem q659 : (Jvm.Cond.instanceMethod ({ cls := "CuckooByPost", name := "oddOf", desc := "(LCuckooByPost$Spring;I)I" } : Jvm.MethodName)) ∈ lw_all := lw_g (lw_at lw_m3 78 rfl) rfl
theorem q660 : (Jvm.Cond.code ({ cls := "CuckooByPost", name := "oddOf", desc := "(LCuckooByPost$Spring;I)I" } : Jvm.MethodName) prog_1_method_30_code (3 : Nat) (Option.some Jvm.ClassFile.FieldType.int)) ∈ lw_all := lw_g (lw_at lw_m3 79 rfl) rfl
theorem q661 : (Jvm.Cond.methodLink "CuckooByPost" (262 : Nat) ({ cls := "java/lang/Math", name := "abs", desc := "(I)I" } : Jvm.MethodName)) ∈ lw_all := lw_g (lw_at lw_m3 80 rfl) rfl
theorem q664 : (Jvm.Cond.methodLink "CuckooByPost" (274 : Nat) ({ cls := "CuckooByPost$Node", name := "value", desc := "()I" } : Jvm.MethodName)) ∈ lw_all := lw_g (lw_at lw_m3 83 rfl) rfl
theorem q681 : (Jvm.Cond.privateMethod ({ cls := "CuckooByPost", name := "guests", desc := "(LCuckooByPost$Spring;I)I" } : Jvm.MethodName)) ∈ lw_tbl := lw_at lw_m3 100 rfl
theorem q682 : (Jvm.Cond.instanceMethod ({ cls := "CuckooByPost", name := "guests", desc := "(LCuckooByPost$Spring;I)I" } : Jvm.MethodName)) ∈ lw_all := lw_g (lw_at lw_m3 101 rfl) rfl
theorem q683 : (Jvm.Cond.code ({ cls := "CuckooByPost", name := "guests", desc := "(LCuckooByPost$Spring;I)I" } : Jvm.MethodName) prog_1_method_9_code (5 : Nat) (Option.some Jvm.ClassFile.FieldType.int)) ∈ lw_all := lw_g (lw_at lw_m3 102 rfl) rfl
theorem q689 : (Jvm.Cond.instanceMethod ({ cls := "CuckooByPost", name := "tint", desc := "(II)I" } : Jvm.MethodName)) ∈ lw_all := lw_g (lw_at lw_m3 108 rfl) rfl
theorem q690 : (Jvm.Cond.selects "CuckooByPost" ({ cls := "CuckooByPost", name := "tint", desc := "(II)I" } : Jvm.MethodName) ({ cls := "CuckooByPost", name := "tint", desc := "(II)I" } : Jvm.MethodName)) ∈ lw_all := lw_g (lw_at lw_m3 109 rfl) rfl
theorem q691 : (Jvm.Cond.code ({ cls := "CuckooByPost", name := "tint", desc := "(II)I" } : Jvm.MethodName) prog_1_method_49_code (3 : Nat) (Option.some Jvm.ClassFile.FieldType.int)) ∈ lw_all := lw_g (lw_at lw_m3 110 rfl) rfl
theorem q692 : (Jvm.Cond.methodLink "CuckooByPost" (366 : Nat) ({ cls := "CuckooByPost", name := "tints", desc := "(LCuckooByPost$Spring;II)I" } : Jvm.MethodName)) ∈ lw_all := lw_g (lw_at lw_m3 111 rfl) rfl
theorem q693 : (Jvm.Cond.privateMethod ({ cls := "CuckooByPost", name := "tints", desc := "(LCuckooByPost$Spring;II)I" } : Jvm.MethodName)) ∈ lw_tbl := lw_at lw_m3 112 rfl
theorem q694 : (Jvm.Cond.instanceMethod ({ cls := "CuckooByPost", name := "tints", desc := "(LCuckooByPost$Spring;II)I" } : Jvm.MethodName)) ∈ lw_all := lw_g (lw_at lw_m3 113 rfl) rfl
theorem q695 : (Jvm.Cond.code ({ cls := "CuckooByPost", name := "tints", desc := "(LCuckooByPost$Spring;II)I" } : Jvm.MethodName) prog_1_method_41_code (5 : Nat) (Option.some Jvm.ClassFile.FieldType.int)) ∈ lw_all := lw_g (lw_at lw_m3 114 rfl) rfl
theorem q697 : (Jvm.Cond.instanceMethod ({ cls := "CuckooByPost", name := "exchange", desc := "(II)I" } : Jvm.MethodName)) ∈ lw_all := lw_g (lw_at lw_m3 116 rfl) rfl
theorem q698 : (Jvm.Cond.selects "CuckooByPost" ({ cls := "CuckooByPost", name := "exchange", desc := "(II)I" } : Jvm.MethodName) ({ cls := "CuckooByPost", name := "exchange", desc := "(II)I" } : Jvm.MethodName)) ∈ lw_all := lw_g (lw_at lw_m3 117 rfl) rfl
theorem q699 : (Jvm.Cond.code ({ cls := "CuckooByPost", name := "exchange", desc := "(II)I" } : Jvm.MethodName) prog_1_method_50_code (3 : Nat) (Option.some Jvm.ClassFile.FieldType.int)) ∈ lw_all := lw_g (lw_at lw_m3 118 rfl) rfl
theorem q700 : (Jvm.Cond.methodLink "CuckooByPost" (369 : Nat) ({ cls := "CuckooByPost", name := "exchanges", desc := "(LCuckooByPost$Spring;II)I" } : Jvm.MethodName)) ∈ lw_all := lw_g (lw_at lw_m3 119 rfl) rfl
theorem q701 : (Jvm.Cond.privateMethod ({ cls := "CuckooByPost", name := "exchanges", desc := "(LCuckooByPost$Spring;II)I" } : Jvm.MethodName)) ∈ lw_tbl := lw_at lw_m3 120 rfl
theorem q702 : (Jvm.Cond.instanceMethod ({ cls := "CuckooByPost", name := "exchanges", desc := "(LCuckooByPost$Spring;II)I" } : Jvm.MethodName)) ∈ lw_all := lw_g (lw_at lw_m3 121 rfl) rfl
theorem q703 : (Jvm.Cond.code ({ cls := "CuckooByPost", name := "exchanges", desc := "(LCuckooByPost$Spring;II)I" } : Jvm.MethodName) prog_1_method_43_code (4 : Nat) (Option.some Jvm.ClassFile.FieldType.int)) ∈ lw_all := lw_g (lw_at lw_m3 122 rfl) rfl
theorem q704 : (Jvm.Cond.methodLink "CuckooByPost" (324 : Nat) ({ cls := "CuckooByPost", name := "isPair", desc := "(II)Z" } : Jvm.MethodName)) ∈ lw_all := lw_g (lw_at lw_m3 123 rfl) rfl
theorem q705 : (Jvm.Cond.privateMethod ({ cls := "CuckooByPost", name := "isPair", desc := "(II)Z" } : Jvm.MethodName)) ∈ lw_tbl := lw_at lw_m3 124 rfl
theorem q706 : (Jvm.Cond.instanceMethod ({ cls := "CuckooByPost", name := "isPair", desc := "(II)Z" } : Jvm.MethodName)) ∈ lw_all := lw_g (lw_at lw_m3 125 rfl) rfl
theorem q707 : (Jvm.Cond.code ({ cls := "CuckooByPost", name := "isPair", desc := "(II)Z" } : Jvm.MethodName) prog_1_method_6_code (3 : Nat) (Option.some Jvm.ClassFile.FieldType.boolean)) ∈ lw_all := lw_g (lw_at lw_m3 126 rfl) rfl
theorem q708 : (Jvm.Cond.methodLink "CuckooByPost" (328 : Nat) ({ cls := "CuckooByPost", name := "swaps", desc := "([III)V" } : Jvm.MethodName)) ∈ lw_all := lw_g (lw_at lw_m3 127 rfl) rfl
theorem q709 : (Jvm.Cond.static ({ cls := "CuckooByPost", name := "swaps", desc := "([III)V" } : Jvm.MethodName)) ∈ lw_all := lw_g (lw_at lw_m3 128 rfl) rfl
theorem q710 : (Jvm.Cond.code ({ cls := "CuckooByPost", name := "swaps", desc := "([III)V" } : Jvm.MethodName) prog_1_method_42_code (4 : Nat) (Option.none : Option Jvm.ClassFile.FieldType)) ∈ lw_all := lw_g (lw_at lw_m3 129 rfl) rfl
theorem q712 : (Jvm.Cond.instanceMethod ({ cls := "CuckooByPost", name := "days", desc := "(I)I" } : Jvm.MethodName)) ∈ lw_all := lw_g (lw_at lw_m3 131 rfl) rfl
theorem q713 : (Jvm.Cond.selects "CuckooByPost" ({ cls := "CuckooByPost", name := "days", desc := "(I)I" } : Jvm.MethodName) ({ cls := "CuckooByPost", name := "days", desc := "(I)I" } : Jvm.MethodName)) ∈ lw_all := lw_g (lw_at lw_m3 132 rfl) rfl
theorem q714 : (Jvm.Cond.code ({ cls := "CuckooByPost", name := "days", desc := "(I)I" } : Jvm.MethodName) prog_1_method_51_code (4 : Nat) (Option.some Jvm.ClassFile.FieldType.int)) ∈ lw_all := lw_g (lw_at lw_m3 133 rfl) rfl
theorem q715 : (Jvm.Cond.constantLong "CuckooByPost" (372 : Nat) (60 : Int64)) ∈ lw_all := lw_g (lw_at lw_m3 134 rfl) rfl
theorem q716 : (Jvm.Cond.methodLink "CuckooByPost" (374 : Nat) ({ cls := "CuckooByPost", name := "daysGo", desc := "(LCuckooByPost$Spring;I)V" } : Jvm.MethodName)) ∈ lw_all := lw_g (lw_at lw_m3 135 rfl) rfl
theorem q717 : (Jvm.Cond.privateMethod ({ cls := "CuckooByPost", name := "daysGo", desc := "(LCuckooByPost$Spring;I)V" } : Jvm.MethodName)) ∈ lw_tbl := lw_at lw_m3 136 rfl
theorem q718 : (Jvm.Cond.instanceMethod ({ cls := "CuckooByPost", name := "daysGo", desc := "(LCuckooByPost$Spring;I)V" } : Jvm.MethodName)) ∈ lw_all := lw_g (lw_at lw_m3 137 rfl) rfl
theorem q719 : (Jvm.Cond.code ({ cls := "CuckooByPost", name := "daysGo", desc := "(LCuckooByPost$Spring;I)V" } : Jvm.MethodName) prog_1_method_45_code (4 : Nat) (Option.none : Option Jvm.ClassFile.FieldType)) ∈ lw_all := lw_g (lw_at lw_m3 138 rfl) rfl
theorem q720 : (Jvm.Cond.methodLink "CuckooByPost" (350 : Nat) ({ cls := "CuckooByPost", name := "dayGoes", desc := "(LCuckooByPost$Spring;)V" } : Jvm.MethodName)) ∈ lw_all := lw_g (lw_at lw_m3 139 rfl) rfl
theorem q721 : (Jvm.Cond.privateMethod ({ cls := "CuckooByPost", name := "dayGoes", desc := "(LCuckooByPost$Spring;)V" } : Jvm.MethodName)) ∈ lw_tbl := lw_at lw_m3 140 rfl
theorem q722 : (Jvm.Cond.instanceMethod ({ cls := "CuckooByPost", name := "dayGoes", desc := "(LCuckooByPost$Spring;)V" } : Jvm.MethodName)) ∈ lw_all := lw_g (lw_at lw_m3 141 rfl) rfl
theorem q723 : (Jvm.Cond.code ({ cls := "CuckooByPost", name := "dayGoes", desc := "(LCuckooByPost$Spring;)V" } : Jvm.MethodName) prog_1_method_44_code (4 : Nat) (Option.none : Option Jvm.ClassFile.FieldType)) ∈ lw_all := lw_g (lw_at lw_m3 142 rfl) rfl
theorem q724 : (Jvm.Cond.methodLink "CuckooByPost" (332 : Nat) ({ cls := "CuckooByPost", name := "guests", desc := "(LCuckooByPost$Spring;I)I" } : Jvm.MethodName)) ∈ lw_all := lw_g (lw_at lw_m3 143 rfl) rfl
theorem q725 : (Jvm.Cond.methodLink "CuckooByPost" (335 : Nat) ({ cls := "CuckooByPost$Spring", name := "leaves", desc := "(I)V" } : Jvm.MethodName)) ∈ lw_all := lw_g (lw_at lw_m3 144 rfl) rfl
theorem q726 : (Jvm.Cond.methodLink "CuckooByPost" (341 : Nat) ({ cls := "CuckooByPost", name := "has", desc := "(II)Z" } : Jvm.MethodName)) ∈ lw_all := lw_g (lw_at lw_m3 145 rfl) rfl
theorem q727 : (Jvm.Cond.static ({ cls := "CuckooByPost", name := "has", desc := "(II)Z" } : Jvm.MethodName)) ∈ lw_all := lw_g (lw_at lw_m3 146 rfl) rfl
theorem q728 : (Jvm.Cond.code ({ cls := "CuckooByPost", name := "has", desc := "(II)Z" } : Jvm.MethodName) prog_1_method_3_code (2 : Nat) (Option.some Jvm.ClassFile.FieldType.boolean)) ∈ lw_all := lw_g (lw_at lw_m3 147 rfl) rfl
theorem q729 : (Jvm.Cond.methodLink "CuckooByPost" (381 : Nat) ({ cls := "CuckooByPost", name := "tells", desc := "(J)V" } : Jvm.MethodName)) ∈ lw_all := lw_g (lw_at lw_m3 148 rfl) rfl
theorem q730 : (Jvm.Cond.privateMethod ({ cls := "CuckooByPost", name := "tells", desc := "(J)V" } : Jvm.MethodName)) ∈ lw_tbl := lw_at lw_m3 149 rfl
theorem q731 : (Jvm.Cond.instanceMethod ({ cls := "CuckooByPost", name := "tells", desc := "(J)V" } : Jvm.MethodName)) ∈ lw_all := lw_g (lw_at lw_m3 150 rfl) rfl
theorem q732 : (Jvm.Cond.code ({ cls := "CuckooByPost", name := "tells", desc := "(J)V" } : Jvm.MethodName) prog_1_method_107_code (3 : Nat) (Option.none : Option Jvm.ClassFile.FieldType)) ∈ lw_all := lw_g (lw_at lw_m3 151 rfl) rfl
theorem q734 : (Jvm.Cond.instanceMethod ({ cls := "CuckooByPost", name := "spring", desc := "()I" } : Jvm.MethodName)) ∈ lw_all := lw_g (lw_at lw_m3 153 rfl) rfl
theorem q735 : (Jvm.Cond.selects "CuckooByPost" ({ cls := "CuckooByPost", name := "spring", desc := "()I" } : Jvm.MethodName) ({ cls := "CuckooByPost", name := "spring", desc := "()I" } : Jvm.MethodName)) ∈ lw_all := lw_g (lw_at lw_m3 154 rfl) rfl
theorem q736 : (Jvm.Cond.code ({ cls := "CuckooByPost", name := "spring", desc := "()I" } : Jvm.MethodName) prog_1_method_54_code (5 : Nat) (Option.some Jvm.ClassFile.FieldType.int)) ∈ lw_all := lw_g (lw_at lw_m3 155 rfl) rfl
theorem q737 : (Jvm.Cond.methodLink "CuckooByPost" (390 : Nat) ({ cls := "CuckooByPost", name := "readsAct", desc := "()Z" } : Jvm.MethodName)) ∈ lw_all := lw_g (lw_at lw_m3 156 rfl) rfl
theorem q738 : (Jvm.Cond.privateMethod ({ cls := "CuckooByPost", name := "readsAct", desc := "()Z" } : Jvm.MethodName)) ∈ lw_tbl := lw_at lw_m3 157 rfl
theorem q739 : (Jvm.Cond.instanceMethod ({ cls := "CuckooByPost", name := "readsAct", desc := "()Z" } : Jvm.MethodName)) ∈ lw_all := lw_g (lw_at lw_m3 158 rfl) rfl
theorem q740 : (Jvm.Cond.code ({ cls := "CuckooByPost", name := "readsAct", desc := "()Z" } : Jvm.MethodName) prog_1_method_52_code (3 : Nat) (Option.some Jvm.ClassFile.FieldType.boolean)) ∈ lw_all := lw_g (lw_at lw_m3 159 rfl) rfl
theorem q741 : (Jvm.Cond.stringRef "CuckooByPost" (388 : Nat) "nrltxd") ∈ lw_tbl := lw_at lw_m3 160 rfl
theorem q742 : (Jvm.Cond.methodLink "CuckooByPost" (393 : Nat) ({ cls := "CuckooByPost", name := "does", desc := "(I)Z" } : Jvm.MethodName)) ∈ lw_all := lw_g (lw_at lw_m3 161 rfl) rfl
theorem q743 : (Jvm.Cond.privateMethod ({ cls := "CuckooByPost", name := "does", desc := "(I)Z" } : Jvm.MethodName)) ∈ lw_tbl := lw_at lw_m3 162 rfl
theorem q744 : (Jvm.Cond.instanceMethod ({ cls := "CuckooByPost", name := "does", desc := "(I)Z" } : Jvm.MethodName)) ∈ lw_all := lw_g (lw_at lw_m3 163 rfl) rfl
theorem q745 : (Jvm.Cond.code ({ cls := "CuckooByPost", name := "does", desc := "(I)Z" } : Jvm.MethodName) prog_1_method_53_code (4 : Nat) (Option.some Jvm.ClassFile.FieldType.boolean)) ∈ lw_all := lw_g (lw_at lw_m3 164 rfl) rfl
theorem q747 : (Jvm.Cond.instanceMethod ({ cls := "CuckooByPost", name := "odd", desc := "(II)I" } : Jvm.MethodName)) ∈ lw_all := lw_g (lw_at lw_m3 166 rfl) rfl
theorem q748 : (Jvm.Cond.selects "CuckooByPost" ({ cls := "CuckooByPost", name := "odd", desc := "(II)I" } : Jvm.MethodName) ({ cls := "CuckooByPost", name := "odd", desc := "(II)I" } : Jvm.MethodName)) ∈ lw_all := lw_g (lw_at lw_m3 167 rfl) rfl
theorem q749 : (Jvm.Cond.code ({ cls := "CuckooByPost", name := "odd", desc := "(II)I" } : Jvm.MethodName) prog_1_method_57_code (3 : Nat) (Option.some Jvm.ClassFile.FieldType.int)) ∈ lw_all := lw_g (lw_at lw_m3 168 rfl) rfl
theorem q750 : (Jvm.Cond.methodLink "CuckooByPost" (396 : Nat) ({ cls := "CuckooByPost", name := "oddIf", desc := "(II)I" } : Jvm.MethodName)) ∈ lw_all := lw_g (lw_at lw_m3 169 rfl) rfl
theorem q751 : (Jvm.Cond.privateMethod ({ cls := "CuckooByPost", name := "oddIf", desc := "(II)I" } : Jvm.MethodName)) ∈ lw_tbl := lw_at lw_m3 170 rfl
theorem q752 : (Jvm.Cond.instanceMethod ({ cls := "CuckooByPost", name := "oddIf", desc := "(II)I" } : Jvm.MethodName)) ∈ lw_all := lw_g (lw_at lw_m3 171 rfl) rfl
theorem q753 : (Jvm.Cond.code ({ cls := "CuckooByPost", name := "oddIf", desc := "(II)I" } : Jvm.MethodName) prog_1_method_56_code (3 : Nat) (Option.some Jvm.ClassFile.FieldType.int)) ∈ lw_all := lw_g (lw_at lw_m3 172 rfl) rfl
theorem q754 : (Jvm.Cond.methodLink "CuckooByPost" (399 : Nat) ({ cls := "CuckooByPost", name := "shown", desc := "(I)I" } : Jvm.MethodName)) ∈ lw_all := lw_g (lw_at lw_m3 173 rfl) rfl
theorem q755 : (Jvm.Cond.static ({ cls := "CuckooByPost", name := "shown", desc := "(I)I" } : Jvm.MethodName)) ∈ lw_all := lw_g (lw_at lw_m3 174 rfl) rfl
theorem q756 : (Jvm.Cond.code ({ cls := "CuckooByPost", name := "shown", desc := "(I)I" } : Jvm.MethodName) prog_1_method_55_code (1 : Nat) (Option.some Jvm.ClassFile.FieldType.int)) ∈ lw_all := lw_g (lw_at lw_m3 175 rfl) rfl
theorem q758 : (Jvm.Cond.instanceMethod ({ cls := "CuckooByPost", name := "colours", desc := "(I)I" } : Jvm.MethodName)) ∈ lw_all := lw_g (lw_at lw_m3 177 rfl) rfl
theorem q759 : (Jvm.Cond.selects "CuckooByPost" ({ cls := "CuckooByPost", name := "colours", desc := "(I)I" } : Jvm.MethodName) ({ cls := "CuckooByPost", name := "colours", desc := "(I)I" } : Jvm.MethodName)) ∈ lw_all := lw_g (lw_at lw_m3 178 rfl) rfl
theorem q760 : (Jvm.Cond.code ({ cls := "CuckooByPost", name := "colours", desc := "(I)I" } : Jvm.MethodName) prog_1_method_58_code (5 : Nat) (Option.some Jvm.ClassFile.FieldType.int)) ∈ lw_all := lw_g (lw_at lw_m3 179 rfl) rfl
theorem q762 : (Jvm.Cond.instanceMethod ({ cls := "CuckooByPost", name := "where", desc := "(I)I" } : Jvm.MethodName)) ∈ lw_all := lw_g (lw_at lw_m3 181 rfl) rfl
theorem q763 : (Jvm.Cond.selects "CuckooByPost" ({ cls := "CuckooByPost", name := "where", desc := "(I)I" } : Jvm.MethodName) ({ cls := "CuckooByPost", name := "where", desc := "(I)I" } : Jvm.MethodName)) ∈ lw_all := lw_g (lw_at lw_m3 182 rfl) rfl
theorem q764 : (Jvm.Cond.code ({ cls := "CuckooByPost", name := "where", desc := "(I)I" } : Jvm.MethodName) prog_1_method_60_code (6 : Nat) (Option.some Jvm.ClassFile.FieldType.int)) ∈ lw_all := lw_g (lw_at lw_m3 183 rfl) rfl
theorem q765 : (Jvm.Cond.methodLink "CuckooByPost" (402 : Nat) ({ cls := "CuckooByPost", name := "isFree", desc := "(LCuckooByPost$Spring;I)Z" } : Jvm.MethodName)) ∈ lw_all := lw_g (lw_at lw_m3 184 rfl) rfl
theorem q766 : (Jvm.Cond.privateMethod ({ cls := "CuckooByPost", name := "isFree", desc := "(LCuckooByPost$Spring;I)Z" } : Jvm.MethodName)) ∈ lw_tbl := lw_at lw_m3 185 rfl
theorem q767 : (Jvm.Cond.instanceMethod ({ cls := "CuckooByPost", name := "isFree", desc := "(LCuckooByPost$Spring;I)Z" } : Jvm.MethodName)) ∈ lw_all := lw_g (lw_at lw_m3 186 rfl) rfl
theorem q768 : (Jvm.Cond.code ({ cls := "CuckooByPost", name := "isFree", desc := "(LCuckooByPost$Spring;I)Z" } : Jvm.MethodName) prog_1_method_59_code (3 : Nat) (Option.some Jvm.ClassFile.FieldType.boolean)) ∈ lw_all := lw_g (lw_at lw_m3 187 rfl) rfl
theorem q770 : (Jvm.Cond.instanceMethod ({ cls := "CuckooByPost", name := "flies", desc := "(II)I" } : Jvm.MethodName)) ∈ lw_all := lw_g (lw_at lw_m3 189 rfl) rfl
theorem q771 : (Jvm.Cond.selects "CuckooByPost" ({ cls := "CuckooByPost", name := "flies", desc := "(II)I" } : Jvm.MethodName) ({ cls := "CuckooByPost", name := "flies", desc := "(II)I" } : Jvm.MethodName)) ∈ lw_all := lw_g (lw_at lw_m3 190 rfl) rfl
theorem q772 : (Jvm.Cond.code ({ cls := "CuckooByPost", name := "flies", desc := "(II)I" } : Jvm.MethodName) prog_1_method_61_code (4 : Nat) (Option.some Jvm.ClassFile.FieldType.int)) ∈ lw_all := lw_g (lw_at lw_m3 191 rfl) rfl
theorem q773 : (Jvm.Cond.methodLink "CuckooByPost" (405 : Nat) ({ cls := "CuckooByPost", name := "fliesIn", desc := "(I)I" } : Jvm.MethodName)) ∈ lw_all := lw_g (lw_at lw_m3 192 rfl) rfl
theorem q774 : (Jvm.Cond.privateMethod ({ cls := "CuckooByPost", name := "fliesIn", desc := "(I)I" } : Jvm.MethodName)) ∈ lw_tbl := lw_at lw_m3 193 rfl
theorem q775 : (Jvm.Cond.instanceMethod ({ cls := "CuckooByPost", name := "fliesIn", desc := "(I)I" } : Jvm.MethodName)) ∈ lw_all := lw_g (lw_at lw_m3 194 rfl) rfl
theorem q776 : (Jvm.Cond.code ({ cls := "CuckooByPost", name := "fliesIn", desc := "(I)I" } : Jvm.MethodName) prog_1_method_67_code (4 : Nat) (Option.some Jvm.ClassFile.FieldType.int)) ∈ lw_all := lw_g (lw_at lw_m3 195 rfl) rfl
theorem q778 : (Jvm.Cond.instanceMethod ({ cls := "CuckooByPost", name := "later", desc := "(I)I" } : Jvm.MethodName)) ∈ lw_all := lw_g (lw_at lw_m3 197 rfl) rfl
theorem q779 : (Jvm.Cond.selects "CuckooByPost" ({ cls := "CuckooByPost", name := "later", desc := "(I)I" } : Jvm.MethodName) ({ cls := "CuckooByPost", name := "later", desc := "(I)I" } : Jvm.MethodName)) ∈ lw_all := lw_g (lw_at lw_m3 198 rfl) rfl
theorem q780 : (Jvm.Cond.code ({ cls := "CuckooByPost", name := "later", desc := "(I)I" } : Jvm.MethodName) prog_1_method_62_code (2 : Nat) (Option.some Jvm.ClassFile.FieldType.int)) ∈ lw_all := lw_g (lw_at lw_m3 199 rfl) rfl
theorem q781 : (Jvm.Cond.constantLong "CuckooByPost" (408 : Nat) (99 : Int64)) ∈ lw_all := lw_g (lw_at lw_m3 200 rfl) rfl
theorem q783 : (Jvm.Cond.instanceMethod ({ cls := "CuckooByPost", name := "place", desc := "()I" } : Jvm.MethodName)) ∈ lw_all := lw_g (lw_at lw_m3 202 rfl) rfl
theorem q784 : (Jvm.Cond.selects "CuckooByPost" ({ cls := "CuckooByPost", name := "place", desc := "()I" } : Jvm.MethodName) ({ cls := "CuckooByPost", name := "place", desc := "()I" } : Jvm.MethodName)) ∈ lw_all := lw_g (lw_at lw_m3 203 rfl) rfl
theorem q785 : (Jvm.Cond.code ({ cls := "CuckooByPost", name := "place", desc := "()I" } : Jvm.MethodName) prog_1_method_64_code (3 : Nat) (Option.some Jvm.ClassFile.FieldType.int)) ∈ lw_all := lw_g (lw_at lw_m3 204 rfl) rfl
theorem q786 : (Jvm.Cond.methodLink "CuckooByPost" (419 : Nat) ({ cls := "CuckooByPost", name := "placesFrom", desc := "(III)V" } : Jvm.MethodName)) ∈ lw_all := lw_g (lw_at lw_m3 205 rfl) rfl
theorem q787 : (Jvm.Cond.privateMethod ({ cls := "CuckooByPost", name := "placesFrom", desc := "(III)V" } : Jvm.MethodName)) ∈ lw_tbl := lw_at lw_m3 206 rfl
theorem q788 : (Jvm.Cond.instanceMethod ({ cls := "CuckooByPost", name := "placesFrom", desc := "(III)V" } : Jvm.MethodName)) ∈ lw_all := lw_g (lw_at lw_m3 207 rfl) rfl
theorem q789 : (Jvm.Cond.code ({ cls := "CuckooByPost", name := "placesFrom", desc := "(III)V" } : Jvm.MethodName) prog_1_method_63_code (5 : Nat) (Option.none : Option Jvm.ClassFile.FieldType)) ∈ lw_all := lw_g (lw_at lw_m3 208 rfl) rfl
theorem q790 : (Jvm.Cond.methodLink "CuckooByPost" (413 : Nat) ({ cls := "java/lang/System", name := "arraycopy", desc := "(Ljava/lang/Object;ILjava/lang/Object;II)V" } : Jvm.MethodName)) ∈ lw_all := lw_g (lw_at lw_m3 209 rfl) rfl
theorem q792 : (Jvm.Cond.instanceMethod ({ cls := "CuckooByPost", name := "suspects", desc := "()I" } : Jvm.MethodName)) ∈ lw_all := lw_g (lw_at lw_m3 211 rfl) rfl
theorem q793 : (Jvm.Cond.selects "CuckooByPost" ({ cls := "CuckooByPost", name := "suspects", desc := "()I" } : Jvm.MethodName) ({ cls := "CuckooByPost", name := "suspects", desc := "()I" } : Jvm.MethodName)) ∈ lw_all := lw_g (lw_at lw_m3 212 rfl) rfl
theorem q794 : (Jvm.Cond.code ({ cls := "CuckooByPost", name := "suspects", desc := "()I" } : Jvm.MethodName) prog_1_method_65_code (5 : Nat) (Option.some Jvm.ClassFile.FieldType.int)) ∈ lw_all := lw_g (lw_at lw_m3 213 rfl) rfl
theorem q796 : (Jvm.Cond.instanceMethod ({ cls := "CuckooByPost", name := "tinting", desc := "(I)I" } : Jvm.MethodName)) ∈ lw_all := lw_g (lw_at lw_m3 215 rfl) rfl
theorem q797 : (Jvm.Cond.selects "CuckooByPost" ({ cls := "CuckooByPost", name := "tinting", desc := "(I)I" } : Jvm.MethodName) ({ cls := "CuckooByPost", name := "tinting", desc := "(I)I" } : Jvm.MethodName)) ∈ lw_all := lw_g (lw_at lw_m3 216 rfl) rfl
theorem q798 : (Jvm.Cond.code ({ cls := "CuckooByPost", name := "tinting", desc := "(I)I" } : Jvm.MethodName) prog_1_method_66_code (6 : Nat) (Option.some Jvm.ClassFile.FieldType.int)) ∈ lw_all := lw_g (lw_at lw_m3 217 rfl) rfl
theorem q800 : (Jvm.Cond.instanceMethod ({ cls := "CuckooByPost", name := "waiting", desc := "(II)I" } : Jvm.MethodName)) ∈ lw_all := lw_g (lw_at lw_m3 219 rfl) rfl
theorem q801 : (Jvm.Cond.selects "CuckooByPost" ({ cls := "CuckooByPost", name := "waiting", desc := "(II)I" } : Jvm.MethodName) ({ cls := "CuckooByPost", name := "waiting", desc := "(II)I" } : Jvm.MethodName)) ∈ lw_all := lw_g (lw_at lw_m3 220 rfl) rfl
theorem q802 : (Jvm.Cond.code ({ cls := "CuckooByPost", name := "waiting", desc := "(II)I" } : Jvm.MethodName) prog_1_method_68_code (4 : Nat) (Option.some Jvm.ClassFile.FieldType.int)) ∈ lw_all := lw_g (lw_at lw_m3 221 rfl) rfl
theorem q804 : (Jvm.Cond.instanceMethod ({ cls := "CuckooByPost", name := "exchanged", desc := "()I" } : Jvm.MethodName)) ∈ lw_all := lw_g (lw_at lw_m3 223 rfl) rfl
theorem q805 : (Jvm.Cond.selects "CuckooByPost" ({ cls := "CuckooByPost", name := "exchanged", desc := "()I" } : Jvm.MethodName) ({ cls := "CuckooByPost", name := "exchanged", desc := "()I" } : Jvm.MethodName)) ∈ lw_all := lw_g (lw_at lw_m3 224 rfl) rfl
theorem q806 : (Jvm.Cond.code ({ cls := "CuckooByPost", name := "exchanged", desc := "()I" } : Jvm.MethodName) prog_1_method_70_code (7 : Nat) (Option.some Jvm.ClassFile.FieldType.int)) ∈ lw_all := lw_g (lw_at lw_m3 225 rfl) rfl
theorem q807 : (Jvm.Cond.constant "CuckooByPost" (423 : Nat) (1000000 : Int32)) ∈ lw_all := lw_g (lw_at lw_m3 226 rfl) rfl
theorem q808 : (Jvm.Cond.methodLink "CuckooByPost" (424 : Nat) ({ cls := "CuckooByPost", name := "turnedNow", desc := "()I" } : Jvm.MethodName)) ∈ lw_all := lw_g (lw_at lw_m3 227 rfl) rfl
theorem q809 : (Jvm.Cond.privateMethod ({ cls := "CuckooByPost", name := "turnedNow", desc := "()I" } : Jvm.MethodName)) ∈ lw_tbl := lw_at lw_m3 228 rfl
theorem q810 : (Jvm.Cond.instanceMethod ({ cls := "CuckooByPost", name := "turnedNow", desc := "()I" } : Jvm.MethodName)) ∈ lw_all := lw_g (lw_at lw_m3 229 rfl) rfl
theorem q811 : (Jvm.Cond.code ({ cls := "CuckooByPost", name := "turnedNow", desc := "()I" } : Jvm.MethodName) prog_1_method_69_code (1 : Nat) (Option.some Jvm.ClassFile.FieldType.int)) ∈ lw_all := lw_g (lw_at lw_m3 230 rfl) rfl
theorem q813 : (Jvm.Cond.instanceMethod ({ cls := "CuckooByPost", name := "eldest", desc := "()I" } : Jvm.MethodName)) ∈ lw_all := lw_g (lw_at lw_m3 232 rfl) rfl
theorem q814 : (Jvm.Cond.selects "CuckooByPost" ({ cls := "CuckooByPost", name := "eldest", desc := "()I" } : Jvm.MethodName) ({ cls := "CuckooByPost", name := "eldest", desc := "()I" } : Jvm.MethodName)) ∈ lw_all := lw_g (lw_at lw_m3 233 rfl) rfl
theorem q815 : (Jvm.Cond.code ({ cls := "CuckooByPost", name := "eldest", desc := "()I" } : Jvm.MethodName) prog_1_method_71_code (4 : Nat) (Option.some Jvm.ClassFile.FieldType.int)) ∈ lw_all := lw_g (lw_at lw_m3 234 rfl) rfl
theorem q817 : (Jvm.Cond.instanceMethod ({ cls := "CuckooByPost", name := "waits", desc := "(II)I" } : Jvm.MethodName)) ∈ lw_all := lw_g (lw_at lw_m3 236 rfl) rfl
theorem q818 : (Jvm.Cond.selects "CuckooByPost" ({ cls := "CuckooByPost", name := "waits", desc := "(II)I" } : Jvm.MethodName) ({ cls := "CuckooByPost", name := "waits", desc := "(II)I" } : Jvm.MethodName)) ∈ lw_all := lw_g (lw_at lw_m3 237 rfl) rfl
theorem q819 : (Jvm.Cond.code ({ cls := "CuckooByPost", name := "waits", desc := "(II)I" } : Jvm.MethodName) prog_1_method_73_code (3 : Nat) (Option.some Jvm.ClassFile.FieldType.int)) ∈ lw_all := lw_g (lw_at lw_m3 238 rfl) rfl
theorem q820 : (Jvm.Cond.methodLink "CuckooByPost" (427 : Nat) ({ cls := "CuckooByPost", name := "waitsFor", desc := "(II)I" } : Jvm.MethodName)) ∈ lw_all := lw_g (lw_at lw_m3 239 rfl) rfl
theorem q821 : (Jvm.Cond.privateMethod ({ cls := "CuckooByPost", name := "waitsFor", desc := "(II)I" } : Jvm.MethodName)) ∈ lw_tbl := lw_at lw_m4 0 rfl
theorem q822 : (Jvm.Cond.instanceMethod ({ cls := "CuckooByPost", name := "waitsFor", desc := "(II)I" } : Jvm.MethodName)) ∈ lw_all := lw_g (lw_at lw_m4 1 rfl) rfl
theorem q823 : (Jvm.Cond.code ({ cls := "CuckooByPost", name := "waitsFor", desc := "(II)I" } : Jvm.MethodName) prog_1_method_72_code (4 : Nat) (Option.some Jvm.ClassFile.FieldType.int)) ∈ lw_all := lw_g (lw_at lw_m4 2 rfl) rfl
theorem q825 : (Jvm.Cond.instanceMethod ({ cls := "CuckooByPost", name := "spares", desc := "(II)I" } : Jvm.MethodName)) ∈ lw_all := lw_g (lw_at lw_m4 4 rfl) rfl
theorem q826 : (Jvm.Cond.selects "CuckooByPost" ({ cls := "CuckooByPost", name := "spares", desc := "(II)I" } : Jvm.MethodName) ({ cls := "CuckooByPost", name := "spares", desc := "(II)I" } : Jvm.MethodName)) ∈ lw_all := lw_g (lw_at lw_m4 5 rfl) rfl
theorem q827 : (Jvm.Cond.code ({ cls := "CuckooByPost", name := "spares", desc := "(II)I" } : Jvm.MethodName) prog_1_method_74_code (4 : Nat) (Option.some Jvm.ClassFile.FieldType.int)) ∈ lw_all := lw_g (lw_at lw_m4 6 rfl) rfl
theorem q828 : (Jvm.Cond.constantLong "CuckooByPost" (430 : Nat) (20 : Int64)) ∈ lw_all := lw_g (lw_at lw_m4 7 rfl) rfl
theorem q830 : (Jvm.Cond.instanceMethod ({ cls := "CuckooByPost", name := "open", desc := "()I" } : Jvm.MethodName)) ∈ lw_all := lw_g (lw_at lw_m4 9 rfl) rfl
theorem q831 : (Jvm.Cond.selects "CuckooByPost" ({ cls := "CuckooByPost", name := "open", desc := "()I" } : Jvm.MethodName) ({ cls := "CuckooByPost", name := "open", desc := "()I" } : Jvm.MethodName)) ∈ lw_all := lw_g (lw_at lw_m4 10 rfl) rfl
theorem q832 : (Jvm.Cond.code ({ cls := "CuckooByPost", name := "open", desc := "()I" } : Jvm.MethodName) prog_1_method_75_code (2 : Nat) (Option.some Jvm.ClassFile.FieldType.int)) ∈ lw_all := lw_g (lw_at lw_m4 11 rfl) rfl
theorem q833 : (Jvm.Cond.methodLink "CuckooByPost" (432 : Nat) ({ cls := "CuckooByPost", name := "inTime", desc := "(LCuckooByPost$Spring;)I" } : Jvm.MethodName)) ∈ lw_all := lw_g (lw_at lw_m4 12 rfl) rfl
theorem q834 : (Jvm.Cond.privateMethod ({ cls := "CuckooByPost", name := "inTime", desc := "(LCuckooByPost$Spring;)I" } : Jvm.MethodName)) ∈ lw_tbl := lw_at lw_m4 13 rfl
theorem q835 : (Jvm.Cond.instanceMethod ({ cls := "CuckooByPost", name := "inTime", desc := "(LCuckooByPost$Spring;)I" } : Jvm.MethodName)) ∈ lw_all := lw_g (lw_at lw_m4 14 rfl) rfl
theorem q836 : (Jvm.Cond.code ({ cls := "CuckooByPost", name := "inTime", desc := "(LCuckooByPost$Spring;)I" } : Jvm.MethodName) prog_1_method_11_code (4 : Nat) (Option.some Jvm.ClassFile.FieldType.int)) ∈ lw_all := lw_g (lw_at lw_m4 15 rfl) rfl
theorem q838 : (Jvm.Cond.instanceMethod ({ cls := "CuckooByPost", name := "kinds", desc := "(I)I" } : Jvm.MethodName)) ∈ lw_all := lw_g (lw_at lw_m4 17 rfl) rfl
theorem q839 : (Jvm.Cond.selects "CuckooByPost" ({ cls := "CuckooByPost", name := "kinds", desc := "(I)I" } : Jvm.MethodName) ({ cls := "CuckooByPost", name := "kinds", desc := "(I)I" } : Jvm.MethodName)) ∈ lw_all := lw_g (lw_at lw_m4 18 rfl) rfl
theorem q840 : (Jvm.Cond.code ({ cls := "CuckooByPost", name := "kinds", desc := "(I)I" } : Jvm.MethodName) prog_1_method_76_code (5 : Nat) (Option.some Jvm.ClassFile.FieldType.int)) ∈ lw_all := lw_g (lw_at lw_m4 19 rfl) rfl
theorem q842 : (Jvm.Cond.instanceMethod ({ cls := "CuckooByPost", name := "feeds", desc := "(I)I" } : Jvm.MethodName)) ∈ lw_all := lw_g (lw_at lw_m4 21 rfl) rfl
theorem q843 : (Jvm.Cond.selects "CuckooByPost" ({ cls := "CuckooByPost", name := "feeds", desc := "(I)I" } : Jvm.MethodName) ({ cls := "CuckooByPost", name := "feeds", desc := "(I)I" } : Jvm.MethodName)) ∈ lw_all := lw_g (lw_at lw_m4 22 rfl) rfl
theorem q844 : (Jvm.Cond.code ({ cls := "CuckooByPost", name := "feeds", desc := "(I)I" } : Jvm.MethodName) prog_1_method_80_code (2 : Nat) (Option.some Jvm.ClassFile.FieldType.int)) ∈ lw_all := lw_g (lw_at lw_m4 23 rfl) rfl
theorem q845 : (Jvm.Cond.constantLong "CuckooByPost" (438 : Nat) (30 : Int64)) ∈ lw_all := lw_g (lw_at lw_m4 24 rfl) rfl
theorem q846 : (Jvm.Cond.methodLink "CuckooByPost" (440 : Nat) ({ cls := "CuckooByPost", name := "wanted", desc := "(I)I" } : Jvm.MethodName)) ∈ lw_all := lw_g (lw_at lw_m4 25 rfl) rfl
theorem q847 : (Jvm.Cond.privateMethod ({ cls := "CuckooByPost", name := "wanted", desc := "(I)I" } : Jvm.MethodName)) ∈ lw_tbl := lw_at lw_m4 26 rfl
theorem q848 : (Jvm.Cond.instanceMethod ({ cls := "CuckooByPost", name := "wanted", desc := "(I)I" } : Jvm.MethodName)) ∈ lw_all := lw_g (lw_at lw_m4 27 rfl) rfl
theorem q849 : (Jvm.Cond.code ({ cls := "CuckooByPost", name := "wanted", desc := "(I)I" } : Jvm.MethodName) prog_1_method_79_code (2 : Nat) (Option.some Jvm.ClassFile.FieldType.int)) ∈ lw_all := lw_g (lw_at lw_m4 28 rfl) rfl
theorem q850 : (Jvm.Cond.methodLink "CuckooByPost" (443 : Nat) ({ cls := "CuckooByPost", name := "fedBy", desc := "(II)I" } : Jvm.MethodName)) ∈ lw_all := lw_g (lw_at lw_m4 29 rfl) rfl
theorem q851 : (Jvm.Cond.privateMethod ({ cls := "CuckooByPost", name := "fedBy", desc := "(II)I" } : Jvm.MethodName)) ∈ lw_tbl := lw_at lw_m4 30 rfl
theorem q852 : (Jvm.Cond.instanceMethod ({ cls := "CuckooByPost", name := "fedBy", desc := "(II)I" } : Jvm.MethodName)) ∈ lw_all := lw_g (lw_at lw_m4 31 rfl) rfl
theorem q853 : (Jvm.Cond.code ({ cls := "CuckooByPost", name := "fedBy", desc := "(II)I" } : Jvm.MethodName) prog_1_method_78_code (9 : Nat) (Option.some Jvm.ClassFile.FieldType.int)) ∈ lw_all := lw_g (lw_at lw_m4 32 rfl) rfl
theorem q854 : (Jvm.Cond.methodLink "CuckooByPost" (435 : Nat) ({ cls := "CuckooByPost", name := "beside", desc := "(I)I" } : Jvm.MethodName)) ∈ lw_all := lw_g (lw_at lw_m4 33 rfl) rfl
theorem q855 : (Jvm.Cond.privateMethod ({ cls := "CuckooByPost", name := "beside", desc := "(I)I" } : Jvm.MethodName)) ∈ lw_tbl := lw_at lw_m4 34 rfl
theorem q856 : (Jvm.Cond.instanceMethod ({ cls := "CuckooByPost", name := "beside", desc := "(I)I" } : Jvm.MethodName)) ∈ lw_all := lw_g (lw_at lw_m4 35 rfl) rfl
theorem q857 : (Jvm.Cond.code ({ cls := "CuckooByPost", name := "beside", desc := "(I)I" } : Jvm.MethodName) prog_1_method_77_code (2 : Nat) (Option.some Jvm.ClassFile.FieldType.int)) ∈ lw_all := lw_g (lw_at lw_m4 36 rfl) rfl
theorem q859 : (Jvm.Cond.instanceMethod ({ cls := "CuckooByPost", name := "enough", desc := "()I" } : Jvm.MethodName)) ∈ lw_all := lw_g (lw_at lw_m4 38 rfl) rfl
theorem q860 : (Jvm.Cond.selects "CuckooByPost" ({ cls := "CuckooByPost", name := "enough", desc := "()I" } : Jvm.MethodName) ({ cls := "CuckooByPost", name := "enough", desc := "()I" } : Jvm.MethodName)) ∈ lw_all := lw_g (lw_at lw_m4 39 rfl) rfl
theorem q861 : (Jvm.Cond.code ({ cls := "CuckooByPost", name := "enough", desc := "()I" } : Jvm.MethodName) prog_1_method_81_code (2 : Nat) (Option.some Jvm.ClassFile.FieldType.int)) ∈ lw_all := lw_g (lw_at lw_m4 40 rfl) rfl
theorem q863 : (Jvm.Cond.instanceMethod ({ cls := "CuckooByPost", name := "needed", desc := "(I)I" } : Jvm.MethodName)) ∈ lw_all := lw_g (lw_at lw_m4 42 rfl) rfl
theorem q864 : (Jvm.Cond.selects "CuckooByPost" ({ cls := "CuckooByPost", name := "needed", desc := "(I)I" } : Jvm.MethodName) ({ cls := "CuckooByPost", name := "needed", desc := "(I)I" } : Jvm.MethodName)) ∈ lw_all := lw_g (lw_at lw_m4 43 rfl) rfl
theorem q865 : (Jvm.Cond.code ({ cls := "CuckooByPost", name := "needed", desc := "(I)I" } : Jvm.MethodName) prog_1_method_82_code (6 : Nat) (Option.some Jvm.ClassFile.FieldType.int)) ∈ lw_all := lw_g (lw_at lw_m4 44 rfl) rfl
theorem q867 : (Jvm.Cond.instanceMethod ({ cls := "CuckooByPost", name := "lodgings", desc := "()I" } : Jvm.MethodName)) ∈ lw_all := lw_g (lw_at lw_m4 46 rfl) rfl
theorem q868 : (Jvm.Cond.selects "CuckooByPost" ({ cls := "CuckooByPost", name := "lodgings", desc := "()I" } : Jvm.MethodName) ({ cls := "CuckooByPost", name := "lodgings", desc := "()I" } : Jvm.MethodName)) ∈ lw_all := lw_g (lw_at lw_m4 47 rfl) rfl
theorem q869 : (Jvm.Cond.code ({ cls := "CuckooByPost", name := "lodgings", desc := "()I" } : Jvm.MethodName) prog_1_method_86_code (2 : Nat) (Option.some Jvm.ClassFile.FieldType.int)) ∈ lw_all := lw_g (lw_at lw_m4 48 rfl) rfl
theorem q870 : (Jvm.Cond.methodLink "CuckooByPost" (455 : Nat) ({ cls := "CuckooByPost", name := "laysLodgings", desc := "()V" } : Jvm.MethodName)) ∈ lw_all := lw_g (lw_at lw_m4 49 rfl) rfl
theorem q871 : (Jvm.Cond.privateMethod ({ cls := "CuckooByPost", name := "laysLodgings", desc := "()V" } : Jvm.MethodName)) ∈ lw_tbl := lw_at lw_m4 50 rfl
theorem q872 : (Jvm.Cond.instanceMethod ({ cls := "CuckooByPost", name := "laysLodgings", desc := "()V" } : Jvm.MethodName)) ∈ lw_all := lw_g (lw_at lw_m4 51 rfl) rfl
theorem q873 : (Jvm.Cond.code ({ cls := "CuckooByPost", name := "laysLodgings", desc := "()V" } : Jvm.MethodName) prog_1_method_85_code (4 : Nat) (Option.none : Option Jvm.ClassFile.FieldType)) ∈ lw_all := lw_g (lw_at lw_m4 52 rfl) rfl
theorem q874 : (Jvm.Cond.methodLink "CuckooByPost" (449 : Nat) ({ cls := "java/lang/Integer", name := "numberOfTrailingZeros", desc := "(I)I" } : Jvm.MethodName)) ∈ lw_all := lw_g (lw_at lw_m4 53 rfl) rfl
theorem q878 : (Jvm.Cond.methodLink "CuckooByPost" (452 : Nat) ({ cls := "CuckooByPost", name := "pointsTo", desc := "(II)I" } : Jvm.MethodName)) ∈ lw_all := lw_g (lw_at lw_m4 57 rfl) rfl
theorem q879 : (Jvm.Cond.privateMethod ({ cls := "CuckooByPost", name := "pointsTo", desc := "(II)I" } : Jvm.MethodName)) ∈ lw_tbl := lw_at lw_m4 58 rfl
theorem q880 : (Jvm.Cond.instanceMethod ({ cls := "CuckooByPost", name := "pointsTo", desc := "(II)I" } : Jvm.MethodName)) ∈ lw_all := lw_g (lw_at lw_m4 59 rfl) rfl
theorem q881 : (Jvm.Cond.code ({ cls := "CuckooByPost", name := "pointsTo", desc := "(II)I" } : Jvm.MethodName) prog_1_method_84_code (5 : Nat) (Option.some Jvm.ClassFile.FieldType.int)) ∈ lw_all := lw_g (lw_at lw_m4 60 rfl) rfl
theorem q882 : (Jvm.Cond.methodLink "CuckooByPost" (446 : Nat) ({ cls := "CuckooByPost", name := "dislikes", desc := "(II)I" } : Jvm.MethodName)) ∈ lw_all := lw_g (lw_at lw_m4 61 rfl) rfl
theorem q883 : (Jvm.Cond.privateMethod ({ cls := "CuckooByPost", name := "dislikes", desc := "(II)I" } : Jvm.MethodName)) ∈ lw_tbl := lw_at lw_m4 62 rfl
theorem q884 : (Jvm.Cond.instanceMethod ({ cls := "CuckooByPost", name := "dislikes", desc := "(II)I" } : Jvm.MethodName)) ∈ lw_all := lw_g (lw_at lw_m4 63 rfl) rfl
theorem q885 : (Jvm.Cond.code ({ cls := "CuckooByPost", name := "dislikes", desc := "(II)I" } : Jvm.MethodName) prog_1_method_83_code (3 : Nat) (Option.some Jvm.ClassFile.FieldType.int)) ∈ lw_all := lw_g (lw_at lw_m4 64 rfl) rfl
theorem q887 : (Jvm.Cond.instanceMethod ({ cls := "CuckooByPost", name := "movers", desc := "()I" } : Jvm.MethodName)) ∈ lw_all := lw_g (lw_at lw_m4 66 rfl) rfl
theorem q888 : (Jvm.Cond.selects "CuckooByPost" ({ cls := "CuckooByPost", name := "movers", desc := "()I" } : Jvm.MethodName) ({ cls := "CuckooByPost", name := "movers", desc := "()I" } : Jvm.MethodName)) ∈ lw_all := lw_g (lw_at lw_m4 67 rfl) rfl
theorem q889 : (Jvm.Cond.code ({ cls := "CuckooByPost", name := "movers", desc := "()I" } : Jvm.MethodName) prog_1_method_87_code (3 : Nat) (Option.some Jvm.ClassFile.FieldType.int)) ∈ lw_all := lw_g (lw_at lw_m4 68 rfl) rfl
theorem q891 : (Jvm.Cond.instanceMethod ({ cls := "CuckooByPost", name := "leavers", desc := "()I" } : Jvm.MethodName)) ∈ lw_all := lw_g (lw_at lw_m4 70 rfl) rfl
theorem q892 : (Jvm.Cond.selects "CuckooByPost" ({ cls := "CuckooByPost", name := "leavers", desc := "()I" } : Jvm.MethodName) ({ cls := "CuckooByPost", name := "leavers", desc := "()I" } : Jvm.MethodName)) ∈ lw_all := lw_g (lw_at lw_m4 71 rfl) rfl
theorem q893 : (Jvm.Cond.code ({ cls := "CuckooByPost", name := "leavers", desc := "()I" } : Jvm.MethodName) prog_1_method_89_code (5 : Nat) (Option.some Jvm.ClassFile.FieldType.int)) ∈ lw_all := lw_g (lw_at lw_m4 72 rfl) rfl
theorem q894 : (Jvm.Cond.methodLink "CuckooByPost" (458 : Nat) ({ cls := "CuckooByPost", name := "wouldHave", desc := "(II)Z" } : Jvm.MethodName)) ∈ lw_all := lw_g (lw_at lw_m4 73 rfl) rfl
theorem q895 : (Jvm.Cond.privateMethod ({ cls := "CuckooByPost", name := "wouldHave", desc := "(II)Z" } : Jvm.MethodName)) ∈ lw_tbl := lw_at lw_m4 74 rfl
theorem q896 : (Jvm.Cond.instanceMethod ({ cls := "CuckooByPost", name := "wouldHave", desc := "(II)Z" } : Jvm.MethodName)) ∈ lw_all := lw_g (lw_at lw_m4 75 rfl) rfl
theorem q897 : (Jvm.Cond.code ({ cls := "CuckooByPost", name := "wouldHave", desc := "(II)Z" } : Jvm.MethodName) prog_1_method_88_code (3 : Nat) (Option.some Jvm.ClassFile.FieldType.boolean)) ∈ lw_all := lw_g (lw_at lw_m4 76 rfl) rfl
theorem q899 : (Jvm.Cond.instanceMethod ({ cls := "CuckooByPost", name := "whose", desc := "(IIIII)I" } : Jvm.MethodName)) ∈ lw_all := lw_g (lw_at lw_m4 78 rfl) rfl
theorem q900 : (Jvm.Cond.selects "CuckooByPost" ({ cls := "CuckooByPost", name := "whose", desc := "(IIIII)I" } : Jvm.MethodName) ({ cls := "CuckooByPost", name := "whose", desc := "(IIIII)I" } : Jvm.MethodName)) ∈ lw_all := lw_g (lw_at lw_m4 79 rfl) rfl
theorem q901 : (Jvm.Cond.code ({ cls := "CuckooByPost", name := "whose", desc := "(IIIII)I" } : Jvm.MethodName) prog_1_method_91_code (12 : Nat) (Option.some Jvm.ClassFile.FieldType.int)) ∈ lw_all := lw_g (lw_at lw_m4 80 rfl) rfl
theorem q902 : (Jvm.Cond.constantLong "CuckooByPost" (461 : Nat) (10 : Int64)) ∈ lw_all := lw_g (lw_at lw_m4 81 rfl) rfl
theorem q903 : (Jvm.Cond.constantLong "CuckooByPost" (463 : Nat) (8 : Int64)) ∈ lw_all := lw_g (lw_at lw_m4 82 rfl) rfl
theorem q904 : (Jvm.Cond.methodLink "CuckooByPost" (465 : Nat) ({ cls := "CuckooByPost", name := "looks", desc := "(III)J" } : Jvm.MethodName)) ∈ lw_all := lw_g (lw_at lw_m4 83 rfl) rfl
theorem q905 : (Jvm.Cond.static ({ cls := "CuckooByPost", name := "looks", desc := "(III)J" } : Jvm.MethodName)) ∈ lw_all := lw_g (lw_at lw_m4 84 rfl) rfl
theorem q906 : (Jvm.Cond.code ({ cls := "CuckooByPost", name := "looks", desc := "(III)J" } : Jvm.MethodName) prog_1_method_90_code (6 : Nat) (Option.some Jvm.ClassFile.FieldType.long)) ∈ lw_all := lw_g (lw_at lw_m4 85 rfl) rfl
theorem q907 : (Jvm.Cond.methodLink "CuckooByPost" (90 : Nat) ({ cls := "CuckooByPost", name := "common", desc := "(JJ)J" } : Jvm.MethodName)) ∈ lw_all := lw_g (lw_at lw_m4 86 rfl) rfl
theorem q908 : (Jvm.Cond.static ({ cls := "CuckooByPost", name := "common", desc := "(JJ)J" } : Jvm.MethodName)) ∈ lw_all := lw_g (lw_at lw_m4 87 rfl) rfl
theorem q909 : (Jvm.Cond.code ({ cls := "CuckooByPost", name := "common", desc := "(JJ)J" } : Jvm.MethodName) prog_1_method_4_code (4 : Nat) (Option.some Jvm.ClassFile.FieldType.long)) ∈ lw_all := lw_g (lw_at lw_m4 88 rfl) rfl
theorem q911 : (Jvm.Cond.instanceMethod ({ cls := "CuckooByPost", name := "wrote", desc := "(II)I" } : Jvm.MethodName)) ∈ lw_all := lw_g (lw_at lw_m4 90 rfl) rfl
theorem q912 : (Jvm.Cond.selects "CuckooByPost" ({ cls := "CuckooByPost", name := "wrote", desc := "(II)I" } : Jvm.MethodName) ({ cls := "CuckooByPost", name := "wrote", desc := "(II)I" } : Jvm.MethodName)) ∈ lw_all := lw_g (lw_at lw_m4 91 rfl) rfl
theorem q913 : (Jvm.Cond.code ({ cls := "CuckooByPost", name := "wrote", desc := "(II)I" } : Jvm.MethodName) prog_1_method_92_code (5 : Nat) (Option.some Jvm.ClassFile.FieldType.int)) ∈ lw_all := lw_g (lw_at lw_m4 92 rfl) rfl
theorem q914 : (Jvm.Cond.constantLong "CuckooByPost" (469 : Nat) (4 : Int64)) ∈ lw_all := lw_g (lw_at lw_m4 93 rfl) rfl
theorem q916 : (Jvm.Cond.instanceMethod ({ cls := "CuckooByPost", name := "burn", desc := "()I" } : Jvm.MethodName)) ∈ lw_all := lw_g (lw_at lw_m4 95 rfl) rfl
theorem q917 : (Jvm.Cond.selects "CuckooByPost" ({ cls := "CuckooByPost", name := "burn", desc := "()I" } : Jvm.MethodName) ({ cls := "CuckooByPost", name := "burn", desc := "()I" } : Jvm.MethodName)) ∈ lw_all := lw_g (lw_at lw_m4 96 rfl) rfl
theorem q918 : (Jvm.Cond.code ({ cls := "CuckooByPost", name := "burn", desc := "()I" } : Jvm.MethodName) prog_1_method_93_code (2 : Nat) (Option.some Jvm.ClassFile.FieldType.int)) ∈ lw_all := lw_g (lw_at lw_m4 97 rfl) rfl
theorem q920 : (Jvm.Cond.instanceMethod ({ cls := "CuckooByPost", name := "fits", desc := "()I" } : Jvm.MethodName)) ∈ lw_all := lw_g (lw_at lw_m4 99 rfl) rfl
theorem q921 : (Jvm.Cond.selects "CuckooByPost" ({ cls := "CuckooByPost", name := "fits", desc := "()I" } : Jvm.MethodName) ({ cls := "CuckooByPost", name := "fits", desc := "()I" } : Jvm.MethodName)) ∈ lw_all := lw_g (lw_at lw_m4 100 rfl) rfl
theorem q922 : (Jvm.Cond.code ({ cls := "CuckooByPost", name := "fits", desc := "()I" } : Jvm.MethodName) prog_1_method_96_code (2 : Nat) (Option.some Jvm.ClassFile.FieldType.int)) ∈ lw_all := lw_g (lw_at lw_m4 101 rfl) rfl
theorem q923 : (Jvm.Cond.methodLink "CuckooByPost" (478 : Nat) ({ cls := "CuckooByPost", name := "fitting", desc := "()I" } : Jvm.MethodName)) ∈ lw_all := lw_g (lw_at lw_m4 102 rfl) rfl
theorem q924 : (Jvm.Cond.privateMethod ({ cls := "CuckooByPost", name := "fitting", desc := "()I" } : Jvm.MethodName)) ∈ lw_tbl := lw_at lw_m4 103 rfl
theorem q925 : (Jvm.Cond.instanceMethod ({ cls := "CuckooByPost", name := "fitting", desc := "()I" } : Jvm.MethodName)) ∈ lw_all := lw_g (lw_at lw_m4 104 rfl) rfl
theorem q926 : (Jvm.Cond.code ({ cls := "CuckooByPost", name := "fitting", desc := "()I" } : Jvm.MethodName) prog_1_method_95_code (5 : Nat) (Option.some Jvm.ClassFile.FieldType.int)) ∈ lw_all := lw_g (lw_at lw_m4 105 rfl) rfl
theorem q927 : (Jvm.Cond.methodLink "CuckooByPost" (474 : Nat) ({ cls := "CuckooByPost", name := "isSo", desc := "(III)Z" } : Jvm.MethodName)) ∈ lw_all := lw_g (lw_at lw_m4 106 rfl) rfl
theorem q928 : (Jvm.Cond.privateMethod ({ cls := "CuckooByPost", name := "isSo", desc := "(III)Z" } : Jvm.MethodName)) ∈ lw_tbl := lw_at lw_m4 107 rfl
theorem q929 : (Jvm.Cond.instanceMethod ({ cls := "CuckooByPost", name := "isSo", desc := "(III)Z" } : Jvm.MethodName)) ∈ lw_all := lw_g (lw_at lw_m4 108 rfl) rfl
theorem q930 : (Jvm.Cond.code ({ cls := "CuckooByPost", name := "isSo", desc := "(III)Z" } : Jvm.MethodName) prog_1_method_94_code (4 : Nat) (Option.some Jvm.ClassFile.FieldType.boolean)) ∈ lw_all := lw_g (lw_at lw_m4 109 rfl) rfl
theorem q932 : (Jvm.Cond.instanceMethod ({ cls := "CuckooByPost", name := "ask", desc := "()I" } : Jvm.MethodName)) ∈ lw_all := lw_g (lw_at lw_m4 111 rfl) rfl
theorem q933 : (Jvm.Cond.selects "CuckooByPost" ({ cls := "CuckooByPost", name := "ask", desc := "()I" } : Jvm.MethodName) ({ cls := "CuckooByPost", name := "ask", desc := "()I" } : Jvm.MethodName)) ∈ lw_all := lw_g (lw_at lw_m4 112 rfl) rfl
theorem q934 : (Jvm.Cond.code ({ cls := "CuckooByPost", name := "ask", desc := "()I" } : Jvm.MethodName) prog_1_method_97_code (7 : Nat) (Option.some Jvm.ClassFile.FieldType.int)) ∈ lw_all := lw_g (lw_at lw_m4 113 rfl) rfl
theorem q936 : (Jvm.Cond.instanceMethod ({ cls := "CuckooByPost", name := "rests", desc := "(I)I" } : Jvm.MethodName)) ∈ lw_all := lw_g (lw_at lw_m4 115 rfl) rfl
theorem q937 : (Jvm.Cond.selects "CuckooByPost" ({ cls := "CuckooByPost", name := "rests", desc := "(I)I" } : Jvm.MethodName) ({ cls := "CuckooByPost", name := "rests", desc := "(I)I" } : Jvm.MethodName)) ∈ lw_all := lw_g (lw_at lw_m4 116 rfl) rfl
theorem q938 : (Jvm.Cond.code ({ cls := "CuckooByPost", name := "rests", desc := "(I)I" } : Jvm.MethodName) prog_1_method_99_code (5 : Nat) (Option.some Jvm.ClassFile.FieldType.int)) ∈ lw_all := lw_g (lw_at lw_m4 117 rfl) rfl
theorem q939 : (Jvm.Cond.methodLink "CuckooByPost" (481 : Nat) ({ cls := "CuckooByPost", name := "isRest", desc := "(III)Z" } : Jvm.MethodName)) ∈ lw_all := lw_g (lw_at lw_m4 118 rfl) rfl
theorem q940 : (Jvm.Cond.static ({ cls := "CuckooByPost", name := "isRest", desc := "(III)Z" } : Jvm.MethodName)) ∈ lw_all := lw_g (lw_at lw_m4 119 rfl) rfl
theorem q941 : (Jvm.Cond.code ({ cls := "CuckooByPost", name := "isRest", desc := "(III)Z" } : Jvm.MethodName) prog_1_method_98_code (6 : Nat) (Option.some Jvm.ClassFile.FieldType.boolean)) ∈ lw_all := lw_g (lw_at lw_m4 120 rfl) rfl
theorem q943 : (Jvm.Cond.instanceMethod ({ cls := "CuckooByPost", name := "law", desc := "()I" } : Jvm.MethodName)) ∈ lw_all := lw_g (lw_at lw_m4 122 rfl) rfl
theorem q944 : (Jvm.Cond.selects "CuckooByPost" ({ cls := "CuckooByPost", name := "law", desc := "()I" } : Jvm.MethodName) ({ cls := "CuckooByPost", name := "law", desc := "()I" } : Jvm.MethodName)) ∈ lw_all := lw_g (lw_at lw_m4 123 rfl) rfl
theorem q945 : (Jvm.Cond.code ({ cls := "CuckooByPost", name := "law", desc := "()I" } : Jvm.MethodName) prog_1_method_101_code (5 : Nat) (Option.some Jvm.ClassFile.FieldType.int)) ∈ lw_all := lw_g (lw_at lw_m4 124 rfl) rfl
theorem q946 : (Jvm.Cond.methodLink "CuckooByPost" (484 : Nat) ({ cls := "CuckooByPost", name := "flownIn", desc := "(I)I" } : Jvm.MethodName)) ∈ lw_all := lw_g (lw_at lw_m4 125 rfl) rfl
theorem q947 : (Jvm.Cond.privateMethod ({ cls := "CuckooByPost", name := "flownIn", desc := "(I)I" } : Jvm.MethodName)) ∈ lw_tbl := lw_at lw_m4 126 rfl
theorem q948 : (Jvm.Cond.instanceMethod ({ cls := "CuckooByPost", name := "flownIn", desc := "(I)I" } : Jvm.MethodName)) ∈ lw_all := lw_g (lw_at lw_m4 127 rfl) rfl
theorem q949 : (Jvm.Cond.code ({ cls := "CuckooByPost", name := "flownIn", desc := "(I)I" } : Jvm.MethodName) prog_1_method_100_code (2 : Nat) (Option.some Jvm.ClassFile.FieldType.int)) ∈ lw_all := lw_g (lw_at lw_m4 128 rfl) rfl
theorem q951 : (Jvm.Cond.instanceMethod ({ cls := "CuckooByPost", name := "years", desc := "(II)I" } : Jvm.MethodName)) ∈ lw_all := lw_g (lw_at lw_m4 130 rfl) rfl
theorem q952 : (Jvm.Cond.selects "CuckooByPost" ({ cls := "CuckooByPost", name := "years", desc := "(II)I" } : Jvm.MethodName) ({ cls := "CuckooByPost", name := "years", desc := "(II)I" } : Jvm.MethodName)) ∈ lw_all := lw_g (lw_at lw_m4 131 rfl) rfl
theorem q953 : (Jvm.Cond.code ({ cls := "CuckooByPost", name := "years", desc := "(II)I" } : Jvm.MethodName) prog_1_method_103_code (6 : Nat) (Option.some Jvm.ClassFile.FieldType.int)) ∈ lw_all := lw_g (lw_at lw_m4 132 rfl) rfl
theorem q954 : (Jvm.Cond.methodLink "CuckooByPost" (491 : Nat) ({ cls := "CuckooByPost", name := "draws", desc := "(I)I" } : Jvm.MethodName)) ∈ lw_all := lw_g (lw_at lw_m4 133 rfl) rfl
theorem q955 : (Jvm.Cond.privateMethod ({ cls := "CuckooByPost", name := "draws", desc := "(I)I" } : Jvm.MethodName)) ∈ lw_tbl := lw_at lw_m4 134 rfl
theorem q956 : (Jvm.Cond.instanceMethod ({ cls := "CuckooByPost", name := "draws", desc := "(I)I" } : Jvm.MethodName)) ∈ lw_all := lw_g (lw_at lw_m4 135 rfl) rfl
theorem q957 : (Jvm.Cond.code ({ cls := "CuckooByPost", name := "draws", desc := "(I)I" } : Jvm.MethodName) prog_1_method_102_code (2 : Nat) (Option.some Jvm.ClassFile.FieldType.int)) ∈ lw_all := lw_g (lw_at lw_m4 136 rfl) rfl
theorem q958 : (Jvm.Cond.constant "CuckooByPost" (490 : Nat) (1103515245 : Int32)) ∈ lw_all := lw_g (lw_at lw_m4 137 rfl) rfl
theorem q960 : (Jvm.Cond.instanceMethod ({ cls := "CuckooByPost", name := "keep", desc := "(I)Z" } : Jvm.MethodName)) ∈ lw_all := lw_g (lw_at lw_m4 139 rfl) rfl
theorem q961 : (Jvm.Cond.selects "CuckooByPost" ({ cls := "CuckooByPost", name := "keep", desc := "(I)Z" } : Jvm.MethodName) ({ cls := "CuckooByPost", name := "keep", desc := "(I)Z" } : Jvm.MethodName)) ∈ lw_all := lw_g (lw_at lw_m4 140 rfl) rfl
theorem q962 : (Jvm.Cond.code ({ cls := "CuckooByPost", name := "keep", desc := "(I)Z" } : Jvm.MethodName) prog_1_method_104_code (2 : Nat) (Option.some Jvm.ClassFile.FieldType.boolean)) ∈ lw_all := lw_g (lw_at lw_m4 141 rfl) rfl
theorem q964 : (Jvm.Cond.instanceMethod ({ cls := "CuckooByPost", name := "again", desc := "(I)Z" } : Jvm.MethodName)) ∈ lw_all := lw_g (lw_at lw_m4 143 rfl) rfl
theorem q965 : (Jvm.Cond.selects "CuckooByPost" ({ cls := "CuckooByPost", name := "again", desc := "(I)Z" } : Jvm.MethodName) ({ cls := "CuckooByPost", name := "again", desc := "(I)Z" } : Jvm.MethodName)) ∈ lw_all := lw_g (lw_at lw_m4 144 rfl) rfl
theorem q966 : (Jvm.Cond.code ({ cls := "CuckooByPost", name := "again", desc := "(I)Z" } : Jvm.MethodName) prog_1_method_105_code (2 : Nat) (Option.some Jvm.ClassFile.FieldType.boolean)) ∈ lw_all := lw_g (lw_at lw_m4 145 rfl) rfl
theorem q968 : (Jvm.Cond.instanceMethod ({ cls := "CuckooByPost", name := "count", desc := "(I)I" } : Jvm.MethodName)) ∈ lw_all := lw_g (lw_at lw_m4 147 rfl) rfl
theorem q969 : (Jvm.Cond.selects "CuckooByPost" ({ cls := "CuckooByPost", name := "count", desc := "(I)I" } : Jvm.MethodName) ({ cls := "CuckooByPost", name := "count", desc := "(I)I" } : Jvm.MethodName)) ∈ lw_all := lw_g (lw_at lw_m4 148 rfl) rfl
theorem q970 : (Jvm.Cond.code ({ cls := "CuckooByPost", name := "count", desc := "(I)I" } : Jvm.MethodName) prog_1_method_106_code (2 : Nat) (Option.some Jvm.ClassFile.FieldType.int)) ∈ lw_all := lw_g (lw_at lw_m4 149 rfl) rfl
theorem q976 : (Jvm.Cond.instanceMethod ({ cls := "CuckooByPost", name := "nest", desc := "(II)I" } : Jvm.MethodName)) ∈ lw_all := lw_g (lw_at lw_m4 155 rfl) rfl
theorem q977 : (Jvm.Cond.selects "CuckooByPost" ({ cls := "CuckooByPost", name := "nest", desc := "(II)I" } : Jvm.MethodName) ({ cls := "CuckooByPost", name := "nest", desc := "(II)I" } : Jvm.MethodName)) ∈ lw_all := lw_g (lw_at lw_m4 156 rfl) rfl
theorem q978 : (Jvm.Cond.code ({ cls := "CuckooByPost", name := "nest", desc := "(II)I" } : Jvm.MethodName) prog_1_method_31_code (3 : Nat) (Option.some Jvm.ClassFile.FieldType.int)) ∈ lw_all := lw_g (lw_at lw_m4 157 rfl) rfl
theorem q979 : (Jvm.Cond.classLink "CuckooByPost" (279 : Nat) "java/util/NoSuchElementException") ∈ lw_all := lw_g (lw_at lw_m4 158 rfl) rfl
theorem q1018 : (Jvm.Cond.methodLink "CuckooByPost" (281 : Nat) ({ cls := "java/util/NoSuchElementException", name := "<init>", desc := "()V" } : Jvm.MethodName)) ∈ lw_all := lw_g (lw_at lw_m4 197 rfl) rfl
theorem q1044 : (Jvm.Cond.instanceMethod ({ cls := "CuckooByPost", name := "guest", desc := "(II)I" } : Jvm.MethodName)) ∈ lw_all := lw_g (lw_at lw_m4 223 rfl) rfl
theorem q1045 : (Jvm.Cond.selects "CuckooByPost" ({ cls := "CuckooByPost", name := "guest", desc := "(II)I" } : Jvm.MethodName) ({ cls := "CuckooByPost", name := "guest", desc := "(II)I" } : Jvm.MethodName)) ∈ lw_all := lw_g (lw_at lw_m4 224 rfl) rfl
theorem q1046 : (Jvm.Cond.code ({ cls := "CuckooByPost", name := "guest", desc := "(II)I" } : Jvm.MethodName) prog_1_method_32_code (3 : Nat) (Option.some Jvm.ClassFile.FieldType.int)) ∈ lw_all := lw_g (lw_at lw_m4 225 rfl) rfl
theorem q1051 : (Jvm.Cond.instanceMethod ({ cls := "CuckooByPost", name := "row", desc := "(I)J" } : Jvm.MethodName)) ∈ lw_all := lw_g (lw_at lw_m4 230 rfl) rfl
theorem q1052 : (Jvm.Cond.selects "CuckooByPost" ({ cls := "CuckooByPost", name := "row", desc := "(I)J" } : Jvm.MethodName) ({ cls := "CuckooByPost", name := "row", desc := "(I)J" } : Jvm.MethodName)) ∈ lw_all := lw_g (lw_at lw_m4 231 rfl) rfl
theorem q1053 : (Jvm.Cond.code ({ cls := "CuckooByPost", name := "row", desc := "(I)J" } : Jvm.MethodName) prog_1_method_108_code (2 : Nat) (Option.some Jvm.ClassFile.FieldType.long)) ∈ lw_all := lw_g (lw_at lw_m4 232 rfl) rfl
theorem q1642 : (Jvm.Cond.castable "CuckooByPost" "java/lang/Object") ∈ lw_tbl := lw_at lw_m7 101 rfl
theorem in_X1 : ∀ w ∈ wsX10, w ∈ lw_all := lw_in wsX10 [242, 244, 246, 248, 250, 252, 254, 256, 258, 260, 262, 264, 266, 268, 270, 272, 274, 276, 278, 280, 282, 284, 286, 288, 290, 292, 294, 296, 298, 300, 302, 304, 306, 308, 310, 312, 314, 316, 318, 320, 322] (by decide +kernel) (by decide +kernel)
