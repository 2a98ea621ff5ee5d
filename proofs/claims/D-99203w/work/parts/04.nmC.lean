/-! CuckooByPostModel -/
set_option maxRecDepth 100000
def RX3 : String := "CuckooByPostModel"
def TX3 : u_T := fun k => match k with
  | 0 => ("CuckooByPostModel", "now", "[I", true)
  | 1 => ("CuckooByPostModel", "nests", "I", false)
  | 2 => ("CuckooByPostModel", "clear", "I", false)
  | 3 => ("CuckooByPostModel", "text", "[B", true)
  | 4 => ("CuckooByPostModel", "typed", "I", false)
  | 5 => ("CuckooByPostModel", "row", "[J", true)
  | 6 => ("CuckooByPostModel", "rowMany", "I", false)
  | 7 => ("CuckooByPostModel", "thrown", "I", false)
  | 8 => ("CuckooByPostModel", "read", "[B", false)
  | 9 => ("CuckooByPostModel", "length", "I", false)
  | 10 => ("CuckooByPostModel", "top", "I", false)
  | 11 => ("CuckooByPostModel", "at", "I", false)
  | 12 => ("CuckooByPostModel", "wrong", "I", false)
  | 13 => ("CuckooByPostModel", "comes", "[I", true)
  | 14 => ("CuckooByPostModel", "rule", "[B", false)
  | 15 => ("CuckooByPostModel", "otherRule", "[B", false)
  | 16 => ("CuckooByPostModel", "ruleSize", "I", false)
  | 17 => ("CuckooByPostModel", "isAsked", "Z", false)
  | 18 => ("CuckooByPostModel", "asked", "[I", true)
  | 19 => ("CuckooByPostModel", "undos", "[I", true)
  | 20 => ("CuckooByPostModel", "undoMany", "I", false)
  | 21 => ("CuckooByPostModel", "aside", "[I", true)
  | 22 => ("CuckooByPostModel", "then", "[I", true)
  | 23 => ("CuckooByPostModel", "other", "[I", true)
  | 24 => ("CuckooByPostModel", "acts", "[I", true)
  | 25 => ("CuckooByPostModel", "eggs", "[I", true)
  | 26 => ("CuckooByPostModel", "line", "[I", true)
  | 27 => ("CuckooByPostModel", "bestLine", "[I", true)
  | 28 => ("CuckooByPostModel", "mostFlown", "I", false)
  | 29 => ("CuckooByPostModel", "can", "[I", true)
  | 30 => ("CuckooByPostModel", "lodged", "[I", true)
  | 31 => ("CuckooByPostModel", "wroteOf", "[I", true)
  | 32 => ("CuckooByPostModel", "wroteBy", "[I", true)
  | 33 => ("CuckooByPostModel", "wrote", "I", false)
  | 34 => ("CuckooByPostModel", "drawn", "I", false)
  | 35 => ("CuckooByPostModel", "came", "I", false)
  | 36 => ("CuckooByPostModel", "kept", "[I", true)
  | 37 => ("CuckooByPostModel", "isKept", "[Z", true)
  | _ => ("CuckooByPostModel", "keptCame", "[I", true)
def tyX3 : Nat → FieldType := fun k => match k with
  | 0 => .array .int
  | 1 => .int
  | 2 => .int
  | 3 => .array .byte
  | 4 => .int
  | 5 => .array .long
  | 6 => .int
  | 7 => .int
  | 8 => .array .byte
  | 9 => .int
  | 10 => .int
  | 11 => .int
  | 12 => .int
  | 13 => .array .int
  | 14 => .array .byte
  | 15 => .array .byte
  | 16 => .int
  | 17 => .boolean
  | 18 => .array .int
  | 19 => .array .int
  | 20 => .int
  | 21 => .array .int
  | 22 => .array .int
  | 23 => .array .int
  | 24 => .array .int
  | 25 => .array .int
  | 26 => .array .int
  | 27 => .array .int
  | 28 => .int
  | 29 => .array .int
  | 30 => .array .int
  | 31 => .array .int
  | 32 => .array .int
  | 33 => .int
  | 34 => .int
  | 35 => .int
  | 36 => .array .int
  | 37 => .array .boolean
  | _ => .array .int
abbrev wsX30 : List Cond := u_ws RX3 TX3 39
set_option maxRecDepth 100000 in
theorem nmX3 : ∀ a, a < 39 → ∀ b, b < 39 → a ≠ b → (TX3 a).2.1 ≠ (TX3 b).2.1 := by decide +kernel
set_option maxRecDepth 100000 in
theorem tyX3_ok : ∀ k, k < 39 → parseFieldDescriptor (TX3 k).2.2.1 = some (tyX3 k) := by decide +kernel
abbrev cX3_init : ByteArray := prog_9_method_1_code
def yX3_init : MethodName := ⟨RX3, "<init>", "()V"⟩
def dkwX3_init_7 : List UInt8 := [17, 0, 166, 188, 10, 181, 0, 73, 42, 5, 188, 4, 181, 0, 76, 42, 5, 188, 10, 181, 0, 80, 177]
abbrev dktX3_init_7 : List UInt8 := dkwX3_init_7 ++ []
def dkwX3_init_6 : List UInt8 := [188, 10, 181, 0, 64, 42, 16, 12, 188, 10, 181, 0, 67, 42, 16, 12, 188, 10, 181, 0, 70, 42]
abbrev dktX3_init_6 : List UInt8 := dkwX3_init_6 ++ dktX3_init_7
def dkwX3_init_5 : List UInt8 := [188, 10, 181, 0, 55, 42, 7, 188, 10, 181, 0, 58, 42, 16, 8, 188, 10, 181, 0, 61, 42, 16, 8]
abbrev dktX3_init_5 : List UInt8 := dkwX3_init_5 ++ dktX3_init_6
def dkwX3_init_4 : List UInt8 := [188, 10, 181, 0, 46, 42, 17, 0, 240, 188, 10, 181, 0, 49, 42, 7, 188, 10, 181, 0, 52, 42, 7]
abbrev dktX3_init_4 : List UInt8 := dkwX3_init_4 ++ dktX3_init_5
def dkwX3_init_3 : List UInt8 := [188, 10, 181, 0, 37, 42, 16, 83, 188, 10, 181, 0, 40, 42, 16, 83, 188, 10, 181, 0, 43, 42, 16, 83]
abbrev dktX3_init_3 : List UInt8 := dkwX3_init_3 ++ dktX3_init_4
def dkwX3_init_2 : List UInt8 := [181, 0, 28, 42, 16, 40, 188, 8, 181, 0, 31, 42, 16, 8, 188, 10, 181, 0, 34, 42, 17, 3, 228]
abbrev dktX3_init_2 : List UInt8 := dkwX3_init_2 ++ dktX3_init_3
def dkwX3_init_1 : List UInt8 := [181, 0, 17, 42, 16, 16, 188, 11, 181, 0, 21, 42, 16, 32, 188, 10, 181, 0, 25, 42, 16, 40, 188, 8]
abbrev dktX3_init_1 : List UInt8 := dkwX3_init_1 ++ dktX3_init_2
def dkwX3_init_0 : List UInt8 := [42, 183, 0, 3, 42, 16, 83, 188, 10, 181, 0, 9, 42, 6, 181, 0, 13, 42, 16, 80, 188, 8]
abbrev dktX3_init_0 : List UInt8 := dkwX3_init_0 ++ dktX3_init_1
theorem dksX3_init_0 : cX3_init.data.toList.drop 0 = dktX3_init_0 := by decide +kernel
theorem dksX3_init_1 : cX3_init.data.toList.drop 22 = dktX3_init_1 := dk_seg dksX3_init_0 22 rfl rfl
theorem dksX3_init_2 : cX3_init.data.toList.drop 46 = dktX3_init_2 := dk_seg dksX3_init_1 24 rfl rfl
theorem dksX3_init_3 : cX3_init.data.toList.drop 69 = dktX3_init_3 := dk_seg dksX3_init_2 23 rfl rfl
theorem dksX3_init_4 : cX3_init.data.toList.drop 93 = dktX3_init_4 := dk_seg dksX3_init_3 24 rfl rfl
theorem dksX3_init_5 : cX3_init.data.toList.drop 116 = dktX3_init_5 := dk_seg dksX3_init_4 23 rfl rfl
theorem dksX3_init_6 : cX3_init.data.toList.drop 139 = dktX3_init_6 := dk_seg dksX3_init_5 23 rfl rfl
theorem dksX3_init_7 : cX3_init.data.toList.drop 161 = dktX3_init_7 := dk_seg dksX3_init_6 22 rfl rfl
theorem dX3_init_0 : decode cX3_init 0 = .ok (.aload_n 0, 1) := dk_42 (dk_at dksX3_init_0 0 rfl rfl)
theorem dX3_init_1 : decode cX3_init 1 = .ok (.invokespecial 3, 3) := dk_183 0 3 (dk_at dksX3_init_0 1 rfl rfl)
theorem dX3_init_4 : decode cX3_init 4 = .ok (.aload_n 0, 1) := dk_42 (dk_at dksX3_init_0 4 rfl rfl)
theorem dX3_init_5 : decode cX3_init 5 = .ok (.bipush 83, 2) := dk_16 83 (dk_at dksX3_init_0 5 rfl rfl)
theorem dX3_init_7 : decode cX3_init 7 = .ok (.newarray .int, 2) := dk_188_10 (dk_at dksX3_init_0 7 rfl rfl)
theorem dX3_init_9 : decode cX3_init 9 = .ok (.putfield 9, 3) := dk_181 0 9 (dk_at dksX3_init_0 9 rfl rfl)
theorem dX3_init_12 : decode cX3_init 12 = .ok (.aload_n 0, 1) := dk_42 (dk_at dksX3_init_0 12 rfl rfl)
theorem dX3_init_13 : decode cX3_init 13 = .ok (.iconst 3, 1) := dk_6 (dk_at dksX3_init_0 13 rfl rfl)
theorem dX3_init_14 : decode cX3_init 14 = .ok (.putfield 13, 3) := dk_181 0 13 (dk_at dksX3_init_0 14 rfl rfl)
theorem dX3_init_17 : decode cX3_init 17 = .ok (.aload_n 0, 1) := dk_42 (dk_at dksX3_init_0 17 rfl rfl)
theorem dX3_init_18 : decode cX3_init 18 = .ok (.bipush 80, 2) := dk_16 80 (dk_at dksX3_init_0 18 rfl rfl)
theorem dX3_init_20 : decode cX3_init 20 = .ok (.newarray .byte, 2) := dk_188_8 (dk_at dksX3_init_0 20 rfl rfl)
theorem dX3_init_22 : decode cX3_init 22 = .ok (.putfield 17, 3) := dk_181 0 17 (dk_at dksX3_init_1 0 rfl rfl)
theorem dX3_init_25 : decode cX3_init 25 = .ok (.aload_n 0, 1) := dk_42 (dk_at dksX3_init_1 3 rfl rfl)
theorem dX3_init_26 : decode cX3_init 26 = .ok (.bipush 16, 2) := dk_16 16 (dk_at dksX3_init_1 4 rfl rfl)
theorem dX3_init_28 : decode cX3_init 28 = .ok (.newarray .long, 2) := dk_188_11 (dk_at dksX3_init_1 6 rfl rfl)
theorem dX3_init_30 : decode cX3_init 30 = .ok (.putfield 21, 3) := dk_181 0 21 (dk_at dksX3_init_1 8 rfl rfl)
theorem dX3_init_33 : decode cX3_init 33 = .ok (.aload_n 0, 1) := dk_42 (dk_at dksX3_init_1 11 rfl rfl)
theorem dX3_init_34 : decode cX3_init 34 = .ok (.bipush 32, 2) := dk_16 32 (dk_at dksX3_init_1 12 rfl rfl)
theorem dX3_init_36 : decode cX3_init 36 = .ok (.newarray .int, 2) := dk_188_10 (dk_at dksX3_init_1 14 rfl rfl)
theorem dX3_init_38 : decode cX3_init 38 = .ok (.putfield 25, 3) := dk_181 0 25 (dk_at dksX3_init_1 16 rfl rfl)
theorem dX3_init_41 : decode cX3_init 41 = .ok (.aload_n 0, 1) := dk_42 (dk_at dksX3_init_1 19 rfl rfl)
theorem dX3_init_42 : decode cX3_init 42 = .ok (.bipush 40, 2) := dk_16 40 (dk_at dksX3_init_1 20 rfl rfl)
theorem dX3_init_44 : decode cX3_init 44 = .ok (.newarray .byte, 2) := dk_188_8 (dk_at dksX3_init_1 22 rfl rfl)
theorem dX3_init_46 : decode cX3_init 46 = .ok (.putfield 28, 3) := dk_181 0 28 (dk_at dksX3_init_2 0 rfl rfl)
theorem dX3_init_49 : decode cX3_init 49 = .ok (.aload_n 0, 1) := dk_42 (dk_at dksX3_init_2 3 rfl rfl)
theorem dX3_init_50 : decode cX3_init 50 = .ok (.bipush 40, 2) := dk_16 40 (dk_at dksX3_init_2 4 rfl rfl)
theorem dX3_init_52 : decode cX3_init 52 = .ok (.newarray .byte, 2) := dk_188_8 (dk_at dksX3_init_2 6 rfl rfl)
theorem dX3_init_54 : decode cX3_init 54 = .ok (.putfield 31, 3) := dk_181 0 31 (dk_at dksX3_init_2 8 rfl rfl)
theorem dX3_init_57 : decode cX3_init 57 = .ok (.aload_n 0, 1) := dk_42 (dk_at dksX3_init_2 11 rfl rfl)
theorem dX3_init_58 : decode cX3_init 58 = .ok (.bipush 8, 2) := dk_16 8 (dk_at dksX3_init_2 12 rfl rfl)
theorem dX3_init_60 : decode cX3_init 60 = .ok (.newarray .int, 2) := dk_188_10 (dk_at dksX3_init_2 14 rfl rfl)
theorem dX3_init_62 : decode cX3_init 62 = .ok (.putfield 34, 3) := dk_181 0 34 (dk_at dksX3_init_2 16 rfl rfl)
theorem dX3_init_65 : decode cX3_init 65 = .ok (.aload_n 0, 1) := dk_42 (dk_at dksX3_init_2 19 rfl rfl)
theorem dX3_init_66 : decode cX3_init 66 = .ok (.sipush 996, 3) := dk_17 3 228 (dk_at dksX3_init_2 20 rfl rfl)
theorem dX3_init_69 : decode cX3_init 69 = .ok (.newarray .int, 2) := dk_188_10 (dk_at dksX3_init_3 0 rfl rfl)
theorem dX3_init_71 : decode cX3_init 71 = .ok (.putfield 37, 3) := dk_181 0 37 (dk_at dksX3_init_3 2 rfl rfl)
theorem dX3_init_74 : decode cX3_init 74 = .ok (.aload_n 0, 1) := dk_42 (dk_at dksX3_init_3 5 rfl rfl)
theorem dX3_init_75 : decode cX3_init 75 = .ok (.bipush 83, 2) := dk_16 83 (dk_at dksX3_init_3 6 rfl rfl)
theorem dX3_init_77 : decode cX3_init 77 = .ok (.newarray .int, 2) := dk_188_10 (dk_at dksX3_init_3 8 rfl rfl)
theorem dX3_init_79 : decode cX3_init 79 = .ok (.putfield 40, 3) := dk_181 0 40 (dk_at dksX3_init_3 10 rfl rfl)
theorem dX3_init_82 : decode cX3_init 82 = .ok (.aload_n 0, 1) := dk_42 (dk_at dksX3_init_3 13 rfl rfl)
theorem dX3_init_83 : decode cX3_init 83 = .ok (.bipush 83, 2) := dk_16 83 (dk_at dksX3_init_3 14 rfl rfl)
theorem dX3_init_85 : decode cX3_init 85 = .ok (.newarray .int, 2) := dk_188_10 (dk_at dksX3_init_3 16 rfl rfl)
theorem dX3_init_87 : decode cX3_init 87 = .ok (.putfield 43, 3) := dk_181 0 43 (dk_at dksX3_init_3 18 rfl rfl)
theorem dX3_init_90 : decode cX3_init 90 = .ok (.aload_n 0, 1) := dk_42 (dk_at dksX3_init_3 21 rfl rfl)
theorem dX3_init_91 : decode cX3_init 91 = .ok (.bipush 83, 2) := dk_16 83 (dk_at dksX3_init_3 22 rfl rfl)
theorem dX3_init_93 : decode cX3_init 93 = .ok (.newarray .int, 2) := dk_188_10 (dk_at dksX3_init_4 0 rfl rfl)
theorem dX3_init_95 : decode cX3_init 95 = .ok (.putfield 46, 3) := dk_181 0 46 (dk_at dksX3_init_4 2 rfl rfl)
theorem dX3_init_98 : decode cX3_init 98 = .ok (.aload_n 0, 1) := dk_42 (dk_at dksX3_init_4 5 rfl rfl)
theorem dX3_init_99 : decode cX3_init 99 = .ok (.sipush 240, 3) := dk_17 0 240 (dk_at dksX3_init_4 6 rfl rfl)
theorem dX3_init_102 : decode cX3_init 102 = .ok (.newarray .int, 2) := dk_188_10 (dk_at dksX3_init_4 9 rfl rfl)
theorem dX3_init_104 : decode cX3_init 104 = .ok (.putfield 49, 3) := dk_181 0 49 (dk_at dksX3_init_4 11 rfl rfl)
theorem dX3_init_107 : decode cX3_init 107 = .ok (.aload_n 0, 1) := dk_42 (dk_at dksX3_init_4 14 rfl rfl)
theorem dX3_init_108 : decode cX3_init 108 = .ok (.iconst 4, 1) := dk_7 (dk_at dksX3_init_4 15 rfl rfl)
theorem dX3_init_109 : decode cX3_init 109 = .ok (.newarray .int, 2) := dk_188_10 (dk_at dksX3_init_4 16 rfl rfl)
theorem dX3_init_111 : decode cX3_init 111 = .ok (.putfield 52, 3) := dk_181 0 52 (dk_at dksX3_init_4 18 rfl rfl)
theorem dX3_init_114 : decode cX3_init 114 = .ok (.aload_n 0, 1) := dk_42 (dk_at dksX3_init_4 21 rfl rfl)
theorem dX3_init_115 : decode cX3_init 115 = .ok (.iconst 4, 1) := dk_7 (dk_at dksX3_init_4 22 rfl rfl)
theorem dX3_init_116 : decode cX3_init 116 = .ok (.newarray .int, 2) := dk_188_10 (dk_at dksX3_init_5 0 rfl rfl)
theorem dX3_init_118 : decode cX3_init 118 = .ok (.putfield 55, 3) := dk_181 0 55 (dk_at dksX3_init_5 2 rfl rfl)
theorem dX3_init_121 : decode cX3_init 121 = .ok (.aload_n 0, 1) := dk_42 (dk_at dksX3_init_5 5 rfl rfl)
theorem dX3_init_122 : decode cX3_init 122 = .ok (.iconst 4, 1) := dk_7 (dk_at dksX3_init_5 6 rfl rfl)
theorem dX3_init_123 : decode cX3_init 123 = .ok (.newarray .int, 2) := dk_188_10 (dk_at dksX3_init_5 7 rfl rfl)
theorem dX3_init_125 : decode cX3_init 125 = .ok (.putfield 58, 3) := dk_181 0 58 (dk_at dksX3_init_5 9 rfl rfl)
theorem dX3_init_128 : decode cX3_init 128 = .ok (.aload_n 0, 1) := dk_42 (dk_at dksX3_init_5 12 rfl rfl)
theorem dX3_init_129 : decode cX3_init 129 = .ok (.bipush 8, 2) := dk_16 8 (dk_at dksX3_init_5 13 rfl rfl)
theorem dX3_init_131 : decode cX3_init 131 = .ok (.newarray .int, 2) := dk_188_10 (dk_at dksX3_init_5 15 rfl rfl)
theorem dX3_init_133 : decode cX3_init 133 = .ok (.putfield 61, 3) := dk_181 0 61 (dk_at dksX3_init_5 17 rfl rfl)
theorem dX3_init_136 : decode cX3_init 136 = .ok (.aload_n 0, 1) := dk_42 (dk_at dksX3_init_5 20 rfl rfl)
theorem dX3_init_137 : decode cX3_init 137 = .ok (.bipush 8, 2) := dk_16 8 (dk_at dksX3_init_5 21 rfl rfl)
theorem dX3_init_139 : decode cX3_init 139 = .ok (.newarray .int, 2) := dk_188_10 (dk_at dksX3_init_6 0 rfl rfl)
theorem dX3_init_141 : decode cX3_init 141 = .ok (.putfield 64, 3) := dk_181 0 64 (dk_at dksX3_init_6 2 rfl rfl)
theorem dX3_init_144 : decode cX3_init 144 = .ok (.aload_n 0, 1) := dk_42 (dk_at dksX3_init_6 5 rfl rfl)
theorem dX3_init_145 : decode cX3_init 145 = .ok (.bipush 12, 2) := dk_16 12 (dk_at dksX3_init_6 6 rfl rfl)
theorem dX3_init_147 : decode cX3_init 147 = .ok (.newarray .int, 2) := dk_188_10 (dk_at dksX3_init_6 8 rfl rfl)
theorem dX3_init_149 : decode cX3_init 149 = .ok (.putfield 67, 3) := dk_181 0 67 (dk_at dksX3_init_6 10 rfl rfl)
theorem dX3_init_152 : decode cX3_init 152 = .ok (.aload_n 0, 1) := dk_42 (dk_at dksX3_init_6 13 rfl rfl)
theorem dX3_init_153 : decode cX3_init 153 = .ok (.bipush 12, 2) := dk_16 12 (dk_at dksX3_init_6 14 rfl rfl)
theorem dX3_init_155 : decode cX3_init 155 = .ok (.newarray .int, 2) := dk_188_10 (dk_at dksX3_init_6 16 rfl rfl)
theorem dX3_init_157 : decode cX3_init 157 = .ok (.putfield 70, 3) := dk_181 0 70 (dk_at dksX3_init_6 18 rfl rfl)
theorem dX3_init_160 : decode cX3_init 160 = .ok (.aload_n 0, 1) := dk_42 (dk_at dksX3_init_6 21 rfl rfl)
theorem dX3_init_161 : decode cX3_init 161 = .ok (.sipush 166, 3) := dk_17 0 166 (dk_at dksX3_init_7 0 rfl rfl)
theorem dX3_init_164 : decode cX3_init 164 = .ok (.newarray .int, 2) := dk_188_10 (dk_at dksX3_init_7 3 rfl rfl)
theorem dX3_init_166 : decode cX3_init 166 = .ok (.putfield 73, 3) := dk_181 0 73 (dk_at dksX3_init_7 5 rfl rfl)
theorem dX3_init_169 : decode cX3_init 169 = .ok (.aload_n 0, 1) := dk_42 (dk_at dksX3_init_7 8 rfl rfl)
theorem dX3_init_170 : decode cX3_init 170 = .ok (.iconst 2, 1) := dk_5 (dk_at dksX3_init_7 9 rfl rfl)
theorem dX3_init_171 : decode cX3_init 171 = .ok (.newarray .boolean, 2) := dk_188_4 (dk_at dksX3_init_7 10 rfl rfl)
theorem dX3_init_173 : decode cX3_init 173 = .ok (.putfield 76, 3) := dk_181 0 76 (dk_at dksX3_init_7 12 rfl rfl)
theorem dX3_init_176 : decode cX3_init 176 = .ok (.aload_n 0, 1) := dk_42 (dk_at dksX3_init_7 15 rfl rfl)
theorem dX3_init_177 : decode cX3_init 177 = .ok (.iconst 2, 1) := dk_5 (dk_at dksX3_init_7 16 rfl rfl)
theorem dX3_init_178 : decode cX3_init 178 = .ok (.newarray .int, 2) := dk_188_10 (dk_at dksX3_init_7 17 rfl rfl)
theorem dX3_init_180 : decode cX3_init 180 = .ok (.putfield 80, 3) := dk_181 0 80 (dk_at dksX3_init_7 19 rfl rfl)
theorem dX3_init_183 : decode cX3_init 183 = .ok (.return_, 1) := dk_177 (dk_at dksX3_init_7 22 rfl rfl)
abbrev cX3_thrown : ByteArray := prog_9_method_2_code
def yX3_thrown : MethodName := ⟨RX3, "thrown", "()I"⟩
theorem dX3_thrown_0 : decode cX3_thrown 0 = .ok (.aload_n 0, 1) := by decide +kernel
theorem dX3_thrown_1 : decode cX3_thrown 1 = .ok (.getfield 83, 3) := by decide +kernel
theorem dX3_thrown_4 : decode cX3_thrown 4 = .ok (.ireturn, 1) := by decide +kernel
abbrev cX3_sign : ByteArray := prog_9_method_10_code
def yX3_sign : MethodName := ⟨RX3, "sign", "(I)I"⟩
def dkwX3_sign_2 : List UInt8 := [132, 2, 255, 167, 255, 226, 42, 180, 0, 100, 172]
abbrev dktX3_sign_2 : List UInt8 := dkwX3_sign_2 ++ []
def dkwX3_sign_1 : List UInt8 := [42, 180, 0, 17, 42, 89, 180, 0, 100, 90, 4, 96, 181, 0, 100, 27, 16, 8, 28, 104, 122, 145, 84]
abbrev dktX3_sign_1 : List UInt8 := dkwX3_sign_1 ++ dktX3_sign_2
def dkwX3_sign_0 : List UInt8 := [42, 3, 181, 0, 83, 42, 180, 0, 100, 7, 96, 16, 80, 164, 0, 5, 2, 172, 6, 61, 28, 155, 0, 32]
abbrev dktX3_sign_0 : List UInt8 := dkwX3_sign_0 ++ dktX3_sign_1
theorem dksX3_sign_0 : cX3_sign.data.toList.drop 0 = dktX3_sign_0 := by decide +kernel
theorem dksX3_sign_1 : cX3_sign.data.toList.drop 24 = dktX3_sign_1 := dk_seg dksX3_sign_0 24 rfl rfl
theorem dksX3_sign_2 : cX3_sign.data.toList.drop 47 = dktX3_sign_2 := dk_seg dksX3_sign_1 23 rfl rfl
theorem dX3_sign_0 : decode cX3_sign 0 = .ok (.aload_n 0, 1) := dk_42 (dk_at dksX3_sign_0 0 rfl rfl)
theorem dX3_sign_1 : decode cX3_sign 1 = .ok (.iconst 0, 1) := dk_3 (dk_at dksX3_sign_0 1 rfl rfl)
theorem dX3_sign_2 : decode cX3_sign 2 = .ok (.putfield 83, 3) := dk_181 0 83 (dk_at dksX3_sign_0 2 rfl rfl)
theorem dX3_sign_5 : decode cX3_sign 5 = .ok (.aload_n 0, 1) := dk_42 (dk_at dksX3_sign_0 5 rfl rfl)
theorem dX3_sign_6 : decode cX3_sign 6 = .ok (.getfield 100, 3) := dk_180 0 100 (dk_at dksX3_sign_0 6 rfl rfl)
theorem dX3_sign_9 : decode cX3_sign 9 = .ok (.iconst 4, 1) := dk_7 (dk_at dksX3_sign_0 9 rfl rfl)
theorem dX3_sign_10 : decode cX3_sign 10 = .ok (.iadd, 1) := dk_96 (dk_at dksX3_sign_0 10 rfl rfl)
theorem dX3_sign_11 : decode cX3_sign 11 = .ok (.bipush 80, 2) := dk_16 80 (dk_at dksX3_sign_0 11 rfl rfl)
theorem dX3_sign_13 : decode cX3_sign 13 = .ok (.if_icmp .le 5, 3) := dk_164 0 5 (dk_at dksX3_sign_0 13 rfl rfl)
theorem dX3_sign_16 : decode cX3_sign 16 = .ok (.iconst (-1), 1) := dk_2 (dk_at dksX3_sign_0 16 rfl rfl)
theorem dX3_sign_17 : decode cX3_sign 17 = .ok (.ireturn, 1) := dk_172 (dk_at dksX3_sign_0 17 rfl rfl)
theorem dX3_sign_18 : decode cX3_sign 18 = .ok (.iconst 3, 1) := dk_6 (dk_at dksX3_sign_0 18 rfl rfl)
theorem dX3_sign_19 : decode cX3_sign 19 = .ok (.istore_n 2, 1) := dk_61 (dk_at dksX3_sign_0 19 rfl rfl)
theorem dX3_sign_20 : decode cX3_sign 20 = .ok (.iload_n 2, 1) := dk_28 (dk_at dksX3_sign_0 20 rfl rfl)
theorem dX3_sign_21 : decode cX3_sign 21 = .ok (.ifCond .lt 32, 3) := dk_155 0 32 (dk_at dksX3_sign_0 21 rfl rfl)
theorem dX3_sign_24 : decode cX3_sign 24 = .ok (.aload_n 0, 1) := dk_42 (dk_at dksX3_sign_1 0 rfl rfl)
theorem dX3_sign_25 : decode cX3_sign 25 = .ok (.getfield 17, 3) := dk_180 0 17 (dk_at dksX3_sign_1 1 rfl rfl)
theorem dX3_sign_28 : decode cX3_sign 28 = .ok (.aload_n 0, 1) := dk_42 (dk_at dksX3_sign_1 4 rfl rfl)
theorem dX3_sign_29 : decode cX3_sign 29 = .ok (.dup, 1) := dk_89 (dk_at dksX3_sign_1 5 rfl rfl)
theorem dX3_sign_30 : decode cX3_sign 30 = .ok (.getfield 100, 3) := dk_180 0 100 (dk_at dksX3_sign_1 6 rfl rfl)
theorem dX3_sign_33 : decode cX3_sign 33 = .ok (.dup_x1, 1) := dk_90 (dk_at dksX3_sign_1 9 rfl rfl)
theorem dX3_sign_34 : decode cX3_sign 34 = .ok (.iconst 1, 1) := dk_4 (dk_at dksX3_sign_1 10 rfl rfl)
theorem dX3_sign_35 : decode cX3_sign 35 = .ok (.iadd, 1) := dk_96 (dk_at dksX3_sign_1 11 rfl rfl)
theorem dX3_sign_36 : decode cX3_sign 36 = .ok (.putfield 100, 3) := dk_181 0 100 (dk_at dksX3_sign_1 12 rfl rfl)
theorem dX3_sign_39 : decode cX3_sign 39 = .ok (.iload_n 1, 1) := dk_27 (dk_at dksX3_sign_1 15 rfl rfl)
theorem dX3_sign_40 : decode cX3_sign 40 = .ok (.bipush 8, 2) := dk_16 8 (dk_at dksX3_sign_1 16 rfl rfl)
theorem dX3_sign_42 : decode cX3_sign 42 = .ok (.iload_n 2, 1) := dk_28 (dk_at dksX3_sign_1 18 rfl rfl)
theorem dX3_sign_43 : decode cX3_sign 43 = .ok (.imul, 1) := dk_104 (dk_at dksX3_sign_1 19 rfl rfl)
theorem dX3_sign_44 : decode cX3_sign 44 = .ok (.ishr, 1) := dk_122 (dk_at dksX3_sign_1 20 rfl rfl)
theorem dX3_sign_45 : decode cX3_sign 45 = .ok (.i2b, 1) := dk_145 (dk_at dksX3_sign_1 21 rfl rfl)
theorem dX3_sign_46 : decode cX3_sign 46 = .ok (.bastore, 1) := dk_84 (dk_at dksX3_sign_1 22 rfl rfl)
theorem dX3_sign_47 : decode cX3_sign 47 = .ok (.iinc 2 (-1), 3) := dk_132 2 255 (dk_at dksX3_sign_2 0 rfl rfl)
theorem dX3_sign_50 : decode cX3_sign 50 = .ok (.goto (-30), 3) := dk_167 255 226 (dk_at dksX3_sign_2 3 rfl rfl)
theorem dX3_sign_53 : decode cX3_sign 53 = .ok (.aload_n 0, 1) := dk_42 (dk_at dksX3_sign_2 6 rfl rfl)
theorem dX3_sign_54 : decode cX3_sign 54 = .ok (.getfield 100, 3) := dk_180 0 100 (dk_at dksX3_sign_2 7 rfl rfl)
theorem dX3_sign_57 : decode cX3_sign 57 = .ok (.ireturn, 1) := dk_172 (dk_at dksX3_sign_2 10 rfl rfl)
abbrev cX3_end : ByteArray := prog_9_method_11_code
def yX3_end : MethodName := ⟨RX3, "end", "(I)Z"⟩
def dkwX3_end_1 : List UInt8 := [4, 172]
abbrev dktX3_end_1 : List UInt8 := dkwX3_end_1 ++ []
def dkwX3_end_0 : List UInt8 := [42, 3, 181, 0, 83, 27, 3, 42, 180, 0, 100, 184, 0, 92, 154, 0, 5, 3, 172, 42, 27, 181, 0, 100]
abbrev dktX3_end_0 : List UInt8 := dkwX3_end_0 ++ dktX3_end_1
theorem dksX3_end_0 : cX3_end.data.toList.drop 0 = dktX3_end_0 := by decide +kernel
theorem dksX3_end_1 : cX3_end.data.toList.drop 24 = dktX3_end_1 := dk_seg dksX3_end_0 24 rfl rfl
theorem dX3_end_0 : decode cX3_end 0 = .ok (.aload_n 0, 1) := dk_42 (dk_at dksX3_end_0 0 rfl rfl)
theorem dX3_end_1 : decode cX3_end 1 = .ok (.iconst 0, 1) := dk_3 (dk_at dksX3_end_0 1 rfl rfl)
theorem dX3_end_2 : decode cX3_end 2 = .ok (.putfield 83, 3) := dk_181 0 83 (dk_at dksX3_end_0 2 rfl rfl)
theorem dX3_end_5 : decode cX3_end 5 = .ok (.iload_n 1, 1) := dk_27 (dk_at dksX3_end_0 5 rfl rfl)
theorem dX3_end_6 : decode cX3_end 6 = .ok (.iconst 0, 1) := dk_3 (dk_at dksX3_end_0 6 rfl rfl)
theorem dX3_end_7 : decode cX3_end 7 = .ok (.aload_n 0, 1) := dk_42 (dk_at dksX3_end_0 7 rfl rfl)
theorem dX3_end_8 : decode cX3_end 8 = .ok (.getfield 100, 3) := dk_180 0 100 (dk_at dksX3_end_0 8 rfl rfl)
theorem dX3_end_11 : decode cX3_end 11 = .ok (.invokestatic 92, 3) := dk_184 0 92 (dk_at dksX3_end_0 11 rfl rfl)
theorem dX3_end_14 : decode cX3_end 14 = .ok (.ifCond .ne 5, 3) := dk_154 0 5 (dk_at dksX3_end_0 14 rfl rfl)
theorem dX3_end_17 : decode cX3_end 17 = .ok (.iconst 0, 1) := dk_3 (dk_at dksX3_end_0 17 rfl rfl)
theorem dX3_end_18 : decode cX3_end 18 = .ok (.ireturn, 1) := dk_172 (dk_at dksX3_end_0 18 rfl rfl)
theorem dX3_end_19 : decode cX3_end 19 = .ok (.aload_n 0, 1) := dk_42 (dk_at dksX3_end_0 19 rfl rfl)
theorem dX3_end_20 : decode cX3_end 20 = .ok (.iload_n 1, 1) := dk_27 (dk_at dksX3_end_0 20 rfl rfl)
theorem dX3_end_21 : decode cX3_end 21 = .ok (.putfield 100, 3) := dk_181 0 100 (dk_at dksX3_end_0 21 rfl rfl)
theorem dX3_end_24 : decode cX3_end 24 = .ok (.iconst 1, 1) := dk_4 (dk_at dksX3_end_1 0 rfl rfl)
theorem dX3_end_25 : decode cX3_end 25 = .ok (.ireturn, 1) := dk_172 (dk_at dksX3_end_1 1 rfl rfl)
abbrev cX3_in : ByteArray := prog_9_method_3_code
def yX3_in : MethodName := ⟨RX3, "in", "(III)Z"⟩
def dkwX3_in_0 : List UInt8 := [26, 27, 161, 0, 12, 26, 28, 163, 0, 7, 4, 167, 0, 4, 3, 172]
abbrev dktX3_in_0 : List UInt8 := dkwX3_in_0 ++ []
theorem dksX3_in_0 : cX3_in.data.toList.drop 0 = dktX3_in_0 := by decide +kernel
theorem dX3_in_0 : decode cX3_in 0 = .ok (.iload_n 0, 1) := dk_26 (dk_at dksX3_in_0 0 rfl rfl)
theorem dX3_in_1 : decode cX3_in 1 = .ok (.iload_n 1, 1) := dk_27 (dk_at dksX3_in_0 1 rfl rfl)
theorem dX3_in_2 : decode cX3_in 2 = .ok (.if_icmp .lt 12, 3) := dk_161 0 12 (dk_at dksX3_in_0 2 rfl rfl)
theorem dX3_in_5 : decode cX3_in 5 = .ok (.iload_n 0, 1) := dk_26 (dk_at dksX3_in_0 5 rfl rfl)
theorem dX3_in_6 : decode cX3_in 6 = .ok (.iload_n 2, 1) := dk_28 (dk_at dksX3_in_0 6 rfl rfl)
theorem dX3_in_7 : decode cX3_in 7 = .ok (.if_icmp .gt 7, 3) := dk_163 0 7 (dk_at dksX3_in_0 7 rfl rfl)
theorem dX3_in_10 : decode cX3_in 10 = .ok (.iconst 1, 1) := dk_4 (dk_at dksX3_in_0 10 rfl rfl)
theorem dX3_in_11 : decode cX3_in 11 = .ok (.goto 4, 3) := dk_167 0 4 (dk_at dksX3_in_0 11 rfl rfl)
theorem dX3_in_14 : decode cX3_in 14 = .ok (.iconst 0, 1) := dk_3 (dk_at dksX3_in_0 14 rfl rfl)
theorem dX3_in_15 : decode cX3_in 15 = .ok (.ireturn, 1) := dk_172 (dk_at dksX3_in_0 15 rfl rfl)
abbrev cX3_nests : ByteArray := prog_9_method_24_code
def yX3_nests : MethodName := ⟨RX3, "nests", "()I"⟩
def dkwX3_nests_8 : List UInt8 := [4, 96, 181, 0, 158, 27, 172]
abbrev dktX3_nests_8 : List UInt8 := dkwX3_nests_8 ++ []
def dkwX3_nests_7 : List UInt8 := [180, 0, 89, 4, 96, 181, 0, 89, 132, 3, 1, 167, 255, 173, 42, 3, 181, 0, 155, 42, 89, 180, 0, 158]
abbrev dktX3_nests_7 : List UInt8 := dkwX3_nests_7 ++ dktX3_nests_8
def dkwX3_nests_6 : List UInt8 := [3, 79, 132, 4, 1, 167, 255, 210, 42, 180, 0, 9, 16, 32, 42, 180, 0, 89, 96, 2, 79, 42, 89]
abbrev dktX3_nests_6 : List UInt8 := dkwX3_nests_6 ++ dktX3_nests_7
def dkwX3_nests_5 : List UInt8 := [180, 0, 89, 96, 21, 4, 7, 162, 0, 17, 42, 180, 0, 25, 7, 29, 104, 21, 4, 96, 46, 167, 0, 4]
abbrev dktX3_nests_5 : List UInt8 := dkwX3_nests_5 ++ dktX3_nests_6
def dkwX3_nests_4 : List UInt8 := [27, 162, 0, 84, 3, 54, 4, 21, 4, 16, 10, 162, 0, 45, 42, 180, 0, 9, 16, 8, 21, 4, 104, 42]
abbrev dktX3_nests_4 : List UInt8 := dkwX3_nests_4 ++ dktX3_nests_5
def dkwX3_nests_3 : List UInt8 := [182, 0, 130, 61, 167, 255, 206, 42, 182, 0, 152, 154, 0, 10, 2, 42, 180, 0, 115, 100, 172, 3, 62, 29]
abbrev dktX3_nests_3 : List UInt8 := dkwX3_nests_3 ++ dktX3_nests_4
def dkwX3_nests_2 : List UInt8 := [180, 0, 112, 182, 0, 134, 167, 0, 10, 42, 7, 27, 104, 182, 0, 149, 132, 1, 1, 42, 16, 59]
abbrev dktX3_nests_2 : List UInt8 := dkwX3_nests_2 ++ dktX3_nests_3
def dkwX3_nests_1 : List UInt8 := [28, 153, 0, 52, 42, 182, 0, 122, 153, 0, 45, 42, 180, 0, 89, 27, 96, 16, 8, 160, 0, 14, 42, 42]
abbrev dktX3_nests_1 : List UInt8 := dkwX3_nests_1 ++ dktX3_nests_2
def dkwX3_nests_0 : List UInt8 := [42, 3, 181, 0, 83, 42, 16, 39, 182, 0, 146, 42, 180, 0, 106, 154, 0, 5, 3, 172, 3, 60, 4, 61]
abbrev dktX3_nests_0 : List UInt8 := dkwX3_nests_0 ++ dktX3_nests_1
theorem dksX3_nests_0 : cX3_nests.data.toList.drop 0 = dktX3_nests_0 := by decide +kernel
theorem dksX3_nests_1 : cX3_nests.data.toList.drop 24 = dktX3_nests_1 := dk_seg dksX3_nests_0 24 rfl rfl
theorem dksX3_nests_2 : cX3_nests.data.toList.drop 48 = dktX3_nests_2 := dk_seg dksX3_nests_1 24 rfl rfl
theorem dksX3_nests_3 : cX3_nests.data.toList.drop 70 = dktX3_nests_3 := dk_seg dksX3_nests_2 22 rfl rfl
theorem dksX3_nests_4 : cX3_nests.data.toList.drop 94 = dktX3_nests_4 := dk_seg dksX3_nests_3 24 rfl rfl
theorem dksX3_nests_5 : cX3_nests.data.toList.drop 118 = dktX3_nests_5 := dk_seg dksX3_nests_4 24 rfl rfl
theorem dksX3_nests_6 : cX3_nests.data.toList.drop 142 = dktX3_nests_6 := dk_seg dksX3_nests_5 24 rfl rfl
theorem dksX3_nests_7 : cX3_nests.data.toList.drop 165 = dktX3_nests_7 := dk_seg dksX3_nests_6 23 rfl rfl
theorem dksX3_nests_8 : cX3_nests.data.toList.drop 189 = dktX3_nests_8 := dk_seg dksX3_nests_7 24 rfl rfl
theorem dX3_nests_0 : decode cX3_nests 0 = .ok (.aload_n 0, 1) := dk_42 (dk_at dksX3_nests_0 0 rfl rfl)
theorem dX3_nests_1 : decode cX3_nests 1 = .ok (.iconst 0, 1) := dk_3 (dk_at dksX3_nests_0 1 rfl rfl)
theorem dX3_nests_2 : decode cX3_nests 2 = .ok (.putfield 83, 3) := dk_181 0 83 (dk_at dksX3_nests_0 2 rfl rfl)
theorem dX3_nests_5 : decode cX3_nests 5 = .ok (.aload_n 0, 1) := dk_42 (dk_at dksX3_nests_0 5 rfl rfl)
theorem dX3_nests_6 : decode cX3_nests 6 = .ok (.bipush 39, 2) := dk_16 39 (dk_at dksX3_nests_0 6 rfl rfl)
theorem dX3_nests_8 : decode cX3_nests 8 = .ok (.invokevirtual 146, 3) := dk_182 0 146 (dk_at dksX3_nests_0 8 rfl rfl)
theorem dX3_nests_11 : decode cX3_nests 11 = .ok (.aload_n 0, 1) := dk_42 (dk_at dksX3_nests_0 11 rfl rfl)
theorem dX3_nests_12 : decode cX3_nests 12 = .ok (.getfield 106, 3) := dk_180 0 106 (dk_at dksX3_nests_0 12 rfl rfl)
theorem dX3_nests_15 : decode cX3_nests 15 = .ok (.ifCond .ne 5, 3) := dk_154 0 5 (dk_at dksX3_nests_0 15 rfl rfl)
theorem dX3_nests_18 : decode cX3_nests 18 = .ok (.iconst 0, 1) := dk_3 (dk_at dksX3_nests_0 18 rfl rfl)
theorem dX3_nests_19 : decode cX3_nests 19 = .ok (.ireturn, 1) := dk_172 (dk_at dksX3_nests_0 19 rfl rfl)
theorem dX3_nests_20 : decode cX3_nests 20 = .ok (.iconst 0, 1) := dk_3 (dk_at dksX3_nests_0 20 rfl rfl)
theorem dX3_nests_21 : decode cX3_nests 21 = .ok (.istore_n 1, 1) := dk_60 (dk_at dksX3_nests_0 21 rfl rfl)
theorem dX3_nests_22 : decode cX3_nests 22 = .ok (.iconst 1, 1) := dk_4 (dk_at dksX3_nests_0 22 rfl rfl)
theorem dX3_nests_23 : decode cX3_nests 23 = .ok (.istore_n 2, 1) := dk_61 (dk_at dksX3_nests_0 23 rfl rfl)
theorem dX3_nests_24 : decode cX3_nests 24 = .ok (.iload_n 2, 1) := dk_28 (dk_at dksX3_nests_1 0 rfl rfl)
theorem dX3_nests_25 : decode cX3_nests 25 = .ok (.ifCond .eq 52, 3) := dk_153 0 52 (dk_at dksX3_nests_1 1 rfl rfl)
theorem dX3_nests_28 : decode cX3_nests 28 = .ok (.aload_n 0, 1) := dk_42 (dk_at dksX3_nests_1 4 rfl rfl)
theorem dX3_nests_29 : decode cX3_nests 29 = .ok (.invokevirtual 122, 3) := dk_182 0 122 (dk_at dksX3_nests_1 5 rfl rfl)
theorem dX3_nests_32 : decode cX3_nests 32 = .ok (.ifCond .eq 45, 3) := dk_153 0 45 (dk_at dksX3_nests_1 8 rfl rfl)
theorem dX3_nests_35 : decode cX3_nests 35 = .ok (.aload_n 0, 1) := dk_42 (dk_at dksX3_nests_1 11 rfl rfl)
theorem dX3_nests_36 : decode cX3_nests 36 = .ok (.getfield 89, 3) := dk_180 0 89 (dk_at dksX3_nests_1 12 rfl rfl)
theorem dX3_nests_39 : decode cX3_nests 39 = .ok (.iload_n 1, 1) := dk_27 (dk_at dksX3_nests_1 15 rfl rfl)
theorem dX3_nests_40 : decode cX3_nests 40 = .ok (.iadd, 1) := dk_96 (dk_at dksX3_nests_1 16 rfl rfl)
theorem dX3_nests_41 : decode cX3_nests 41 = .ok (.bipush 8, 2) := dk_16 8 (dk_at dksX3_nests_1 17 rfl rfl)
theorem dX3_nests_43 : decode cX3_nests 43 = .ok (.if_icmp .ne 14, 3) := dk_160 0 14 (dk_at dksX3_nests_1 19 rfl rfl)
theorem dX3_nests_46 : decode cX3_nests 46 = .ok (.aload_n 0, 1) := dk_42 (dk_at dksX3_nests_1 22 rfl rfl)
theorem dX3_nests_47 : decode cX3_nests 47 = .ok (.aload_n 0, 1) := dk_42 (dk_at dksX3_nests_1 23 rfl rfl)
theorem dX3_nests_48 : decode cX3_nests 48 = .ok (.getfield 112, 3) := dk_180 0 112 (dk_at dksX3_nests_2 0 rfl rfl)
theorem dX3_nests_51 : decode cX3_nests 51 = .ok (.invokevirtual 134, 3) := dk_182 0 134 (dk_at dksX3_nests_2 3 rfl rfl)
theorem dX3_nests_54 : decode cX3_nests 54 = .ok (.goto 10, 3) := dk_167 0 10 (dk_at dksX3_nests_2 6 rfl rfl)
theorem dX3_nests_57 : decode cX3_nests 57 = .ok (.aload_n 0, 1) := dk_42 (dk_at dksX3_nests_2 9 rfl rfl)
theorem dX3_nests_58 : decode cX3_nests 58 = .ok (.iconst 4, 1) := dk_7 (dk_at dksX3_nests_2 10 rfl rfl)
theorem dX3_nests_59 : decode cX3_nests 59 = .ok (.iload_n 1, 1) := dk_27 (dk_at dksX3_nests_2 11 rfl rfl)
theorem dX3_nests_60 : decode cX3_nests 60 = .ok (.imul, 1) := dk_104 (dk_at dksX3_nests_2 12 rfl rfl)
theorem dX3_nests_61 : decode cX3_nests 61 = .ok (.invokevirtual 149, 3) := dk_182 0 149 (dk_at dksX3_nests_2 13 rfl rfl)
theorem dX3_nests_64 : decode cX3_nests 64 = .ok (.iinc 1 1, 3) := dk_132 1 1 (dk_at dksX3_nests_2 16 rfl rfl)
theorem dX3_nests_67 : decode cX3_nests 67 = .ok (.aload_n 0, 1) := dk_42 (dk_at dksX3_nests_2 19 rfl rfl)
theorem dX3_nests_68 : decode cX3_nests 68 = .ok (.bipush 59, 2) := dk_16 59 (dk_at dksX3_nests_2 20 rfl rfl)
theorem dX3_nests_70 : decode cX3_nests 70 = .ok (.invokevirtual 130, 3) := dk_182 0 130 (dk_at dksX3_nests_3 0 rfl rfl)
theorem dX3_nests_73 : decode cX3_nests 73 = .ok (.istore_n 2, 1) := dk_61 (dk_at dksX3_nests_3 3 rfl rfl)
theorem dX3_nests_74 : decode cX3_nests 74 = .ok (.goto (-50), 3) := dk_167 255 206 (dk_at dksX3_nests_3 4 rfl rfl)
theorem dX3_nests_77 : decode cX3_nests 77 = .ok (.aload_n 0, 1) := dk_42 (dk_at dksX3_nests_3 7 rfl rfl)
theorem dX3_nests_78 : decode cX3_nests 78 = .ok (.invokevirtual 152, 3) := dk_182 0 152 (dk_at dksX3_nests_3 8 rfl rfl)
theorem dX3_nests_81 : decode cX3_nests 81 = .ok (.ifCond .ne 10, 3) := dk_154 0 10 (dk_at dksX3_nests_3 11 rfl rfl)
theorem dX3_nests_84 : decode cX3_nests 84 = .ok (.iconst (-1), 1) := dk_2 (dk_at dksX3_nests_3 14 rfl rfl)
theorem dX3_nests_85 : decode cX3_nests 85 = .ok (.aload_n 0, 1) := dk_42 (dk_at dksX3_nests_3 15 rfl rfl)
theorem dX3_nests_86 : decode cX3_nests 86 = .ok (.getfield 115, 3) := dk_180 0 115 (dk_at dksX3_nests_3 16 rfl rfl)
theorem dX3_nests_89 : decode cX3_nests 89 = .ok (.isub, 1) := dk_100 (dk_at dksX3_nests_3 19 rfl rfl)
theorem dX3_nests_90 : decode cX3_nests 90 = .ok (.ireturn, 1) := dk_172 (dk_at dksX3_nests_3 20 rfl rfl)
theorem dX3_nests_91 : decode cX3_nests 91 = .ok (.iconst 0, 1) := dk_3 (dk_at dksX3_nests_3 21 rfl rfl)
theorem dX3_nests_92 : decode cX3_nests 92 = .ok (.istore_n 3, 1) := dk_62 (dk_at dksX3_nests_3 22 rfl rfl)
theorem dX3_nests_93 : decode cX3_nests 93 = .ok (.iload_n 3, 1) := dk_29 (dk_at dksX3_nests_3 23 rfl rfl)
theorem dX3_nests_94 : decode cX3_nests 94 = .ok (.iload_n 1, 1) := dk_27 (dk_at dksX3_nests_4 0 rfl rfl)
theorem dX3_nests_95 : decode cX3_nests 95 = .ok (.if_icmp .ge 84, 3) := dk_162 0 84 (dk_at dksX3_nests_4 1 rfl rfl)
theorem dX3_nests_98 : decode cX3_nests 98 = .ok (.iconst 0, 1) := dk_3 (dk_at dksX3_nests_4 4 rfl rfl)
theorem dX3_nests_99 : decode cX3_nests 99 = .ok (.istore 4, 2) := dk_54 4 (dk_at dksX3_nests_4 5 rfl rfl)
theorem dX3_nests_101 : decode cX3_nests 101 = .ok (.iload 4, 2) := dk_21 4 (dk_at dksX3_nests_4 7 rfl rfl)
theorem dX3_nests_103 : decode cX3_nests 103 = .ok (.bipush 10, 2) := dk_16 10 (dk_at dksX3_nests_4 9 rfl rfl)
theorem dX3_nests_105 : decode cX3_nests 105 = .ok (.if_icmp .ge 45, 3) := dk_162 0 45 (dk_at dksX3_nests_4 11 rfl rfl)
theorem dX3_nests_108 : decode cX3_nests 108 = .ok (.aload_n 0, 1) := dk_42 (dk_at dksX3_nests_4 14 rfl rfl)
theorem dX3_nests_109 : decode cX3_nests 109 = .ok (.getfield 9, 3) := dk_180 0 9 (dk_at dksX3_nests_4 15 rfl rfl)
theorem dX3_nests_112 : decode cX3_nests 112 = .ok (.bipush 8, 2) := dk_16 8 (dk_at dksX3_nests_4 18 rfl rfl)
theorem dX3_nests_114 : decode cX3_nests 114 = .ok (.iload 4, 2) := dk_21 4 (dk_at dksX3_nests_4 20 rfl rfl)
theorem dX3_nests_116 : decode cX3_nests 116 = .ok (.imul, 1) := dk_104 (dk_at dksX3_nests_4 22 rfl rfl)
theorem dX3_nests_117 : decode cX3_nests 117 = .ok (.aload_n 0, 1) := dk_42 (dk_at dksX3_nests_4 23 rfl rfl)
theorem dX3_nests_118 : decode cX3_nests 118 = .ok (.getfield 89, 3) := dk_180 0 89 (dk_at dksX3_nests_5 0 rfl rfl)
theorem dX3_nests_121 : decode cX3_nests 121 = .ok (.iadd, 1) := dk_96 (dk_at dksX3_nests_5 3 rfl rfl)
theorem dX3_nests_122 : decode cX3_nests 122 = .ok (.iload 4, 2) := dk_21 4 (dk_at dksX3_nests_5 4 rfl rfl)
theorem dX3_nests_124 : decode cX3_nests 124 = .ok (.iconst 4, 1) := dk_7 (dk_at dksX3_nests_5 6 rfl rfl)
theorem dX3_nests_125 : decode cX3_nests 125 = .ok (.if_icmp .ge 17, 3) := dk_162 0 17 (dk_at dksX3_nests_5 7 rfl rfl)
theorem dX3_nests_128 : decode cX3_nests 128 = .ok (.aload_n 0, 1) := dk_42 (dk_at dksX3_nests_5 10 rfl rfl)
theorem dX3_nests_129 : decode cX3_nests 129 = .ok (.getfield 25, 3) := dk_180 0 25 (dk_at dksX3_nests_5 11 rfl rfl)
theorem dX3_nests_132 : decode cX3_nests 132 = .ok (.iconst 4, 1) := dk_7 (dk_at dksX3_nests_5 14 rfl rfl)
theorem dX3_nests_133 : decode cX3_nests 133 = .ok (.iload_n 3, 1) := dk_29 (dk_at dksX3_nests_5 15 rfl rfl)
theorem dX3_nests_134 : decode cX3_nests 134 = .ok (.imul, 1) := dk_104 (dk_at dksX3_nests_5 16 rfl rfl)
theorem dX3_nests_135 : decode cX3_nests 135 = .ok (.iload 4, 2) := dk_21 4 (dk_at dksX3_nests_5 17 rfl rfl)
theorem dX3_nests_137 : decode cX3_nests 137 = .ok (.iadd, 1) := dk_96 (dk_at dksX3_nests_5 19 rfl rfl)
theorem dX3_nests_138 : decode cX3_nests 138 = .ok (.iaload, 1) := dk_46 (dk_at dksX3_nests_5 20 rfl rfl)
theorem dX3_nests_139 : decode cX3_nests 139 = .ok (.goto 4, 3) := dk_167 0 4 (dk_at dksX3_nests_5 21 rfl rfl)
theorem dX3_nests_142 : decode cX3_nests 142 = .ok (.iconst 0, 1) := dk_3 (dk_at dksX3_nests_6 0 rfl rfl)
theorem dX3_nests_143 : decode cX3_nests 143 = .ok (.iastore, 1) := dk_79 (dk_at dksX3_nests_6 1 rfl rfl)
theorem dX3_nests_144 : decode cX3_nests 144 = .ok (.iinc 4 1, 3) := dk_132 4 1 (dk_at dksX3_nests_6 2 rfl rfl)
theorem dX3_nests_147 : decode cX3_nests 147 = .ok (.goto (-46), 3) := dk_167 255 210 (dk_at dksX3_nests_6 5 rfl rfl)
theorem dX3_nests_150 : decode cX3_nests 150 = .ok (.aload_n 0, 1) := dk_42 (dk_at dksX3_nests_6 8 rfl rfl)
theorem dX3_nests_151 : decode cX3_nests 151 = .ok (.getfield 9, 3) := dk_180 0 9 (dk_at dksX3_nests_6 9 rfl rfl)
theorem dX3_nests_154 : decode cX3_nests 154 = .ok (.bipush 32, 2) := dk_16 32 (dk_at dksX3_nests_6 12 rfl rfl)
theorem dX3_nests_156 : decode cX3_nests 156 = .ok (.aload_n 0, 1) := dk_42 (dk_at dksX3_nests_6 14 rfl rfl)
theorem dX3_nests_157 : decode cX3_nests 157 = .ok (.getfield 89, 3) := dk_180 0 89 (dk_at dksX3_nests_6 15 rfl rfl)
theorem dX3_nests_160 : decode cX3_nests 160 = .ok (.iadd, 1) := dk_96 (dk_at dksX3_nests_6 18 rfl rfl)
theorem dX3_nests_161 : decode cX3_nests 161 = .ok (.iconst (-1), 1) := dk_2 (dk_at dksX3_nests_6 19 rfl rfl)
theorem dX3_nests_162 : decode cX3_nests 162 = .ok (.iastore, 1) := dk_79 (dk_at dksX3_nests_6 20 rfl rfl)
theorem dX3_nests_163 : decode cX3_nests 163 = .ok (.aload_n 0, 1) := dk_42 (dk_at dksX3_nests_6 21 rfl rfl)
theorem dX3_nests_164 : decode cX3_nests 164 = .ok (.dup, 1) := dk_89 (dk_at dksX3_nests_6 22 rfl rfl)
theorem dX3_nests_165 : decode cX3_nests 165 = .ok (.getfield 89, 3) := dk_180 0 89 (dk_at dksX3_nests_7 0 rfl rfl)
theorem dX3_nests_168 : decode cX3_nests 168 = .ok (.iconst 1, 1) := dk_4 (dk_at dksX3_nests_7 3 rfl rfl)
theorem dX3_nests_169 : decode cX3_nests 169 = .ok (.iadd, 1) := dk_96 (dk_at dksX3_nests_7 4 rfl rfl)
theorem dX3_nests_170 : decode cX3_nests 170 = .ok (.putfield 89, 3) := dk_181 0 89 (dk_at dksX3_nests_7 5 rfl rfl)
theorem dX3_nests_173 : decode cX3_nests 173 = .ok (.iinc 3 1, 3) := dk_132 3 1 (dk_at dksX3_nests_7 8 rfl rfl)
theorem dX3_nests_176 : decode cX3_nests 176 = .ok (.goto (-83), 3) := dk_167 255 173 (dk_at dksX3_nests_7 11 rfl rfl)
theorem dX3_nests_179 : decode cX3_nests 179 = .ok (.aload_n 0, 1) := dk_42 (dk_at dksX3_nests_7 14 rfl rfl)
theorem dX3_nests_180 : decode cX3_nests 180 = .ok (.iconst 0, 1) := dk_3 (dk_at dksX3_nests_7 15 rfl rfl)
theorem dX3_nests_181 : decode cX3_nests 181 = .ok (.putfield 155, 3) := dk_181 0 155 (dk_at dksX3_nests_7 16 rfl rfl)
theorem dX3_nests_184 : decode cX3_nests 184 = .ok (.aload_n 0, 1) := dk_42 (dk_at dksX3_nests_7 19 rfl rfl)
theorem dX3_nests_185 : decode cX3_nests 185 = .ok (.dup, 1) := dk_89 (dk_at dksX3_nests_7 20 rfl rfl)
theorem dX3_nests_186 : decode cX3_nests 186 = .ok (.getfield 158, 3) := dk_180 0 158 (dk_at dksX3_nests_7 21 rfl rfl)
theorem dX3_nests_189 : decode cX3_nests 189 = .ok (.iconst 1, 1) := dk_4 (dk_at dksX3_nests_8 0 rfl rfl)
theorem dX3_nests_190 : decode cX3_nests 190 = .ok (.iadd, 1) := dk_96 (dk_at dksX3_nests_8 1 rfl rfl)
theorem dX3_nests_191 : decode cX3_nests 191 = .ok (.putfield 158, 3) := dk_181 0 158 (dk_at dksX3_nests_8 2 rfl rfl)
theorem dX3_nests_194 : decode cX3_nests 194 = .ok (.iload_n 1, 1) := dk_27 (dk_at dksX3_nests_8 5 rfl rfl)
theorem dX3_nests_195 : decode cX3_nests 195 = .ok (.ireturn, 1) := dk_172 (dk_at dksX3_nests_8 6 rfl rfl)
abbrev cX3_beginText : ByteArray := prog_9_method_13_code
def yX3_beginText : MethodName := ⟨RX3, "beginText", "(I)V"⟩
def dkwX3_beginText_0 : List UInt8 := [42, 42, 180, 0, 17, 42, 180, 0, 100, 27, 182, 0, 118, 42, 3, 181, 0, 100, 177]
abbrev dktX3_beginText_0 : List UInt8 := dkwX3_beginText_0 ++ []
theorem dksX3_beginText_0 : cX3_beginText.data.toList.drop 0 = dktX3_beginText_0 := by decide +kernel
theorem dX3_beginText_0 : decode cX3_beginText 0 = .ok (.aload_n 0, 1) := dk_42 (dk_at dksX3_beginText_0 0 rfl rfl)
theorem dX3_beginText_1 : decode cX3_beginText 1 = .ok (.aload_n 0, 1) := dk_42 (dk_at dksX3_beginText_0 1 rfl rfl)
theorem dX3_beginText_2 : decode cX3_beginText 2 = .ok (.getfield 17, 3) := dk_180 0 17 (dk_at dksX3_beginText_0 2 rfl rfl)
theorem dX3_beginText_5 : decode cX3_beginText 5 = .ok (.aload_n 0, 1) := dk_42 (dk_at dksX3_beginText_0 5 rfl rfl)
theorem dX3_beginText_6 : decode cX3_beginText 6 = .ok (.getfield 100, 3) := dk_180 0 100 (dk_at dksX3_beginText_0 6 rfl rfl)
theorem dX3_beginText_9 : decode cX3_beginText 9 = .ok (.iload_n 1, 1) := dk_27 (dk_at dksX3_beginText_0 9 rfl rfl)
theorem dX3_beginText_10 : decode cX3_beginText 10 = .ok (.invokevirtual 118, 3) := dk_182 0 118 (dk_at dksX3_beginText_0 10 rfl rfl)
theorem dX3_beginText_13 : decode cX3_beginText 13 = .ok (.aload_n 0, 1) := dk_42 (dk_at dksX3_beginText_0 13 rfl rfl)
theorem dX3_beginText_14 : decode cX3_beginText 14 = .ok (.iconst 0, 1) := dk_3 (dk_at dksX3_beginText_0 14 rfl rfl)
theorem dX3_beginText_15 : decode cX3_beginText 15 = .ok (.putfield 100, 3) := dk_181 0 100 (dk_at dksX3_beginText_0 15 rfl rfl)
theorem dX3_beginText_18 : decode cX3_beginText 18 = .ok (.return_, 1) := dk_177 (dk_at dksX3_beginText_0 18 rfl rfl)
abbrev cX3_begin : ByteArray := prog_9_method_12_code
def yX3_begin : MethodName := ⟨RX3, "begin", "([BII)V"⟩
def dkwX3_begin_1 : List UInt8 := [181, 0, 115, 177]
abbrev dktX3_begin_1 : List UInt8 := dkwX3_begin_1 ++ []
def dkwX3_begin_0 : List UInt8 := [42, 43, 181, 0, 103, 42, 28, 181, 0, 106, 42, 29, 181, 0, 109, 42, 3, 181, 0, 112, 42, 2]
abbrev dktX3_begin_0 : List UInt8 := dkwX3_begin_0 ++ dktX3_begin_1
theorem dksX3_begin_0 : cX3_begin.data.toList.drop 0 = dktX3_begin_0 := by decide +kernel
theorem dksX3_begin_1 : cX3_begin.data.toList.drop 22 = dktX3_begin_1 := dk_seg dksX3_begin_0 22 rfl rfl
theorem dX3_begin_0 : decode cX3_begin 0 = .ok (.aload_n 0, 1) := dk_42 (dk_at dksX3_begin_0 0 rfl rfl)
theorem dX3_begin_1 : decode cX3_begin 1 = .ok (.aload_n 1, 1) := dk_43 (dk_at dksX3_begin_0 1 rfl rfl)
theorem dX3_begin_2 : decode cX3_begin 2 = .ok (.putfield 103, 3) := dk_181 0 103 (dk_at dksX3_begin_0 2 rfl rfl)
theorem dX3_begin_5 : decode cX3_begin 5 = .ok (.aload_n 0, 1) := dk_42 (dk_at dksX3_begin_0 5 rfl rfl)
theorem dX3_begin_6 : decode cX3_begin 6 = .ok (.iload_n 2, 1) := dk_28 (dk_at dksX3_begin_0 6 rfl rfl)
theorem dX3_begin_7 : decode cX3_begin 7 = .ok (.putfield 106, 3) := dk_181 0 106 (dk_at dksX3_begin_0 7 rfl rfl)
theorem dX3_begin_10 : decode cX3_begin 10 = .ok (.aload_n 0, 1) := dk_42 (dk_at dksX3_begin_0 10 rfl rfl)
theorem dX3_begin_11 : decode cX3_begin 11 = .ok (.iload_n 3, 1) := dk_29 (dk_at dksX3_begin_0 11 rfl rfl)
theorem dX3_begin_12 : decode cX3_begin 12 = .ok (.putfield 109, 3) := dk_181 0 109 (dk_at dksX3_begin_0 12 rfl rfl)
theorem dX3_begin_15 : decode cX3_begin 15 = .ok (.aload_n 0, 1) := dk_42 (dk_at dksX3_begin_0 15 rfl rfl)
theorem dX3_begin_16 : decode cX3_begin 16 = .ok (.iconst 0, 1) := dk_3 (dk_at dksX3_begin_0 16 rfl rfl)
theorem dX3_begin_17 : decode cX3_begin 17 = .ok (.putfield 112, 3) := dk_181 0 112 (dk_at dksX3_begin_0 17 rfl rfl)
theorem dX3_begin_20 : decode cX3_begin 20 = .ok (.aload_n 0, 1) := dk_42 (dk_at dksX3_begin_0 20 rfl rfl)
theorem dX3_begin_21 : decode cX3_begin 21 = .ok (.iconst (-1), 1) := dk_2 (dk_at dksX3_begin_0 21 rfl rfl)
theorem dX3_begin_22 : decode cX3_begin 22 = .ok (.putfield 115, 3) := dk_181 0 115 (dk_at dksX3_begin_1 0 rfl rfl)
theorem dX3_begin_25 : decode cX3_begin 25 = .ok (.return_, 1) := dk_177 (dk_at dksX3_begin_1 3 rfl rfl)
abbrev cX3_fine : ByteArray := prog_9_method_15_code
def yX3_fine : MethodName := ⟨RX3, "fine", "()Z"⟩
def dkwX3_fine_0 : List UInt8 := [42, 180, 0, 115, 2, 160, 0, 7, 4, 167, 0, 4, 3, 172]
abbrev dktX3_fine_0 : List UInt8 := dkwX3_fine_0 ++ []
theorem dksX3_fine_0 : cX3_fine.data.toList.drop 0 = dktX3_fine_0 := by decide +kernel
theorem dX3_fine_0 : decode cX3_fine 0 = .ok (.aload_n 0, 1) := dk_42 (dk_at dksX3_fine_0 0 rfl rfl)
theorem dX3_fine_1 : decode cX3_fine 1 = .ok (.getfield 115, 3) := dk_180 0 115 (dk_at dksX3_fine_0 1 rfl rfl)
theorem dX3_fine_4 : decode cX3_fine 4 = .ok (.iconst (-1), 1) := dk_2 (dk_at dksX3_fine_0 4 rfl rfl)
theorem dX3_fine_5 : decode cX3_fine 5 = .ok (.if_icmp .ne 7, 3) := dk_160 0 7 (dk_at dksX3_fine_0 5 rfl rfl)
theorem dX3_fine_8 : decode cX3_fine 8 = .ok (.iconst 1, 1) := dk_4 (dk_at dksX3_fine_0 8 rfl rfl)
theorem dX3_fine_9 : decode cX3_fine 9 = .ok (.goto 4, 3) := dk_167 0 4 (dk_at dksX3_fine_0 9 rfl rfl)
theorem dX3_fine_12 : decode cX3_fine 12 = .ok (.iconst 0, 1) := dk_3 (dk_at dksX3_fine_0 12 rfl rfl)
theorem dX3_fine_13 : decode cX3_fine 13 = .ok (.ireturn, 1) := dk_172 (dk_at dksX3_fine_0 13 rfl rfl)
abbrev cX3_fault : ByteArray := prog_9_method_16_code
def yX3_fault : MethodName := ⟨RX3, "fault", "(I)V"⟩
def dkwX3_fault_0 : List UInt8 := [42, 182, 0, 122, 153, 0, 8, 42, 27, 181, 0, 115, 177]
abbrev dktX3_fault_0 : List UInt8 := dkwX3_fault_0 ++ []
theorem dksX3_fault_0 : cX3_fault.data.toList.drop 0 = dktX3_fault_0 := by decide +kernel
theorem dX3_fault_0 : decode cX3_fault 0 = .ok (.aload_n 0, 1) := dk_42 (dk_at dksX3_fault_0 0 rfl rfl)
theorem dX3_fault_1 : decode cX3_fault 1 = .ok (.invokevirtual 122, 3) := dk_182 0 122 (dk_at dksX3_fault_0 1 rfl rfl)
theorem dX3_fault_4 : decode cX3_fault 4 = .ok (.ifCond .eq 8, 3) := dk_153 0 8 (dk_at dksX3_fault_0 4 rfl rfl)
theorem dX3_fault_7 : decode cX3_fault 7 = .ok (.aload_n 0, 1) := dk_42 (dk_at dksX3_fault_0 7 rfl rfl)
theorem dX3_fault_8 : decode cX3_fault 8 = .ok (.iload_n 1, 1) := dk_27 (dk_at dksX3_fault_0 8 rfl rfl)
theorem dX3_fault_9 : decode cX3_fault 9 = .ok (.putfield 115, 3) := dk_181 0 115 (dk_at dksX3_fault_0 9 rfl rfl)
theorem dX3_fault_12 : decode cX3_fault 12 = .ok (.return_, 1) := dk_177 (dk_at dksX3_fault_0 12 rfl rfl)
abbrev cX3_readNest : ByteArray := prog_9_method_23_code
def yX3_readNest : MethodName := ⟨RX3, "readNest", "(I)V"⟩
def dkwX3_readNest_3 : List UInt8 := [182, 0, 138, 79, 42, 180, 0, 25, 27, 6, 96, 42, 16, 48, 16, 6, 182, 0, 138, 79, 177]
abbrev dktX3_readNest_3 : List UInt8 := dkwX3_readNest_3 ++ []
def dkwX3_readNest_2 : List UInt8 := [42, 16, 49, 16, 9, 182, 0, 138, 4, 96, 79, 42, 180, 0, 25, 27, 5, 96, 42, 16, 48, 16, 10]
abbrev dktX3_readNest_2 : List UInt8 := dkwX3_readNest_2 ++ dktX3_readNest_3
def dkwX3_readNest_1 : List UInt8 := [42, 180, 0, 112, 182, 0, 134, 42, 89, 180, 0, 112, 4, 96, 181, 0, 112, 42, 180, 0, 25, 27, 4, 96]
abbrev dktX3_readNest_1 : List UInt8 := dkwX3_readNest_1 ++ dktX3_readNest_2
def dkwX3_readNest_0 : List UInt8 := [42, 180, 0, 25, 27, 42, 182, 0, 126, 184, 0, 142, 79, 42, 180, 0, 25, 27, 46, 2, 160, 0, 11, 42]
abbrev dktX3_readNest_0 : List UInt8 := dkwX3_readNest_0 ++ dktX3_readNest_1
theorem dksX3_readNest_0 : cX3_readNest.data.toList.drop 0 = dktX3_readNest_0 := by decide +kernel
theorem dksX3_readNest_1 : cX3_readNest.data.toList.drop 24 = dktX3_readNest_1 := dk_seg dksX3_readNest_0 24 rfl rfl
theorem dksX3_readNest_2 : cX3_readNest.data.toList.drop 48 = dktX3_readNest_2 := dk_seg dksX3_readNest_1 24 rfl rfl
theorem dksX3_readNest_3 : cX3_readNest.data.toList.drop 71 = dktX3_readNest_3 := dk_seg dksX3_readNest_2 23 rfl rfl
theorem dX3_readNest_0 : decode cX3_readNest 0 = .ok (.aload_n 0, 1) := dk_42 (dk_at dksX3_readNest_0 0 rfl rfl)
theorem dX3_readNest_1 : decode cX3_readNest 1 = .ok (.getfield 25, 3) := dk_180 0 25 (dk_at dksX3_readNest_0 1 rfl rfl)
theorem dX3_readNest_4 : decode cX3_readNest 4 = .ok (.iload_n 1, 1) := dk_27 (dk_at dksX3_readNest_0 4 rfl rfl)
theorem dX3_readNest_5 : decode cX3_readNest 5 = .ok (.aload_n 0, 1) := dk_42 (dk_at dksX3_readNest_0 5 rfl rfl)
theorem dX3_readNest_6 : decode cX3_readNest 6 = .ok (.invokevirtual 126, 3) := dk_182 0 126 (dk_at dksX3_readNest_0 6 rfl rfl)
theorem dX3_readNest_9 : decode cX3_readNest 9 = .ok (.invokestatic 142, 3) := dk_184 0 142 (dk_at dksX3_readNest_0 9 rfl rfl)
theorem dX3_readNest_12 : decode cX3_readNest 12 = .ok (.iastore, 1) := dk_79 (dk_at dksX3_readNest_0 12 rfl rfl)
theorem dX3_readNest_13 : decode cX3_readNest 13 = .ok (.aload_n 0, 1) := dk_42 (dk_at dksX3_readNest_0 13 rfl rfl)
theorem dX3_readNest_14 : decode cX3_readNest 14 = .ok (.getfield 25, 3) := dk_180 0 25 (dk_at dksX3_readNest_0 14 rfl rfl)
theorem dX3_readNest_17 : decode cX3_readNest 17 = .ok (.iload_n 1, 1) := dk_27 (dk_at dksX3_readNest_0 17 rfl rfl)
theorem dX3_readNest_18 : decode cX3_readNest 18 = .ok (.iaload, 1) := dk_46 (dk_at dksX3_readNest_0 18 rfl rfl)
theorem dX3_readNest_19 : decode cX3_readNest 19 = .ok (.iconst (-1), 1) := dk_2 (dk_at dksX3_readNest_0 19 rfl rfl)
theorem dX3_readNest_20 : decode cX3_readNest 20 = .ok (.if_icmp .ne 11, 3) := dk_160 0 11 (dk_at dksX3_readNest_0 20 rfl rfl)
theorem dX3_readNest_23 : decode cX3_readNest 23 = .ok (.aload_n 0, 1) := dk_42 (dk_at dksX3_readNest_0 23 rfl rfl)
theorem dX3_readNest_24 : decode cX3_readNest 24 = .ok (.aload_n 0, 1) := dk_42 (dk_at dksX3_readNest_1 0 rfl rfl)
theorem dX3_readNest_25 : decode cX3_readNest 25 = .ok (.getfield 112, 3) := dk_180 0 112 (dk_at dksX3_readNest_1 1 rfl rfl)
theorem dX3_readNest_28 : decode cX3_readNest 28 = .ok (.invokevirtual 134, 3) := dk_182 0 134 (dk_at dksX3_readNest_1 4 rfl rfl)
theorem dX3_readNest_31 : decode cX3_readNest 31 = .ok (.aload_n 0, 1) := dk_42 (dk_at dksX3_readNest_1 7 rfl rfl)
theorem dX3_readNest_32 : decode cX3_readNest 32 = .ok (.dup, 1) := dk_89 (dk_at dksX3_readNest_1 8 rfl rfl)
theorem dX3_readNest_33 : decode cX3_readNest 33 = .ok (.getfield 112, 3) := dk_180 0 112 (dk_at dksX3_readNest_1 9 rfl rfl)
theorem dX3_readNest_36 : decode cX3_readNest 36 = .ok (.iconst 1, 1) := dk_4 (dk_at dksX3_readNest_1 12 rfl rfl)
theorem dX3_readNest_37 : decode cX3_readNest 37 = .ok (.iadd, 1) := dk_96 (dk_at dksX3_readNest_1 13 rfl rfl)
theorem dX3_readNest_38 : decode cX3_readNest 38 = .ok (.putfield 112, 3) := dk_181 0 112 (dk_at dksX3_readNest_1 14 rfl rfl)
theorem dX3_readNest_41 : decode cX3_readNest 41 = .ok (.aload_n 0, 1) := dk_42 (dk_at dksX3_readNest_1 17 rfl rfl)
theorem dX3_readNest_42 : decode cX3_readNest 42 = .ok (.getfield 25, 3) := dk_180 0 25 (dk_at dksX3_readNest_1 18 rfl rfl)
theorem dX3_readNest_45 : decode cX3_readNest 45 = .ok (.iload_n 1, 1) := dk_27 (dk_at dksX3_readNest_1 21 rfl rfl)
theorem dX3_readNest_46 : decode cX3_readNest 46 = .ok (.iconst 1, 1) := dk_4 (dk_at dksX3_readNest_1 22 rfl rfl)
theorem dX3_readNest_47 : decode cX3_readNest 47 = .ok (.iadd, 1) := dk_96 (dk_at dksX3_readNest_1 23 rfl rfl)
theorem dX3_readNest_48 : decode cX3_readNest 48 = .ok (.aload_n 0, 1) := dk_42 (dk_at dksX3_readNest_2 0 rfl rfl)
theorem dX3_readNest_49 : decode cX3_readNest 49 = .ok (.bipush 49, 2) := dk_16 49 (dk_at dksX3_readNest_2 1 rfl rfl)
theorem dX3_readNest_51 : decode cX3_readNest 51 = .ok (.bipush 9, 2) := dk_16 9 (dk_at dksX3_readNest_2 3 rfl rfl)
theorem dX3_readNest_53 : decode cX3_readNest 53 = .ok (.invokevirtual 138, 3) := dk_182 0 138 (dk_at dksX3_readNest_2 5 rfl rfl)
theorem dX3_readNest_56 : decode cX3_readNest 56 = .ok (.iconst 1, 1) := dk_4 (dk_at dksX3_readNest_2 8 rfl rfl)
theorem dX3_readNest_57 : decode cX3_readNest 57 = .ok (.iadd, 1) := dk_96 (dk_at dksX3_readNest_2 9 rfl rfl)
theorem dX3_readNest_58 : decode cX3_readNest 58 = .ok (.iastore, 1) := dk_79 (dk_at dksX3_readNest_2 10 rfl rfl)
theorem dX3_readNest_59 : decode cX3_readNest 59 = .ok (.aload_n 0, 1) := dk_42 (dk_at dksX3_readNest_2 11 rfl rfl)
theorem dX3_readNest_60 : decode cX3_readNest 60 = .ok (.getfield 25, 3) := dk_180 0 25 (dk_at dksX3_readNest_2 12 rfl rfl)
theorem dX3_readNest_63 : decode cX3_readNest 63 = .ok (.iload_n 1, 1) := dk_27 (dk_at dksX3_readNest_2 15 rfl rfl)
theorem dX3_readNest_64 : decode cX3_readNest 64 = .ok (.iconst 2, 1) := dk_5 (dk_at dksX3_readNest_2 16 rfl rfl)
theorem dX3_readNest_65 : decode cX3_readNest 65 = .ok (.iadd, 1) := dk_96 (dk_at dksX3_readNest_2 17 rfl rfl)
theorem dX3_readNest_66 : decode cX3_readNest 66 = .ok (.aload_n 0, 1) := dk_42 (dk_at dksX3_readNest_2 18 rfl rfl)
theorem dX3_readNest_67 : decode cX3_readNest 67 = .ok (.bipush 48, 2) := dk_16 48 (dk_at dksX3_readNest_2 19 rfl rfl)
theorem dX3_readNest_69 : decode cX3_readNest 69 = .ok (.bipush 10, 2) := dk_16 10 (dk_at dksX3_readNest_2 21 rfl rfl)
theorem dX3_readNest_71 : decode cX3_readNest 71 = .ok (.invokevirtual 138, 3) := dk_182 0 138 (dk_at dksX3_readNest_3 0 rfl rfl)
theorem dX3_readNest_74 : decode cX3_readNest 74 = .ok (.iastore, 1) := dk_79 (dk_at dksX3_readNest_3 3 rfl rfl)
theorem dX3_readNest_75 : decode cX3_readNest 75 = .ok (.aload_n 0, 1) := dk_42 (dk_at dksX3_readNest_3 4 rfl rfl)
theorem dX3_readNest_76 : decode cX3_readNest 76 = .ok (.getfield 25, 3) := dk_180 0 25 (dk_at dksX3_readNest_3 5 rfl rfl)
theorem dX3_readNest_79 : decode cX3_readNest 79 = .ok (.iload_n 1, 1) := dk_27 (dk_at dksX3_readNest_3 8 rfl rfl)
theorem dX3_readNest_80 : decode cX3_readNest 80 = .ok (.iconst 3, 1) := dk_6 (dk_at dksX3_readNest_3 9 rfl rfl)
theorem dX3_readNest_81 : decode cX3_readNest 81 = .ok (.iadd, 1) := dk_96 (dk_at dksX3_readNest_3 10 rfl rfl)
theorem dX3_readNest_82 : decode cX3_readNest 82 = .ok (.aload_n 0, 1) := dk_42 (dk_at dksX3_readNest_3 11 rfl rfl)
theorem dX3_readNest_83 : decode cX3_readNest 83 = .ok (.bipush 48, 2) := dk_16 48 (dk_at dksX3_readNest_3 12 rfl rfl)
theorem dX3_readNest_85 : decode cX3_readNest 85 = .ok (.bipush 6, 2) := dk_16 6 (dk_at dksX3_readNest_3 14 rfl rfl)
theorem dX3_readNest_87 : decode cX3_readNest 87 = .ok (.invokevirtual 138, 3) := dk_182 0 138 (dk_at dksX3_readNest_3 16 rfl rfl)
theorem dX3_readNest_90 : decode cX3_readNest 90 = .ok (.iastore, 1) := dk_79 (dk_at dksX3_readNest_3 19 rfl rfl)
theorem dX3_readNest_91 : decode cX3_readNest 91 = .ok (.return_, 1) := dk_177 (dk_at dksX3_readNest_3 20 rfl rfl)
abbrev cX3_here : ByteArray := prog_9_method_14_code
def yX3_here : MethodName := ⟨RX3, "here", "()I"⟩
def dkwX3_here_1 : List UInt8 := [180, 0, 103, 42, 180, 0, 112, 51, 17, 0, 255, 126, 167, 0, 4, 2, 172]
abbrev dktX3_here_1 : List UInt8 := dkwX3_here_1 ++ []
def dkwX3_here_0 : List UInt8 := [42, 180, 0, 112, 42, 180, 0, 106, 162, 0, 30, 42, 180, 0, 112, 42, 180, 0, 109, 162, 0, 19, 42]
abbrev dktX3_here_0 : List UInt8 := dkwX3_here_0 ++ dktX3_here_1
theorem dksX3_here_0 : cX3_here.data.toList.drop 0 = dktX3_here_0 := by decide +kernel
theorem dksX3_here_1 : cX3_here.data.toList.drop 23 = dktX3_here_1 := dk_seg dksX3_here_0 23 rfl rfl
theorem dX3_here_0 : decode cX3_here 0 = .ok (.aload_n 0, 1) := dk_42 (dk_at dksX3_here_0 0 rfl rfl)
theorem dX3_here_1 : decode cX3_here 1 = .ok (.getfield 112, 3) := dk_180 0 112 (dk_at dksX3_here_0 1 rfl rfl)
theorem dX3_here_4 : decode cX3_here 4 = .ok (.aload_n 0, 1) := dk_42 (dk_at dksX3_here_0 4 rfl rfl)
theorem dX3_here_5 : decode cX3_here 5 = .ok (.getfield 106, 3) := dk_180 0 106 (dk_at dksX3_here_0 5 rfl rfl)
theorem dX3_here_8 : decode cX3_here 8 = .ok (.if_icmp .ge 30, 3) := dk_162 0 30 (dk_at dksX3_here_0 8 rfl rfl)
theorem dX3_here_11 : decode cX3_here 11 = .ok (.aload_n 0, 1) := dk_42 (dk_at dksX3_here_0 11 rfl rfl)
theorem dX3_here_12 : decode cX3_here 12 = .ok (.getfield 112, 3) := dk_180 0 112 (dk_at dksX3_here_0 12 rfl rfl)
theorem dX3_here_15 : decode cX3_here 15 = .ok (.aload_n 0, 1) := dk_42 (dk_at dksX3_here_0 15 rfl rfl)
theorem dX3_here_16 : decode cX3_here 16 = .ok (.getfield 109, 3) := dk_180 0 109 (dk_at dksX3_here_0 16 rfl rfl)
theorem dX3_here_19 : decode cX3_here 19 = .ok (.if_icmp .ge 19, 3) := dk_162 0 19 (dk_at dksX3_here_0 19 rfl rfl)
theorem dX3_here_22 : decode cX3_here 22 = .ok (.aload_n 0, 1) := dk_42 (dk_at dksX3_here_0 22 rfl rfl)
theorem dX3_here_23 : decode cX3_here 23 = .ok (.getfield 103, 3) := dk_180 0 103 (dk_at dksX3_here_1 0 rfl rfl)
theorem dX3_here_26 : decode cX3_here 26 = .ok (.aload_n 0, 1) := dk_42 (dk_at dksX3_here_1 3 rfl rfl)
theorem dX3_here_27 : decode cX3_here 27 = .ok (.getfield 112, 3) := dk_180 0 112 (dk_at dksX3_here_1 4 rfl rfl)
theorem dX3_here_30 : decode cX3_here 30 = .ok (.baload, 1) := dk_51 (dk_at dksX3_here_1 7 rfl rfl)
theorem dX3_here_31 : decode cX3_here 31 = .ok (.sipush 255, 3) := dk_17 0 255 (dk_at dksX3_here_1 8 rfl rfl)
theorem dX3_here_34 : decode cX3_here 34 = .ok (.iand, 1) := dk_126 (dk_at dksX3_here_1 11 rfl rfl)
theorem dX3_here_35 : decode cX3_here 35 = .ok (.goto 4, 3) := dk_167 0 4 (dk_at dksX3_here_1 12 rfl rfl)
theorem dX3_here_38 : decode cX3_here 38 = .ok (.iconst (-1), 1) := dk_2 (dk_at dksX3_here_1 15 rfl rfl)
theorem dX3_here_39 : decode cX3_here 39 = .ok (.ireturn, 1) := dk_172 (dk_at dksX3_here_1 16 rfl rfl)
abbrev cX3_kindBy : ByteArray := prog_9_method_22_code
def yX3_kindBy : MethodName := ⟨RX3, "kindBy", "(I)I"⟩
def dkwX3_kindBy_1 : List UInt8 := [160, 0, 7, 5, 167, 0, 14, 26, 16, 114, 160, 0, 7, 6, 167, 0, 4, 2, 172]
abbrev dktX3_kindBy_1 : List UInt8 := dkwX3_kindBy_1 ++ []
def dkwX3_kindBy_0 : List UInt8 := [26, 16, 119, 160, 0, 7, 3, 167, 0, 34, 26, 16, 112, 160, 0, 7, 4, 167, 0, 24, 26, 16, 100]
abbrev dktX3_kindBy_0 : List UInt8 := dkwX3_kindBy_0 ++ dktX3_kindBy_1
theorem dksX3_kindBy_0 : cX3_kindBy.data.toList.drop 0 = dktX3_kindBy_0 := by decide +kernel
theorem dksX3_kindBy_1 : cX3_kindBy.data.toList.drop 23 = dktX3_kindBy_1 := dk_seg dksX3_kindBy_0 23 rfl rfl
theorem dX3_kindBy_0 : decode cX3_kindBy 0 = .ok (.iload_n 0, 1) := dk_26 (dk_at dksX3_kindBy_0 0 rfl rfl)
theorem dX3_kindBy_1 : decode cX3_kindBy 1 = .ok (.bipush 119, 2) := dk_16 119 (dk_at dksX3_kindBy_0 1 rfl rfl)
theorem dX3_kindBy_3 : decode cX3_kindBy 3 = .ok (.if_icmp .ne 7, 3) := dk_160 0 7 (dk_at dksX3_kindBy_0 3 rfl rfl)
theorem dX3_kindBy_6 : decode cX3_kindBy 6 = .ok (.iconst 0, 1) := dk_3 (dk_at dksX3_kindBy_0 6 rfl rfl)
theorem dX3_kindBy_7 : decode cX3_kindBy 7 = .ok (.goto 34, 3) := dk_167 0 34 (dk_at dksX3_kindBy_0 7 rfl rfl)
theorem dX3_kindBy_10 : decode cX3_kindBy 10 = .ok (.iload_n 0, 1) := dk_26 (dk_at dksX3_kindBy_0 10 rfl rfl)
theorem dX3_kindBy_11 : decode cX3_kindBy 11 = .ok (.bipush 112, 2) := dk_16 112 (dk_at dksX3_kindBy_0 11 rfl rfl)
theorem dX3_kindBy_13 : decode cX3_kindBy 13 = .ok (.if_icmp .ne 7, 3) := dk_160 0 7 (dk_at dksX3_kindBy_0 13 rfl rfl)
theorem dX3_kindBy_16 : decode cX3_kindBy 16 = .ok (.iconst 1, 1) := dk_4 (dk_at dksX3_kindBy_0 16 rfl rfl)
theorem dX3_kindBy_17 : decode cX3_kindBy 17 = .ok (.goto 24, 3) := dk_167 0 24 (dk_at dksX3_kindBy_0 17 rfl rfl)
theorem dX3_kindBy_20 : decode cX3_kindBy 20 = .ok (.iload_n 0, 1) := dk_26 (dk_at dksX3_kindBy_0 20 rfl rfl)
theorem dX3_kindBy_21 : decode cX3_kindBy 21 = .ok (.bipush 100, 2) := dk_16 100 (dk_at dksX3_kindBy_0 21 rfl rfl)
theorem dX3_kindBy_23 : decode cX3_kindBy 23 = .ok (.if_icmp .ne 7, 3) := dk_160 0 7 (dk_at dksX3_kindBy_1 0 rfl rfl)
theorem dX3_kindBy_26 : decode cX3_kindBy 26 = .ok (.iconst 2, 1) := dk_5 (dk_at dksX3_kindBy_1 3 rfl rfl)
theorem dX3_kindBy_27 : decode cX3_kindBy 27 = .ok (.goto 14, 3) := dk_167 0 14 (dk_at dksX3_kindBy_1 4 rfl rfl)
theorem dX3_kindBy_30 : decode cX3_kindBy 30 = .ok (.iload_n 0, 1) := dk_26 (dk_at dksX3_kindBy_1 7 rfl rfl)
theorem dX3_kindBy_31 : decode cX3_kindBy 31 = .ok (.bipush 114, 2) := dk_16 114 (dk_at dksX3_kindBy_1 8 rfl rfl)
theorem dX3_kindBy_33 : decode cX3_kindBy 33 = .ok (.if_icmp .ne 7, 3) := dk_160 0 7 (dk_at dksX3_kindBy_1 10 rfl rfl)
theorem dX3_kindBy_36 : decode cX3_kindBy 36 = .ok (.iconst 3, 1) := dk_6 (dk_at dksX3_kindBy_1 13 rfl rfl)
theorem dX3_kindBy_37 : decode cX3_kindBy 37 = .ok (.goto 4, 3) := dk_167 0 4 (dk_at dksX3_kindBy_1 14 rfl rfl)
theorem dX3_kindBy_40 : decode cX3_kindBy 40 = .ok (.iconst (-1), 1) := dk_2 (dk_at dksX3_kindBy_1 17 rfl rfl)
theorem dX3_kindBy_41 : decode cX3_kindBy 41 = .ok (.ireturn, 1) := dk_172 (dk_at dksX3_kindBy_1 18 rfl rfl)
abbrev cX3_oneOf : ByteArray := prog_9_method_19_code
def yX3_oneOf : MethodName := ⟨RX3, "oneOf", "(CI)I"⟩
def dkwX3_oneOf_2 : List UInt8 := [180, 0, 103, 42, 180, 0, 112, 4, 100, 51, 27, 100, 172]
abbrev dktX3_oneOf_2 : List UInt8 := dkwX3_oneOf_2 ++ []
def dkwX3_oneOf_1 : List UInt8 := [154, 0, 13, 42, 42, 180, 0, 112, 182, 0, 134, 3, 172, 42, 89, 180, 0, 112, 4, 96, 181, 0, 112, 42]
abbrev dktX3_oneOf_1 : List UInt8 := dkwX3_oneOf_1 ++ dktX3_oneOf_2
def dkwX3_oneOf_0 : List UInt8 := [42, 182, 0, 122, 154, 0, 5, 3, 172, 42, 182, 0, 126, 27, 27, 28, 96, 4, 100, 184, 0, 92]
abbrev dktX3_oneOf_0 : List UInt8 := dkwX3_oneOf_0 ++ dktX3_oneOf_1
theorem dksX3_oneOf_0 : cX3_oneOf.data.toList.drop 0 = dktX3_oneOf_0 := by decide +kernel
theorem dksX3_oneOf_1 : cX3_oneOf.data.toList.drop 22 = dktX3_oneOf_1 := dk_seg dksX3_oneOf_0 22 rfl rfl
theorem dksX3_oneOf_2 : cX3_oneOf.data.toList.drop 46 = dktX3_oneOf_2 := dk_seg dksX3_oneOf_1 24 rfl rfl
theorem dX3_oneOf_0 : decode cX3_oneOf 0 = .ok (.aload_n 0, 1) := dk_42 (dk_at dksX3_oneOf_0 0 rfl rfl)
theorem dX3_oneOf_1 : decode cX3_oneOf 1 = .ok (.invokevirtual 122, 3) := dk_182 0 122 (dk_at dksX3_oneOf_0 1 rfl rfl)
theorem dX3_oneOf_4 : decode cX3_oneOf 4 = .ok (.ifCond .ne 5, 3) := dk_154 0 5 (dk_at dksX3_oneOf_0 4 rfl rfl)
theorem dX3_oneOf_7 : decode cX3_oneOf 7 = .ok (.iconst 0, 1) := dk_3 (dk_at dksX3_oneOf_0 7 rfl rfl)
theorem dX3_oneOf_8 : decode cX3_oneOf 8 = .ok (.ireturn, 1) := dk_172 (dk_at dksX3_oneOf_0 8 rfl rfl)
theorem dX3_oneOf_9 : decode cX3_oneOf 9 = .ok (.aload_n 0, 1) := dk_42 (dk_at dksX3_oneOf_0 9 rfl rfl)
theorem dX3_oneOf_10 : decode cX3_oneOf 10 = .ok (.invokevirtual 126, 3) := dk_182 0 126 (dk_at dksX3_oneOf_0 10 rfl rfl)
theorem dX3_oneOf_13 : decode cX3_oneOf 13 = .ok (.iload_n 1, 1) := dk_27 (dk_at dksX3_oneOf_0 13 rfl rfl)
theorem dX3_oneOf_14 : decode cX3_oneOf 14 = .ok (.iload_n 1, 1) := dk_27 (dk_at dksX3_oneOf_0 14 rfl rfl)
theorem dX3_oneOf_15 : decode cX3_oneOf 15 = .ok (.iload_n 2, 1) := dk_28 (dk_at dksX3_oneOf_0 15 rfl rfl)
theorem dX3_oneOf_16 : decode cX3_oneOf 16 = .ok (.iadd, 1) := dk_96 (dk_at dksX3_oneOf_0 16 rfl rfl)
theorem dX3_oneOf_17 : decode cX3_oneOf 17 = .ok (.iconst 1, 1) := dk_4 (dk_at dksX3_oneOf_0 17 rfl rfl)
theorem dX3_oneOf_18 : decode cX3_oneOf 18 = .ok (.isub, 1) := dk_100 (dk_at dksX3_oneOf_0 18 rfl rfl)
theorem dX3_oneOf_19 : decode cX3_oneOf 19 = .ok (.invokestatic 92, 3) := dk_184 0 92 (dk_at dksX3_oneOf_0 19 rfl rfl)
theorem dX3_oneOf_22 : decode cX3_oneOf 22 = .ok (.ifCond .ne 13, 3) := dk_154 0 13 (dk_at dksX3_oneOf_1 0 rfl rfl)
theorem dX3_oneOf_25 : decode cX3_oneOf 25 = .ok (.aload_n 0, 1) := dk_42 (dk_at dksX3_oneOf_1 3 rfl rfl)
theorem dX3_oneOf_26 : decode cX3_oneOf 26 = .ok (.aload_n 0, 1) := dk_42 (dk_at dksX3_oneOf_1 4 rfl rfl)
theorem dX3_oneOf_27 : decode cX3_oneOf 27 = .ok (.getfield 112, 3) := dk_180 0 112 (dk_at dksX3_oneOf_1 5 rfl rfl)
theorem dX3_oneOf_30 : decode cX3_oneOf 30 = .ok (.invokevirtual 134, 3) := dk_182 0 134 (dk_at dksX3_oneOf_1 8 rfl rfl)
theorem dX3_oneOf_33 : decode cX3_oneOf 33 = .ok (.iconst 0, 1) := dk_3 (dk_at dksX3_oneOf_1 11 rfl rfl)
theorem dX3_oneOf_34 : decode cX3_oneOf 34 = .ok (.ireturn, 1) := dk_172 (dk_at dksX3_oneOf_1 12 rfl rfl)
theorem dX3_oneOf_35 : decode cX3_oneOf 35 = .ok (.aload_n 0, 1) := dk_42 (dk_at dksX3_oneOf_1 13 rfl rfl)
theorem dX3_oneOf_36 : decode cX3_oneOf 36 = .ok (.dup, 1) := dk_89 (dk_at dksX3_oneOf_1 14 rfl rfl)
theorem dX3_oneOf_37 : decode cX3_oneOf 37 = .ok (.getfield 112, 3) := dk_180 0 112 (dk_at dksX3_oneOf_1 15 rfl rfl)
theorem dX3_oneOf_40 : decode cX3_oneOf 40 = .ok (.iconst 1, 1) := dk_4 (dk_at dksX3_oneOf_1 18 rfl rfl)
theorem dX3_oneOf_41 : decode cX3_oneOf 41 = .ok (.iadd, 1) := dk_96 (dk_at dksX3_oneOf_1 19 rfl rfl)
theorem dX3_oneOf_42 : decode cX3_oneOf 42 = .ok (.putfield 112, 3) := dk_181 0 112 (dk_at dksX3_oneOf_1 20 rfl rfl)
theorem dX3_oneOf_45 : decode cX3_oneOf 45 = .ok (.aload_n 0, 1) := dk_42 (dk_at dksX3_oneOf_1 23 rfl rfl)
theorem dX3_oneOf_46 : decode cX3_oneOf 46 = .ok (.getfield 103, 3) := dk_180 0 103 (dk_at dksX3_oneOf_2 0 rfl rfl)
theorem dX3_oneOf_49 : decode cX3_oneOf 49 = .ok (.aload_n 0, 1) := dk_42 (dk_at dksX3_oneOf_2 3 rfl rfl)
theorem dX3_oneOf_50 : decode cX3_oneOf 50 = .ok (.getfield 112, 3) := dk_180 0 112 (dk_at dksX3_oneOf_2 4 rfl rfl)
theorem dX3_oneOf_53 : decode cX3_oneOf 53 = .ok (.iconst 1, 1) := dk_4 (dk_at dksX3_oneOf_2 7 rfl rfl)
theorem dX3_oneOf_54 : decode cX3_oneOf 54 = .ok (.isub, 1) := dk_100 (dk_at dksX3_oneOf_2 8 rfl rfl)
theorem dX3_oneOf_55 : decode cX3_oneOf 55 = .ok (.baload, 1) := dk_51 (dk_at dksX3_oneOf_2 9 rfl rfl)
theorem dX3_oneOf_56 : decode cX3_oneOf 56 = .ok (.iload_n 1, 1) := dk_27 (dk_at dksX3_oneOf_2 10 rfl rfl)
theorem dX3_oneOf_57 : decode cX3_oneOf 57 = .ok (.isub, 1) := dk_100 (dk_at dksX3_oneOf_2 11 rfl rfl)
theorem dX3_oneOf_58 : decode cX3_oneOf 58 = .ok (.ireturn, 1) := dk_172 (dk_at dksX3_oneOf_2 12 rfl rfl)
abbrev cX3_passes : ByteArray := prog_9_method_17_code
def yX3_passes : MethodName := ⟨RX3, "passes", "(C)Z"⟩
def dkwX3_passes_1 : List UInt8 := [181, 0, 112, 4, 172]
abbrev dktX3_passes_1 : List UInt8 := dkwX3_passes_1 ++ []
def dkwX3_passes_0 : List UInt8 := [42, 182, 0, 122, 153, 0, 11, 42, 182, 0, 126, 27, 159, 0, 5, 3, 172, 42, 89, 180, 0, 112, 4, 96]
abbrev dktX3_passes_0 : List UInt8 := dkwX3_passes_0 ++ dktX3_passes_1
theorem dksX3_passes_0 : cX3_passes.data.toList.drop 0 = dktX3_passes_0 := by decide +kernel
theorem dksX3_passes_1 : cX3_passes.data.toList.drop 24 = dktX3_passes_1 := dk_seg dksX3_passes_0 24 rfl rfl
theorem dX3_passes_0 : decode cX3_passes 0 = .ok (.aload_n 0, 1) := dk_42 (dk_at dksX3_passes_0 0 rfl rfl)
theorem dX3_passes_1 : decode cX3_passes 1 = .ok (.invokevirtual 122, 3) := dk_182 0 122 (dk_at dksX3_passes_0 1 rfl rfl)
theorem dX3_passes_4 : decode cX3_passes 4 = .ok (.ifCond .eq 11, 3) := dk_153 0 11 (dk_at dksX3_passes_0 4 rfl rfl)
theorem dX3_passes_7 : decode cX3_passes 7 = .ok (.aload_n 0, 1) := dk_42 (dk_at dksX3_passes_0 7 rfl rfl)
theorem dX3_passes_8 : decode cX3_passes 8 = .ok (.invokevirtual 126, 3) := dk_182 0 126 (dk_at dksX3_passes_0 8 rfl rfl)
theorem dX3_passes_11 : decode cX3_passes 11 = .ok (.iload_n 1, 1) := dk_27 (dk_at dksX3_passes_0 11 rfl rfl)
theorem dX3_passes_12 : decode cX3_passes 12 = .ok (.if_icmp .eq 5, 3) := dk_159 0 5 (dk_at dksX3_passes_0 12 rfl rfl)
theorem dX3_passes_15 : decode cX3_passes 15 = .ok (.iconst 0, 1) := dk_3 (dk_at dksX3_passes_0 15 rfl rfl)
theorem dX3_passes_16 : decode cX3_passes 16 = .ok (.ireturn, 1) := dk_172 (dk_at dksX3_passes_0 16 rfl rfl)
theorem dX3_passes_17 : decode cX3_passes 17 = .ok (.aload_n 0, 1) := dk_42 (dk_at dksX3_passes_0 17 rfl rfl)
theorem dX3_passes_18 : decode cX3_passes 18 = .ok (.dup, 1) := dk_89 (dk_at dksX3_passes_0 18 rfl rfl)
theorem dX3_passes_19 : decode cX3_passes 19 = .ok (.getfield 112, 3) := dk_180 0 112 (dk_at dksX3_passes_0 19 rfl rfl)
theorem dX3_passes_22 : decode cX3_passes 22 = .ok (.iconst 1, 1) := dk_4 (dk_at dksX3_passes_0 22 rfl rfl)
theorem dX3_passes_23 : decode cX3_passes 23 = .ok (.iadd, 1) := dk_96 (dk_at dksX3_passes_0 23 rfl rfl)
theorem dX3_passes_24 : decode cX3_passes 24 = .ok (.putfield 112, 3) := dk_181 0 112 (dk_at dksX3_passes_1 0 rfl rfl)
theorem dX3_passes_27 : decode cX3_passes 27 = .ok (.iconst 1, 1) := dk_4 (dk_at dksX3_passes_1 3 rfl rfl)
theorem dX3_passes_28 : decode cX3_passes 28 = .ok (.ireturn, 1) := dk_172 (dk_at dksX3_passes_1 4 rfl rfl)
abbrev cX3_wasRight : ByteArray := prog_9_method_21_code
def yX3_wasRight : MethodName := ⟨RX3, "wasRight", "()Z"⟩
def dkwX3_wasRight_0 : List UInt8 := [42, 180, 0, 112, 42, 180, 0, 106, 162, 0, 11, 42, 42, 180, 0, 112, 182, 0, 134, 42, 182, 0, 122, 172]
abbrev dktX3_wasRight_0 : List UInt8 := dkwX3_wasRight_0 ++ []
theorem dksX3_wasRight_0 : cX3_wasRight.data.toList.drop 0 = dktX3_wasRight_0 := by decide +kernel
theorem dX3_wasRight_0 : decode cX3_wasRight 0 = .ok (.aload_n 0, 1) := dk_42 (dk_at dksX3_wasRight_0 0 rfl rfl)
theorem dX3_wasRight_1 : decode cX3_wasRight 1 = .ok (.getfield 112, 3) := dk_180 0 112 (dk_at dksX3_wasRight_0 1 rfl rfl)
theorem dX3_wasRight_4 : decode cX3_wasRight 4 = .ok (.aload_n 0, 1) := dk_42 (dk_at dksX3_wasRight_0 4 rfl rfl)
theorem dX3_wasRight_5 : decode cX3_wasRight 5 = .ok (.getfield 106, 3) := dk_180 0 106 (dk_at dksX3_wasRight_0 5 rfl rfl)
theorem dX3_wasRight_8 : decode cX3_wasRight 8 = .ok (.if_icmp .ge 11, 3) := dk_162 0 11 (dk_at dksX3_wasRight_0 8 rfl rfl)
theorem dX3_wasRight_11 : decode cX3_wasRight 11 = .ok (.aload_n 0, 1) := dk_42 (dk_at dksX3_wasRight_0 11 rfl rfl)
theorem dX3_wasRight_12 : decode cX3_wasRight 12 = .ok (.aload_n 0, 1) := dk_42 (dk_at dksX3_wasRight_0 12 rfl rfl)
theorem dX3_wasRight_13 : decode cX3_wasRight 13 = .ok (.getfield 112, 3) := dk_180 0 112 (dk_at dksX3_wasRight_0 13 rfl rfl)
theorem dX3_wasRight_16 : decode cX3_wasRight 16 = .ok (.invokevirtual 134, 3) := dk_182 0 134 (dk_at dksX3_wasRight_0 16 rfl rfl)
theorem dX3_wasRight_19 : decode cX3_wasRight 19 = .ok (.aload_n 0, 1) := dk_42 (dk_at dksX3_wasRight_0 19 rfl rfl)
theorem dX3_wasRight_20 : decode cX3_wasRight 20 = .ok (.invokevirtual 122, 3) := dk_182 0 122 (dk_at dksX3_wasRight_0 20 rfl rfl)
theorem dX3_wasRight_23 : decode cX3_wasRight 23 = .ok (.ireturn, 1) := dk_172 (dk_at dksX3_wasRight_0 23 rfl rfl)
abbrev cX3_rule : ByteArray := prog_9_method_31_code
def yX3_rule : MethodName := ⟨RX3, "rule", "()I"⟩
def dkwX3_rule_2 : List UInt8 := [167, 255, 236, 42, 27, 181, 0, 190, 3, 172]
abbrev dktX3_rule_2 : List UInt8 := dkwX3_rule_2 ++ []
def dkwX3_rule_1 : List UInt8 := [3, 61, 28, 27, 162, 0, 21, 42, 180, 0, 28, 28, 42, 180, 0, 17, 28, 51, 84, 132, 2, 1]
abbrev dktX3_rule_1 : List UInt8 := dkwX3_rule_1 ++ dktX3_rule_2
def dkwX3_rule_0 : List UInt8 := [42, 3, 181, 0, 83, 42, 180, 0, 100, 60, 42, 182, 0, 187, 154, 0, 10, 2, 42, 180, 0, 115, 100, 172]
abbrev dktX3_rule_0 : List UInt8 := dkwX3_rule_0 ++ dktX3_rule_1
theorem dksX3_rule_0 : cX3_rule.data.toList.drop 0 = dktX3_rule_0 := by decide +kernel
theorem dksX3_rule_1 : cX3_rule.data.toList.drop 24 = dktX3_rule_1 := dk_seg dksX3_rule_0 24 rfl rfl
theorem dksX3_rule_2 : cX3_rule.data.toList.drop 46 = dktX3_rule_2 := dk_seg dksX3_rule_1 22 rfl rfl
theorem dX3_rule_0 : decode cX3_rule 0 = .ok (.aload_n 0, 1) := dk_42 (dk_at dksX3_rule_0 0 rfl rfl)
theorem dX3_rule_1 : decode cX3_rule 1 = .ok (.iconst 0, 1) := dk_3 (dk_at dksX3_rule_0 1 rfl rfl)
theorem dX3_rule_2 : decode cX3_rule 2 = .ok (.putfield 83, 3) := dk_181 0 83 (dk_at dksX3_rule_0 2 rfl rfl)
theorem dX3_rule_5 : decode cX3_rule 5 = .ok (.aload_n 0, 1) := dk_42 (dk_at dksX3_rule_0 5 rfl rfl)
theorem dX3_rule_6 : decode cX3_rule 6 = .ok (.getfield 100, 3) := dk_180 0 100 (dk_at dksX3_rule_0 6 rfl rfl)
theorem dX3_rule_9 : decode cX3_rule 9 = .ok (.istore_n 1, 1) := dk_60 (dk_at dksX3_rule_0 9 rfl rfl)
theorem dX3_rule_10 : decode cX3_rule 10 = .ok (.aload_n 0, 1) := dk_42 (dk_at dksX3_rule_0 10 rfl rfl)
theorem dX3_rule_11 : decode cX3_rule 11 = .ok (.invokevirtual 187, 3) := dk_182 0 187 (dk_at dksX3_rule_0 11 rfl rfl)
theorem dX3_rule_14 : decode cX3_rule 14 = .ok (.ifCond .ne 10, 3) := dk_154 0 10 (dk_at dksX3_rule_0 14 rfl rfl)
theorem dX3_rule_17 : decode cX3_rule 17 = .ok (.iconst (-1), 1) := dk_2 (dk_at dksX3_rule_0 17 rfl rfl)
theorem dX3_rule_18 : decode cX3_rule 18 = .ok (.aload_n 0, 1) := dk_42 (dk_at dksX3_rule_0 18 rfl rfl)
theorem dX3_rule_19 : decode cX3_rule 19 = .ok (.getfield 115, 3) := dk_180 0 115 (dk_at dksX3_rule_0 19 rfl rfl)
theorem dX3_rule_22 : decode cX3_rule 22 = .ok (.isub, 1) := dk_100 (dk_at dksX3_rule_0 22 rfl rfl)
theorem dX3_rule_23 : decode cX3_rule 23 = .ok (.ireturn, 1) := dk_172 (dk_at dksX3_rule_0 23 rfl rfl)
theorem dX3_rule_24 : decode cX3_rule 24 = .ok (.iconst 0, 1) := dk_3 (dk_at dksX3_rule_1 0 rfl rfl)
theorem dX3_rule_25 : decode cX3_rule 25 = .ok (.istore_n 2, 1) := dk_61 (dk_at dksX3_rule_1 1 rfl rfl)
theorem dX3_rule_26 : decode cX3_rule 26 = .ok (.iload_n 2, 1) := dk_28 (dk_at dksX3_rule_1 2 rfl rfl)
theorem dX3_rule_27 : decode cX3_rule 27 = .ok (.iload_n 1, 1) := dk_27 (dk_at dksX3_rule_1 3 rfl rfl)
theorem dX3_rule_28 : decode cX3_rule 28 = .ok (.if_icmp .ge 21, 3) := dk_162 0 21 (dk_at dksX3_rule_1 4 rfl rfl)
theorem dX3_rule_31 : decode cX3_rule 31 = .ok (.aload_n 0, 1) := dk_42 (dk_at dksX3_rule_1 7 rfl rfl)
theorem dX3_rule_32 : decode cX3_rule 32 = .ok (.getfield 28, 3) := dk_180 0 28 (dk_at dksX3_rule_1 8 rfl rfl)
theorem dX3_rule_35 : decode cX3_rule 35 = .ok (.iload_n 2, 1) := dk_28 (dk_at dksX3_rule_1 11 rfl rfl)
theorem dX3_rule_36 : decode cX3_rule 36 = .ok (.aload_n 0, 1) := dk_42 (dk_at dksX3_rule_1 12 rfl rfl)
theorem dX3_rule_37 : decode cX3_rule 37 = .ok (.getfield 17, 3) := dk_180 0 17 (dk_at dksX3_rule_1 13 rfl rfl)
theorem dX3_rule_40 : decode cX3_rule 40 = .ok (.iload_n 2, 1) := dk_28 (dk_at dksX3_rule_1 16 rfl rfl)
theorem dX3_rule_41 : decode cX3_rule 41 = .ok (.baload, 1) := dk_51 (dk_at dksX3_rule_1 17 rfl rfl)
theorem dX3_rule_42 : decode cX3_rule 42 = .ok (.bastore, 1) := dk_84 (dk_at dksX3_rule_1 18 rfl rfl)
theorem dX3_rule_43 : decode cX3_rule 43 = .ok (.iinc 2 1, 3) := dk_132 2 1 (dk_at dksX3_rule_1 19 rfl rfl)
theorem dX3_rule_46 : decode cX3_rule 46 = .ok (.goto (-20), 3) := dk_167 255 236 (dk_at dksX3_rule_2 0 rfl rfl)
theorem dX3_rule_49 : decode cX3_rule 49 = .ok (.aload_n 0, 1) := dk_42 (dk_at dksX3_rule_2 3 rfl rfl)
theorem dX3_rule_50 : decode cX3_rule 50 = .ok (.iload_n 1, 1) := dk_27 (dk_at dksX3_rule_2 4 rfl rfl)
theorem dX3_rule_51 : decode cX3_rule 51 = .ok (.putfield 190, 3) := dk_181 0 190 (dk_at dksX3_rule_2 5 rfl rfl)
theorem dX3_rule_54 : decode cX3_rule 54 = .ok (.iconst 0, 1) := dk_3 (dk_at dksX3_rule_2 8 rfl rfl)
theorem dX3_rule_55 : decode cX3_rule 55 = .ok (.ireturn, 1) := dk_172 (dk_at dksX3_rule_2 9 rfl rfl)
abbrev cX3_readRule : ByteArray := prog_9_method_30_code
def yX3_readRule : MethodName := ⟨RX3, "readRule", "()Z"⟩
def dkwX3_readRule_1 : List UInt8 := [42, 182, 0, 152, 172]
abbrev dktX3_readRule_1 : List UInt8 := dkwX3_readRule_1 ++ []
def dkwX3_readRule_0 : List UInt8 := [42, 16, 40, 182, 0, 146, 42, 3, 181, 0, 183, 42, 180, 0, 106, 158, 0, 9, 42, 3, 182, 0, 170, 87]
abbrev dktX3_readRule_0 : List UInt8 := dkwX3_readRule_0 ++ dktX3_readRule_1
theorem dksX3_readRule_0 : cX3_readRule.data.toList.drop 0 = dktX3_readRule_0 := by decide +kernel
theorem dksX3_readRule_1 : cX3_readRule.data.toList.drop 24 = dktX3_readRule_1 := dk_seg dksX3_readRule_0 24 rfl rfl
theorem dX3_readRule_0 : decode cX3_readRule 0 = .ok (.aload_n 0, 1) := dk_42 (dk_at dksX3_readRule_0 0 rfl rfl)
theorem dX3_readRule_1 : decode cX3_readRule 1 = .ok (.bipush 40, 2) := dk_16 40 (dk_at dksX3_readRule_0 1 rfl rfl)
theorem dX3_readRule_3 : decode cX3_readRule 3 = .ok (.invokevirtual 146, 3) := dk_182 0 146 (dk_at dksX3_readRule_0 3 rfl rfl)
theorem dX3_readRule_6 : decode cX3_readRule 6 = .ok (.aload_n 0, 1) := dk_42 (dk_at dksX3_readRule_0 6 rfl rfl)
theorem dX3_readRule_7 : decode cX3_readRule 7 = .ok (.iconst 0, 1) := dk_3 (dk_at dksX3_readRule_0 7 rfl rfl)
theorem dX3_readRule_8 : decode cX3_readRule 8 = .ok (.putfield 183, 3) := dk_181 0 183 (dk_at dksX3_readRule_0 8 rfl rfl)
theorem dX3_readRule_11 : decode cX3_readRule 11 = .ok (.aload_n 0, 1) := dk_42 (dk_at dksX3_readRule_0 11 rfl rfl)
theorem dX3_readRule_12 : decode cX3_readRule 12 = .ok (.getfield 106, 3) := dk_180 0 106 (dk_at dksX3_readRule_0 12 rfl rfl)
theorem dX3_readRule_15 : decode cX3_readRule 15 = .ok (.ifCond .le 9, 3) := dk_158 0 9 (dk_at dksX3_readRule_0 15 rfl rfl)
theorem dX3_readRule_18 : decode cX3_readRule 18 = .ok (.aload_n 0, 1) := dk_42 (dk_at dksX3_readRule_0 18 rfl rfl)
theorem dX3_readRule_19 : decode cX3_readRule 19 = .ok (.iconst 0, 1) := dk_3 (dk_at dksX3_readRule_0 19 rfl rfl)
theorem dX3_readRule_20 : decode cX3_readRule 20 = .ok (.invokevirtual 170, 3) := dk_182 0 170 (dk_at dksX3_readRule_0 20 rfl rfl)
theorem dX3_readRule_23 : decode cX3_readRule 23 = .ok (.pop, 1) := dk_87 (dk_at dksX3_readRule_0 23 rfl rfl)
theorem dX3_readRule_24 : decode cX3_readRule 24 = .ok (.aload_n 0, 1) := dk_42 (dk_at dksX3_readRule_1 0 rfl rfl)
theorem dX3_readRule_25 : decode cX3_readRule 25 = .ok (.invokevirtual 152, 3) := dk_182 0 152 (dk_at dksX3_readRule_1 1 rfl rfl)
theorem dX3_readRule_28 : decode cX3_readRule 28 = .ok (.ireturn, 1) := dk_172 (dk_at dksX3_readRule_1 4 rfl rfl)
abbrev cX3_held : ByteArray := prog_9_method_25_code
def yX3_held : MethodName := ⟨RX3, "held", "(I)I"⟩
def dkwX3_held_3 : List UInt8 := [4, 167, 0, 4, 3, 172, 28, 172]
abbrev dktX3_held_3 : List UInt8 := dkwX3_held_3 ++ []
def dkwX3_held_2 : List UInt8 := [4, 167, 0, 4, 3, 172, 42, 16, 61, 182, 0, 130, 153, 0, 18, 28, 42, 27, 182, 0, 161, 160, 0, 7]
abbrev dktX3_held_2 : List UInt8 := dkwX3_held_2 ++ dktX3_held_3
def dkwX3_held_1 : List UInt8 := [4, 167, 0, 4, 3, 172, 42, 16, 62, 182, 0, 130, 153, 0, 18, 28, 42, 27, 182, 0, 161, 164, 0, 7]
abbrev dktX3_held_1 : List UInt8 := dkwX3_held_1 ++ dktX3_held_2
def dkwX3_held_0 : List UInt8 := [42, 27, 182, 0, 161, 61, 42, 16, 60, 182, 0, 130, 153, 0, 18, 28, 42, 27, 182, 0, 161, 162, 0, 7]
abbrev dktX3_held_0 : List UInt8 := dkwX3_held_0 ++ dktX3_held_1
theorem dksX3_held_0 : cX3_held.data.toList.drop 0 = dktX3_held_0 := by decide +kernel
theorem dksX3_held_1 : cX3_held.data.toList.drop 24 = dktX3_held_1 := dk_seg dksX3_held_0 24 rfl rfl
theorem dksX3_held_2 : cX3_held.data.toList.drop 48 = dktX3_held_2 := dk_seg dksX3_held_1 24 rfl rfl
theorem dksX3_held_3 : cX3_held.data.toList.drop 72 = dktX3_held_3 := dk_seg dksX3_held_2 24 rfl rfl
theorem dX3_held_0 : decode cX3_held 0 = .ok (.aload_n 0, 1) := dk_42 (dk_at dksX3_held_0 0 rfl rfl)
theorem dX3_held_1 : decode cX3_held 1 = .ok (.iload_n 1, 1) := dk_27 (dk_at dksX3_held_0 1 rfl rfl)
theorem dX3_held_2 : decode cX3_held 2 = .ok (.invokevirtual 161, 3) := dk_182 0 161 (dk_at dksX3_held_0 2 rfl rfl)
theorem dX3_held_5 : decode cX3_held 5 = .ok (.istore_n 2, 1) := dk_61 (dk_at dksX3_held_0 5 rfl rfl)
theorem dX3_held_6 : decode cX3_held 6 = .ok (.aload_n 0, 1) := dk_42 (dk_at dksX3_held_0 6 rfl rfl)
theorem dX3_held_7 : decode cX3_held 7 = .ok (.bipush 60, 2) := dk_16 60 (dk_at dksX3_held_0 7 rfl rfl)
theorem dX3_held_9 : decode cX3_held 9 = .ok (.invokevirtual 130, 3) := dk_182 0 130 (dk_at dksX3_held_0 9 rfl rfl)
theorem dX3_held_12 : decode cX3_held 12 = .ok (.ifCond .eq 18, 3) := dk_153 0 18 (dk_at dksX3_held_0 12 rfl rfl)
theorem dX3_held_15 : decode cX3_held 15 = .ok (.iload_n 2, 1) := dk_28 (dk_at dksX3_held_0 15 rfl rfl)
theorem dX3_held_16 : decode cX3_held 16 = .ok (.aload_n 0, 1) := dk_42 (dk_at dksX3_held_0 16 rfl rfl)
theorem dX3_held_17 : decode cX3_held 17 = .ok (.iload_n 1, 1) := dk_27 (dk_at dksX3_held_0 17 rfl rfl)
theorem dX3_held_18 : decode cX3_held 18 = .ok (.invokevirtual 161, 3) := dk_182 0 161 (dk_at dksX3_held_0 18 rfl rfl)
theorem dX3_held_21 : decode cX3_held 21 = .ok (.if_icmp .ge 7, 3) := dk_162 0 7 (dk_at dksX3_held_0 21 rfl rfl)
theorem dX3_held_24 : decode cX3_held 24 = .ok (.iconst 1, 1) := dk_4 (dk_at dksX3_held_1 0 rfl rfl)
theorem dX3_held_25 : decode cX3_held 25 = .ok (.goto 4, 3) := dk_167 0 4 (dk_at dksX3_held_1 1 rfl rfl)
theorem dX3_held_28 : decode cX3_held 28 = .ok (.iconst 0, 1) := dk_3 (dk_at dksX3_held_1 4 rfl rfl)
theorem dX3_held_29 : decode cX3_held 29 = .ok (.ireturn, 1) := dk_172 (dk_at dksX3_held_1 5 rfl rfl)
theorem dX3_held_30 : decode cX3_held 30 = .ok (.aload_n 0, 1) := dk_42 (dk_at dksX3_held_1 6 rfl rfl)
theorem dX3_held_31 : decode cX3_held 31 = .ok (.bipush 62, 2) := dk_16 62 (dk_at dksX3_held_1 7 rfl rfl)
theorem dX3_held_33 : decode cX3_held 33 = .ok (.invokevirtual 130, 3) := dk_182 0 130 (dk_at dksX3_held_1 9 rfl rfl)
theorem dX3_held_36 : decode cX3_held 36 = .ok (.ifCond .eq 18, 3) := dk_153 0 18 (dk_at dksX3_held_1 12 rfl rfl)
theorem dX3_held_39 : decode cX3_held 39 = .ok (.iload_n 2, 1) := dk_28 (dk_at dksX3_held_1 15 rfl rfl)
theorem dX3_held_40 : decode cX3_held 40 = .ok (.aload_n 0, 1) := dk_42 (dk_at dksX3_held_1 16 rfl rfl)
theorem dX3_held_41 : decode cX3_held 41 = .ok (.iload_n 1, 1) := dk_27 (dk_at dksX3_held_1 17 rfl rfl)
theorem dX3_held_42 : decode cX3_held 42 = .ok (.invokevirtual 161, 3) := dk_182 0 161 (dk_at dksX3_held_1 18 rfl rfl)
theorem dX3_held_45 : decode cX3_held 45 = .ok (.if_icmp .le 7, 3) := dk_164 0 7 (dk_at dksX3_held_1 21 rfl rfl)
theorem dX3_held_48 : decode cX3_held 48 = .ok (.iconst 1, 1) := dk_4 (dk_at dksX3_held_2 0 rfl rfl)
theorem dX3_held_49 : decode cX3_held 49 = .ok (.goto 4, 3) := dk_167 0 4 (dk_at dksX3_held_2 1 rfl rfl)
theorem dX3_held_52 : decode cX3_held 52 = .ok (.iconst 0, 1) := dk_3 (dk_at dksX3_held_2 4 rfl rfl)
theorem dX3_held_53 : decode cX3_held 53 = .ok (.ireturn, 1) := dk_172 (dk_at dksX3_held_2 5 rfl rfl)
theorem dX3_held_54 : decode cX3_held 54 = .ok (.aload_n 0, 1) := dk_42 (dk_at dksX3_held_2 6 rfl rfl)
theorem dX3_held_55 : decode cX3_held 55 = .ok (.bipush 61, 2) := dk_16 61 (dk_at dksX3_held_2 7 rfl rfl)
theorem dX3_held_57 : decode cX3_held 57 = .ok (.invokevirtual 130, 3) := dk_182 0 130 (dk_at dksX3_held_2 9 rfl rfl)
theorem dX3_held_60 : decode cX3_held 60 = .ok (.ifCond .eq 18, 3) := dk_153 0 18 (dk_at dksX3_held_2 12 rfl rfl)
theorem dX3_held_63 : decode cX3_held 63 = .ok (.iload_n 2, 1) := dk_28 (dk_at dksX3_held_2 15 rfl rfl)
theorem dX3_held_64 : decode cX3_held 64 = .ok (.aload_n 0, 1) := dk_42 (dk_at dksX3_held_2 16 rfl rfl)
theorem dX3_held_65 : decode cX3_held 65 = .ok (.iload_n 1, 1) := dk_27 (dk_at dksX3_held_2 17 rfl rfl)
theorem dX3_held_66 : decode cX3_held 66 = .ok (.invokevirtual 161, 3) := dk_182 0 161 (dk_at dksX3_held_2 18 rfl rfl)
theorem dX3_held_69 : decode cX3_held 69 = .ok (.if_icmp .ne 7, 3) := dk_160 0 7 (dk_at dksX3_held_2 21 rfl rfl)
theorem dX3_held_72 : decode cX3_held 72 = .ok (.iconst 1, 1) := dk_4 (dk_at dksX3_held_3 0 rfl rfl)
theorem dX3_held_73 : decode cX3_held 73 = .ok (.goto 4, 3) := dk_167 0 4 (dk_at dksX3_held_3 1 rfl rfl)
theorem dX3_held_76 : decode cX3_held 76 = .ok (.iconst 0, 1) := dk_3 (dk_at dksX3_held_3 4 rfl rfl)
theorem dX3_held_77 : decode cX3_held 77 = .ok (.ireturn, 1) := dk_172 (dk_at dksX3_held_3 5 rfl rfl)
theorem dX3_held_78 : decode cX3_held 78 = .ok (.iload_n 2, 1) := dk_28 (dk_at dksX3_held_3 6 rfl rfl)
theorem dX3_held_79 : decode cX3_held 79 = .ok (.ireturn, 1) := dk_172 (dk_at dksX3_held_3 7 rfl rfl)
abbrev cX3_sum : ByteArray := prog_9_method_26_code
def yX3_sum : MethodName := ⟨RX3, "sum", "(I)I"⟩
def dkwX3_sum_3 : List UInt8 := [167, 0, 7, 28, 21, 4, 100, 61, 167, 255, 183, 28, 172]
abbrev dktX3_sum_3 : List UInt8 := dkwX3_sum_3 ++ []
def dkwX3_sum_2 : List UInt8 := [89, 180, 0, 112, 4, 96, 181, 0, 112, 42, 27, 182, 0, 164, 54, 4, 29, 153, 0, 10, 28, 21, 4, 96]
abbrev dktX3_sum_2 : List UInt8 := dkwX3_sum_2 ++ dktX3_sum_3
def dkwX3_sum_1 : List UInt8 := [182, 0, 126, 16, 45, 160, 0, 54, 42, 182, 0, 126, 16, 43, 160, 0, 7, 4, 167, 0, 4, 3, 62, 42]
abbrev dktX3_sum_1 : List UInt8 := dkwX3_sum_1 ++ dktX3_sum_2
def dkwX3_sum_0 : List UInt8 := [42, 27, 182, 0, 164, 61, 42, 182, 0, 122, 153, 0, 72, 42, 182, 0, 126, 16, 43, 159, 0, 12, 42]
abbrev dktX3_sum_0 : List UInt8 := dkwX3_sum_0 ++ dktX3_sum_1
theorem dksX3_sum_0 : cX3_sum.data.toList.drop 0 = dktX3_sum_0 := by decide +kernel
theorem dksX3_sum_1 : cX3_sum.data.toList.drop 23 = dktX3_sum_1 := dk_seg dksX3_sum_0 23 rfl rfl
theorem dksX3_sum_2 : cX3_sum.data.toList.drop 47 = dktX3_sum_2 := dk_seg dksX3_sum_1 24 rfl rfl
theorem dksX3_sum_3 : cX3_sum.data.toList.drop 71 = dktX3_sum_3 := dk_seg dksX3_sum_2 24 rfl rfl
theorem dX3_sum_0 : decode cX3_sum 0 = .ok (.aload_n 0, 1) := dk_42 (dk_at dksX3_sum_0 0 rfl rfl)
theorem dX3_sum_1 : decode cX3_sum 1 = .ok (.iload_n 1, 1) := dk_27 (dk_at dksX3_sum_0 1 rfl rfl)
theorem dX3_sum_2 : decode cX3_sum 2 = .ok (.invokevirtual 164, 3) := dk_182 0 164 (dk_at dksX3_sum_0 2 rfl rfl)
theorem dX3_sum_5 : decode cX3_sum 5 = .ok (.istore_n 2, 1) := dk_61 (dk_at dksX3_sum_0 5 rfl rfl)
theorem dX3_sum_6 : decode cX3_sum 6 = .ok (.aload_n 0, 1) := dk_42 (dk_at dksX3_sum_0 6 rfl rfl)
theorem dX3_sum_7 : decode cX3_sum 7 = .ok (.invokevirtual 122, 3) := dk_182 0 122 (dk_at dksX3_sum_0 7 rfl rfl)
theorem dX3_sum_10 : decode cX3_sum 10 = .ok (.ifCond .eq 72, 3) := dk_153 0 72 (dk_at dksX3_sum_0 10 rfl rfl)
theorem dX3_sum_13 : decode cX3_sum 13 = .ok (.aload_n 0, 1) := dk_42 (dk_at dksX3_sum_0 13 rfl rfl)
theorem dX3_sum_14 : decode cX3_sum 14 = .ok (.invokevirtual 126, 3) := dk_182 0 126 (dk_at dksX3_sum_0 14 rfl rfl)
theorem dX3_sum_17 : decode cX3_sum 17 = .ok (.bipush 43, 2) := dk_16 43 (dk_at dksX3_sum_0 17 rfl rfl)
theorem dX3_sum_19 : decode cX3_sum 19 = .ok (.if_icmp .eq 12, 3) := dk_159 0 12 (dk_at dksX3_sum_0 19 rfl rfl)
theorem dX3_sum_22 : decode cX3_sum 22 = .ok (.aload_n 0, 1) := dk_42 (dk_at dksX3_sum_0 22 rfl rfl)
theorem dX3_sum_23 : decode cX3_sum 23 = .ok (.invokevirtual 126, 3) := dk_182 0 126 (dk_at dksX3_sum_1 0 rfl rfl)
theorem dX3_sum_26 : decode cX3_sum 26 = .ok (.bipush 45, 2) := dk_16 45 (dk_at dksX3_sum_1 3 rfl rfl)
theorem dX3_sum_28 : decode cX3_sum 28 = .ok (.if_icmp .ne 54, 3) := dk_160 0 54 (dk_at dksX3_sum_1 5 rfl rfl)
theorem dX3_sum_31 : decode cX3_sum 31 = .ok (.aload_n 0, 1) := dk_42 (dk_at dksX3_sum_1 8 rfl rfl)
theorem dX3_sum_32 : decode cX3_sum 32 = .ok (.invokevirtual 126, 3) := dk_182 0 126 (dk_at dksX3_sum_1 9 rfl rfl)
theorem dX3_sum_35 : decode cX3_sum 35 = .ok (.bipush 43, 2) := dk_16 43 (dk_at dksX3_sum_1 12 rfl rfl)
theorem dX3_sum_37 : decode cX3_sum 37 = .ok (.if_icmp .ne 7, 3) := dk_160 0 7 (dk_at dksX3_sum_1 14 rfl rfl)
theorem dX3_sum_40 : decode cX3_sum 40 = .ok (.iconst 1, 1) := dk_4 (dk_at dksX3_sum_1 17 rfl rfl)
theorem dX3_sum_41 : decode cX3_sum 41 = .ok (.goto 4, 3) := dk_167 0 4 (dk_at dksX3_sum_1 18 rfl rfl)
theorem dX3_sum_44 : decode cX3_sum 44 = .ok (.iconst 0, 1) := dk_3 (dk_at dksX3_sum_1 21 rfl rfl)
theorem dX3_sum_45 : decode cX3_sum 45 = .ok (.istore_n 3, 1) := dk_62 (dk_at dksX3_sum_1 22 rfl rfl)
theorem dX3_sum_46 : decode cX3_sum 46 = .ok (.aload_n 0, 1) := dk_42 (dk_at dksX3_sum_1 23 rfl rfl)
theorem dX3_sum_47 : decode cX3_sum 47 = .ok (.dup, 1) := dk_89 (dk_at dksX3_sum_2 0 rfl rfl)
theorem dX3_sum_48 : decode cX3_sum 48 = .ok (.getfield 112, 3) := dk_180 0 112 (dk_at dksX3_sum_2 1 rfl rfl)
theorem dX3_sum_51 : decode cX3_sum 51 = .ok (.iconst 1, 1) := dk_4 (dk_at dksX3_sum_2 4 rfl rfl)
theorem dX3_sum_52 : decode cX3_sum 52 = .ok (.iadd, 1) := dk_96 (dk_at dksX3_sum_2 5 rfl rfl)
theorem dX3_sum_53 : decode cX3_sum 53 = .ok (.putfield 112, 3) := dk_181 0 112 (dk_at dksX3_sum_2 6 rfl rfl)
theorem dX3_sum_56 : decode cX3_sum 56 = .ok (.aload_n 0, 1) := dk_42 (dk_at dksX3_sum_2 9 rfl rfl)
theorem dX3_sum_57 : decode cX3_sum 57 = .ok (.iload_n 1, 1) := dk_27 (dk_at dksX3_sum_2 10 rfl rfl)
theorem dX3_sum_58 : decode cX3_sum 58 = .ok (.invokevirtual 164, 3) := dk_182 0 164 (dk_at dksX3_sum_2 11 rfl rfl)
theorem dX3_sum_61 : decode cX3_sum 61 = .ok (.istore 4, 2) := dk_54 4 (dk_at dksX3_sum_2 14 rfl rfl)
theorem dX3_sum_63 : decode cX3_sum 63 = .ok (.iload_n 3, 1) := dk_29 (dk_at dksX3_sum_2 16 rfl rfl)
theorem dX3_sum_64 : decode cX3_sum 64 = .ok (.ifCond .eq 10, 3) := dk_153 0 10 (dk_at dksX3_sum_2 17 rfl rfl)
theorem dX3_sum_67 : decode cX3_sum 67 = .ok (.iload_n 2, 1) := dk_28 (dk_at dksX3_sum_2 20 rfl rfl)
theorem dX3_sum_68 : decode cX3_sum 68 = .ok (.iload 4, 2) := dk_21 4 (dk_at dksX3_sum_2 21 rfl rfl)
theorem dX3_sum_70 : decode cX3_sum 70 = .ok (.iadd, 1) := dk_96 (dk_at dksX3_sum_2 23 rfl rfl)
theorem dX3_sum_71 : decode cX3_sum 71 = .ok (.goto 7, 3) := dk_167 0 7 (dk_at dksX3_sum_3 0 rfl rfl)
theorem dX3_sum_74 : decode cX3_sum 74 = .ok (.iload_n 2, 1) := dk_28 (dk_at dksX3_sum_3 3 rfl rfl)
theorem dX3_sum_75 : decode cX3_sum 75 = .ok (.iload 4, 2) := dk_21 4 (dk_at dksX3_sum_3 4 rfl rfl)
theorem dX3_sum_77 : decode cX3_sum 77 = .ok (.isub, 1) := dk_100 (dk_at dksX3_sum_3 6 rfl rfl)
theorem dX3_sum_78 : decode cX3_sum 78 = .ok (.istore_n 2, 1) := dk_61 (dk_at dksX3_sum_3 7 rfl rfl)
theorem dX3_sum_79 : decode cX3_sum 79 = .ok (.goto (-73), 3) := dk_167 255 183 (dk_at dksX3_sum_3 8 rfl rfl)
theorem dX3_sum_82 : decode cX3_sum 82 = .ok (.iload_n 2, 1) := dk_28 (dk_at dksX3_sum_3 11 rfl rfl)
theorem dX3_sum_83 : decode cX3_sum 83 = .ok (.ireturn, 1) := dk_172 (dk_at dksX3_sum_3 12 rfl rfl)
abbrev cX3_product : ByteArray := prog_9_method_27_code
def yX3_product : MethodName := ⟨RX3, "product", "(I)I"⟩
def dkwX3_product_3 : List UInt8 := [167, 0, 16, 21, 4, 154, 0, 7, 3, 167, 0, 7, 28, 21, 4, 108, 61, 167, 255, 174, 28, 172]
abbrev dktX3_product_3 : List UInt8 := dkwX3_product_3 ++ []
def dkwX3_product_2 : List UInt8 := [89, 180, 0, 112, 4, 96, 181, 0, 112, 42, 27, 182, 0, 167, 54, 4, 29, 153, 0, 10, 28, 21, 4, 104]
abbrev dktX3_product_2 : List UInt8 := dkwX3_product_2 ++ dktX3_product_3
def dkwX3_product_1 : List UInt8 := [182, 0, 126, 16, 47, 160, 0, 63, 42, 182, 0, 126, 16, 42, 160, 0, 7, 4, 167, 0, 4, 3, 62, 42]
abbrev dktX3_product_1 : List UInt8 := dkwX3_product_1 ++ dktX3_product_2
def dkwX3_product_0 : List UInt8 := [42, 27, 182, 0, 167, 61, 42, 182, 0, 122, 153, 0, 81, 42, 182, 0, 126, 16, 42, 159, 0, 12, 42]
abbrev dktX3_product_0 : List UInt8 := dkwX3_product_0 ++ dktX3_product_1
theorem dksX3_product_0 : cX3_product.data.toList.drop 0 = dktX3_product_0 := by decide +kernel
theorem dksX3_product_1 : cX3_product.data.toList.drop 23 = dktX3_product_1 := dk_seg dksX3_product_0 23 rfl rfl
theorem dksX3_product_2 : cX3_product.data.toList.drop 47 = dktX3_product_2 := dk_seg dksX3_product_1 24 rfl rfl
theorem dksX3_product_3 : cX3_product.data.toList.drop 71 = dktX3_product_3 := dk_seg dksX3_product_2 24 rfl rfl
theorem dX3_product_0 : decode cX3_product 0 = .ok (.aload_n 0, 1) := dk_42 (dk_at dksX3_product_0 0 rfl rfl)
theorem dX3_product_1 : decode cX3_product 1 = .ok (.iload_n 1, 1) := dk_27 (dk_at dksX3_product_0 1 rfl rfl)
theorem dX3_product_2 : decode cX3_product 2 = .ok (.invokevirtual 167, 3) := dk_182 0 167 (dk_at dksX3_product_0 2 rfl rfl)
theorem dX3_product_5 : decode cX3_product 5 = .ok (.istore_n 2, 1) := dk_61 (dk_at dksX3_product_0 5 rfl rfl)
theorem dX3_product_6 : decode cX3_product 6 = .ok (.aload_n 0, 1) := dk_42 (dk_at dksX3_product_0 6 rfl rfl)
theorem dX3_product_7 : decode cX3_product 7 = .ok (.invokevirtual 122, 3) := dk_182 0 122 (dk_at dksX3_product_0 7 rfl rfl)
theorem dX3_product_10 : decode cX3_product 10 = .ok (.ifCond .eq 81, 3) := dk_153 0 81 (dk_at dksX3_product_0 10 rfl rfl)
theorem dX3_product_13 : decode cX3_product 13 = .ok (.aload_n 0, 1) := dk_42 (dk_at dksX3_product_0 13 rfl rfl)
theorem dX3_product_14 : decode cX3_product 14 = .ok (.invokevirtual 126, 3) := dk_182 0 126 (dk_at dksX3_product_0 14 rfl rfl)
theorem dX3_product_17 : decode cX3_product 17 = .ok (.bipush 42, 2) := dk_16 42 (dk_at dksX3_product_0 17 rfl rfl)
theorem dX3_product_19 : decode cX3_product 19 = .ok (.if_icmp .eq 12, 3) := dk_159 0 12 (dk_at dksX3_product_0 19 rfl rfl)
theorem dX3_product_22 : decode cX3_product 22 = .ok (.aload_n 0, 1) := dk_42 (dk_at dksX3_product_0 22 rfl rfl)
theorem dX3_product_23 : decode cX3_product 23 = .ok (.invokevirtual 126, 3) := dk_182 0 126 (dk_at dksX3_product_1 0 rfl rfl)
theorem dX3_product_26 : decode cX3_product 26 = .ok (.bipush 47, 2) := dk_16 47 (dk_at dksX3_product_1 3 rfl rfl)
theorem dX3_product_28 : decode cX3_product 28 = .ok (.if_icmp .ne 63, 3) := dk_160 0 63 (dk_at dksX3_product_1 5 rfl rfl)
theorem dX3_product_31 : decode cX3_product 31 = .ok (.aload_n 0, 1) := dk_42 (dk_at dksX3_product_1 8 rfl rfl)
theorem dX3_product_32 : decode cX3_product 32 = .ok (.invokevirtual 126, 3) := dk_182 0 126 (dk_at dksX3_product_1 9 rfl rfl)
theorem dX3_product_35 : decode cX3_product 35 = .ok (.bipush 42, 2) := dk_16 42 (dk_at dksX3_product_1 12 rfl rfl)
theorem dX3_product_37 : decode cX3_product 37 = .ok (.if_icmp .ne 7, 3) := dk_160 0 7 (dk_at dksX3_product_1 14 rfl rfl)
theorem dX3_product_40 : decode cX3_product 40 = .ok (.iconst 1, 1) := dk_4 (dk_at dksX3_product_1 17 rfl rfl)
theorem dX3_product_41 : decode cX3_product 41 = .ok (.goto 4, 3) := dk_167 0 4 (dk_at dksX3_product_1 18 rfl rfl)
theorem dX3_product_44 : decode cX3_product 44 = .ok (.iconst 0, 1) := dk_3 (dk_at dksX3_product_1 21 rfl rfl)
theorem dX3_product_45 : decode cX3_product 45 = .ok (.istore_n 3, 1) := dk_62 (dk_at dksX3_product_1 22 rfl rfl)
theorem dX3_product_46 : decode cX3_product 46 = .ok (.aload_n 0, 1) := dk_42 (dk_at dksX3_product_1 23 rfl rfl)
theorem dX3_product_47 : decode cX3_product 47 = .ok (.dup, 1) := dk_89 (dk_at dksX3_product_2 0 rfl rfl)
theorem dX3_product_48 : decode cX3_product 48 = .ok (.getfield 112, 3) := dk_180 0 112 (dk_at dksX3_product_2 1 rfl rfl)
theorem dX3_product_51 : decode cX3_product 51 = .ok (.iconst 1, 1) := dk_4 (dk_at dksX3_product_2 4 rfl rfl)
theorem dX3_product_52 : decode cX3_product 52 = .ok (.iadd, 1) := dk_96 (dk_at dksX3_product_2 5 rfl rfl)
theorem dX3_product_53 : decode cX3_product 53 = .ok (.putfield 112, 3) := dk_181 0 112 (dk_at dksX3_product_2 6 rfl rfl)
theorem dX3_product_56 : decode cX3_product 56 = .ok (.aload_n 0, 1) := dk_42 (dk_at dksX3_product_2 9 rfl rfl)
theorem dX3_product_57 : decode cX3_product 57 = .ok (.iload_n 1, 1) := dk_27 (dk_at dksX3_product_2 10 rfl rfl)
theorem dX3_product_58 : decode cX3_product 58 = .ok (.invokevirtual 167, 3) := dk_182 0 167 (dk_at dksX3_product_2 11 rfl rfl)
theorem dX3_product_61 : decode cX3_product 61 = .ok (.istore 4, 2) := dk_54 4 (dk_at dksX3_product_2 14 rfl rfl)
theorem dX3_product_63 : decode cX3_product 63 = .ok (.iload_n 3, 1) := dk_29 (dk_at dksX3_product_2 16 rfl rfl)
theorem dX3_product_64 : decode cX3_product 64 = .ok (.ifCond .eq 10, 3) := dk_153 0 10 (dk_at dksX3_product_2 17 rfl rfl)
theorem dX3_product_67 : decode cX3_product 67 = .ok (.iload_n 2, 1) := dk_28 (dk_at dksX3_product_2 20 rfl rfl)
theorem dX3_product_68 : decode cX3_product 68 = .ok (.iload 4, 2) := dk_21 4 (dk_at dksX3_product_2 21 rfl rfl)
theorem dX3_product_70 : decode cX3_product 70 = .ok (.imul, 1) := dk_104 (dk_at dksX3_product_2 23 rfl rfl)
theorem dX3_product_71 : decode cX3_product 71 = .ok (.goto 16, 3) := dk_167 0 16 (dk_at dksX3_product_3 0 rfl rfl)
theorem dX3_product_74 : decode cX3_product 74 = .ok (.iload 4, 2) := dk_21 4 (dk_at dksX3_product_3 3 rfl rfl)
theorem dX3_product_76 : decode cX3_product 76 = .ok (.ifCond .ne 7, 3) := dk_154 0 7 (dk_at dksX3_product_3 5 rfl rfl)
theorem dX3_product_79 : decode cX3_product 79 = .ok (.iconst 0, 1) := dk_3 (dk_at dksX3_product_3 8 rfl rfl)
theorem dX3_product_80 : decode cX3_product 80 = .ok (.goto 7, 3) := dk_167 0 7 (dk_at dksX3_product_3 9 rfl rfl)
theorem dX3_product_83 : decode cX3_product 83 = .ok (.iload_n 2, 1) := dk_28 (dk_at dksX3_product_3 12 rfl rfl)
theorem dX3_product_84 : decode cX3_product 84 = .ok (.iload 4, 2) := dk_21 4 (dk_at dksX3_product_3 13 rfl rfl)
theorem dX3_product_86 : decode cX3_product 86 = .ok (.idiv, 1) := dk_108 (dk_at dksX3_product_3 15 rfl rfl)
theorem dX3_product_87 : decode cX3_product 87 = .ok (.istore_n 2, 1) := dk_61 (dk_at dksX3_product_3 16 rfl rfl)
theorem dX3_product_88 : decode cX3_product 88 = .ok (.goto (-82), 3) := dk_167 255 174 (dk_at dksX3_product_3 17 rfl rfl)
theorem dX3_product_91 : decode cX3_product 91 = .ok (.iload_n 2, 1) := dk_28 (dk_at dksX3_product_3 20 rfl rfl)
theorem dX3_product_92 : decode cX3_product 92 = .ok (.ireturn, 1) := dk_172 (dk_at dksX3_product_3 21 rfl rfl)
abbrev cX3_thing : ByteArray := prog_9_method_29_code
def yX3_thing : MethodName := ⟨RX3, "thing", "(I)I"⟩
def dkwX3_thing_5 : List UInt8 := [153, 0, 15, 42, 180, 0, 34, 28, 184, 0, 180, 46, 167, 0, 4, 3, 172]
abbrev dktX3_thing_5 : List UInt8 := dkwX3_thing_5 ++ []
def dkwX3_thing_4 : List UInt8 := [180, 0, 112, 182, 0, 134, 3, 172, 42, 89, 180, 0, 112, 4, 96, 181, 0, 112, 42, 180, 0, 183]
abbrev dktX3_thing_4 : List UInt8 := dkwX3_thing_4 ++ dktX3_thing_5
def dkwX3_thing_3 : List UInt8 := [184, 0, 92, 153, 0, 9, 42, 6, 182, 0, 177, 172, 28, 184, 0, 180, 2, 160, 0, 13, 42, 42]
abbrev dktX3_thing_3 : List UInt8 := dkwX3_thing_3 ++ dktX3_thing_4
def dkwX3_thing_2 : List UInt8 := [181, 0, 112, 42, 27, 4, 96, 182, 0, 170, 62, 42, 16, 41, 182, 0, 173, 29, 172, 28, 16, 48, 16, 57]
abbrev dktX3_thing_2 : List UInt8 := dkwX3_thing_2 ++ dktX3_thing_3
def dkwX3_thing_1 : List UInt8 := [172, 42, 182, 0, 126, 61, 28, 16, 40, 160, 0, 34, 27, 7, 162, 0, 29, 42, 89, 180, 0, 112, 4, 96]
abbrev dktX3_thing_1 : List UInt8 := dkwX3_thing_1 ++ dktX3_thing_2
def dkwX3_thing_0 : List UInt8 := [42, 16, 45, 182, 0, 130, 153, 0, 10, 42, 27, 182, 0, 167, 116, 172, 42, 182, 0, 122, 154, 0, 5, 3]
abbrev dktX3_thing_0 : List UInt8 := dkwX3_thing_0 ++ dktX3_thing_1
theorem dksX3_thing_0 : cX3_thing.data.toList.drop 0 = dktX3_thing_0 := by decide +kernel
theorem dksX3_thing_1 : cX3_thing.data.toList.drop 24 = dktX3_thing_1 := dk_seg dksX3_thing_0 24 rfl rfl
theorem dksX3_thing_2 : cX3_thing.data.toList.drop 48 = dktX3_thing_2 := dk_seg dksX3_thing_1 24 rfl rfl
theorem dksX3_thing_3 : cX3_thing.data.toList.drop 72 = dktX3_thing_3 := dk_seg dksX3_thing_2 24 rfl rfl
theorem dksX3_thing_4 : cX3_thing.data.toList.drop 94 = dktX3_thing_4 := dk_seg dksX3_thing_3 22 rfl rfl
theorem dksX3_thing_5 : cX3_thing.data.toList.drop 116 = dktX3_thing_5 := dk_seg dksX3_thing_4 22 rfl rfl
theorem dX3_thing_0 : decode cX3_thing 0 = .ok (.aload_n 0, 1) := dk_42 (dk_at dksX3_thing_0 0 rfl rfl)
theorem dX3_thing_1 : decode cX3_thing 1 = .ok (.bipush 45, 2) := dk_16 45 (dk_at dksX3_thing_0 1 rfl rfl)
theorem dX3_thing_3 : decode cX3_thing 3 = .ok (.invokevirtual 130, 3) := dk_182 0 130 (dk_at dksX3_thing_0 3 rfl rfl)
theorem dX3_thing_6 : decode cX3_thing 6 = .ok (.ifCond .eq 10, 3) := dk_153 0 10 (dk_at dksX3_thing_0 6 rfl rfl)
theorem dX3_thing_9 : decode cX3_thing 9 = .ok (.aload_n 0, 1) := dk_42 (dk_at dksX3_thing_0 9 rfl rfl)
theorem dX3_thing_10 : decode cX3_thing 10 = .ok (.iload_n 1, 1) := dk_27 (dk_at dksX3_thing_0 10 rfl rfl)
theorem dX3_thing_11 : decode cX3_thing 11 = .ok (.invokevirtual 167, 3) := dk_182 0 167 (dk_at dksX3_thing_0 11 rfl rfl)
theorem dX3_thing_14 : decode cX3_thing 14 = .ok (.ineg, 1) := dk_116 (dk_at dksX3_thing_0 14 rfl rfl)
theorem dX3_thing_15 : decode cX3_thing 15 = .ok (.ireturn, 1) := dk_172 (dk_at dksX3_thing_0 15 rfl rfl)
theorem dX3_thing_16 : decode cX3_thing 16 = .ok (.aload_n 0, 1) := dk_42 (dk_at dksX3_thing_0 16 rfl rfl)
theorem dX3_thing_17 : decode cX3_thing 17 = .ok (.invokevirtual 122, 3) := dk_182 0 122 (dk_at dksX3_thing_0 17 rfl rfl)
theorem dX3_thing_20 : decode cX3_thing 20 = .ok (.ifCond .ne 5, 3) := dk_154 0 5 (dk_at dksX3_thing_0 20 rfl rfl)
theorem dX3_thing_23 : decode cX3_thing 23 = .ok (.iconst 0, 1) := dk_3 (dk_at dksX3_thing_0 23 rfl rfl)
theorem dX3_thing_24 : decode cX3_thing 24 = .ok (.ireturn, 1) := dk_172 (dk_at dksX3_thing_1 0 rfl rfl)
theorem dX3_thing_25 : decode cX3_thing 25 = .ok (.aload_n 0, 1) := dk_42 (dk_at dksX3_thing_1 1 rfl rfl)
theorem dX3_thing_26 : decode cX3_thing 26 = .ok (.invokevirtual 126, 3) := dk_182 0 126 (dk_at dksX3_thing_1 2 rfl rfl)
theorem dX3_thing_29 : decode cX3_thing 29 = .ok (.istore_n 2, 1) := dk_61 (dk_at dksX3_thing_1 5 rfl rfl)
theorem dX3_thing_30 : decode cX3_thing 30 = .ok (.iload_n 2, 1) := dk_28 (dk_at dksX3_thing_1 6 rfl rfl)
theorem dX3_thing_31 : decode cX3_thing 31 = .ok (.bipush 40, 2) := dk_16 40 (dk_at dksX3_thing_1 7 rfl rfl)
theorem dX3_thing_33 : decode cX3_thing 33 = .ok (.if_icmp .ne 34, 3) := dk_160 0 34 (dk_at dksX3_thing_1 9 rfl rfl)
theorem dX3_thing_36 : decode cX3_thing 36 = .ok (.iload_n 1, 1) := dk_27 (dk_at dksX3_thing_1 12 rfl rfl)
theorem dX3_thing_37 : decode cX3_thing 37 = .ok (.iconst 4, 1) := dk_7 (dk_at dksX3_thing_1 13 rfl rfl)
theorem dX3_thing_38 : decode cX3_thing 38 = .ok (.if_icmp .ge 29, 3) := dk_162 0 29 (dk_at dksX3_thing_1 14 rfl rfl)
theorem dX3_thing_41 : decode cX3_thing 41 = .ok (.aload_n 0, 1) := dk_42 (dk_at dksX3_thing_1 17 rfl rfl)
theorem dX3_thing_42 : decode cX3_thing 42 = .ok (.dup, 1) := dk_89 (dk_at dksX3_thing_1 18 rfl rfl)
theorem dX3_thing_43 : decode cX3_thing 43 = .ok (.getfield 112, 3) := dk_180 0 112 (dk_at dksX3_thing_1 19 rfl rfl)
theorem dX3_thing_46 : decode cX3_thing 46 = .ok (.iconst 1, 1) := dk_4 (dk_at dksX3_thing_1 22 rfl rfl)
theorem dX3_thing_47 : decode cX3_thing 47 = .ok (.iadd, 1) := dk_96 (dk_at dksX3_thing_1 23 rfl rfl)
theorem dX3_thing_48 : decode cX3_thing 48 = .ok (.putfield 112, 3) := dk_181 0 112 (dk_at dksX3_thing_2 0 rfl rfl)
theorem dX3_thing_51 : decode cX3_thing 51 = .ok (.aload_n 0, 1) := dk_42 (dk_at dksX3_thing_2 3 rfl rfl)
theorem dX3_thing_52 : decode cX3_thing 52 = .ok (.iload_n 1, 1) := dk_27 (dk_at dksX3_thing_2 4 rfl rfl)
theorem dX3_thing_53 : decode cX3_thing 53 = .ok (.iconst 1, 1) := dk_4 (dk_at dksX3_thing_2 5 rfl rfl)
theorem dX3_thing_54 : decode cX3_thing 54 = .ok (.iadd, 1) := dk_96 (dk_at dksX3_thing_2 6 rfl rfl)
theorem dX3_thing_55 : decode cX3_thing 55 = .ok (.invokevirtual 170, 3) := dk_182 0 170 (dk_at dksX3_thing_2 7 rfl rfl)
theorem dX3_thing_58 : decode cX3_thing 58 = .ok (.istore_n 3, 1) := dk_62 (dk_at dksX3_thing_2 10 rfl rfl)
theorem dX3_thing_59 : decode cX3_thing 59 = .ok (.aload_n 0, 1) := dk_42 (dk_at dksX3_thing_2 11 rfl rfl)
theorem dX3_thing_60 : decode cX3_thing 60 = .ok (.bipush 41, 2) := dk_16 41 (dk_at dksX3_thing_2 12 rfl rfl)
theorem dX3_thing_62 : decode cX3_thing 62 = .ok (.invokevirtual 173, 3) := dk_182 0 173 (dk_at dksX3_thing_2 14 rfl rfl)
theorem dX3_thing_65 : decode cX3_thing 65 = .ok (.iload_n 3, 1) := dk_29 (dk_at dksX3_thing_2 17 rfl rfl)
theorem dX3_thing_66 : decode cX3_thing 66 = .ok (.ireturn, 1) := dk_172 (dk_at dksX3_thing_2 18 rfl rfl)
theorem dX3_thing_67 : decode cX3_thing 67 = .ok (.iload_n 2, 1) := dk_28 (dk_at dksX3_thing_2 19 rfl rfl)
theorem dX3_thing_68 : decode cX3_thing 68 = .ok (.bipush 48, 2) := dk_16 48 (dk_at dksX3_thing_2 20 rfl rfl)
theorem dX3_thing_70 : decode cX3_thing 70 = .ok (.bipush 57, 2) := dk_16 57 (dk_at dksX3_thing_2 22 rfl rfl)
theorem dX3_thing_72 : decode cX3_thing 72 = .ok (.invokestatic 92, 3) := dk_184 0 92 (dk_at dksX3_thing_3 0 rfl rfl)
theorem dX3_thing_75 : decode cX3_thing 75 = .ok (.ifCond .eq 9, 3) := dk_153 0 9 (dk_at dksX3_thing_3 3 rfl rfl)
theorem dX3_thing_78 : decode cX3_thing 78 = .ok (.aload_n 0, 1) := dk_42 (dk_at dksX3_thing_3 6 rfl rfl)
theorem dX3_thing_79 : decode cX3_thing 79 = .ok (.iconst 3, 1) := dk_6 (dk_at dksX3_thing_3 7 rfl rfl)
theorem dX3_thing_80 : decode cX3_thing 80 = .ok (.invokevirtual 177, 3) := dk_182 0 177 (dk_at dksX3_thing_3 8 rfl rfl)
theorem dX3_thing_83 : decode cX3_thing 83 = .ok (.ireturn, 1) := dk_172 (dk_at dksX3_thing_3 11 rfl rfl)
theorem dX3_thing_84 : decode cX3_thing 84 = .ok (.iload_n 2, 1) := dk_28 (dk_at dksX3_thing_3 12 rfl rfl)
theorem dX3_thing_85 : decode cX3_thing 85 = .ok (.invokestatic 180, 3) := dk_184 0 180 (dk_at dksX3_thing_3 13 rfl rfl)
theorem dX3_thing_88 : decode cX3_thing 88 = .ok (.iconst (-1), 1) := dk_2 (dk_at dksX3_thing_3 16 rfl rfl)
theorem dX3_thing_89 : decode cX3_thing 89 = .ok (.if_icmp .ne 13, 3) := dk_160 0 13 (dk_at dksX3_thing_3 17 rfl rfl)
theorem dX3_thing_92 : decode cX3_thing 92 = .ok (.aload_n 0, 1) := dk_42 (dk_at dksX3_thing_3 20 rfl rfl)
theorem dX3_thing_93 : decode cX3_thing 93 = .ok (.aload_n 0, 1) := dk_42 (dk_at dksX3_thing_3 21 rfl rfl)
theorem dX3_thing_94 : decode cX3_thing 94 = .ok (.getfield 112, 3) := dk_180 0 112 (dk_at dksX3_thing_4 0 rfl rfl)
theorem dX3_thing_97 : decode cX3_thing 97 = .ok (.invokevirtual 134, 3) := dk_182 0 134 (dk_at dksX3_thing_4 3 rfl rfl)
theorem dX3_thing_100 : decode cX3_thing 100 = .ok (.iconst 0, 1) := dk_3 (dk_at dksX3_thing_4 6 rfl rfl)
theorem dX3_thing_101 : decode cX3_thing 101 = .ok (.ireturn, 1) := dk_172 (dk_at dksX3_thing_4 7 rfl rfl)
theorem dX3_thing_102 : decode cX3_thing 102 = .ok (.aload_n 0, 1) := dk_42 (dk_at dksX3_thing_4 8 rfl rfl)
theorem dX3_thing_103 : decode cX3_thing 103 = .ok (.dup, 1) := dk_89 (dk_at dksX3_thing_4 9 rfl rfl)
theorem dX3_thing_104 : decode cX3_thing 104 = .ok (.getfield 112, 3) := dk_180 0 112 (dk_at dksX3_thing_4 10 rfl rfl)
theorem dX3_thing_107 : decode cX3_thing 107 = .ok (.iconst 1, 1) := dk_4 (dk_at dksX3_thing_4 13 rfl rfl)
theorem dX3_thing_108 : decode cX3_thing 108 = .ok (.iadd, 1) := dk_96 (dk_at dksX3_thing_4 14 rfl rfl)
theorem dX3_thing_109 : decode cX3_thing 109 = .ok (.putfield 112, 3) := dk_181 0 112 (dk_at dksX3_thing_4 15 rfl rfl)
theorem dX3_thing_112 : decode cX3_thing 112 = .ok (.aload_n 0, 1) := dk_42 (dk_at dksX3_thing_4 18 rfl rfl)
theorem dX3_thing_113 : decode cX3_thing 113 = .ok (.getfield 183, 3) := dk_180 0 183 (dk_at dksX3_thing_4 19 rfl rfl)
theorem dX3_thing_116 : decode cX3_thing 116 = .ok (.ifCond .eq 15, 3) := dk_153 0 15 (dk_at dksX3_thing_5 0 rfl rfl)
theorem dX3_thing_119 : decode cX3_thing 119 = .ok (.aload_n 0, 1) := dk_42 (dk_at dksX3_thing_5 3 rfl rfl)
theorem dX3_thing_120 : decode cX3_thing 120 = .ok (.getfield 34, 3) := dk_180 0 34 (dk_at dksX3_thing_5 4 rfl rfl)
theorem dX3_thing_123 : decode cX3_thing 123 = .ok (.iload_n 2, 1) := dk_28 (dk_at dksX3_thing_5 7 rfl rfl)
theorem dX3_thing_124 : decode cX3_thing 124 = .ok (.invokestatic 180, 3) := dk_184 0 180 (dk_at dksX3_thing_5 8 rfl rfl)
theorem dX3_thing_127 : decode cX3_thing 127 = .ok (.iaload, 1) := dk_46 (dk_at dksX3_thing_5 11 rfl rfl)
theorem dX3_thing_128 : decode cX3_thing 128 = .ok (.goto 4, 3) := dk_167 0 4 (dk_at dksX3_thing_5 12 rfl rfl)
theorem dX3_thing_131 : decode cX3_thing 131 = .ok (.iconst 0, 1) := dk_3 (dk_at dksX3_thing_5 15 rfl rfl)
theorem dX3_thing_132 : decode cX3_thing 132 = .ok (.ireturn, 1) := dk_172 (dk_at dksX3_thing_5 16 rfl rfl)
abbrev cX3_need : ByteArray := prog_9_method_18_code
def yX3_need : MethodName := ⟨RX3, "need", "(C)V"⟩
def dkwX3_need_0 : List UInt8 := [42, 27, 182, 0, 130, 154, 0, 11, 42, 42, 180, 0, 112, 182, 0, 134, 177]
abbrev dktX3_need_0 : List UInt8 := dkwX3_need_0 ++ []
theorem dksX3_need_0 : cX3_need.data.toList.drop 0 = dktX3_need_0 := by decide +kernel
theorem dX3_need_0 : decode cX3_need 0 = .ok (.aload_n 0, 1) := dk_42 (dk_at dksX3_need_0 0 rfl rfl)
theorem dX3_need_1 : decode cX3_need 1 = .ok (.iload_n 1, 1) := dk_27 (dk_at dksX3_need_0 1 rfl rfl)
theorem dX3_need_2 : decode cX3_need 2 = .ok (.invokevirtual 130, 3) := dk_182 0 130 (dk_at dksX3_need_0 2 rfl rfl)
theorem dX3_need_5 : decode cX3_need 5 = .ok (.ifCond .ne 11, 3) := dk_154 0 11 (dk_at dksX3_need_0 5 rfl rfl)
theorem dX3_need_8 : decode cX3_need 8 = .ok (.aload_n 0, 1) := dk_42 (dk_at dksX3_need_0 8 rfl rfl)
theorem dX3_need_9 : decode cX3_need 9 = .ok (.aload_n 0, 1) := dk_42 (dk_at dksX3_need_0 9 rfl rfl)
theorem dX3_need_10 : decode cX3_need 10 = .ok (.getfield 112, 3) := dk_180 0 112 (dk_at dksX3_need_0 10 rfl rfl)
theorem dX3_need_13 : decode cX3_need 13 = .ok (.invokevirtual 134, 3) := dk_182 0 134 (dk_at dksX3_need_0 13 rfl rfl)
theorem dX3_need_16 : decode cX3_need 16 = .ok (.return_, 1) := dk_177 (dk_at dksX3_need_0 16 rfl rfl)
abbrev cX3_number : ByteArray := prog_9_method_20_code
def yX3_number : MethodName := ⟨RX3, "number", "(I)I"⟩
def dkwX3_number_2 : List UInt8 := [182, 0, 138, 96, 61, 132, 3, 1, 167, 255, 213, 28, 172]
abbrev dktX3_number_2 : List UInt8 := dkwX3_number_2 ++ []
def dkwX3_number_1 : List UInt8 := [182, 0, 126, 16, 48, 16, 57, 184, 0, 92, 153, 0, 23, 16, 10, 28, 104, 42, 16, 48, 16, 10]
abbrev dktX3_number_1 : List UInt8 := dkwX3_number_1 ++ dktX3_number_2
def dkwX3_number_0 : List UInt8 := [42, 16, 48, 16, 10, 182, 0, 138, 61, 4, 62, 29, 27, 162, 0, 44, 42, 182, 0, 122, 153, 0, 37, 42]
abbrev dktX3_number_0 : List UInt8 := dkwX3_number_0 ++ dktX3_number_1
theorem dksX3_number_0 : cX3_number.data.toList.drop 0 = dktX3_number_0 := by decide +kernel
theorem dksX3_number_1 : cX3_number.data.toList.drop 24 = dktX3_number_1 := dk_seg dksX3_number_0 24 rfl rfl
theorem dksX3_number_2 : cX3_number.data.toList.drop 46 = dktX3_number_2 := dk_seg dksX3_number_1 22 rfl rfl
theorem dX3_number_0 : decode cX3_number 0 = .ok (.aload_n 0, 1) := dk_42 (dk_at dksX3_number_0 0 rfl rfl)
theorem dX3_number_1 : decode cX3_number 1 = .ok (.bipush 48, 2) := dk_16 48 (dk_at dksX3_number_0 1 rfl rfl)
theorem dX3_number_3 : decode cX3_number 3 = .ok (.bipush 10, 2) := dk_16 10 (dk_at dksX3_number_0 3 rfl rfl)
theorem dX3_number_5 : decode cX3_number 5 = .ok (.invokevirtual 138, 3) := dk_182 0 138 (dk_at dksX3_number_0 5 rfl rfl)
theorem dX3_number_8 : decode cX3_number 8 = .ok (.istore_n 2, 1) := dk_61 (dk_at dksX3_number_0 8 rfl rfl)
theorem dX3_number_9 : decode cX3_number 9 = .ok (.iconst 1, 1) := dk_4 (dk_at dksX3_number_0 9 rfl rfl)
theorem dX3_number_10 : decode cX3_number 10 = .ok (.istore_n 3, 1) := dk_62 (dk_at dksX3_number_0 10 rfl rfl)
theorem dX3_number_11 : decode cX3_number 11 = .ok (.iload_n 3, 1) := dk_29 (dk_at dksX3_number_0 11 rfl rfl)
theorem dX3_number_12 : decode cX3_number 12 = .ok (.iload_n 1, 1) := dk_27 (dk_at dksX3_number_0 12 rfl rfl)
theorem dX3_number_13 : decode cX3_number 13 = .ok (.if_icmp .ge 44, 3) := dk_162 0 44 (dk_at dksX3_number_0 13 rfl rfl)
theorem dX3_number_16 : decode cX3_number 16 = .ok (.aload_n 0, 1) := dk_42 (dk_at dksX3_number_0 16 rfl rfl)
theorem dX3_number_17 : decode cX3_number 17 = .ok (.invokevirtual 122, 3) := dk_182 0 122 (dk_at dksX3_number_0 17 rfl rfl)
theorem dX3_number_20 : decode cX3_number 20 = .ok (.ifCond .eq 37, 3) := dk_153 0 37 (dk_at dksX3_number_0 20 rfl rfl)
theorem dX3_number_23 : decode cX3_number 23 = .ok (.aload_n 0, 1) := dk_42 (dk_at dksX3_number_0 23 rfl rfl)
theorem dX3_number_24 : decode cX3_number 24 = .ok (.invokevirtual 126, 3) := dk_182 0 126 (dk_at dksX3_number_1 0 rfl rfl)
theorem dX3_number_27 : decode cX3_number 27 = .ok (.bipush 48, 2) := dk_16 48 (dk_at dksX3_number_1 3 rfl rfl)
theorem dX3_number_29 : decode cX3_number 29 = .ok (.bipush 57, 2) := dk_16 57 (dk_at dksX3_number_1 5 rfl rfl)
theorem dX3_number_31 : decode cX3_number 31 = .ok (.invokestatic 92, 3) := dk_184 0 92 (dk_at dksX3_number_1 7 rfl rfl)
theorem dX3_number_34 : decode cX3_number 34 = .ok (.ifCond .eq 23, 3) := dk_153 0 23 (dk_at dksX3_number_1 10 rfl rfl)
theorem dX3_number_37 : decode cX3_number 37 = .ok (.bipush 10, 2) := dk_16 10 (dk_at dksX3_number_1 13 rfl rfl)
theorem dX3_number_39 : decode cX3_number 39 = .ok (.iload_n 2, 1) := dk_28 (dk_at dksX3_number_1 15 rfl rfl)
theorem dX3_number_40 : decode cX3_number 40 = .ok (.imul, 1) := dk_104 (dk_at dksX3_number_1 16 rfl rfl)
theorem dX3_number_41 : decode cX3_number 41 = .ok (.aload_n 0, 1) := dk_42 (dk_at dksX3_number_1 17 rfl rfl)
theorem dX3_number_42 : decode cX3_number 42 = .ok (.bipush 48, 2) := dk_16 48 (dk_at dksX3_number_1 18 rfl rfl)
theorem dX3_number_44 : decode cX3_number 44 = .ok (.bipush 10, 2) := dk_16 10 (dk_at dksX3_number_1 20 rfl rfl)
theorem dX3_number_46 : decode cX3_number 46 = .ok (.invokevirtual 138, 3) := dk_182 0 138 (dk_at dksX3_number_2 0 rfl rfl)
theorem dX3_number_49 : decode cX3_number 49 = .ok (.iadd, 1) := dk_96 (dk_at dksX3_number_2 3 rfl rfl)
theorem dX3_number_50 : decode cX3_number 50 = .ok (.istore_n 2, 1) := dk_61 (dk_at dksX3_number_2 4 rfl rfl)
theorem dX3_number_51 : decode cX3_number 51 = .ok (.iinc 3 1, 3) := dk_132 3 1 (dk_at dksX3_number_2 5 rfl rfl)
theorem dX3_number_54 : decode cX3_number 54 = .ok (.goto (-43), 3) := dk_167 255 213 (dk_at dksX3_number_2 8 rfl rfl)
theorem dX3_number_57 : decode cX3_number 57 = .ok (.iload_n 2, 1) := dk_28 (dk_at dksX3_number_2 11 rfl rfl)
theorem dX3_number_58 : decode cX3_number 58 = .ok (.ireturn, 1) := dk_172 (dk_at dksX3_number_2 12 rfl rfl)
abbrev cX3_letterOf : ByteArray := prog_9_method_28_code
def yX3_letterOf : MethodName := ⟨RX3, "letterOf", "(I)I"⟩
def dkwX3_letterOf_3 : List UInt8 := [26, 16, 100, 160, 0, 8, 16, 7, 167, 0, 4, 2, 172]
abbrev dktX3_letterOf_3 : List UInt8 := dkwX3_letterOf_3 ++ []
def dkwX3_letterOf_2 : List UInt8 := [167, 0, 36, 26, 16, 97, 160, 0, 7, 8, 167, 0, 26, 26, 16, 120, 160, 0, 8, 16, 6, 167, 0, 15]
abbrev dktX3_letterOf_2 : List UInt8 := dkwX3_letterOf_2 ++ dktX3_letterOf_3
def dkwX3_letterOf_1 : List UInt8 := [160, 0, 7, 5, 167, 0, 56, 26, 16, 111, 160, 0, 7, 6, 167, 0, 46, 26, 16, 115, 160, 0, 7, 7]
abbrev dktX3_letterOf_1 : List UInt8 := dkwX3_letterOf_1 ++ dktX3_letterOf_2
def dkwX3_letterOf_0 : List UInt8 := [26, 16, 99, 160, 0, 7, 3, 167, 0, 76, 26, 16, 110, 160, 0, 7, 4, 167, 0, 66, 26, 16, 107]
abbrev dktX3_letterOf_0 : List UInt8 := dkwX3_letterOf_0 ++ dktX3_letterOf_1
theorem dksX3_letterOf_0 : cX3_letterOf.data.toList.drop 0 = dktX3_letterOf_0 := by decide +kernel
theorem dksX3_letterOf_1 : cX3_letterOf.data.toList.drop 23 = dktX3_letterOf_1 := dk_seg dksX3_letterOf_0 23 rfl rfl
theorem dksX3_letterOf_2 : cX3_letterOf.data.toList.drop 47 = dktX3_letterOf_2 := dk_seg dksX3_letterOf_1 24 rfl rfl
theorem dksX3_letterOf_3 : cX3_letterOf.data.toList.drop 71 = dktX3_letterOf_3 := dk_seg dksX3_letterOf_2 24 rfl rfl
theorem dX3_letterOf_0 : decode cX3_letterOf 0 = .ok (.iload_n 0, 1) := dk_26 (dk_at dksX3_letterOf_0 0 rfl rfl)
theorem dX3_letterOf_1 : decode cX3_letterOf 1 = .ok (.bipush 99, 2) := dk_16 99 (dk_at dksX3_letterOf_0 1 rfl rfl)
theorem dX3_letterOf_3 : decode cX3_letterOf 3 = .ok (.if_icmp .ne 7, 3) := dk_160 0 7 (dk_at dksX3_letterOf_0 3 rfl rfl)
theorem dX3_letterOf_6 : decode cX3_letterOf 6 = .ok (.iconst 0, 1) := dk_3 (dk_at dksX3_letterOf_0 6 rfl rfl)
theorem dX3_letterOf_7 : decode cX3_letterOf 7 = .ok (.goto 76, 3) := dk_167 0 76 (dk_at dksX3_letterOf_0 7 rfl rfl)
theorem dX3_letterOf_10 : decode cX3_letterOf 10 = .ok (.iload_n 0, 1) := dk_26 (dk_at dksX3_letterOf_0 10 rfl rfl)
theorem dX3_letterOf_11 : decode cX3_letterOf 11 = .ok (.bipush 110, 2) := dk_16 110 (dk_at dksX3_letterOf_0 11 rfl rfl)
theorem dX3_letterOf_13 : decode cX3_letterOf 13 = .ok (.if_icmp .ne 7, 3) := dk_160 0 7 (dk_at dksX3_letterOf_0 13 rfl rfl)
theorem dX3_letterOf_16 : decode cX3_letterOf 16 = .ok (.iconst 1, 1) := dk_4 (dk_at dksX3_letterOf_0 16 rfl rfl)
theorem dX3_letterOf_17 : decode cX3_letterOf 17 = .ok (.goto 66, 3) := dk_167 0 66 (dk_at dksX3_letterOf_0 17 rfl rfl)
theorem dX3_letterOf_20 : decode cX3_letterOf 20 = .ok (.iload_n 0, 1) := dk_26 (dk_at dksX3_letterOf_0 20 rfl rfl)
theorem dX3_letterOf_21 : decode cX3_letterOf 21 = .ok (.bipush 107, 2) := dk_16 107 (dk_at dksX3_letterOf_0 21 rfl rfl)
theorem dX3_letterOf_23 : decode cX3_letterOf 23 = .ok (.if_icmp .ne 7, 3) := dk_160 0 7 (dk_at dksX3_letterOf_1 0 rfl rfl)
theorem dX3_letterOf_26 : decode cX3_letterOf 26 = .ok (.iconst 2, 1) := dk_5 (dk_at dksX3_letterOf_1 3 rfl rfl)
theorem dX3_letterOf_27 : decode cX3_letterOf 27 = .ok (.goto 56, 3) := dk_167 0 56 (dk_at dksX3_letterOf_1 4 rfl rfl)
theorem dX3_letterOf_30 : decode cX3_letterOf 30 = .ok (.iload_n 0, 1) := dk_26 (dk_at dksX3_letterOf_1 7 rfl rfl)
theorem dX3_letterOf_31 : decode cX3_letterOf 31 = .ok (.bipush 111, 2) := dk_16 111 (dk_at dksX3_letterOf_1 8 rfl rfl)
theorem dX3_letterOf_33 : decode cX3_letterOf 33 = .ok (.if_icmp .ne 7, 3) := dk_160 0 7 (dk_at dksX3_letterOf_1 10 rfl rfl)
theorem dX3_letterOf_36 : decode cX3_letterOf 36 = .ok (.iconst 3, 1) := dk_6 (dk_at dksX3_letterOf_1 13 rfl rfl)
theorem dX3_letterOf_37 : decode cX3_letterOf 37 = .ok (.goto 46, 3) := dk_167 0 46 (dk_at dksX3_letterOf_1 14 rfl rfl)
theorem dX3_letterOf_40 : decode cX3_letterOf 40 = .ok (.iload_n 0, 1) := dk_26 (dk_at dksX3_letterOf_1 17 rfl rfl)
theorem dX3_letterOf_41 : decode cX3_letterOf 41 = .ok (.bipush 115, 2) := dk_16 115 (dk_at dksX3_letterOf_1 18 rfl rfl)
theorem dX3_letterOf_43 : decode cX3_letterOf 43 = .ok (.if_icmp .ne 7, 3) := dk_160 0 7 (dk_at dksX3_letterOf_1 20 rfl rfl)
theorem dX3_letterOf_46 : decode cX3_letterOf 46 = .ok (.iconst 4, 1) := dk_7 (dk_at dksX3_letterOf_1 23 rfl rfl)
theorem dX3_letterOf_47 : decode cX3_letterOf 47 = .ok (.goto 36, 3) := dk_167 0 36 (dk_at dksX3_letterOf_2 0 rfl rfl)
theorem dX3_letterOf_50 : decode cX3_letterOf 50 = .ok (.iload_n 0, 1) := dk_26 (dk_at dksX3_letterOf_2 3 rfl rfl)
theorem dX3_letterOf_51 : decode cX3_letterOf 51 = .ok (.bipush 97, 2) := dk_16 97 (dk_at dksX3_letterOf_2 4 rfl rfl)
theorem dX3_letterOf_53 : decode cX3_letterOf 53 = .ok (.if_icmp .ne 7, 3) := dk_160 0 7 (dk_at dksX3_letterOf_2 6 rfl rfl)
theorem dX3_letterOf_56 : decode cX3_letterOf 56 = .ok (.iconst 5, 1) := dk_8 (dk_at dksX3_letterOf_2 9 rfl rfl)
theorem dX3_letterOf_57 : decode cX3_letterOf 57 = .ok (.goto 26, 3) := dk_167 0 26 (dk_at dksX3_letterOf_2 10 rfl rfl)
theorem dX3_letterOf_60 : decode cX3_letterOf 60 = .ok (.iload_n 0, 1) := dk_26 (dk_at dksX3_letterOf_2 13 rfl rfl)
theorem dX3_letterOf_61 : decode cX3_letterOf 61 = .ok (.bipush 120, 2) := dk_16 120 (dk_at dksX3_letterOf_2 14 rfl rfl)
theorem dX3_letterOf_63 : decode cX3_letterOf 63 = .ok (.if_icmp .ne 8, 3) := dk_160 0 8 (dk_at dksX3_letterOf_2 16 rfl rfl)
theorem dX3_letterOf_66 : decode cX3_letterOf 66 = .ok (.bipush 6, 2) := dk_16 6 (dk_at dksX3_letterOf_2 19 rfl rfl)
theorem dX3_letterOf_68 : decode cX3_letterOf 68 = .ok (.goto 15, 3) := dk_167 0 15 (dk_at dksX3_letterOf_2 21 rfl rfl)
theorem dX3_letterOf_71 : decode cX3_letterOf 71 = .ok (.iload_n 0, 1) := dk_26 (dk_at dksX3_letterOf_3 0 rfl rfl)
theorem dX3_letterOf_72 : decode cX3_letterOf 72 = .ok (.bipush 100, 2) := dk_16 100 (dk_at dksX3_letterOf_3 1 rfl rfl)
theorem dX3_letterOf_74 : decode cX3_letterOf 74 = .ok (.if_icmp .ne 8, 3) := dk_160 0 8 (dk_at dksX3_letterOf_3 3 rfl rfl)
theorem dX3_letterOf_77 : decode cX3_letterOf 77 = .ok (.bipush 7, 2) := dk_16 7 (dk_at dksX3_letterOf_3 6 rfl rfl)
theorem dX3_letterOf_79 : decode cX3_letterOf 79 = .ok (.goto 4, 3) := dk_167 0 4 (dk_at dksX3_letterOf_3 8 rfl rfl)
theorem dX3_letterOf_82 : decode cX3_letterOf 82 = .ok (.iconst (-1), 1) := dk_2 (dk_at dksX3_letterOf_3 11 rfl rfl)
theorem dX3_letterOf_83 : decode cX3_letterOf 83 = .ok (.ireturn, 1) := dk_172 (dk_at dksX3_letterOf_3 12 rfl rfl)
abbrev cX3_nest : ByteArray := prog_9_method_38_code
def yX3_nest : MethodName := ⟨RX3, "nest", "(II)I"⟩
def dkwX3_nest_2 : List UInt8 := [42, 42, 180, 0, 9, 27, 182, 0, 221, 153, 0, 7, 4, 167, 0, 4, 3, 172]
abbrev dktX3_nest_2 : List UInt8 := dkwX3_nest_2 ++ []
def dkwX3_nest_1 : List UInt8 := [182, 0, 218, 172, 28, 16, 6, 162, 0, 17, 42, 180, 0, 9, 16, 8, 28, 104, 27, 96, 46, 167, 0, 20]
abbrev dktX3_nest_1 : List UInt8 := dkwX3_nest_1 ++ dktX3_nest_2
def dkwX3_nest_0 : List UInt8 := [42, 3, 181, 0, 83, 42, 27, 182, 0, 96, 153, 0, 13, 28, 3, 16, 6, 184, 0, 92, 154, 0, 8, 42]
abbrev dktX3_nest_0 : List UInt8 := dkwX3_nest_0 ++ dktX3_nest_1
theorem dksX3_nest_0 : cX3_nest.data.toList.drop 0 = dktX3_nest_0 := by decide +kernel
theorem dksX3_nest_1 : cX3_nest.data.toList.drop 24 = dktX3_nest_1 := dk_seg dksX3_nest_0 24 rfl rfl
theorem dksX3_nest_2 : cX3_nest.data.toList.drop 48 = dktX3_nest_2 := dk_seg dksX3_nest_1 24 rfl rfl
theorem dX3_nest_0 : decode cX3_nest 0 = .ok (.aload_n 0, 1) := dk_42 (dk_at dksX3_nest_0 0 rfl rfl)
theorem dX3_nest_1 : decode cX3_nest 1 = .ok (.iconst 0, 1) := dk_3 (dk_at dksX3_nest_0 1 rfl rfl)
theorem dX3_nest_2 : decode cX3_nest 2 = .ok (.putfield 83, 3) := dk_181 0 83 (dk_at dksX3_nest_0 2 rfl rfl)
theorem dX3_nest_5 : decode cX3_nest 5 = .ok (.aload_n 0, 1) := dk_42 (dk_at dksX3_nest_0 5 rfl rfl)
theorem dX3_nest_6 : decode cX3_nest 6 = .ok (.iload_n 1, 1) := dk_27 (dk_at dksX3_nest_0 6 rfl rfl)
theorem dX3_nest_7 : decode cX3_nest 7 = .ok (.invokevirtual 96, 3) := dk_182 0 96 (dk_at dksX3_nest_0 7 rfl rfl)
theorem dX3_nest_10 : decode cX3_nest 10 = .ok (.ifCond .eq 13, 3) := dk_153 0 13 (dk_at dksX3_nest_0 10 rfl rfl)
theorem dX3_nest_13 : decode cX3_nest 13 = .ok (.iload_n 2, 1) := dk_28 (dk_at dksX3_nest_0 13 rfl rfl)
theorem dX3_nest_14 : decode cX3_nest 14 = .ok (.iconst 0, 1) := dk_3 (dk_at dksX3_nest_0 14 rfl rfl)
theorem dX3_nest_15 : decode cX3_nest 15 = .ok (.bipush 6, 2) := dk_16 6 (dk_at dksX3_nest_0 15 rfl rfl)
theorem dX3_nest_17 : decode cX3_nest 17 = .ok (.invokestatic 92, 3) := dk_184 0 92 (dk_at dksX3_nest_0 17 rfl rfl)
theorem dX3_nest_20 : decode cX3_nest 20 = .ok (.ifCond .ne 8, 3) := dk_154 0 8 (dk_at dksX3_nest_0 20 rfl rfl)
theorem dX3_nest_23 : decode cX3_nest 23 = .ok (.aload_n 0, 1) := dk_42 (dk_at dksX3_nest_0 23 rfl rfl)
theorem dX3_nest_24 : decode cX3_nest 24 = .ok (.invokevirtual 218, 3) := dk_182 0 218 (dk_at dksX3_nest_1 0 rfl rfl)
theorem dX3_nest_27 : decode cX3_nest 27 = .ok (.ireturn, 1) := dk_172 (dk_at dksX3_nest_1 3 rfl rfl)
theorem dX3_nest_28 : decode cX3_nest 28 = .ok (.iload_n 2, 1) := dk_28 (dk_at dksX3_nest_1 4 rfl rfl)
theorem dX3_nest_29 : decode cX3_nest 29 = .ok (.bipush 6, 2) := dk_16 6 (dk_at dksX3_nest_1 5 rfl rfl)
theorem dX3_nest_31 : decode cX3_nest 31 = .ok (.if_icmp .ge 17, 3) := dk_162 0 17 (dk_at dksX3_nest_1 7 rfl rfl)
theorem dX3_nest_34 : decode cX3_nest 34 = .ok (.aload_n 0, 1) := dk_42 (dk_at dksX3_nest_1 10 rfl rfl)
theorem dX3_nest_35 : decode cX3_nest 35 = .ok (.getfield 9, 3) := dk_180 0 9 (dk_at dksX3_nest_1 11 rfl rfl)
theorem dX3_nest_38 : decode cX3_nest 38 = .ok (.bipush 8, 2) := dk_16 8 (dk_at dksX3_nest_1 14 rfl rfl)
theorem dX3_nest_40 : decode cX3_nest 40 = .ok (.iload_n 2, 1) := dk_28 (dk_at dksX3_nest_1 16 rfl rfl)
theorem dX3_nest_41 : decode cX3_nest 41 = .ok (.imul, 1) := dk_104 (dk_at dksX3_nest_1 17 rfl rfl)
theorem dX3_nest_42 : decode cX3_nest 42 = .ok (.iload_n 1, 1) := dk_27 (dk_at dksX3_nest_1 18 rfl rfl)
theorem dX3_nest_43 : decode cX3_nest 43 = .ok (.iadd, 1) := dk_96 (dk_at dksX3_nest_1 19 rfl rfl)
theorem dX3_nest_44 : decode cX3_nest 44 = .ok (.iaload, 1) := dk_46 (dk_at dksX3_nest_1 20 rfl rfl)
theorem dX3_nest_45 : decode cX3_nest 45 = .ok (.goto 20, 3) := dk_167 0 20 (dk_at dksX3_nest_1 21 rfl rfl)
theorem dX3_nest_48 : decode cX3_nest 48 = .ok (.aload_n 0, 1) := dk_42 (dk_at dksX3_nest_2 0 rfl rfl)
theorem dX3_nest_49 : decode cX3_nest 49 = .ok (.aload_n 0, 1) := dk_42 (dk_at dksX3_nest_2 1 rfl rfl)
theorem dX3_nest_50 : decode cX3_nest 50 = .ok (.getfield 9, 3) := dk_180 0 9 (dk_at dksX3_nest_2 2 rfl rfl)
theorem dX3_nest_53 : decode cX3_nest 53 = .ok (.iload_n 1, 1) := dk_27 (dk_at dksX3_nest_2 5 rfl rfl)
theorem dX3_nest_54 : decode cX3_nest 54 = .ok (.invokevirtual 221, 3) := dk_182 0 221 (dk_at dksX3_nest_2 6 rfl rfl)
theorem dX3_nest_57 : decode cX3_nest 57 = .ok (.ifCond .eq 7, 3) := dk_153 0 7 (dk_at dksX3_nest_2 9 rfl rfl)
theorem dX3_nest_60 : decode cX3_nest 60 = .ok (.iconst 1, 1) := dk_4 (dk_at dksX3_nest_2 12 rfl rfl)
theorem dX3_nest_61 : decode cX3_nest 61 = .ok (.goto 4, 3) := dk_167 0 4 (dk_at dksX3_nest_2 13 rfl rfl)
theorem dX3_nest_64 : decode cX3_nest 64 = .ok (.iconst 0, 1) := dk_3 (dk_at dksX3_nest_2 16 rfl rfl)
theorem dX3_nest_65 : decode cX3_nest 65 = .ok (.ireturn, 1) := dk_172 (dk_at dksX3_nest_2 17 rfl rfl)
abbrev cX3_isNest : ByteArray := prog_9_method_7_code
def yX3_isNest : MethodName := ⟨RX3, "isNest", "(I)Z"⟩
def dkwX3_isNest_0 : List UInt8 := [27, 3, 42, 180, 0, 89, 4, 100, 184, 0, 92, 172]
abbrev dktX3_isNest_0 : List UInt8 := dkwX3_isNest_0 ++ []
theorem dksX3_isNest_0 : cX3_isNest.data.toList.drop 0 = dktX3_isNest_0 := by decide +kernel
theorem dX3_isNest_0 : decode cX3_isNest 0 = .ok (.iload_n 1, 1) := dk_27 (dk_at dksX3_isNest_0 0 rfl rfl)
theorem dX3_isNest_1 : decode cX3_isNest 1 = .ok (.iconst 0, 1) := dk_3 (dk_at dksX3_isNest_0 1 rfl rfl)
theorem dX3_isNest_2 : decode cX3_isNest 2 = .ok (.aload_n 0, 1) := dk_42 (dk_at dksX3_isNest_0 2 rfl rfl)
theorem dX3_isNest_3 : decode cX3_isNest 3 = .ok (.getfield 89, 3) := dk_180 0 89 (dk_at dksX3_isNest_0 3 rfl rfl)
theorem dX3_isNest_6 : decode cX3_isNest 6 = .ok (.iconst 1, 1) := dk_4 (dk_at dksX3_isNest_0 6 rfl rfl)
theorem dX3_isNest_7 : decode cX3_isNest 7 = .ok (.isub, 1) := dk_100 (dk_at dksX3_isNest_0 7 rfl rfl)
theorem dX3_isNest_8 : decode cX3_isNest 8 = .ok (.invokestatic 92, 3) := dk_184 0 92 (dk_at dksX3_isNest_0 8 rfl rfl)
theorem dX3_isNest_11 : decode cX3_isNest 11 = .ok (.ireturn, 1) := dk_172 (dk_at dksX3_isNest_0 11 rfl rfl)
abbrev cX3_lost : ByteArray := prog_9_method_5_code
def yX3_lost : MethodName := ⟨RX3, "lost", "()I"⟩
def dkwX3_lost_0 : List UInt8 := [42, 4, 181, 0, 83, 3, 172]
abbrev dktX3_lost_0 : List UInt8 := dkwX3_lost_0 ++ []
theorem dksX3_lost_0 : cX3_lost.data.toList.drop 0 = dktX3_lost_0 := by decide +kernel
theorem dX3_lost_0 : decode cX3_lost 0 = .ok (.aload_n 0, 1) := dk_42 (dk_at dksX3_lost_0 0 rfl rfl)
theorem dX3_lost_1 : decode cX3_lost 1 = .ok (.iconst 1, 1) := dk_4 (dk_at dksX3_lost_0 1 rfl rfl)
theorem dX3_lost_2 : decode cX3_lost 2 = .ok (.putfield 83, 3) := dk_181 0 83 (dk_at dksX3_lost_0 2 rfl rfl)
theorem dX3_lost_5 : decode cX3_lost 5 = .ok (.iconst 0, 1) := dk_3 (dk_at dksX3_lost_0 5 rfl rfl)
theorem dX3_lost_6 : decode cX3_lost 6 = .ok (.ireturn, 1) := dk_172 (dk_at dksX3_lost_0 6 rfl rfl)
abbrev cX3_isInTime : ByteArray := prog_9_method_37_code
def yX3_isInTime : MethodName := ⟨RX3, "isInTime", "([II)Z"⟩
def dkwX3_isInTime_1 : List UInt8 := [167, 0, 4, 3, 172]
abbrev dktX3_isInTime_1 : List UInt8 := dkwX3_isInTime_1 ++ []
def dkwX3_isInTime_0 : List UInt8 := [43, 16, 32, 28, 96, 46, 2, 159, 0, 20, 43, 16, 32, 28, 96, 46, 42, 180, 0, 13, 161, 0, 7, 4]
abbrev dktX3_isInTime_0 : List UInt8 := dkwX3_isInTime_0 ++ dktX3_isInTime_1
theorem dksX3_isInTime_0 : cX3_isInTime.data.toList.drop 0 = dktX3_isInTime_0 := by decide +kernel
theorem dksX3_isInTime_1 : cX3_isInTime.data.toList.drop 24 = dktX3_isInTime_1 := dk_seg dksX3_isInTime_0 24 rfl rfl
theorem dX3_isInTime_0 : decode cX3_isInTime 0 = .ok (.aload_n 1, 1) := dk_43 (dk_at dksX3_isInTime_0 0 rfl rfl)
theorem dX3_isInTime_1 : decode cX3_isInTime 1 = .ok (.bipush 32, 2) := dk_16 32 (dk_at dksX3_isInTime_0 1 rfl rfl)
theorem dX3_isInTime_3 : decode cX3_isInTime 3 = .ok (.iload_n 2, 1) := dk_28 (dk_at dksX3_isInTime_0 3 rfl rfl)
theorem dX3_isInTime_4 : decode cX3_isInTime 4 = .ok (.iadd, 1) := dk_96 (dk_at dksX3_isInTime_0 4 rfl rfl)
theorem dX3_isInTime_5 : decode cX3_isInTime 5 = .ok (.iaload, 1) := dk_46 (dk_at dksX3_isInTime_0 5 rfl rfl)
theorem dX3_isInTime_6 : decode cX3_isInTime 6 = .ok (.iconst (-1), 1) := dk_2 (dk_at dksX3_isInTime_0 6 rfl rfl)
theorem dX3_isInTime_7 : decode cX3_isInTime 7 = .ok (.if_icmp .eq 20, 3) := dk_159 0 20 (dk_at dksX3_isInTime_0 7 rfl rfl)
theorem dX3_isInTime_10 : decode cX3_isInTime 10 = .ok (.aload_n 1, 1) := dk_43 (dk_at dksX3_isInTime_0 10 rfl rfl)
theorem dX3_isInTime_11 : decode cX3_isInTime 11 = .ok (.bipush 32, 2) := dk_16 32 (dk_at dksX3_isInTime_0 11 rfl rfl)
theorem dX3_isInTime_13 : decode cX3_isInTime 13 = .ok (.iload_n 2, 1) := dk_28 (dk_at dksX3_isInTime_0 13 rfl rfl)
theorem dX3_isInTime_14 : decode cX3_isInTime 14 = .ok (.iadd, 1) := dk_96 (dk_at dksX3_isInTime_0 14 rfl rfl)
theorem dX3_isInTime_15 : decode cX3_isInTime 15 = .ok (.iaload, 1) := dk_46 (dk_at dksX3_isInTime_0 15 rfl rfl)
theorem dX3_isInTime_16 : decode cX3_isInTime 16 = .ok (.aload_n 0, 1) := dk_42 (dk_at dksX3_isInTime_0 16 rfl rfl)
theorem dX3_isInTime_17 : decode cX3_isInTime 17 = .ok (.getfield 13, 3) := dk_180 0 13 (dk_at dksX3_isInTime_0 17 rfl rfl)
theorem dX3_isInTime_20 : decode cX3_isInTime 20 = .ok (.if_icmp .lt 7, 3) := dk_161 0 7 (dk_at dksX3_isInTime_0 20 rfl rfl)
theorem dX3_isInTime_23 : decode cX3_isInTime 23 = .ok (.iconst 1, 1) := dk_4 (dk_at dksX3_isInTime_0 23 rfl rfl)
theorem dX3_isInTime_24 : decode cX3_isInTime 24 = .ok (.goto 4, 3) := dk_167 0 4 (dk_at dksX3_isInTime_1 0 rfl rfl)
theorem dX3_isInTime_27 : decode cX3_isInTime 27 = .ok (.iconst 0, 1) := dk_3 (dk_at dksX3_isInTime_1 3 rfl rfl)
theorem dX3_isInTime_28 : decode cX3_isInTime 28 = .ok (.ireturn, 1) := dk_172 (dk_at dksX3_isInTime_1 4 rfl rfl)
abbrev cX3_guest : ByteArray := prog_9_method_39_code
def yX3_guest : MethodName := ⟨RX3, "guest", "(II)I"⟩
def dkwX3_guest_3 : List UInt8 := [27, 96, 46, 167, 0, 12, 42, 42, 180, 0, 9, 27, 182, 0, 225, 172]
abbrev dktX3_guest_3 : List UInt8 := dkwX3_guest_3 ++ []
def dkwX3_guest_2 : List UInt8 := [27, 96, 46, 154, 0, 5, 3, 172, 28, 7, 162, 0, 20, 42, 180, 0, 9, 16, 48, 16, 8, 28, 104, 96]
abbrev dktX3_guest_2 : List UInt8 := dkwX3_guest_2 ++ dktX3_guest_3
def dkwX3_guest_1 : List UInt8 := [182, 0, 218, 172, 28, 154, 0, 13, 42, 180, 0, 9, 16, 48, 27, 96, 46, 172, 42, 180, 0, 9, 16, 48]
abbrev dktX3_guest_1 : List UInt8 := dkwX3_guest_1 ++ dktX3_guest_2
def dkwX3_guest_0 : List UInt8 := [42, 3, 181, 0, 83, 42, 27, 182, 0, 96, 153, 0, 12, 28, 3, 7, 184, 0, 92, 154, 0, 8, 42]
abbrev dktX3_guest_0 : List UInt8 := dkwX3_guest_0 ++ dktX3_guest_1
theorem dksX3_guest_0 : cX3_guest.data.toList.drop 0 = dktX3_guest_0 := by decide +kernel
theorem dksX3_guest_1 : cX3_guest.data.toList.drop 23 = dktX3_guest_1 := dk_seg dksX3_guest_0 23 rfl rfl
theorem dksX3_guest_2 : cX3_guest.data.toList.drop 47 = dktX3_guest_2 := dk_seg dksX3_guest_1 24 rfl rfl
theorem dksX3_guest_3 : cX3_guest.data.toList.drop 71 = dktX3_guest_3 := dk_seg dksX3_guest_2 24 rfl rfl
theorem dX3_guest_0 : decode cX3_guest 0 = .ok (.aload_n 0, 1) := dk_42 (dk_at dksX3_guest_0 0 rfl rfl)
theorem dX3_guest_1 : decode cX3_guest 1 = .ok (.iconst 0, 1) := dk_3 (dk_at dksX3_guest_0 1 rfl rfl)
theorem dX3_guest_2 : decode cX3_guest 2 = .ok (.putfield 83, 3) := dk_181 0 83 (dk_at dksX3_guest_0 2 rfl rfl)
theorem dX3_guest_5 : decode cX3_guest 5 = .ok (.aload_n 0, 1) := dk_42 (dk_at dksX3_guest_0 5 rfl rfl)
theorem dX3_guest_6 : decode cX3_guest 6 = .ok (.iload_n 1, 1) := dk_27 (dk_at dksX3_guest_0 6 rfl rfl)
theorem dX3_guest_7 : decode cX3_guest 7 = .ok (.invokevirtual 96, 3) := dk_182 0 96 (dk_at dksX3_guest_0 7 rfl rfl)
theorem dX3_guest_10 : decode cX3_guest 10 = .ok (.ifCond .eq 12, 3) := dk_153 0 12 (dk_at dksX3_guest_0 10 rfl rfl)
theorem dX3_guest_13 : decode cX3_guest 13 = .ok (.iload_n 2, 1) := dk_28 (dk_at dksX3_guest_0 13 rfl rfl)
theorem dX3_guest_14 : decode cX3_guest 14 = .ok (.iconst 0, 1) := dk_3 (dk_at dksX3_guest_0 14 rfl rfl)
theorem dX3_guest_15 : decode cX3_guest 15 = .ok (.iconst 4, 1) := dk_7 (dk_at dksX3_guest_0 15 rfl rfl)
theorem dX3_guest_16 : decode cX3_guest 16 = .ok (.invokestatic 92, 3) := dk_184 0 92 (dk_at dksX3_guest_0 16 rfl rfl)
theorem dX3_guest_19 : decode cX3_guest 19 = .ok (.ifCond .ne 8, 3) := dk_154 0 8 (dk_at dksX3_guest_0 19 rfl rfl)
theorem dX3_guest_22 : decode cX3_guest 22 = .ok (.aload_n 0, 1) := dk_42 (dk_at dksX3_guest_0 22 rfl rfl)
theorem dX3_guest_23 : decode cX3_guest 23 = .ok (.invokevirtual 218, 3) := dk_182 0 218 (dk_at dksX3_guest_1 0 rfl rfl)
theorem dX3_guest_26 : decode cX3_guest 26 = .ok (.ireturn, 1) := dk_172 (dk_at dksX3_guest_1 3 rfl rfl)
theorem dX3_guest_27 : decode cX3_guest 27 = .ok (.iload_n 2, 1) := dk_28 (dk_at dksX3_guest_1 4 rfl rfl)
theorem dX3_guest_28 : decode cX3_guest 28 = .ok (.ifCond .ne 13, 3) := dk_154 0 13 (dk_at dksX3_guest_1 5 rfl rfl)
theorem dX3_guest_31 : decode cX3_guest 31 = .ok (.aload_n 0, 1) := dk_42 (dk_at dksX3_guest_1 8 rfl rfl)
theorem dX3_guest_32 : decode cX3_guest 32 = .ok (.getfield 9, 3) := dk_180 0 9 (dk_at dksX3_guest_1 9 rfl rfl)
theorem dX3_guest_35 : decode cX3_guest 35 = .ok (.bipush 48, 2) := dk_16 48 (dk_at dksX3_guest_1 12 rfl rfl)
theorem dX3_guest_37 : decode cX3_guest 37 = .ok (.iload_n 1, 1) := dk_27 (dk_at dksX3_guest_1 14 rfl rfl)
theorem dX3_guest_38 : decode cX3_guest 38 = .ok (.iadd, 1) := dk_96 (dk_at dksX3_guest_1 15 rfl rfl)
theorem dX3_guest_39 : decode cX3_guest 39 = .ok (.iaload, 1) := dk_46 (dk_at dksX3_guest_1 16 rfl rfl)
theorem dX3_guest_40 : decode cX3_guest 40 = .ok (.ireturn, 1) := dk_172 (dk_at dksX3_guest_1 17 rfl rfl)
theorem dX3_guest_41 : decode cX3_guest 41 = .ok (.aload_n 0, 1) := dk_42 (dk_at dksX3_guest_1 18 rfl rfl)
theorem dX3_guest_42 : decode cX3_guest 42 = .ok (.getfield 9, 3) := dk_180 0 9 (dk_at dksX3_guest_1 19 rfl rfl)
theorem dX3_guest_45 : decode cX3_guest 45 = .ok (.bipush 48, 2) := dk_16 48 (dk_at dksX3_guest_1 22 rfl rfl)
theorem dX3_guest_47 : decode cX3_guest 47 = .ok (.iload_n 1, 1) := dk_27 (dk_at dksX3_guest_2 0 rfl rfl)
theorem dX3_guest_48 : decode cX3_guest 48 = .ok (.iadd, 1) := dk_96 (dk_at dksX3_guest_2 1 rfl rfl)
theorem dX3_guest_49 : decode cX3_guest 49 = .ok (.iaload, 1) := dk_46 (dk_at dksX3_guest_2 2 rfl rfl)
theorem dX3_guest_50 : decode cX3_guest 50 = .ok (.ifCond .ne 5, 3) := dk_154 0 5 (dk_at dksX3_guest_2 3 rfl rfl)
theorem dX3_guest_53 : decode cX3_guest 53 = .ok (.iconst 0, 1) := dk_3 (dk_at dksX3_guest_2 6 rfl rfl)
theorem dX3_guest_54 : decode cX3_guest 54 = .ok (.ireturn, 1) := dk_172 (dk_at dksX3_guest_2 7 rfl rfl)
theorem dX3_guest_55 : decode cX3_guest 55 = .ok (.iload_n 2, 1) := dk_28 (dk_at dksX3_guest_2 8 rfl rfl)
theorem dX3_guest_56 : decode cX3_guest 56 = .ok (.iconst 4, 1) := dk_7 (dk_at dksX3_guest_2 9 rfl rfl)
theorem dX3_guest_57 : decode cX3_guest 57 = .ok (.if_icmp .ge 20, 3) := dk_162 0 20 (dk_at dksX3_guest_2 10 rfl rfl)
theorem dX3_guest_60 : decode cX3_guest 60 = .ok (.aload_n 0, 1) := dk_42 (dk_at dksX3_guest_2 13 rfl rfl)
theorem dX3_guest_61 : decode cX3_guest 61 = .ok (.getfield 9, 3) := dk_180 0 9 (dk_at dksX3_guest_2 14 rfl rfl)
theorem dX3_guest_64 : decode cX3_guest 64 = .ok (.bipush 48, 2) := dk_16 48 (dk_at dksX3_guest_2 17 rfl rfl)
theorem dX3_guest_66 : decode cX3_guest 66 = .ok (.bipush 8, 2) := dk_16 8 (dk_at dksX3_guest_2 19 rfl rfl)
theorem dX3_guest_68 : decode cX3_guest 68 = .ok (.iload_n 2, 1) := dk_28 (dk_at dksX3_guest_2 21 rfl rfl)
theorem dX3_guest_69 : decode cX3_guest 69 = .ok (.imul, 1) := dk_104 (dk_at dksX3_guest_2 22 rfl rfl)
theorem dX3_guest_70 : decode cX3_guest 70 = .ok (.iadd, 1) := dk_96 (dk_at dksX3_guest_2 23 rfl rfl)
theorem dX3_guest_71 : decode cX3_guest 71 = .ok (.iload_n 1, 1) := dk_27 (dk_at dksX3_guest_3 0 rfl rfl)
theorem dX3_guest_72 : decode cX3_guest 72 = .ok (.iadd, 1) := dk_96 (dk_at dksX3_guest_3 1 rfl rfl)
theorem dX3_guest_73 : decode cX3_guest 73 = .ok (.iaload, 1) := dk_46 (dk_at dksX3_guest_3 2 rfl rfl)
theorem dX3_guest_74 : decode cX3_guest 74 = .ok (.goto 12, 3) := dk_167 0 12 (dk_at dksX3_guest_3 3 rfl rfl)
theorem dX3_guest_77 : decode cX3_guest 77 = .ok (.aload_n 0, 1) := dk_42 (dk_at dksX3_guest_3 6 rfl rfl)
theorem dX3_guest_78 : decode cX3_guest 78 = .ok (.aload_n 0, 1) := dk_42 (dk_at dksX3_guest_3 7 rfl rfl)
theorem dX3_guest_79 : decode cX3_guest 79 = .ok (.getfield 9, 3) := dk_180 0 9 (dk_at dksX3_guest_3 8 rfl rfl)
theorem dX3_guest_82 : decode cX3_guest 82 = .ok (.iload_n 1, 1) := dk_27 (dk_at dksX3_guest_3 11 rfl rfl)
theorem dX3_guest_83 : decode cX3_guest 83 = .ok (.invokevirtual 225, 3) := dk_182 0 225 (dk_at dksX3_guest_3 12 rfl rfl)
theorem dX3_guest_86 : decode cX3_guest 86 = .ok (.ireturn, 1) := dk_172 (dk_at dksX3_guest_3 15 rfl rfl)
abbrev cX3_oddNow : ByteArray := prog_9_method_34_code
def yX3_oddNow : MethodName := ⟨RX3, "oddNow", "([II)I"⟩
def dkwX3_oddNow_1 : List UInt8 := [182, 0, 202, 184, 0, 206, 182, 0, 211, 172]
abbrev dktX3_oddNow_1 : List UInt8 := dkwX3_oddNow_1 ++ []
def dkwX3_oddNow_0 : List UInt8 := [42, 43, 28, 43, 16, 56, 28, 96, 46, 43, 16, 64, 28, 96, 46, 43, 16, 24, 28, 96, 46, 42, 43]
abbrev dktX3_oddNow_0 : List UInt8 := dkwX3_oddNow_0 ++ dktX3_oddNow_1
theorem dksX3_oddNow_0 : cX3_oddNow.data.toList.drop 0 = dktX3_oddNow_0 := by decide +kernel
theorem dksX3_oddNow_1 : cX3_oddNow.data.toList.drop 23 = dktX3_oddNow_1 := dk_seg dksX3_oddNow_0 23 rfl rfl
theorem dX3_oddNow_0 : decode cX3_oddNow 0 = .ok (.aload_n 0, 1) := dk_42 (dk_at dksX3_oddNow_0 0 rfl rfl)
theorem dX3_oddNow_1 : decode cX3_oddNow 1 = .ok (.aload_n 1, 1) := dk_43 (dk_at dksX3_oddNow_0 1 rfl rfl)
theorem dX3_oddNow_2 : decode cX3_oddNow 2 = .ok (.iload_n 2, 1) := dk_28 (dk_at dksX3_oddNow_0 2 rfl rfl)
theorem dX3_oddNow_3 : decode cX3_oddNow 3 = .ok (.aload_n 1, 1) := dk_43 (dk_at dksX3_oddNow_0 3 rfl rfl)
theorem dX3_oddNow_4 : decode cX3_oddNow 4 = .ok (.bipush 56, 2) := dk_16 56 (dk_at dksX3_oddNow_0 4 rfl rfl)
theorem dX3_oddNow_6 : decode cX3_oddNow 6 = .ok (.iload_n 2, 1) := dk_28 (dk_at dksX3_oddNow_0 6 rfl rfl)
theorem dX3_oddNow_7 : decode cX3_oddNow 7 = .ok (.iadd, 1) := dk_96 (dk_at dksX3_oddNow_0 7 rfl rfl)
theorem dX3_oddNow_8 : decode cX3_oddNow 8 = .ok (.iaload, 1) := dk_46 (dk_at dksX3_oddNow_0 8 rfl rfl)
theorem dX3_oddNow_9 : decode cX3_oddNow 9 = .ok (.aload_n 1, 1) := dk_43 (dk_at dksX3_oddNow_0 9 rfl rfl)
theorem dX3_oddNow_10 : decode cX3_oddNow 10 = .ok (.bipush 64, 2) := dk_16 64 (dk_at dksX3_oddNow_0 10 rfl rfl)
theorem dX3_oddNow_12 : decode cX3_oddNow 12 = .ok (.iload_n 2, 1) := dk_28 (dk_at dksX3_oddNow_0 12 rfl rfl)
theorem dX3_oddNow_13 : decode cX3_oddNow 13 = .ok (.iadd, 1) := dk_96 (dk_at dksX3_oddNow_0 13 rfl rfl)
theorem dX3_oddNow_14 : decode cX3_oddNow 14 = .ok (.iaload, 1) := dk_46 (dk_at dksX3_oddNow_0 14 rfl rfl)
theorem dX3_oddNow_15 : decode cX3_oddNow 15 = .ok (.aload_n 1, 1) := dk_43 (dk_at dksX3_oddNow_0 15 rfl rfl)
theorem dX3_oddNow_16 : decode cX3_oddNow 16 = .ok (.bipush 24, 2) := dk_16 24 (dk_at dksX3_oddNow_0 16 rfl rfl)
theorem dX3_oddNow_18 : decode cX3_oddNow 18 = .ok (.iload_n 2, 1) := dk_28 (dk_at dksX3_oddNow_0 18 rfl rfl)
theorem dX3_oddNow_19 : decode cX3_oddNow 19 = .ok (.iadd, 1) := dk_96 (dk_at dksX3_oddNow_0 19 rfl rfl)
theorem dX3_oddNow_20 : decode cX3_oddNow 20 = .ok (.iaload, 1) := dk_46 (dk_at dksX3_oddNow_0 20 rfl rfl)
theorem dX3_oddNow_21 : decode cX3_oddNow 21 = .ok (.aload_n 0, 1) := dk_42 (dk_at dksX3_oddNow_0 21 rfl rfl)
theorem dX3_oddNow_22 : decode cX3_oddNow 22 = .ok (.aload_n 1, 1) := dk_43 (dk_at dksX3_oddNow_0 22 rfl rfl)
theorem dX3_oddNow_23 : decode cX3_oddNow 23 = .ok (.invokevirtual 202, 3) := dk_182 0 202 (dk_at dksX3_oddNow_1 0 rfl rfl)
theorem dX3_oddNow_26 : decode cX3_oddNow 26 = .ok (.invokestatic 206, 3) := dk_184 0 206 (dk_at dksX3_oddNow_1 3 rfl rfl)
theorem dX3_oddNow_29 : decode cX3_oddNow 29 = .ok (.invokevirtual 211, 3) := dk_182 0 211 (dk_at dksX3_oddNow_1 6 rfl rfl)
theorem dX3_oddNow_32 : decode cX3_oddNow 32 = .ok (.ireturn, 1) := dk_172 (dk_at dksX3_oddNow_1 9 rfl rfl)
abbrev cX3_guests : ByteArray := prog_9_method_32_code
def yX3_guests : MethodName := ⟨RX3, "guests", "([I)I"⟩
def dkwX3_guests_1 : List UInt8 := [167, 0, 6, 4, 29, 120, 128, 61, 132, 3, 1, 167, 255, 226, 28, 172]
abbrev dktX3_guests_1 : List UInt8 := dkwX3_guests_1 ++ []
def dkwX3_guests_0 : List UInt8 := [3, 61, 3, 62, 29, 42, 180, 0, 89, 162, 0, 28, 28, 43, 16, 48, 29, 96, 46, 154, 0, 7, 3]
abbrev dktX3_guests_0 : List UInt8 := dkwX3_guests_0 ++ dktX3_guests_1
theorem dksX3_guests_0 : cX3_guests.data.toList.drop 0 = dktX3_guests_0 := by decide +kernel
theorem dksX3_guests_1 : cX3_guests.data.toList.drop 23 = dktX3_guests_1 := dk_seg dksX3_guests_0 23 rfl rfl
theorem dX3_guests_0 : decode cX3_guests 0 = .ok (.iconst 0, 1) := dk_3 (dk_at dksX3_guests_0 0 rfl rfl)
theorem dX3_guests_1 : decode cX3_guests 1 = .ok (.istore_n 2, 1) := dk_61 (dk_at dksX3_guests_0 1 rfl rfl)
theorem dX3_guests_2 : decode cX3_guests 2 = .ok (.iconst 0, 1) := dk_3 (dk_at dksX3_guests_0 2 rfl rfl)
theorem dX3_guests_3 : decode cX3_guests 3 = .ok (.istore_n 3, 1) := dk_62 (dk_at dksX3_guests_0 3 rfl rfl)
theorem dX3_guests_4 : decode cX3_guests 4 = .ok (.iload_n 3, 1) := dk_29 (dk_at dksX3_guests_0 4 rfl rfl)
theorem dX3_guests_5 : decode cX3_guests 5 = .ok (.aload_n 0, 1) := dk_42 (dk_at dksX3_guests_0 5 rfl rfl)
theorem dX3_guests_6 : decode cX3_guests 6 = .ok (.getfield 89, 3) := dk_180 0 89 (dk_at dksX3_guests_0 6 rfl rfl)
theorem dX3_guests_9 : decode cX3_guests 9 = .ok (.if_icmp .ge 28, 3) := dk_162 0 28 (dk_at dksX3_guests_0 9 rfl rfl)
theorem dX3_guests_12 : decode cX3_guests 12 = .ok (.iload_n 2, 1) := dk_28 (dk_at dksX3_guests_0 12 rfl rfl)
theorem dX3_guests_13 : decode cX3_guests 13 = .ok (.aload_n 1, 1) := dk_43 (dk_at dksX3_guests_0 13 rfl rfl)
theorem dX3_guests_14 : decode cX3_guests 14 = .ok (.bipush 48, 2) := dk_16 48 (dk_at dksX3_guests_0 14 rfl rfl)
theorem dX3_guests_16 : decode cX3_guests 16 = .ok (.iload_n 3, 1) := dk_29 (dk_at dksX3_guests_0 16 rfl rfl)
theorem dX3_guests_17 : decode cX3_guests 17 = .ok (.iadd, 1) := dk_96 (dk_at dksX3_guests_0 17 rfl rfl)
theorem dX3_guests_18 : decode cX3_guests 18 = .ok (.iaload, 1) := dk_46 (dk_at dksX3_guests_0 18 rfl rfl)
theorem dX3_guests_19 : decode cX3_guests 19 = .ok (.ifCond .ne 7, 3) := dk_154 0 7 (dk_at dksX3_guests_0 19 rfl rfl)
theorem dX3_guests_22 : decode cX3_guests 22 = .ok (.iconst 0, 1) := dk_3 (dk_at dksX3_guests_0 22 rfl rfl)
theorem dX3_guests_23 : decode cX3_guests 23 = .ok (.goto 6, 3) := dk_167 0 6 (dk_at dksX3_guests_1 0 rfl rfl)
theorem dX3_guests_26 : decode cX3_guests 26 = .ok (.iconst 1, 1) := dk_4 (dk_at dksX3_guests_1 3 rfl rfl)
theorem dX3_guests_27 : decode cX3_guests 27 = .ok (.iload_n 3, 1) := dk_29 (dk_at dksX3_guests_1 4 rfl rfl)
theorem dX3_guests_28 : decode cX3_guests 28 = .ok (.ishl, 1) := dk_120 (dk_at dksX3_guests_1 5 rfl rfl)
theorem dX3_guests_29 : decode cX3_guests 29 = .ok (.ior, 1) := dk_128 (dk_at dksX3_guests_1 6 rfl rfl)
theorem dX3_guests_30 : decode cX3_guests 30 = .ok (.istore_n 2, 1) := dk_61 (dk_at dksX3_guests_1 7 rfl rfl)
theorem dX3_guests_31 : decode cX3_guests 31 = .ok (.iinc 3 1, 3) := dk_132 3 1 (dk_at dksX3_guests_1 8 rfl rfl)
theorem dX3_guests_34 : decode cX3_guests 34 = .ok (.goto (-30), 3) := dk_167 255 226 (dk_at dksX3_guests_1 11 rfl rfl)
theorem dX3_guests_37 : decode cX3_guests 37 = .ok (.iload_n 2, 1) := dk_28 (dk_at dksX3_guests_1 14 rfl rfl)
theorem dX3_guests_38 : decode cX3_guests 38 = .ok (.ireturn, 1) := dk_172 (dk_at dksX3_guests_1 15 rfl rfl)
abbrev cX3_oddOf : ByteArray := prog_9_method_33_code
def yX3_oddOf : MethodName := ⟨RX3, "oddOf", "([IIIIII)I"⟩
def dkwX3_oddOf_6 : List UInt8 := [3, 182, 0, 170, 54, 9, 42, 3, 181, 0, 183, 21, 9, 172]
abbrev dktX3_oddOf_6 : List UInt8 := dkwX3_oddOf_6 ++ []
def dkwX3_oddOf_5 : List UInt8 := [16, 8, 112, 79, 42, 42, 180, 0, 28, 42, 180, 0, 190, 16, 40, 182, 0, 118, 42, 4, 181, 0, 183, 42]
abbrev dktX3_oddOf_5 : List UInt8 := dkwX3_oddOf_5 ++ dktX3_oddOf_6
def dkwX3_oddOf_4 : List UInt8 := [8, 21, 4, 79, 42, 180, 0, 34, 16, 6, 21, 6, 79, 42, 180, 0, 34, 16, 7, 43, 16, 80, 46]
abbrev dktX3_oddOf_4 : List UInt8 := dkwX3_oddOf_4 ++ dktX3_oddOf_5
def dkwX3_oddOf_3 : List UInt8 := [42, 180, 0, 34, 6, 21, 5, 79, 42, 180, 0, 34, 7, 43, 16, 8, 28, 96, 46, 79, 42, 180, 0, 34]
abbrev dktX3_oddOf_3 : List UInt8 := dkwX3_oddOf_3 ++ dktX3_oddOf_4
def dkwX3_oddOf_2 : List UInt8 := [180, 0, 34, 3, 21, 7, 79, 42, 180, 0, 34, 4, 21, 8, 79, 42, 180, 0, 34, 5, 43, 28, 46, 79]
abbrev dktX3_oddOf_2 : List UInt8 := dkwX3_oddOf_2 ++ dktX3_oddOf_3
def dkwX3_oddOf_1 : List UInt8 := [54, 8, 42, 180, 0, 190, 154, 0, 15, 21, 7, 6, 104, 21, 8, 100, 43, 28, 46, 100, 172, 42]
abbrev dktX3_oddOf_1 : List UInt8 := dkwX3_oddOf_1 ++ dktX3_oddOf_2
def dkwX3_oddOf_0 : List UInt8 := [43, 16, 16, 28, 96, 46, 29, 100, 184, 0, 193, 54, 7, 3, 43, 16, 32, 28, 96, 46, 184, 0, 198]
abbrev dktX3_oddOf_0 : List UInt8 := dkwX3_oddOf_0 ++ dktX3_oddOf_1
theorem dksX3_oddOf_0 : cX3_oddOf.data.toList.drop 0 = dktX3_oddOf_0 := by decide +kernel
theorem dksX3_oddOf_1 : cX3_oddOf.data.toList.drop 23 = dktX3_oddOf_1 := dk_seg dksX3_oddOf_0 23 rfl rfl
theorem dksX3_oddOf_2 : cX3_oddOf.data.toList.drop 45 = dktX3_oddOf_2 := dk_seg dksX3_oddOf_1 22 rfl rfl
theorem dksX3_oddOf_3 : cX3_oddOf.data.toList.drop 69 = dktX3_oddOf_3 := dk_seg dksX3_oddOf_2 24 rfl rfl
theorem dksX3_oddOf_4 : cX3_oddOf.data.toList.drop 93 = dktX3_oddOf_4 := dk_seg dksX3_oddOf_3 24 rfl rfl
theorem dksX3_oddOf_5 : cX3_oddOf.data.toList.drop 116 = dktX3_oddOf_5 := dk_seg dksX3_oddOf_4 23 rfl rfl
theorem dksX3_oddOf_6 : cX3_oddOf.data.toList.drop 140 = dktX3_oddOf_6 := dk_seg dksX3_oddOf_5 24 rfl rfl
theorem dX3_oddOf_0 : decode cX3_oddOf 0 = .ok (.aload_n 1, 1) := dk_43 (dk_at dksX3_oddOf_0 0 rfl rfl)
theorem dX3_oddOf_1 : decode cX3_oddOf 1 = .ok (.bipush 16, 2) := dk_16 16 (dk_at dksX3_oddOf_0 1 rfl rfl)
theorem dX3_oddOf_3 : decode cX3_oddOf 3 = .ok (.iload_n 2, 1) := dk_28 (dk_at dksX3_oddOf_0 3 rfl rfl)
theorem dX3_oddOf_4 : decode cX3_oddOf 4 = .ok (.iadd, 1) := dk_96 (dk_at dksX3_oddOf_0 4 rfl rfl)
theorem dX3_oddOf_5 : decode cX3_oddOf 5 = .ok (.iaload, 1) := dk_46 (dk_at dksX3_oddOf_0 5 rfl rfl)
theorem dX3_oddOf_6 : decode cX3_oddOf 6 = .ok (.iload_n 3, 1) := dk_29 (dk_at dksX3_oddOf_0 6 rfl rfl)
theorem dX3_oddOf_7 : decode cX3_oddOf 7 = .ok (.isub, 1) := dk_100 (dk_at dksX3_oddOf_0 7 rfl rfl)
theorem dX3_oddOf_8 : decode cX3_oddOf 8 = .ok (.invokestatic 193, 3) := dk_184 0 193 (dk_at dksX3_oddOf_0 8 rfl rfl)
theorem dX3_oddOf_11 : decode cX3_oddOf 11 = .ok (.istore 7, 2) := dk_54 7 (dk_at dksX3_oddOf_0 11 rfl rfl)
theorem dX3_oddOf_13 : decode cX3_oddOf 13 = .ok (.iconst 0, 1) := dk_3 (dk_at dksX3_oddOf_0 13 rfl rfl)
theorem dX3_oddOf_14 : decode cX3_oddOf 14 = .ok (.aload_n 1, 1) := dk_43 (dk_at dksX3_oddOf_0 14 rfl rfl)
theorem dX3_oddOf_15 : decode cX3_oddOf 15 = .ok (.bipush 32, 2) := dk_16 32 (dk_at dksX3_oddOf_0 15 rfl rfl)
theorem dX3_oddOf_17 : decode cX3_oddOf 17 = .ok (.iload_n 2, 1) := dk_28 (dk_at dksX3_oddOf_0 17 rfl rfl)
theorem dX3_oddOf_18 : decode cX3_oddOf 18 = .ok (.iadd, 1) := dk_96 (dk_at dksX3_oddOf_0 18 rfl rfl)
theorem dX3_oddOf_19 : decode cX3_oddOf 19 = .ok (.iaload, 1) := dk_46 (dk_at dksX3_oddOf_0 19 rfl rfl)
theorem dX3_oddOf_20 : decode cX3_oddOf 20 = .ok (.invokestatic 198, 3) := dk_184 0 198 (dk_at dksX3_oddOf_0 20 rfl rfl)
theorem dX3_oddOf_23 : decode cX3_oddOf 23 = .ok (.istore 8, 2) := dk_54 8 (dk_at dksX3_oddOf_1 0 rfl rfl)
theorem dX3_oddOf_25 : decode cX3_oddOf 25 = .ok (.aload_n 0, 1) := dk_42 (dk_at dksX3_oddOf_1 2 rfl rfl)
theorem dX3_oddOf_26 : decode cX3_oddOf 26 = .ok (.getfield 190, 3) := dk_180 0 190 (dk_at dksX3_oddOf_1 3 rfl rfl)
theorem dX3_oddOf_29 : decode cX3_oddOf 29 = .ok (.ifCond .ne 15, 3) := dk_154 0 15 (dk_at dksX3_oddOf_1 6 rfl rfl)
theorem dX3_oddOf_32 : decode cX3_oddOf 32 = .ok (.iload 7, 2) := dk_21 7 (dk_at dksX3_oddOf_1 9 rfl rfl)
theorem dX3_oddOf_34 : decode cX3_oddOf 34 = .ok (.iconst 3, 1) := dk_6 (dk_at dksX3_oddOf_1 11 rfl rfl)
theorem dX3_oddOf_35 : decode cX3_oddOf 35 = .ok (.imul, 1) := dk_104 (dk_at dksX3_oddOf_1 12 rfl rfl)
theorem dX3_oddOf_36 : decode cX3_oddOf 36 = .ok (.iload 8, 2) := dk_21 8 (dk_at dksX3_oddOf_1 13 rfl rfl)
theorem dX3_oddOf_38 : decode cX3_oddOf 38 = .ok (.isub, 1) := dk_100 (dk_at dksX3_oddOf_1 15 rfl rfl)
theorem dX3_oddOf_39 : decode cX3_oddOf 39 = .ok (.aload_n 1, 1) := dk_43 (dk_at dksX3_oddOf_1 16 rfl rfl)
theorem dX3_oddOf_40 : decode cX3_oddOf 40 = .ok (.iload_n 2, 1) := dk_28 (dk_at dksX3_oddOf_1 17 rfl rfl)
theorem dX3_oddOf_41 : decode cX3_oddOf 41 = .ok (.iaload, 1) := dk_46 (dk_at dksX3_oddOf_1 18 rfl rfl)
theorem dX3_oddOf_42 : decode cX3_oddOf 42 = .ok (.isub, 1) := dk_100 (dk_at dksX3_oddOf_1 19 rfl rfl)
theorem dX3_oddOf_43 : decode cX3_oddOf 43 = .ok (.ireturn, 1) := dk_172 (dk_at dksX3_oddOf_1 20 rfl rfl)
theorem dX3_oddOf_44 : decode cX3_oddOf 44 = .ok (.aload_n 0, 1) := dk_42 (dk_at dksX3_oddOf_1 21 rfl rfl)
theorem dX3_oddOf_45 : decode cX3_oddOf 45 = .ok (.getfield 34, 3) := dk_180 0 34 (dk_at dksX3_oddOf_2 0 rfl rfl)
theorem dX3_oddOf_48 : decode cX3_oddOf 48 = .ok (.iconst 0, 1) := dk_3 (dk_at dksX3_oddOf_2 3 rfl rfl)
theorem dX3_oddOf_49 : decode cX3_oddOf 49 = .ok (.iload 7, 2) := dk_21 7 (dk_at dksX3_oddOf_2 4 rfl rfl)
theorem dX3_oddOf_51 : decode cX3_oddOf 51 = .ok (.iastore, 1) := dk_79 (dk_at dksX3_oddOf_2 6 rfl rfl)
theorem dX3_oddOf_52 : decode cX3_oddOf 52 = .ok (.aload_n 0, 1) := dk_42 (dk_at dksX3_oddOf_2 7 rfl rfl)
theorem dX3_oddOf_53 : decode cX3_oddOf 53 = .ok (.getfield 34, 3) := dk_180 0 34 (dk_at dksX3_oddOf_2 8 rfl rfl)
theorem dX3_oddOf_56 : decode cX3_oddOf 56 = .ok (.iconst 1, 1) := dk_4 (dk_at dksX3_oddOf_2 11 rfl rfl)
theorem dX3_oddOf_57 : decode cX3_oddOf 57 = .ok (.iload 8, 2) := dk_21 8 (dk_at dksX3_oddOf_2 12 rfl rfl)
theorem dX3_oddOf_59 : decode cX3_oddOf 59 = .ok (.iastore, 1) := dk_79 (dk_at dksX3_oddOf_2 14 rfl rfl)
theorem dX3_oddOf_60 : decode cX3_oddOf 60 = .ok (.aload_n 0, 1) := dk_42 (dk_at dksX3_oddOf_2 15 rfl rfl)
theorem dX3_oddOf_61 : decode cX3_oddOf 61 = .ok (.getfield 34, 3) := dk_180 0 34 (dk_at dksX3_oddOf_2 16 rfl rfl)
theorem dX3_oddOf_64 : decode cX3_oddOf 64 = .ok (.iconst 2, 1) := dk_5 (dk_at dksX3_oddOf_2 19 rfl rfl)
theorem dX3_oddOf_65 : decode cX3_oddOf 65 = .ok (.aload_n 1, 1) := dk_43 (dk_at dksX3_oddOf_2 20 rfl rfl)
theorem dX3_oddOf_66 : decode cX3_oddOf 66 = .ok (.iload_n 2, 1) := dk_28 (dk_at dksX3_oddOf_2 21 rfl rfl)
theorem dX3_oddOf_67 : decode cX3_oddOf 67 = .ok (.iaload, 1) := dk_46 (dk_at dksX3_oddOf_2 22 rfl rfl)
theorem dX3_oddOf_68 : decode cX3_oddOf 68 = .ok (.iastore, 1) := dk_79 (dk_at dksX3_oddOf_2 23 rfl rfl)
theorem dX3_oddOf_69 : decode cX3_oddOf 69 = .ok (.aload_n 0, 1) := dk_42 (dk_at dksX3_oddOf_3 0 rfl rfl)
theorem dX3_oddOf_70 : decode cX3_oddOf 70 = .ok (.getfield 34, 3) := dk_180 0 34 (dk_at dksX3_oddOf_3 1 rfl rfl)
theorem dX3_oddOf_73 : decode cX3_oddOf 73 = .ok (.iconst 3, 1) := dk_6 (dk_at dksX3_oddOf_3 4 rfl rfl)
theorem dX3_oddOf_74 : decode cX3_oddOf 74 = .ok (.iload 5, 2) := dk_21 5 (dk_at dksX3_oddOf_3 5 rfl rfl)
theorem dX3_oddOf_76 : decode cX3_oddOf 76 = .ok (.iastore, 1) := dk_79 (dk_at dksX3_oddOf_3 7 rfl rfl)
theorem dX3_oddOf_77 : decode cX3_oddOf 77 = .ok (.aload_n 0, 1) := dk_42 (dk_at dksX3_oddOf_3 8 rfl rfl)
theorem dX3_oddOf_78 : decode cX3_oddOf 78 = .ok (.getfield 34, 3) := dk_180 0 34 (dk_at dksX3_oddOf_3 9 rfl rfl)
theorem dX3_oddOf_81 : decode cX3_oddOf 81 = .ok (.iconst 4, 1) := dk_7 (dk_at dksX3_oddOf_3 12 rfl rfl)
theorem dX3_oddOf_82 : decode cX3_oddOf 82 = .ok (.aload_n 1, 1) := dk_43 (dk_at dksX3_oddOf_3 13 rfl rfl)
theorem dX3_oddOf_83 : decode cX3_oddOf 83 = .ok (.bipush 8, 2) := dk_16 8 (dk_at dksX3_oddOf_3 14 rfl rfl)
theorem dX3_oddOf_85 : decode cX3_oddOf 85 = .ok (.iload_n 2, 1) := dk_28 (dk_at dksX3_oddOf_3 16 rfl rfl)
theorem dX3_oddOf_86 : decode cX3_oddOf 86 = .ok (.iadd, 1) := dk_96 (dk_at dksX3_oddOf_3 17 rfl rfl)
theorem dX3_oddOf_87 : decode cX3_oddOf 87 = .ok (.iaload, 1) := dk_46 (dk_at dksX3_oddOf_3 18 rfl rfl)
theorem dX3_oddOf_88 : decode cX3_oddOf 88 = .ok (.iastore, 1) := dk_79 (dk_at dksX3_oddOf_3 19 rfl rfl)
theorem dX3_oddOf_89 : decode cX3_oddOf 89 = .ok (.aload_n 0, 1) := dk_42 (dk_at dksX3_oddOf_3 20 rfl rfl)
theorem dX3_oddOf_90 : decode cX3_oddOf 90 = .ok (.getfield 34, 3) := dk_180 0 34 (dk_at dksX3_oddOf_3 21 rfl rfl)
theorem dX3_oddOf_93 : decode cX3_oddOf 93 = .ok (.iconst 5, 1) := dk_8 (dk_at dksX3_oddOf_4 0 rfl rfl)
theorem dX3_oddOf_94 : decode cX3_oddOf 94 = .ok (.iload 4, 2) := dk_21 4 (dk_at dksX3_oddOf_4 1 rfl rfl)
theorem dX3_oddOf_96 : decode cX3_oddOf 96 = .ok (.iastore, 1) := dk_79 (dk_at dksX3_oddOf_4 3 rfl rfl)
theorem dX3_oddOf_97 : decode cX3_oddOf 97 = .ok (.aload_n 0, 1) := dk_42 (dk_at dksX3_oddOf_4 4 rfl rfl)
theorem dX3_oddOf_98 : decode cX3_oddOf 98 = .ok (.getfield 34, 3) := dk_180 0 34 (dk_at dksX3_oddOf_4 5 rfl rfl)
theorem dX3_oddOf_101 : decode cX3_oddOf 101 = .ok (.bipush 6, 2) := dk_16 6 (dk_at dksX3_oddOf_4 8 rfl rfl)
theorem dX3_oddOf_103 : decode cX3_oddOf 103 = .ok (.iload 6, 2) := dk_21 6 (dk_at dksX3_oddOf_4 10 rfl rfl)
theorem dX3_oddOf_105 : decode cX3_oddOf 105 = .ok (.iastore, 1) := dk_79 (dk_at dksX3_oddOf_4 12 rfl rfl)
theorem dX3_oddOf_106 : decode cX3_oddOf 106 = .ok (.aload_n 0, 1) := dk_42 (dk_at dksX3_oddOf_4 13 rfl rfl)
theorem dX3_oddOf_107 : decode cX3_oddOf 107 = .ok (.getfield 34, 3) := dk_180 0 34 (dk_at dksX3_oddOf_4 14 rfl rfl)
theorem dX3_oddOf_110 : decode cX3_oddOf 110 = .ok (.bipush 7, 2) := dk_16 7 (dk_at dksX3_oddOf_4 17 rfl rfl)
theorem dX3_oddOf_112 : decode cX3_oddOf 112 = .ok (.aload_n 1, 1) := dk_43 (dk_at dksX3_oddOf_4 19 rfl rfl)
theorem dX3_oddOf_113 : decode cX3_oddOf 113 = .ok (.bipush 80, 2) := dk_16 80 (dk_at dksX3_oddOf_4 20 rfl rfl)
theorem dX3_oddOf_115 : decode cX3_oddOf 115 = .ok (.iaload, 1) := dk_46 (dk_at dksX3_oddOf_4 22 rfl rfl)
theorem dX3_oddOf_116 : decode cX3_oddOf 116 = .ok (.bipush 8, 2) := dk_16 8 (dk_at dksX3_oddOf_5 0 rfl rfl)
theorem dX3_oddOf_118 : decode cX3_oddOf 118 = .ok (.irem, 1) := dk_112 (dk_at dksX3_oddOf_5 2 rfl rfl)
theorem dX3_oddOf_119 : decode cX3_oddOf 119 = .ok (.iastore, 1) := dk_79 (dk_at dksX3_oddOf_5 3 rfl rfl)
theorem dX3_oddOf_120 : decode cX3_oddOf 120 = .ok (.aload_n 0, 1) := dk_42 (dk_at dksX3_oddOf_5 4 rfl rfl)
theorem dX3_oddOf_121 : decode cX3_oddOf 121 = .ok (.aload_n 0, 1) := dk_42 (dk_at dksX3_oddOf_5 5 rfl rfl)
theorem dX3_oddOf_122 : decode cX3_oddOf 122 = .ok (.getfield 28, 3) := dk_180 0 28 (dk_at dksX3_oddOf_5 6 rfl rfl)
theorem dX3_oddOf_125 : decode cX3_oddOf 125 = .ok (.aload_n 0, 1) := dk_42 (dk_at dksX3_oddOf_5 9 rfl rfl)
theorem dX3_oddOf_126 : decode cX3_oddOf 126 = .ok (.getfield 190, 3) := dk_180 0 190 (dk_at dksX3_oddOf_5 10 rfl rfl)
theorem dX3_oddOf_129 : decode cX3_oddOf 129 = .ok (.bipush 40, 2) := dk_16 40 (dk_at dksX3_oddOf_5 13 rfl rfl)
theorem dX3_oddOf_131 : decode cX3_oddOf 131 = .ok (.invokevirtual 118, 3) := dk_182 0 118 (dk_at dksX3_oddOf_5 15 rfl rfl)
theorem dX3_oddOf_134 : decode cX3_oddOf 134 = .ok (.aload_n 0, 1) := dk_42 (dk_at dksX3_oddOf_5 18 rfl rfl)
theorem dX3_oddOf_135 : decode cX3_oddOf 135 = .ok (.iconst 1, 1) := dk_4 (dk_at dksX3_oddOf_5 19 rfl rfl)
theorem dX3_oddOf_136 : decode cX3_oddOf 136 = .ok (.putfield 183, 3) := dk_181 0 183 (dk_at dksX3_oddOf_5 20 rfl rfl)
theorem dX3_oddOf_139 : decode cX3_oddOf 139 = .ok (.aload_n 0, 1) := dk_42 (dk_at dksX3_oddOf_5 23 rfl rfl)
theorem dX3_oddOf_140 : decode cX3_oddOf 140 = .ok (.iconst 0, 1) := dk_3 (dk_at dksX3_oddOf_6 0 rfl rfl)
theorem dX3_oddOf_141 : decode cX3_oddOf 141 = .ok (.invokevirtual 170, 3) := dk_182 0 170 (dk_at dksX3_oddOf_6 1 rfl rfl)
theorem dX3_oddOf_144 : decode cX3_oddOf 144 = .ok (.istore 9, 2) := dk_54 9 (dk_at dksX3_oddOf_6 4 rfl rfl)
theorem dX3_oddOf_146 : decode cX3_oddOf 146 = .ok (.aload_n 0, 1) := dk_42 (dk_at dksX3_oddOf_6 6 rfl rfl)
theorem dX3_oddOf_147 : decode cX3_oddOf 147 = .ok (.iconst 0, 1) := dk_3 (dk_at dksX3_oddOf_6 7 rfl rfl)
theorem dX3_oddOf_148 : decode cX3_oddOf 148 = .ok (.putfield 183, 3) := dk_181 0 183 (dk_at dksX3_oddOf_6 8 rfl rfl)
theorem dX3_oddOf_151 : decode cX3_oddOf 151 = .ok (.iload 9, 2) := dk_21 9 (dk_at dksX3_oddOf_6 11 rfl rfl)
theorem dX3_oddOf_153 : decode cX3_oddOf 153 = .ok (.ireturn, 1) := dk_172 (dk_at dksX3_oddOf_6 13 rfl rfl)
abbrev cX3_clear : ByteArray := prog_9_method_40_code
def yX3_clear : MethodName := ⟨RX3, "clear", "(I)I"⟩
def dkwX3_clear_1 : List UInt8 := [181, 0, 13, 28, 172]
abbrev dktX3_clear_1 : List UInt8 := dkwX3_clear_1 ++ []
def dkwX3_clear_0 : List UInt8 := [42, 3, 181, 0, 83, 27, 3, 16, 9, 184, 0, 92, 154, 0, 5, 2, 172, 42, 180, 0, 13, 61, 42, 27]
abbrev dktX3_clear_0 : List UInt8 := dkwX3_clear_0 ++ dktX3_clear_1
theorem dksX3_clear_0 : cX3_clear.data.toList.drop 0 = dktX3_clear_0 := by decide +kernel
theorem dksX3_clear_1 : cX3_clear.data.toList.drop 24 = dktX3_clear_1 := dk_seg dksX3_clear_0 24 rfl rfl
theorem dX3_clear_0 : decode cX3_clear 0 = .ok (.aload_n 0, 1) := dk_42 (dk_at dksX3_clear_0 0 rfl rfl)
theorem dX3_clear_1 : decode cX3_clear 1 = .ok (.iconst 0, 1) := dk_3 (dk_at dksX3_clear_0 1 rfl rfl)
theorem dX3_clear_2 : decode cX3_clear 2 = .ok (.putfield 83, 3) := dk_181 0 83 (dk_at dksX3_clear_0 2 rfl rfl)
theorem dX3_clear_5 : decode cX3_clear 5 = .ok (.iload_n 1, 1) := dk_27 (dk_at dksX3_clear_0 5 rfl rfl)
theorem dX3_clear_6 : decode cX3_clear 6 = .ok (.iconst 0, 1) := dk_3 (dk_at dksX3_clear_0 6 rfl rfl)
theorem dX3_clear_7 : decode cX3_clear 7 = .ok (.bipush 9, 2) := dk_16 9 (dk_at dksX3_clear_0 7 rfl rfl)
theorem dX3_clear_9 : decode cX3_clear 9 = .ok (.invokestatic 92, 3) := dk_184 0 92 (dk_at dksX3_clear_0 9 rfl rfl)
theorem dX3_clear_12 : decode cX3_clear 12 = .ok (.ifCond .ne 5, 3) := dk_154 0 5 (dk_at dksX3_clear_0 12 rfl rfl)
theorem dX3_clear_15 : decode cX3_clear 15 = .ok (.iconst (-1), 1) := dk_2 (dk_at dksX3_clear_0 15 rfl rfl)
theorem dX3_clear_16 : decode cX3_clear 16 = .ok (.ireturn, 1) := dk_172 (dk_at dksX3_clear_0 16 rfl rfl)
theorem dX3_clear_17 : decode cX3_clear 17 = .ok (.aload_n 0, 1) := dk_42 (dk_at dksX3_clear_0 17 rfl rfl)
theorem dX3_clear_18 : decode cX3_clear 18 = .ok (.getfield 13, 3) := dk_180 0 13 (dk_at dksX3_clear_0 18 rfl rfl)
theorem dX3_clear_21 : decode cX3_clear 21 = .ok (.istore_n 2, 1) := dk_61 (dk_at dksX3_clear_0 21 rfl rfl)
theorem dX3_clear_22 : decode cX3_clear 22 = .ok (.aload_n 0, 1) := dk_42 (dk_at dksX3_clear_0 22 rfl rfl)
theorem dX3_clear_23 : decode cX3_clear 23 = .ok (.iload_n 1, 1) := dk_27 (dk_at dksX3_clear_0 23 rfl rfl)
theorem dX3_clear_24 : decode cX3_clear 24 = .ok (.putfield 13, 3) := dk_181 0 13 (dk_at dksX3_clear_1 0 rfl rfl)
theorem dX3_clear_27 : decode cX3_clear 27 = .ok (.iload_n 2, 1) := dk_28 (dk_at dksX3_clear_1 3 rfl rfl)
theorem dX3_clear_28 : decode cX3_clear 28 = .ok (.ireturn, 1) := dk_172 (dk_at dksX3_clear_1 4 rfl rfl)
abbrev cX3_sheet : ByteArray := prog_9_method_41_code
def yX3_sheet : MethodName := ⟨RX3, "sheet", "(IIII)I"⟩
def dkwX3_sheet_6 : List UInt8 := [167, 255, 161, 27, 6, 160, 0, 8, 16, 253, 167, 0, 5, 21, 5, 172]
abbrev dktX3_sheet_6 : List UInt8 := dkwX3_sheet_6 ++ []
def dkwX3_sheet_5 : List UInt8 := [180, 0, 9, 16, 8, 21, 7, 96, 46, 96, 54, 5, 21, 6, 21, 4, 96, 54, 6, 132, 7, 1]
abbrev dktX3_sheet_5 : List UInt8 := dkwX3_sheet_5 ++ dktX3_sheet_6
def dkwX3_sheet_4 : List UInt8 := [161, 0, 7, 4, 167, 0, 14, 4, 16, 9, 21, 8, 184, 0, 215, 184, 0, 198, 79, 21, 5, 42]
abbrev dktX3_sheet_4 : List UInt8 := dkwX3_sheet_4 ++ dktX3_sheet_5
def dkwX3_sheet_3 : List UInt8 := [167, 0, 5, 21, 6, 54, 8, 42, 180, 0, 9, 16, 8, 21, 7, 96, 27, 6, 159, 0, 9, 21, 7, 28]
abbrev dktX3_sheet_3 : List UInt8 := dkwX3_sheet_3 ++ dktX3_sheet_4
def dkwX3_sheet_2 : List UInt8 := [180, 0, 89, 162, 0, 92, 27, 154, 0, 9, 21, 6, 145, 167, 0, 16, 27, 4, 160, 0, 9, 21, 6, 147]
abbrev dktX3_sheet_2 : List UInt8 := dkwX3_sheet_2 ++ dktX3_sheet_3
def dkwX3_sheet_1 : List UInt8 := [162, 0, 10, 28, 156, 0, 6, 16, 254, 172, 3, 54, 5, 29, 54, 6, 3, 54, 7, 21, 7, 42]
abbrev dktX3_sheet_1 : List UInt8 := dkwX3_sheet_1 ++ dktX3_sheet_2
def dkwX3_sheet_0 : List UInt8 := [42, 3, 181, 0, 83, 27, 3, 6, 184, 0, 92, 153, 0, 9, 28, 16, 8, 164, 0, 5, 2, 172, 27, 6]
abbrev dktX3_sheet_0 : List UInt8 := dkwX3_sheet_0 ++ dktX3_sheet_1
theorem dksX3_sheet_0 : cX3_sheet.data.toList.drop 0 = dktX3_sheet_0 := by decide +kernel
theorem dksX3_sheet_1 : cX3_sheet.data.toList.drop 24 = dktX3_sheet_1 := dk_seg dksX3_sheet_0 24 rfl rfl
theorem dksX3_sheet_2 : cX3_sheet.data.toList.drop 46 = dktX3_sheet_2 := dk_seg dksX3_sheet_1 22 rfl rfl
theorem dksX3_sheet_3 : cX3_sheet.data.toList.drop 70 = dktX3_sheet_3 := dk_seg dksX3_sheet_2 24 rfl rfl
theorem dksX3_sheet_4 : cX3_sheet.data.toList.drop 94 = dktX3_sheet_4 := dk_seg dksX3_sheet_3 24 rfl rfl
theorem dksX3_sheet_5 : cX3_sheet.data.toList.drop 116 = dktX3_sheet_5 := dk_seg dksX3_sheet_4 22 rfl rfl
theorem dksX3_sheet_6 : cX3_sheet.data.toList.drop 138 = dktX3_sheet_6 := dk_seg dksX3_sheet_5 22 rfl rfl
theorem dX3_sheet_0 : decode cX3_sheet 0 = .ok (.aload_n 0, 1) := dk_42 (dk_at dksX3_sheet_0 0 rfl rfl)
theorem dX3_sheet_1 : decode cX3_sheet 1 = .ok (.iconst 0, 1) := dk_3 (dk_at dksX3_sheet_0 1 rfl rfl)
theorem dX3_sheet_2 : decode cX3_sheet 2 = .ok (.putfield 83, 3) := dk_181 0 83 (dk_at dksX3_sheet_0 2 rfl rfl)
theorem dX3_sheet_5 : decode cX3_sheet 5 = .ok (.iload_n 1, 1) := dk_27 (dk_at dksX3_sheet_0 5 rfl rfl)
theorem dX3_sheet_6 : decode cX3_sheet 6 = .ok (.iconst 0, 1) := dk_3 (dk_at dksX3_sheet_0 6 rfl rfl)
theorem dX3_sheet_7 : decode cX3_sheet 7 = .ok (.iconst 3, 1) := dk_6 (dk_at dksX3_sheet_0 7 rfl rfl)
theorem dX3_sheet_8 : decode cX3_sheet 8 = .ok (.invokestatic 92, 3) := dk_184 0 92 (dk_at dksX3_sheet_0 8 rfl rfl)
theorem dX3_sheet_11 : decode cX3_sheet 11 = .ok (.ifCond .eq 9, 3) := dk_153 0 9 (dk_at dksX3_sheet_0 11 rfl rfl)
theorem dX3_sheet_14 : decode cX3_sheet 14 = .ok (.iload_n 2, 1) := dk_28 (dk_at dksX3_sheet_0 14 rfl rfl)
theorem dX3_sheet_15 : decode cX3_sheet 15 = .ok (.bipush 8, 2) := dk_16 8 (dk_at dksX3_sheet_0 15 rfl rfl)
theorem dX3_sheet_17 : decode cX3_sheet 17 = .ok (.if_icmp .le 5, 3) := dk_164 0 5 (dk_at dksX3_sheet_0 17 rfl rfl)
theorem dX3_sheet_20 : decode cX3_sheet 20 = .ok (.iconst (-1), 1) := dk_2 (dk_at dksX3_sheet_0 20 rfl rfl)
theorem dX3_sheet_21 : decode cX3_sheet 21 = .ok (.ireturn, 1) := dk_172 (dk_at dksX3_sheet_0 21 rfl rfl)
theorem dX3_sheet_22 : decode cX3_sheet 22 = .ok (.iload_n 1, 1) := dk_27 (dk_at dksX3_sheet_0 22 rfl rfl)
theorem dX3_sheet_23 : decode cX3_sheet 23 = .ok (.iconst 3, 1) := dk_6 (dk_at dksX3_sheet_0 23 rfl rfl)
theorem dX3_sheet_24 : decode cX3_sheet 24 = .ok (.if_icmp .ge 10, 3) := dk_162 0 10 (dk_at dksX3_sheet_1 0 rfl rfl)
theorem dX3_sheet_27 : decode cX3_sheet 27 = .ok (.iload_n 2, 1) := dk_28 (dk_at dksX3_sheet_1 3 rfl rfl)
theorem dX3_sheet_28 : decode cX3_sheet 28 = .ok (.ifCond .ge 6, 3) := dk_156 0 6 (dk_at dksX3_sheet_1 4 rfl rfl)
theorem dX3_sheet_31 : decode cX3_sheet 31 = .ok (.bipush (-2), 2) := dk_16 254 (dk_at dksX3_sheet_1 7 rfl rfl)
theorem dX3_sheet_33 : decode cX3_sheet 33 = .ok (.ireturn, 1) := dk_172 (dk_at dksX3_sheet_1 9 rfl rfl)
theorem dX3_sheet_34 : decode cX3_sheet 34 = .ok (.iconst 0, 1) := dk_3 (dk_at dksX3_sheet_1 10 rfl rfl)
theorem dX3_sheet_35 : decode cX3_sheet 35 = .ok (.istore 5, 2) := dk_54 5 (dk_at dksX3_sheet_1 11 rfl rfl)
theorem dX3_sheet_37 : decode cX3_sheet 37 = .ok (.iload_n 3, 1) := dk_29 (dk_at dksX3_sheet_1 13 rfl rfl)
theorem dX3_sheet_38 : decode cX3_sheet 38 = .ok (.istore 6, 2) := dk_54 6 (dk_at dksX3_sheet_1 14 rfl rfl)
theorem dX3_sheet_40 : decode cX3_sheet 40 = .ok (.iconst 0, 1) := dk_3 (dk_at dksX3_sheet_1 16 rfl rfl)
theorem dX3_sheet_41 : decode cX3_sheet 41 = .ok (.istore 7, 2) := dk_54 7 (dk_at dksX3_sheet_1 17 rfl rfl)
theorem dX3_sheet_43 : decode cX3_sheet 43 = .ok (.iload 7, 2) := dk_21 7 (dk_at dksX3_sheet_1 19 rfl rfl)
theorem dX3_sheet_45 : decode cX3_sheet 45 = .ok (.aload_n 0, 1) := dk_42 (dk_at dksX3_sheet_1 21 rfl rfl)
theorem dX3_sheet_46 : decode cX3_sheet 46 = .ok (.getfield 89, 3) := dk_180 0 89 (dk_at dksX3_sheet_2 0 rfl rfl)
theorem dX3_sheet_49 : decode cX3_sheet 49 = .ok (.if_icmp .ge 92, 3) := dk_162 0 92 (dk_at dksX3_sheet_2 3 rfl rfl)
theorem dX3_sheet_52 : decode cX3_sheet 52 = .ok (.iload_n 1, 1) := dk_27 (dk_at dksX3_sheet_2 6 rfl rfl)
theorem dX3_sheet_53 : decode cX3_sheet 53 = .ok (.ifCond .ne 9, 3) := dk_154 0 9 (dk_at dksX3_sheet_2 7 rfl rfl)
theorem dX3_sheet_56 : decode cX3_sheet 56 = .ok (.iload 6, 2) := dk_21 6 (dk_at dksX3_sheet_2 10 rfl rfl)
theorem dX3_sheet_58 : decode cX3_sheet 58 = .ok (.i2b, 1) := dk_145 (dk_at dksX3_sheet_2 12 rfl rfl)
theorem dX3_sheet_59 : decode cX3_sheet 59 = .ok (.goto 16, 3) := dk_167 0 16 (dk_at dksX3_sheet_2 13 rfl rfl)
theorem dX3_sheet_62 : decode cX3_sheet 62 = .ok (.iload_n 1, 1) := dk_27 (dk_at dksX3_sheet_2 16 rfl rfl)
theorem dX3_sheet_63 : decode cX3_sheet 63 = .ok (.iconst 1, 1) := dk_4 (dk_at dksX3_sheet_2 17 rfl rfl)
theorem dX3_sheet_64 : decode cX3_sheet 64 = .ok (.if_icmp .ne 9, 3) := dk_160 0 9 (dk_at dksX3_sheet_2 18 rfl rfl)
theorem dX3_sheet_67 : decode cX3_sheet 67 = .ok (.iload 6, 2) := dk_21 6 (dk_at dksX3_sheet_2 21 rfl rfl)
theorem dX3_sheet_69 : decode cX3_sheet 69 = .ok (.i2s, 1) := dk_147 (dk_at dksX3_sheet_2 23 rfl rfl)
theorem dX3_sheet_70 : decode cX3_sheet 70 = .ok (.goto 5, 3) := dk_167 0 5 (dk_at dksX3_sheet_3 0 rfl rfl)
theorem dX3_sheet_73 : decode cX3_sheet 73 = .ok (.iload 6, 2) := dk_21 6 (dk_at dksX3_sheet_3 3 rfl rfl)
theorem dX3_sheet_75 : decode cX3_sheet 75 = .ok (.istore 8, 2) := dk_54 8 (dk_at dksX3_sheet_3 5 rfl rfl)
theorem dX3_sheet_77 : decode cX3_sheet 77 = .ok (.aload_n 0, 1) := dk_42 (dk_at dksX3_sheet_3 7 rfl rfl)
theorem dX3_sheet_78 : decode cX3_sheet 78 = .ok (.getfield 9, 3) := dk_180 0 9 (dk_at dksX3_sheet_3 8 rfl rfl)
theorem dX3_sheet_81 : decode cX3_sheet 81 = .ok (.bipush 8, 2) := dk_16 8 (dk_at dksX3_sheet_3 11 rfl rfl)
theorem dX3_sheet_83 : decode cX3_sheet 83 = .ok (.iload 7, 2) := dk_21 7 (dk_at dksX3_sheet_3 13 rfl rfl)
theorem dX3_sheet_85 : decode cX3_sheet 85 = .ok (.iadd, 1) := dk_96 (dk_at dksX3_sheet_3 15 rfl rfl)
theorem dX3_sheet_86 : decode cX3_sheet 86 = .ok (.iload_n 1, 1) := dk_27 (dk_at dksX3_sheet_3 16 rfl rfl)
theorem dX3_sheet_87 : decode cX3_sheet 87 = .ok (.iconst 3, 1) := dk_6 (dk_at dksX3_sheet_3 17 rfl rfl)
theorem dX3_sheet_88 : decode cX3_sheet 88 = .ok (.if_icmp .eq 9, 3) := dk_159 0 9 (dk_at dksX3_sheet_3 18 rfl rfl)
theorem dX3_sheet_91 : decode cX3_sheet 91 = .ok (.iload 7, 2) := dk_21 7 (dk_at dksX3_sheet_3 21 rfl rfl)
theorem dX3_sheet_93 : decode cX3_sheet 93 = .ok (.iload_n 2, 1) := dk_28 (dk_at dksX3_sheet_3 23 rfl rfl)
theorem dX3_sheet_94 : decode cX3_sheet 94 = .ok (.if_icmp .lt 7, 3) := dk_161 0 7 (dk_at dksX3_sheet_4 0 rfl rfl)
theorem dX3_sheet_97 : decode cX3_sheet 97 = .ok (.iconst 1, 1) := dk_4 (dk_at dksX3_sheet_4 3 rfl rfl)
theorem dX3_sheet_98 : decode cX3_sheet 98 = .ok (.goto 14, 3) := dk_167 0 14 (dk_at dksX3_sheet_4 4 rfl rfl)
theorem dX3_sheet_101 : decode cX3_sheet 101 = .ok (.iconst 1, 1) := dk_4 (dk_at dksX3_sheet_4 7 rfl rfl)
theorem dX3_sheet_102 : decode cX3_sheet 102 = .ok (.bipush 9, 2) := dk_16 9 (dk_at dksX3_sheet_4 8 rfl rfl)
theorem dX3_sheet_104 : decode cX3_sheet 104 = .ok (.iload 8, 2) := dk_21 8 (dk_at dksX3_sheet_4 10 rfl rfl)
theorem dX3_sheet_106 : decode cX3_sheet 106 = .ok (.invokestatic 215, 3) := dk_184 0 215 (dk_at dksX3_sheet_4 12 rfl rfl)
theorem dX3_sheet_109 : decode cX3_sheet 109 = .ok (.invokestatic 198, 3) := dk_184 0 198 (dk_at dksX3_sheet_4 15 rfl rfl)
theorem dX3_sheet_112 : decode cX3_sheet 112 = .ok (.iastore, 1) := dk_79 (dk_at dksX3_sheet_4 18 rfl rfl)
theorem dX3_sheet_113 : decode cX3_sheet 113 = .ok (.iload 5, 2) := dk_21 5 (dk_at dksX3_sheet_4 19 rfl rfl)
theorem dX3_sheet_115 : decode cX3_sheet 115 = .ok (.aload_n 0, 1) := dk_42 (dk_at dksX3_sheet_4 21 rfl rfl)
theorem dX3_sheet_116 : decode cX3_sheet 116 = .ok (.getfield 9, 3) := dk_180 0 9 (dk_at dksX3_sheet_5 0 rfl rfl)
theorem dX3_sheet_119 : decode cX3_sheet 119 = .ok (.bipush 8, 2) := dk_16 8 (dk_at dksX3_sheet_5 3 rfl rfl)
theorem dX3_sheet_121 : decode cX3_sheet 121 = .ok (.iload 7, 2) := dk_21 7 (dk_at dksX3_sheet_5 5 rfl rfl)
theorem dX3_sheet_123 : decode cX3_sheet 123 = .ok (.iadd, 1) := dk_96 (dk_at dksX3_sheet_5 7 rfl rfl)
theorem dX3_sheet_124 : decode cX3_sheet 124 = .ok (.iaload, 1) := dk_46 (dk_at dksX3_sheet_5 8 rfl rfl)
theorem dX3_sheet_125 : decode cX3_sheet 125 = .ok (.iadd, 1) := dk_96 (dk_at dksX3_sheet_5 9 rfl rfl)
theorem dX3_sheet_126 : decode cX3_sheet 126 = .ok (.istore 5, 2) := dk_54 5 (dk_at dksX3_sheet_5 10 rfl rfl)
theorem dX3_sheet_128 : decode cX3_sheet 128 = .ok (.iload 6, 2) := dk_21 6 (dk_at dksX3_sheet_5 12 rfl rfl)
theorem dX3_sheet_130 : decode cX3_sheet 130 = .ok (.iload 4, 2) := dk_21 4 (dk_at dksX3_sheet_5 14 rfl rfl)
theorem dX3_sheet_132 : decode cX3_sheet 132 = .ok (.iadd, 1) := dk_96 (dk_at dksX3_sheet_5 16 rfl rfl)
theorem dX3_sheet_133 : decode cX3_sheet 133 = .ok (.istore 6, 2) := dk_54 6 (dk_at dksX3_sheet_5 17 rfl rfl)
theorem dX3_sheet_135 : decode cX3_sheet 135 = .ok (.iinc 7 1, 3) := dk_132 7 1 (dk_at dksX3_sheet_5 19 rfl rfl)
theorem dX3_sheet_138 : decode cX3_sheet 138 = .ok (.goto (-95), 3) := dk_167 255 161 (dk_at dksX3_sheet_6 0 rfl rfl)
theorem dX3_sheet_141 : decode cX3_sheet 141 = .ok (.iload_n 1, 1) := dk_27 (dk_at dksX3_sheet_6 3 rfl rfl)
theorem dX3_sheet_142 : decode cX3_sheet 142 = .ok (.iconst 3, 1) := dk_6 (dk_at dksX3_sheet_6 4 rfl rfl)
theorem dX3_sheet_143 : decode cX3_sheet 143 = .ok (.if_icmp .ne 8, 3) := dk_160 0 8 (dk_at dksX3_sheet_6 5 rfl rfl)
theorem dX3_sheet_146 : decode cX3_sheet 146 = .ok (.bipush (-3), 2) := dk_16 253 (dk_at dksX3_sheet_6 8 rfl rfl)
theorem dX3_sheet_148 : decode cX3_sheet 148 = .ok (.goto 5, 3) := dk_167 0 5 (dk_at dksX3_sheet_6 10 rfl rfl)
theorem dX3_sheet_151 : decode cX3_sheet 151 = .ok (.iload 5, 2) := dk_21 5 (dk_at dksX3_sheet_6 13 rfl rfl)
theorem dX3_sheet_153 : decode cX3_sheet 153 = .ok (.ireturn, 1) := dk_172 (dk_at dksX3_sheet_6 15 rfl rfl)
abbrev cX3_announce : ByteArray := prog_9_method_47_code
def yX3_announce : MethodName := ⟨RX3, "announce", "(I)I"⟩
def dkwX3_announce_2 : List UInt8 := [184, 0, 206, 172]
abbrev dktX3_announce_2 : List UInt8 := dkwX3_announce_2 ++ []
def dkwX3_announce_1 : List UInt8 := [180, 0, 9, 182, 0, 236, 42, 180, 0, 9, 27, 184, 0, 240, 42, 42, 180, 0, 9, 182, 0, 244]
abbrev dktX3_announce_1 : List UInt8 := dkwX3_announce_1 ++ dktX3_announce_2
def dkwX3_announce_0 : List UInt8 := [42, 3, 181, 0, 83, 42, 42, 180, 0, 9, 27, 182, 0, 233, 61, 28, 156, 0, 5, 28, 172, 42, 42]
abbrev dktX3_announce_0 : List UInt8 := dkwX3_announce_0 ++ dktX3_announce_1
theorem dksX3_announce_0 : cX3_announce.data.toList.drop 0 = dktX3_announce_0 := by decide +kernel
theorem dksX3_announce_1 : cX3_announce.data.toList.drop 23 = dktX3_announce_1 := dk_seg dksX3_announce_0 23 rfl rfl
theorem dksX3_announce_2 : cX3_announce.data.toList.drop 45 = dktX3_announce_2 := dk_seg dksX3_announce_1 22 rfl rfl
theorem dX3_announce_0 : decode cX3_announce 0 = .ok (.aload_n 0, 1) := dk_42 (dk_at dksX3_announce_0 0 rfl rfl)
theorem dX3_announce_1 : decode cX3_announce 1 = .ok (.iconst 0, 1) := dk_3 (dk_at dksX3_announce_0 1 rfl rfl)
theorem dX3_announce_2 : decode cX3_announce 2 = .ok (.putfield 83, 3) := dk_181 0 83 (dk_at dksX3_announce_0 2 rfl rfl)
theorem dX3_announce_5 : decode cX3_announce 5 = .ok (.aload_n 0, 1) := dk_42 (dk_at dksX3_announce_0 5 rfl rfl)
theorem dX3_announce_6 : decode cX3_announce 6 = .ok (.aload_n 0, 1) := dk_42 (dk_at dksX3_announce_0 6 rfl rfl)
theorem dX3_announce_7 : decode cX3_announce 7 = .ok (.getfield 9, 3) := dk_180 0 9 (dk_at dksX3_announce_0 7 rfl rfl)
theorem dX3_announce_10 : decode cX3_announce 10 = .ok (.iload_n 1, 1) := dk_27 (dk_at dksX3_announce_0 10 rfl rfl)
theorem dX3_announce_11 : decode cX3_announce 11 = .ok (.invokevirtual 233, 3) := dk_182 0 233 (dk_at dksX3_announce_0 11 rfl rfl)
theorem dX3_announce_14 : decode cX3_announce 14 = .ok (.istore_n 2, 1) := dk_61 (dk_at dksX3_announce_0 14 rfl rfl)
theorem dX3_announce_15 : decode cX3_announce 15 = .ok (.iload_n 2, 1) := dk_28 (dk_at dksX3_announce_0 15 rfl rfl)
theorem dX3_announce_16 : decode cX3_announce 16 = .ok (.ifCond .ge 5, 3) := dk_156 0 5 (dk_at dksX3_announce_0 16 rfl rfl)
theorem dX3_announce_19 : decode cX3_announce 19 = .ok (.iload_n 2, 1) := dk_28 (dk_at dksX3_announce_0 19 rfl rfl)
theorem dX3_announce_20 : decode cX3_announce 20 = .ok (.ireturn, 1) := dk_172 (dk_at dksX3_announce_0 20 rfl rfl)
theorem dX3_announce_21 : decode cX3_announce 21 = .ok (.aload_n 0, 1) := dk_42 (dk_at dksX3_announce_0 21 rfl rfl)
theorem dX3_announce_22 : decode cX3_announce 22 = .ok (.aload_n 0, 1) := dk_42 (dk_at dksX3_announce_0 22 rfl rfl)
theorem dX3_announce_23 : decode cX3_announce 23 = .ok (.getfield 9, 3) := dk_180 0 9 (dk_at dksX3_announce_1 0 rfl rfl)
theorem dX3_announce_26 : decode cX3_announce 26 = .ok (.invokevirtual 236, 3) := dk_182 0 236 (dk_at dksX3_announce_1 3 rfl rfl)
theorem dX3_announce_29 : decode cX3_announce 29 = .ok (.aload_n 0, 1) := dk_42 (dk_at dksX3_announce_1 6 rfl rfl)
theorem dX3_announce_30 : decode cX3_announce 30 = .ok (.getfield 9, 3) := dk_180 0 9 (dk_at dksX3_announce_1 7 rfl rfl)
theorem dX3_announce_33 : decode cX3_announce 33 = .ok (.iload_n 1, 1) := dk_27 (dk_at dksX3_announce_1 10 rfl rfl)
theorem dX3_announce_34 : decode cX3_announce 34 = .ok (.invokestatic 240, 3) := dk_184 0 240 (dk_at dksX3_announce_1 11 rfl rfl)
theorem dX3_announce_37 : decode cX3_announce 37 = .ok (.aload_n 0, 1) := dk_42 (dk_at dksX3_announce_1 14 rfl rfl)
theorem dX3_announce_38 : decode cX3_announce 38 = .ok (.aload_n 0, 1) := dk_42 (dk_at dksX3_announce_1 15 rfl rfl)
theorem dX3_announce_39 : decode cX3_announce 39 = .ok (.getfield 9, 3) := dk_180 0 9 (dk_at dksX3_announce_1 16 rfl rfl)
theorem dX3_announce_42 : decode cX3_announce 42 = .ok (.invokevirtual 244, 3) := dk_182 0 244 (dk_at dksX3_announce_1 19 rfl rfl)
theorem dX3_announce_45 : decode cX3_announce 45 = .ok (.invokestatic 206, 3) := dk_184 0 206 (dk_at dksX3_announce_2 0 rfl rfl)
theorem dX3_announce_48 : decode cX3_announce 48 = .ok (.ireturn, 1) := dk_172 (dk_at dksX3_announce_2 3 rfl rfl)
abbrev cX3_refusesAnnounce : ByteArray := prog_9_method_45_code
def yX3_refusesAnnounce : MethodName := ⟨RX3, "refusesAnnounce", "([II)I"⟩
def dkwX3_refusesAnnounce_1 : List UInt8 := [16, 254, 172]
abbrev dktX3_refusesAnnounce_1 : List UInt8 := dkwX3_refusesAnnounce_1 ++ []
def dkwX3_refusesAnnounce_0 : List UInt8 := [42, 28, 182, 0, 96, 154, 0, 5, 2, 172, 43, 16, 32, 28, 96, 46, 2, 160, 0, 7, 3, 167, 0, 5]
abbrev dktX3_refusesAnnounce_0 : List UInt8 := dkwX3_refusesAnnounce_0 ++ dktX3_refusesAnnounce_1
theorem dksX3_refusesAnnounce_0 : cX3_refusesAnnounce.data.toList.drop 0 = dktX3_refusesAnnounce_0 := by decide +kernel
theorem dksX3_refusesAnnounce_1 : cX3_refusesAnnounce.data.toList.drop 24 = dktX3_refusesAnnounce_1 := dk_seg dksX3_refusesAnnounce_0 24 rfl rfl
theorem dX3_refusesAnnounce_0 : decode cX3_refusesAnnounce 0 = .ok (.aload_n 0, 1) := dk_42 (dk_at dksX3_refusesAnnounce_0 0 rfl rfl)
theorem dX3_refusesAnnounce_1 : decode cX3_refusesAnnounce 1 = .ok (.iload_n 2, 1) := dk_28 (dk_at dksX3_refusesAnnounce_0 1 rfl rfl)
theorem dX3_refusesAnnounce_2 : decode cX3_refusesAnnounce 2 = .ok (.invokevirtual 96, 3) := dk_182 0 96 (dk_at dksX3_refusesAnnounce_0 2 rfl rfl)
theorem dX3_refusesAnnounce_5 : decode cX3_refusesAnnounce 5 = .ok (.ifCond .ne 5, 3) := dk_154 0 5 (dk_at dksX3_refusesAnnounce_0 5 rfl rfl)
theorem dX3_refusesAnnounce_8 : decode cX3_refusesAnnounce 8 = .ok (.iconst (-1), 1) := dk_2 (dk_at dksX3_refusesAnnounce_0 8 rfl rfl)
theorem dX3_refusesAnnounce_9 : decode cX3_refusesAnnounce 9 = .ok (.ireturn, 1) := dk_172 (dk_at dksX3_refusesAnnounce_0 9 rfl rfl)
theorem dX3_refusesAnnounce_10 : decode cX3_refusesAnnounce 10 = .ok (.aload_n 1, 1) := dk_43 (dk_at dksX3_refusesAnnounce_0 10 rfl rfl)
theorem dX3_refusesAnnounce_11 : decode cX3_refusesAnnounce 11 = .ok (.bipush 32, 2) := dk_16 32 (dk_at dksX3_refusesAnnounce_0 11 rfl rfl)
theorem dX3_refusesAnnounce_13 : decode cX3_refusesAnnounce 13 = .ok (.iload_n 2, 1) := dk_28 (dk_at dksX3_refusesAnnounce_0 13 rfl rfl)
theorem dX3_refusesAnnounce_14 : decode cX3_refusesAnnounce 14 = .ok (.iadd, 1) := dk_96 (dk_at dksX3_refusesAnnounce_0 14 rfl rfl)
theorem dX3_refusesAnnounce_15 : decode cX3_refusesAnnounce 15 = .ok (.iaload, 1) := dk_46 (dk_at dksX3_refusesAnnounce_0 15 rfl rfl)
theorem dX3_refusesAnnounce_16 : decode cX3_refusesAnnounce 16 = .ok (.iconst (-1), 1) := dk_2 (dk_at dksX3_refusesAnnounce_0 16 rfl rfl)
theorem dX3_refusesAnnounce_17 : decode cX3_refusesAnnounce 17 = .ok (.if_icmp .ne 7, 3) := dk_160 0 7 (dk_at dksX3_refusesAnnounce_0 17 rfl rfl)
theorem dX3_refusesAnnounce_20 : decode cX3_refusesAnnounce 20 = .ok (.iconst 0, 1) := dk_3 (dk_at dksX3_refusesAnnounce_0 20 rfl rfl)
theorem dX3_refusesAnnounce_21 : decode cX3_refusesAnnounce 21 = .ok (.goto 5, 3) := dk_167 0 5 (dk_at dksX3_refusesAnnounce_0 21 rfl rfl)
theorem dX3_refusesAnnounce_24 : decode cX3_refusesAnnounce 24 = .ok (.bipush (-2), 2) := dk_16 254 (dk_at dksX3_refusesAnnounce_1 0 rfl rfl)
theorem dX3_refusesAnnounce_26 : decode cX3_refusesAnnounce 26 = .ok (.ireturn, 1) := dk_172 (dk_at dksX3_refusesAnnounce_1 2 rfl rfl)
abbrev cX3_remember : ByteArray := prog_9_method_43_code
def yX3_remember : MethodName := ⟨RX3, "remember", "([I)V"⟩
def dkwX3_remember_3 : List UInt8 := [96, 181, 0, 155, 177]
abbrev dktX3_remember_3 : List UInt8 := dkwX3_remember_3 ++ []
def dkwX3_remember_2 : List UInt8 := [181, 0, 155, 43, 42, 180, 0, 37, 16, 83, 42, 180, 0, 155, 104, 184, 0, 229, 42, 89, 180, 0, 155, 4]
abbrev dktX3_remember_2 : List UInt8 := dkwX3_remember_2 ++ dktX3_remember_3
def dkwX3_remember_1 : List UInt8 := [180, 0, 37, 28, 16, 83, 96, 46, 79, 132, 2, 1, 167, 255, 231, 42, 89, 180, 0, 155, 4, 100]
abbrev dktX3_remember_1 : List UInt8 := dkwX3_remember_1 ++ dktX3_remember_2
def dkwX3_remember_0 : List UInt8 := [42, 180, 0, 155, 16, 12, 160, 0, 43, 3, 61, 28, 17, 3, 145, 162, 0, 24, 42, 180, 0, 37, 28, 42]
abbrev dktX3_remember_0 : List UInt8 := dkwX3_remember_0 ++ dktX3_remember_1
theorem dksX3_remember_0 : cX3_remember.data.toList.drop 0 = dktX3_remember_0 := by decide +kernel
theorem dksX3_remember_1 : cX3_remember.data.toList.drop 24 = dktX3_remember_1 := dk_seg dksX3_remember_0 24 rfl rfl
theorem dksX3_remember_2 : cX3_remember.data.toList.drop 46 = dktX3_remember_2 := dk_seg dksX3_remember_1 22 rfl rfl
theorem dksX3_remember_3 : cX3_remember.data.toList.drop 70 = dktX3_remember_3 := dk_seg dksX3_remember_2 24 rfl rfl
theorem dX3_remember_0 : decode cX3_remember 0 = .ok (.aload_n 0, 1) := dk_42 (dk_at dksX3_remember_0 0 rfl rfl)
theorem dX3_remember_1 : decode cX3_remember 1 = .ok (.getfield 155, 3) := dk_180 0 155 (dk_at dksX3_remember_0 1 rfl rfl)
theorem dX3_remember_4 : decode cX3_remember 4 = .ok (.bipush 12, 2) := dk_16 12 (dk_at dksX3_remember_0 4 rfl rfl)
theorem dX3_remember_6 : decode cX3_remember 6 = .ok (.if_icmp .ne 43, 3) := dk_160 0 43 (dk_at dksX3_remember_0 6 rfl rfl)
theorem dX3_remember_9 : decode cX3_remember 9 = .ok (.iconst 0, 1) := dk_3 (dk_at dksX3_remember_0 9 rfl rfl)
theorem dX3_remember_10 : decode cX3_remember 10 = .ok (.istore_n 2, 1) := dk_61 (dk_at dksX3_remember_0 10 rfl rfl)
theorem dX3_remember_11 : decode cX3_remember 11 = .ok (.iload_n 2, 1) := dk_28 (dk_at dksX3_remember_0 11 rfl rfl)
theorem dX3_remember_12 : decode cX3_remember 12 = .ok (.sipush 913, 3) := dk_17 3 145 (dk_at dksX3_remember_0 12 rfl rfl)
theorem dX3_remember_15 : decode cX3_remember 15 = .ok (.if_icmp .ge 24, 3) := dk_162 0 24 (dk_at dksX3_remember_0 15 rfl rfl)
theorem dX3_remember_18 : decode cX3_remember 18 = .ok (.aload_n 0, 1) := dk_42 (dk_at dksX3_remember_0 18 rfl rfl)
theorem dX3_remember_19 : decode cX3_remember 19 = .ok (.getfield 37, 3) := dk_180 0 37 (dk_at dksX3_remember_0 19 rfl rfl)
theorem dX3_remember_22 : decode cX3_remember 22 = .ok (.iload_n 2, 1) := dk_28 (dk_at dksX3_remember_0 22 rfl rfl)
theorem dX3_remember_23 : decode cX3_remember 23 = .ok (.aload_n 0, 1) := dk_42 (dk_at dksX3_remember_0 23 rfl rfl)
theorem dX3_remember_24 : decode cX3_remember 24 = .ok (.getfield 37, 3) := dk_180 0 37 (dk_at dksX3_remember_1 0 rfl rfl)
theorem dX3_remember_27 : decode cX3_remember 27 = .ok (.iload_n 2, 1) := dk_28 (dk_at dksX3_remember_1 3 rfl rfl)
theorem dX3_remember_28 : decode cX3_remember 28 = .ok (.bipush 83, 2) := dk_16 83 (dk_at dksX3_remember_1 4 rfl rfl)
theorem dX3_remember_30 : decode cX3_remember 30 = .ok (.iadd, 1) := dk_96 (dk_at dksX3_remember_1 6 rfl rfl)
theorem dX3_remember_31 : decode cX3_remember 31 = .ok (.iaload, 1) := dk_46 (dk_at dksX3_remember_1 7 rfl rfl)
theorem dX3_remember_32 : decode cX3_remember 32 = .ok (.iastore, 1) := dk_79 (dk_at dksX3_remember_1 8 rfl rfl)
theorem dX3_remember_33 : decode cX3_remember 33 = .ok (.iinc 2 1, 3) := dk_132 2 1 (dk_at dksX3_remember_1 9 rfl rfl)
theorem dX3_remember_36 : decode cX3_remember 36 = .ok (.goto (-25), 3) := dk_167 255 231 (dk_at dksX3_remember_1 12 rfl rfl)
theorem dX3_remember_39 : decode cX3_remember 39 = .ok (.aload_n 0, 1) := dk_42 (dk_at dksX3_remember_1 15 rfl rfl)
theorem dX3_remember_40 : decode cX3_remember 40 = .ok (.dup, 1) := dk_89 (dk_at dksX3_remember_1 16 rfl rfl)
theorem dX3_remember_41 : decode cX3_remember 41 = .ok (.getfield 155, 3) := dk_180 0 155 (dk_at dksX3_remember_1 17 rfl rfl)
theorem dX3_remember_44 : decode cX3_remember 44 = .ok (.iconst 1, 1) := dk_4 (dk_at dksX3_remember_1 20 rfl rfl)
theorem dX3_remember_45 : decode cX3_remember 45 = .ok (.isub, 1) := dk_100 (dk_at dksX3_remember_1 21 rfl rfl)
theorem dX3_remember_46 : decode cX3_remember 46 = .ok (.putfield 155, 3) := dk_181 0 155 (dk_at dksX3_remember_2 0 rfl rfl)
theorem dX3_remember_49 : decode cX3_remember 49 = .ok (.aload_n 1, 1) := dk_43 (dk_at dksX3_remember_2 3 rfl rfl)
theorem dX3_remember_50 : decode cX3_remember 50 = .ok (.aload_n 0, 1) := dk_42 (dk_at dksX3_remember_2 4 rfl rfl)
theorem dX3_remember_51 : decode cX3_remember 51 = .ok (.getfield 37, 3) := dk_180 0 37 (dk_at dksX3_remember_2 5 rfl rfl)
theorem dX3_remember_54 : decode cX3_remember 54 = .ok (.bipush 83, 2) := dk_16 83 (dk_at dksX3_remember_2 8 rfl rfl)
theorem dX3_remember_56 : decode cX3_remember 56 = .ok (.aload_n 0, 1) := dk_42 (dk_at dksX3_remember_2 10 rfl rfl)
theorem dX3_remember_57 : decode cX3_remember 57 = .ok (.getfield 155, 3) := dk_180 0 155 (dk_at dksX3_remember_2 11 rfl rfl)
theorem dX3_remember_60 : decode cX3_remember 60 = .ok (.imul, 1) := dk_104 (dk_at dksX3_remember_2 14 rfl rfl)
theorem dX3_remember_61 : decode cX3_remember 61 = .ok (.invokestatic 229, 3) := dk_184 0 229 (dk_at dksX3_remember_2 15 rfl rfl)
theorem dX3_remember_64 : decode cX3_remember 64 = .ok (.aload_n 0, 1) := dk_42 (dk_at dksX3_remember_2 18 rfl rfl)
theorem dX3_remember_65 : decode cX3_remember 65 = .ok (.dup, 1) := dk_89 (dk_at dksX3_remember_2 19 rfl rfl)
theorem dX3_remember_66 : decode cX3_remember 66 = .ok (.getfield 155, 3) := dk_180 0 155 (dk_at dksX3_remember_2 20 rfl rfl)
theorem dX3_remember_69 : decode cX3_remember 69 = .ok (.iconst 1, 1) := dk_4 (dk_at dksX3_remember_2 23 rfl rfl)
theorem dX3_remember_70 : decode cX3_remember 70 = .ok (.iadd, 1) := dk_96 (dk_at dksX3_remember_3 0 rfl rfl)
theorem dX3_remember_71 : decode cX3_remember 71 = .ok (.putfield 155, 3) := dk_181 0 155 (dk_at dksX3_remember_3 1 rfl rfl)
theorem dX3_remember_74 : decode cX3_remember 74 = .ok (.return_, 1) := dk_177 (dk_at dksX3_remember_3 4 rfl rfl)
abbrev cX3_lay0 : ByteArray := prog_9_method_42_code
def yX3_lay0 : MethodName := ⟨RX3, "lay0", "([I[II)V"⟩
def dkwX3_lay0_0 : List UInt8 := [3, 62, 29, 16, 83, 162, 0, 17, 43, 28, 29, 96, 42, 29, 46, 79, 132, 3, 1, 167, 255, 239, 177]
abbrev dktX3_lay0_0 : List UInt8 := dkwX3_lay0_0 ++ []
theorem dksX3_lay0_0 : cX3_lay0.data.toList.drop 0 = dktX3_lay0_0 := by decide +kernel
theorem dX3_lay0_0 : decode cX3_lay0 0 = .ok (.iconst 0, 1) := dk_3 (dk_at dksX3_lay0_0 0 rfl rfl)
theorem dX3_lay0_1 : decode cX3_lay0 1 = .ok (.istore_n 3, 1) := dk_62 (dk_at dksX3_lay0_0 1 rfl rfl)
theorem dX3_lay0_2 : decode cX3_lay0 2 = .ok (.iload_n 3, 1) := dk_29 (dk_at dksX3_lay0_0 2 rfl rfl)
theorem dX3_lay0_3 : decode cX3_lay0 3 = .ok (.bipush 83, 2) := dk_16 83 (dk_at dksX3_lay0_0 3 rfl rfl)
theorem dX3_lay0_5 : decode cX3_lay0 5 = .ok (.if_icmp .ge 17, 3) := dk_162 0 17 (dk_at dksX3_lay0_0 5 rfl rfl)
theorem dX3_lay0_8 : decode cX3_lay0 8 = .ok (.aload_n 1, 1) := dk_43 (dk_at dksX3_lay0_0 8 rfl rfl)
theorem dX3_lay0_9 : decode cX3_lay0 9 = .ok (.iload_n 2, 1) := dk_28 (dk_at dksX3_lay0_0 9 rfl rfl)
theorem dX3_lay0_10 : decode cX3_lay0 10 = .ok (.iload_n 3, 1) := dk_29 (dk_at dksX3_lay0_0 10 rfl rfl)
theorem dX3_lay0_11 : decode cX3_lay0 11 = .ok (.iadd, 1) := dk_96 (dk_at dksX3_lay0_0 11 rfl rfl)
theorem dX3_lay0_12 : decode cX3_lay0 12 = .ok (.aload_n 0, 1) := dk_42 (dk_at dksX3_lay0_0 12 rfl rfl)
theorem dX3_lay0_13 : decode cX3_lay0 13 = .ok (.iload_n 3, 1) := dk_29 (dk_at dksX3_lay0_0 13 rfl rfl)
theorem dX3_lay0_14 : decode cX3_lay0 14 = .ok (.iaload, 1) := dk_46 (dk_at dksX3_lay0_0 14 rfl rfl)
theorem dX3_lay0_15 : decode cX3_lay0 15 = .ok (.iastore, 1) := dk_79 (dk_at dksX3_lay0_0 15 rfl rfl)
theorem dX3_lay0_16 : decode cX3_lay0 16 = .ok (.iinc 3 1, 3) := dk_132 3 1 (dk_at dksX3_lay0_0 16 rfl rfl)
theorem dX3_lay0_19 : decode cX3_lay0 19 = .ok (.goto (-17), 3) := dk_167 255 239 (dk_at dksX3_lay0_0 19 rfl rfl)
theorem dX3_lay0_22 : decode cX3_lay0 22 = .ok (.return_, 1) := dk_177 (dk_at dksX3_lay0_0 22 rfl rfl)
abbrev cX3_goAnnounce : ByteArray := prog_9_method_46_code
def yX3_goAnnounce : MethodName := ⟨RX3, "goAnnounce", "([II)V"⟩
def dkwX3_goAnnounce_0 : List UInt8 := [42, 16, 32, 27, 96, 3, 79, 42, 16, 40, 27, 96, 3, 79, 177]
abbrev dktX3_goAnnounce_0 : List UInt8 := dkwX3_goAnnounce_0 ++ []
theorem dksX3_goAnnounce_0 : cX3_goAnnounce.data.toList.drop 0 = dktX3_goAnnounce_0 := by decide +kernel
theorem dX3_goAnnounce_0 : decode cX3_goAnnounce 0 = .ok (.aload_n 0, 1) := dk_42 (dk_at dksX3_goAnnounce_0 0 rfl rfl)
theorem dX3_goAnnounce_1 : decode cX3_goAnnounce 1 = .ok (.bipush 32, 2) := dk_16 32 (dk_at dksX3_goAnnounce_0 1 rfl rfl)
theorem dX3_goAnnounce_3 : decode cX3_goAnnounce 3 = .ok (.iload_n 1, 1) := dk_27 (dk_at dksX3_goAnnounce_0 3 rfl rfl)
theorem dX3_goAnnounce_4 : decode cX3_goAnnounce 4 = .ok (.iadd, 1) := dk_96 (dk_at dksX3_goAnnounce_0 4 rfl rfl)
theorem dX3_goAnnounce_5 : decode cX3_goAnnounce 5 = .ok (.iconst 0, 1) := dk_3 (dk_at dksX3_goAnnounce_0 5 rfl rfl)
theorem dX3_goAnnounce_6 : decode cX3_goAnnounce 6 = .ok (.iastore, 1) := dk_79 (dk_at dksX3_goAnnounce_0 6 rfl rfl)
theorem dX3_goAnnounce_7 : decode cX3_goAnnounce 7 = .ok (.aload_n 0, 1) := dk_42 (dk_at dksX3_goAnnounce_0 7 rfl rfl)
theorem dX3_goAnnounce_8 : decode cX3_goAnnounce 8 = .ok (.bipush 40, 2) := dk_16 40 (dk_at dksX3_goAnnounce_0 8 rfl rfl)
theorem dX3_goAnnounce_10 : decode cX3_goAnnounce 10 = .ok (.iload_n 1, 1) := dk_27 (dk_at dksX3_goAnnounce_0 10 rfl rfl)
theorem dX3_goAnnounce_11 : decode cX3_goAnnounce 11 = .ok (.iadd, 1) := dk_96 (dk_at dksX3_goAnnounce_0 11 rfl rfl)
theorem dX3_goAnnounce_12 : decode cX3_goAnnounce 12 = .ok (.iconst 0, 1) := dk_3 (dk_at dksX3_goAnnounce_0 12 rfl rfl)
theorem dX3_goAnnounce_13 : decode cX3_goAnnounce 13 = .ok (.iastore, 1) := dk_79 (dk_at dksX3_goAnnounce_0 13 rfl rfl)
theorem dX3_goAnnounce_14 : decode cX3_goAnnounce 14 = .ok (.return_, 1) := dk_177 (dk_at dksX3_goAnnounce_0 14 rfl rfl)
abbrev cX3_notices : ByteArray := prog_9_method_44_code
def yX3_notices : MethodName := ⟨RX3, "notices", "([I)I"⟩
def dkwX3_notices_1 : List UInt8 := [167, 0, 6, 4, 29, 120, 128, 61, 132, 3, 1, 167, 255, 225, 28, 172]
abbrev dktX3_notices_1 : List UInt8 := dkwX3_notices_1 ++ []
def dkwX3_notices_0 : List UInt8 := [3, 61, 3, 62, 29, 42, 180, 0, 89, 162, 0, 29, 28, 43, 16, 32, 29, 96, 46, 2, 160, 0, 7, 3]
abbrev dktX3_notices_0 : List UInt8 := dkwX3_notices_0 ++ dktX3_notices_1
theorem dksX3_notices_0 : cX3_notices.data.toList.drop 0 = dktX3_notices_0 := by decide +kernel
theorem dksX3_notices_1 : cX3_notices.data.toList.drop 24 = dktX3_notices_1 := dk_seg dksX3_notices_0 24 rfl rfl
theorem dX3_notices_0 : decode cX3_notices 0 = .ok (.iconst 0, 1) := dk_3 (dk_at dksX3_notices_0 0 rfl rfl)
theorem dX3_notices_1 : decode cX3_notices 1 = .ok (.istore_n 2, 1) := dk_61 (dk_at dksX3_notices_0 1 rfl rfl)
theorem dX3_notices_2 : decode cX3_notices 2 = .ok (.iconst 0, 1) := dk_3 (dk_at dksX3_notices_0 2 rfl rfl)
theorem dX3_notices_3 : decode cX3_notices 3 = .ok (.istore_n 3, 1) := dk_62 (dk_at dksX3_notices_0 3 rfl rfl)
theorem dX3_notices_4 : decode cX3_notices 4 = .ok (.iload_n 3, 1) := dk_29 (dk_at dksX3_notices_0 4 rfl rfl)
theorem dX3_notices_5 : decode cX3_notices 5 = .ok (.aload_n 0, 1) := dk_42 (dk_at dksX3_notices_0 5 rfl rfl)
theorem dX3_notices_6 : decode cX3_notices 6 = .ok (.getfield 89, 3) := dk_180 0 89 (dk_at dksX3_notices_0 6 rfl rfl)
theorem dX3_notices_9 : decode cX3_notices 9 = .ok (.if_icmp .ge 29, 3) := dk_162 0 29 (dk_at dksX3_notices_0 9 rfl rfl)
theorem dX3_notices_12 : decode cX3_notices 12 = .ok (.iload_n 2, 1) := dk_28 (dk_at dksX3_notices_0 12 rfl rfl)
theorem dX3_notices_13 : decode cX3_notices 13 = .ok (.aload_n 1, 1) := dk_43 (dk_at dksX3_notices_0 13 rfl rfl)
theorem dX3_notices_14 : decode cX3_notices 14 = .ok (.bipush 32, 2) := dk_16 32 (dk_at dksX3_notices_0 14 rfl rfl)
theorem dX3_notices_16 : decode cX3_notices 16 = .ok (.iload_n 3, 1) := dk_29 (dk_at dksX3_notices_0 16 rfl rfl)
theorem dX3_notices_17 : decode cX3_notices 17 = .ok (.iadd, 1) := dk_96 (dk_at dksX3_notices_0 17 rfl rfl)
theorem dX3_notices_18 : decode cX3_notices 18 = .ok (.iaload, 1) := dk_46 (dk_at dksX3_notices_0 18 rfl rfl)
theorem dX3_notices_19 : decode cX3_notices 19 = .ok (.iconst (-1), 1) := dk_2 (dk_at dksX3_notices_0 19 rfl rfl)
theorem dX3_notices_20 : decode cX3_notices 20 = .ok (.if_icmp .ne 7, 3) := dk_160 0 7 (dk_at dksX3_notices_0 20 rfl rfl)
theorem dX3_notices_23 : decode cX3_notices 23 = .ok (.iconst 0, 1) := dk_3 (dk_at dksX3_notices_0 23 rfl rfl)
theorem dX3_notices_24 : decode cX3_notices 24 = .ok (.goto 6, 3) := dk_167 0 6 (dk_at dksX3_notices_1 0 rfl rfl)
theorem dX3_notices_27 : decode cX3_notices 27 = .ok (.iconst 1, 1) := dk_4 (dk_at dksX3_notices_1 3 rfl rfl)
theorem dX3_notices_28 : decode cX3_notices 28 = .ok (.iload_n 3, 1) := dk_29 (dk_at dksX3_notices_1 4 rfl rfl)
theorem dX3_notices_29 : decode cX3_notices 29 = .ok (.ishl, 1) := dk_120 (dk_at dksX3_notices_1 5 rfl rfl)
theorem dX3_notices_30 : decode cX3_notices 30 = .ok (.ior, 1) := dk_128 (dk_at dksX3_notices_1 6 rfl rfl)
theorem dX3_notices_31 : decode cX3_notices 31 = .ok (.istore_n 2, 1) := dk_61 (dk_at dksX3_notices_1 7 rfl rfl)
theorem dX3_notices_32 : decode cX3_notices 32 = .ok (.iinc 3 1, 3) := dk_132 3 1 (dk_at dksX3_notices_1 8 rfl rfl)
theorem dX3_notices_35 : decode cX3_notices 35 = .ok (.goto (-31), 3) := dk_167 255 225 (dk_at dksX3_notices_1 11 rfl rfl)
theorem dX3_notices_38 : decode cX3_notices 38 = .ok (.iload_n 2, 1) := dk_28 (dk_at dksX3_notices_1 14 rfl rfl)
theorem dX3_notices_39 : decode cX3_notices 39 = .ok (.ireturn, 1) := dk_172 (dk_at dksX3_notices_1 15 rfl rfl)
abbrev cX3_reply : ByteArray := prog_9_method_50_code
def yX3_reply : MethodName := ⟨RX3, "reply", "(I)I"⟩
def dkwX3_reply_1 : List UInt8 := [180, 0, 9, 182, 0, 236, 42, 180, 0, 9, 27, 184, 0, 250, 42, 180, 0, 9, 16, 40, 27, 96, 46, 172]
abbrev dktX3_reply_1 : List UInt8 := dkwX3_reply_1 ++ []
def dkwX3_reply_0 : List UInt8 := [42, 3, 181, 0, 83, 42, 42, 180, 0, 9, 27, 182, 0, 247, 61, 28, 156, 0, 5, 28, 172, 42, 42]
abbrev dktX3_reply_0 : List UInt8 := dkwX3_reply_0 ++ dktX3_reply_1
theorem dksX3_reply_0 : cX3_reply.data.toList.drop 0 = dktX3_reply_0 := by decide +kernel
theorem dksX3_reply_1 : cX3_reply.data.toList.drop 23 = dktX3_reply_1 := dk_seg dksX3_reply_0 23 rfl rfl
theorem dX3_reply_0 : decode cX3_reply 0 = .ok (.aload_n 0, 1) := dk_42 (dk_at dksX3_reply_0 0 rfl rfl)
theorem dX3_reply_1 : decode cX3_reply 1 = .ok (.iconst 0, 1) := dk_3 (dk_at dksX3_reply_0 1 rfl rfl)
theorem dX3_reply_2 : decode cX3_reply 2 = .ok (.putfield 83, 3) := dk_181 0 83 (dk_at dksX3_reply_0 2 rfl rfl)
theorem dX3_reply_5 : decode cX3_reply 5 = .ok (.aload_n 0, 1) := dk_42 (dk_at dksX3_reply_0 5 rfl rfl)
theorem dX3_reply_6 : decode cX3_reply 6 = .ok (.aload_n 0, 1) := dk_42 (dk_at dksX3_reply_0 6 rfl rfl)
theorem dX3_reply_7 : decode cX3_reply 7 = .ok (.getfield 9, 3) := dk_180 0 9 (dk_at dksX3_reply_0 7 rfl rfl)
theorem dX3_reply_10 : decode cX3_reply 10 = .ok (.iload_n 1, 1) := dk_27 (dk_at dksX3_reply_0 10 rfl rfl)
theorem dX3_reply_11 : decode cX3_reply 11 = .ok (.invokevirtual 247, 3) := dk_182 0 247 (dk_at dksX3_reply_0 11 rfl rfl)
theorem dX3_reply_14 : decode cX3_reply 14 = .ok (.istore_n 2, 1) := dk_61 (dk_at dksX3_reply_0 14 rfl rfl)
theorem dX3_reply_15 : decode cX3_reply 15 = .ok (.iload_n 2, 1) := dk_28 (dk_at dksX3_reply_0 15 rfl rfl)
theorem dX3_reply_16 : decode cX3_reply 16 = .ok (.ifCond .ge 5, 3) := dk_156 0 5 (dk_at dksX3_reply_0 16 rfl rfl)
theorem dX3_reply_19 : decode cX3_reply 19 = .ok (.iload_n 2, 1) := dk_28 (dk_at dksX3_reply_0 19 rfl rfl)
theorem dX3_reply_20 : decode cX3_reply 20 = .ok (.ireturn, 1) := dk_172 (dk_at dksX3_reply_0 20 rfl rfl)
theorem dX3_reply_21 : decode cX3_reply 21 = .ok (.aload_n 0, 1) := dk_42 (dk_at dksX3_reply_0 21 rfl rfl)
theorem dX3_reply_22 : decode cX3_reply 22 = .ok (.aload_n 0, 1) := dk_42 (dk_at dksX3_reply_0 22 rfl rfl)
theorem dX3_reply_23 : decode cX3_reply 23 = .ok (.getfield 9, 3) := dk_180 0 9 (dk_at dksX3_reply_1 0 rfl rfl)
theorem dX3_reply_26 : decode cX3_reply 26 = .ok (.invokevirtual 236, 3) := dk_182 0 236 (dk_at dksX3_reply_1 3 rfl rfl)
theorem dX3_reply_29 : decode cX3_reply 29 = .ok (.aload_n 0, 1) := dk_42 (dk_at dksX3_reply_1 6 rfl rfl)
theorem dX3_reply_30 : decode cX3_reply 30 = .ok (.getfield 9, 3) := dk_180 0 9 (dk_at dksX3_reply_1 7 rfl rfl)
theorem dX3_reply_33 : decode cX3_reply 33 = .ok (.iload_n 1, 1) := dk_27 (dk_at dksX3_reply_1 10 rfl rfl)
theorem dX3_reply_34 : decode cX3_reply 34 = .ok (.invokestatic 250, 3) := dk_184 0 250 (dk_at dksX3_reply_1 11 rfl rfl)
theorem dX3_reply_37 : decode cX3_reply 37 = .ok (.aload_n 0, 1) := dk_42 (dk_at dksX3_reply_1 14 rfl rfl)
theorem dX3_reply_38 : decode cX3_reply 38 = .ok (.getfield 9, 3) := dk_180 0 9 (dk_at dksX3_reply_1 15 rfl rfl)
theorem dX3_reply_41 : decode cX3_reply 41 = .ok (.bipush 40, 2) := dk_16 40 (dk_at dksX3_reply_1 18 rfl rfl)
theorem dX3_reply_43 : decode cX3_reply 43 = .ok (.iload_n 1, 1) := dk_27 (dk_at dksX3_reply_1 20 rfl rfl)
theorem dX3_reply_44 : decode cX3_reply 44 = .ok (.iadd, 1) := dk_96 (dk_at dksX3_reply_1 21 rfl rfl)
theorem dX3_reply_45 : decode cX3_reply 45 = .ok (.iaload, 1) := dk_46 (dk_at dksX3_reply_1 22 rfl rfl)
theorem dX3_reply_46 : decode cX3_reply 46 = .ok (.ireturn, 1) := dk_172 (dk_at dksX3_reply_1 23 rfl rfl)
abbrev cX3_refusesReply : ByteArray := prog_9_method_48_code
def yX3_refusesReply : MethodName := ⟨RX3, "refusesReply", "([II)I"⟩
def dkwX3_refusesReply_1 : List UInt8 := [16, 40, 28, 96, 46, 6, 160, 0, 8, 16, 253, 167, 0, 4, 3, 172]
abbrev dktX3_refusesReply_1 : List UInt8 := dkwX3_refusesReply_1 ++ []
def dkwX3_refusesReply_0 : List UInt8 := [42, 28, 182, 0, 96, 154, 0, 5, 2, 172, 43, 16, 32, 28, 96, 46, 2, 160, 0, 6, 16, 254, 172, 43]
abbrev dktX3_refusesReply_0 : List UInt8 := dkwX3_refusesReply_0 ++ dktX3_refusesReply_1
theorem dksX3_refusesReply_0 : cX3_refusesReply.data.toList.drop 0 = dktX3_refusesReply_0 := by decide +kernel
theorem dksX3_refusesReply_1 : cX3_refusesReply.data.toList.drop 24 = dktX3_refusesReply_1 := dk_seg dksX3_refusesReply_0 24 rfl rfl
theorem dX3_refusesReply_0 : decode cX3_refusesReply 0 = .ok (.aload_n 0, 1) := dk_42 (dk_at dksX3_refusesReply_0 0 rfl rfl)
theorem dX3_refusesReply_1 : decode cX3_refusesReply 1 = .ok (.iload_n 2, 1) := dk_28 (dk_at dksX3_refusesReply_0 1 rfl rfl)
theorem dX3_refusesReply_2 : decode cX3_refusesReply 2 = .ok (.invokevirtual 96, 3) := dk_182 0 96 (dk_at dksX3_refusesReply_0 2 rfl rfl)
theorem dX3_refusesReply_5 : decode cX3_refusesReply 5 = .ok (.ifCond .ne 5, 3) := dk_154 0 5 (dk_at dksX3_refusesReply_0 5 rfl rfl)
theorem dX3_refusesReply_8 : decode cX3_refusesReply 8 = .ok (.iconst (-1), 1) := dk_2 (dk_at dksX3_refusesReply_0 8 rfl rfl)
theorem dX3_refusesReply_9 : decode cX3_refusesReply 9 = .ok (.ireturn, 1) := dk_172 (dk_at dksX3_refusesReply_0 9 rfl rfl)
theorem dX3_refusesReply_10 : decode cX3_refusesReply 10 = .ok (.aload_n 1, 1) := dk_43 (dk_at dksX3_refusesReply_0 10 rfl rfl)
theorem dX3_refusesReply_11 : decode cX3_refusesReply 11 = .ok (.bipush 32, 2) := dk_16 32 (dk_at dksX3_refusesReply_0 11 rfl rfl)
theorem dX3_refusesReply_13 : decode cX3_refusesReply 13 = .ok (.iload_n 2, 1) := dk_28 (dk_at dksX3_refusesReply_0 13 rfl rfl)
theorem dX3_refusesReply_14 : decode cX3_refusesReply 14 = .ok (.iadd, 1) := dk_96 (dk_at dksX3_refusesReply_0 14 rfl rfl)
theorem dX3_refusesReply_15 : decode cX3_refusesReply 15 = .ok (.iaload, 1) := dk_46 (dk_at dksX3_refusesReply_0 15 rfl rfl)
theorem dX3_refusesReply_16 : decode cX3_refusesReply 16 = .ok (.iconst (-1), 1) := dk_2 (dk_at dksX3_refusesReply_0 16 rfl rfl)
theorem dX3_refusesReply_17 : decode cX3_refusesReply 17 = .ok (.if_icmp .ne 6, 3) := dk_160 0 6 (dk_at dksX3_refusesReply_0 17 rfl rfl)
theorem dX3_refusesReply_20 : decode cX3_refusesReply 20 = .ok (.bipush (-2), 2) := dk_16 254 (dk_at dksX3_refusesReply_0 20 rfl rfl)
theorem dX3_refusesReply_22 : decode cX3_refusesReply 22 = .ok (.ireturn, 1) := dk_172 (dk_at dksX3_refusesReply_0 22 rfl rfl)
theorem dX3_refusesReply_23 : decode cX3_refusesReply 23 = .ok (.aload_n 1, 1) := dk_43 (dk_at dksX3_refusesReply_0 23 rfl rfl)
theorem dX3_refusesReply_24 : decode cX3_refusesReply 24 = .ok (.bipush 40, 2) := dk_16 40 (dk_at dksX3_refusesReply_1 0 rfl rfl)
theorem dX3_refusesReply_26 : decode cX3_refusesReply 26 = .ok (.iload_n 2, 1) := dk_28 (dk_at dksX3_refusesReply_1 2 rfl rfl)
theorem dX3_refusesReply_27 : decode cX3_refusesReply 27 = .ok (.iadd, 1) := dk_96 (dk_at dksX3_refusesReply_1 3 rfl rfl)
theorem dX3_refusesReply_28 : decode cX3_refusesReply 28 = .ok (.iaload, 1) := dk_46 (dk_at dksX3_refusesReply_1 4 rfl rfl)
theorem dX3_refusesReply_29 : decode cX3_refusesReply 29 = .ok (.iconst 3, 1) := dk_6 (dk_at dksX3_refusesReply_1 5 rfl rfl)
theorem dX3_refusesReply_30 : decode cX3_refusesReply 30 = .ok (.if_icmp .ne 8, 3) := dk_160 0 8 (dk_at dksX3_refusesReply_1 6 rfl rfl)
theorem dX3_refusesReply_33 : decode cX3_refusesReply 33 = .ok (.bipush (-3), 2) := dk_16 253 (dk_at dksX3_refusesReply_1 9 rfl rfl)
theorem dX3_refusesReply_35 : decode cX3_refusesReply 35 = .ok (.goto 4, 3) := dk_167 0 4 (dk_at dksX3_refusesReply_1 11 rfl rfl)
theorem dX3_refusesReply_38 : decode cX3_refusesReply 38 = .ok (.iconst 0, 1) := dk_3 (dk_at dksX3_refusesReply_1 14 rfl rfl)
theorem dX3_refusesReply_39 : decode cX3_refusesReply 39 = .ok (.ireturn, 1) := dk_172 (dk_at dksX3_refusesReply_1 15 rfl rfl)
abbrev cX3_goReply : ByteArray := prog_9_method_49_code
def yX3_goReply : MethodName := ⟨RX3, "goReply", "([II)V"⟩
def dkwX3_goReply_1 : List UInt8 := [46, 4, 96, 79, 177]
abbrev dktX3_goReply_1 : List UInt8 := dkwX3_goReply_1 ++ []
def dkwX3_goReply_0 : List UInt8 := [42, 16, 32, 27, 96, 3, 42, 16, 32, 27, 96, 46, 5, 100, 184, 0, 198, 79, 42, 16, 40, 27, 96, 92]
abbrev dktX3_goReply_0 : List UInt8 := dkwX3_goReply_0 ++ dktX3_goReply_1
theorem dksX3_goReply_0 : cX3_goReply.data.toList.drop 0 = dktX3_goReply_0 := by decide +kernel
theorem dksX3_goReply_1 : cX3_goReply.data.toList.drop 24 = dktX3_goReply_1 := dk_seg dksX3_goReply_0 24 rfl rfl
theorem dX3_goReply_0 : decode cX3_goReply 0 = .ok (.aload_n 0, 1) := dk_42 (dk_at dksX3_goReply_0 0 rfl rfl)
theorem dX3_goReply_1 : decode cX3_goReply 1 = .ok (.bipush 32, 2) := dk_16 32 (dk_at dksX3_goReply_0 1 rfl rfl)
theorem dX3_goReply_3 : decode cX3_goReply 3 = .ok (.iload_n 1, 1) := dk_27 (dk_at dksX3_goReply_0 3 rfl rfl)
theorem dX3_goReply_4 : decode cX3_goReply 4 = .ok (.iadd, 1) := dk_96 (dk_at dksX3_goReply_0 4 rfl rfl)
theorem dX3_goReply_5 : decode cX3_goReply 5 = .ok (.iconst 0, 1) := dk_3 (dk_at dksX3_goReply_0 5 rfl rfl)
theorem dX3_goReply_6 : decode cX3_goReply 6 = .ok (.aload_n 0, 1) := dk_42 (dk_at dksX3_goReply_0 6 rfl rfl)
theorem dX3_goReply_7 : decode cX3_goReply 7 = .ok (.bipush 32, 2) := dk_16 32 (dk_at dksX3_goReply_0 7 rfl rfl)
theorem dX3_goReply_9 : decode cX3_goReply 9 = .ok (.iload_n 1, 1) := dk_27 (dk_at dksX3_goReply_0 9 rfl rfl)
theorem dX3_goReply_10 : decode cX3_goReply 10 = .ok (.iadd, 1) := dk_96 (dk_at dksX3_goReply_0 10 rfl rfl)
theorem dX3_goReply_11 : decode cX3_goReply 11 = .ok (.iaload, 1) := dk_46 (dk_at dksX3_goReply_0 11 rfl rfl)
theorem dX3_goReply_12 : decode cX3_goReply 12 = .ok (.iconst 2, 1) := dk_5 (dk_at dksX3_goReply_0 12 rfl rfl)
theorem dX3_goReply_13 : decode cX3_goReply 13 = .ok (.isub, 1) := dk_100 (dk_at dksX3_goReply_0 13 rfl rfl)
theorem dX3_goReply_14 : decode cX3_goReply 14 = .ok (.invokestatic 198, 3) := dk_184 0 198 (dk_at dksX3_goReply_0 14 rfl rfl)
theorem dX3_goReply_17 : decode cX3_goReply 17 = .ok (.iastore, 1) := dk_79 (dk_at dksX3_goReply_0 17 rfl rfl)
theorem dX3_goReply_18 : decode cX3_goReply 18 = .ok (.aload_n 0, 1) := dk_42 (dk_at dksX3_goReply_0 18 rfl rfl)
theorem dX3_goReply_19 : decode cX3_goReply 19 = .ok (.bipush 40, 2) := dk_16 40 (dk_at dksX3_goReply_0 19 rfl rfl)
theorem dX3_goReply_21 : decode cX3_goReply 21 = .ok (.iload_n 1, 1) := dk_27 (dk_at dksX3_goReply_0 21 rfl rfl)
theorem dX3_goReply_22 : decode cX3_goReply 22 = .ok (.iadd, 1) := dk_96 (dk_at dksX3_goReply_0 22 rfl rfl)
theorem dX3_goReply_23 : decode cX3_goReply 23 = .ok (.dup2, 1) := dk_92 (dk_at dksX3_goReply_0 23 rfl rfl)
theorem dX3_goReply_24 : decode cX3_goReply 24 = .ok (.iaload, 1) := dk_46 (dk_at dksX3_goReply_1 0 rfl rfl)
theorem dX3_goReply_25 : decode cX3_goReply 25 = .ok (.iconst 1, 1) := dk_4 (dk_at dksX3_goReply_1 1 rfl rfl)
theorem dX3_goReply_26 : decode cX3_goReply 26 = .ok (.iadd, 1) := dk_96 (dk_at dksX3_goReply_1 2 rfl rfl)
theorem dX3_goReply_27 : decode cX3_goReply 27 = .ok (.iastore, 1) := dk_79 (dk_at dksX3_goReply_1 3 rfl rfl)
theorem dX3_goReply_28 : decode cX3_goReply 28 = .ok (.return_, 1) := dk_177 (dk_at dksX3_goReply_1 4 rfl rfl)
abbrev cX3_lay : ByteArray := prog_9_method_53_code
def yX3_lay : MethodName := ⟨RX3, "lay", "(II)I"⟩
def dkwX3_lay_2 : List UInt8 := [182, 0, 225, 184, 0, 215, 184, 0, 198, 172]
abbrev dktX3_lay_2 : List UInt8 := dkwX3_lay_2 ++ []
def dkwX3_lay_1 : List UInt8 := [180, 0, 9, 182, 0, 236, 42, 180, 0, 9, 27, 28, 184, 1, 4, 3, 16, 99, 42, 42, 180, 0, 9, 27]
abbrev dktX3_lay_1 : List UInt8 := dkwX3_lay_1 ++ dktX3_lay_2
def dkwX3_lay_0 : List UInt8 := [42, 3, 181, 0, 83, 42, 42, 180, 0, 9, 27, 28, 182, 1, 0, 62, 29, 156, 0, 5, 29, 172, 42, 42]
abbrev dktX3_lay_0 : List UInt8 := dkwX3_lay_0 ++ dktX3_lay_1
theorem dksX3_lay_0 : cX3_lay.data.toList.drop 0 = dktX3_lay_0 := by decide +kernel
theorem dksX3_lay_1 : cX3_lay.data.toList.drop 24 = dktX3_lay_1 := dk_seg dksX3_lay_0 24 rfl rfl
theorem dksX3_lay_2 : cX3_lay.data.toList.drop 48 = dktX3_lay_2 := dk_seg dksX3_lay_1 24 rfl rfl
theorem dX3_lay_0 : decode cX3_lay 0 = .ok (.aload_n 0, 1) := dk_42 (dk_at dksX3_lay_0 0 rfl rfl)
theorem dX3_lay_1 : decode cX3_lay 1 = .ok (.iconst 0, 1) := dk_3 (dk_at dksX3_lay_0 1 rfl rfl)
theorem dX3_lay_2 : decode cX3_lay 2 = .ok (.putfield 83, 3) := dk_181 0 83 (dk_at dksX3_lay_0 2 rfl rfl)
theorem dX3_lay_5 : decode cX3_lay 5 = .ok (.aload_n 0, 1) := dk_42 (dk_at dksX3_lay_0 5 rfl rfl)
theorem dX3_lay_6 : decode cX3_lay 6 = .ok (.aload_n 0, 1) := dk_42 (dk_at dksX3_lay_0 6 rfl rfl)
theorem dX3_lay_7 : decode cX3_lay 7 = .ok (.getfield 9, 3) := dk_180 0 9 (dk_at dksX3_lay_0 7 rfl rfl)
theorem dX3_lay_10 : decode cX3_lay 10 = .ok (.iload_n 1, 1) := dk_27 (dk_at dksX3_lay_0 10 rfl rfl)
theorem dX3_lay_11 : decode cX3_lay 11 = .ok (.iload_n 2, 1) := dk_28 (dk_at dksX3_lay_0 11 rfl rfl)
theorem dX3_lay_12 : decode cX3_lay 12 = .ok (.invokevirtual 256, 3) := dk_182 1 0 (dk_at dksX3_lay_0 12 rfl rfl)
theorem dX3_lay_15 : decode cX3_lay 15 = .ok (.istore_n 3, 1) := dk_62 (dk_at dksX3_lay_0 15 rfl rfl)
theorem dX3_lay_16 : decode cX3_lay 16 = .ok (.iload_n 3, 1) := dk_29 (dk_at dksX3_lay_0 16 rfl rfl)
theorem dX3_lay_17 : decode cX3_lay 17 = .ok (.ifCond .ge 5, 3) := dk_156 0 5 (dk_at dksX3_lay_0 17 rfl rfl)
theorem dX3_lay_20 : decode cX3_lay 20 = .ok (.iload_n 3, 1) := dk_29 (dk_at dksX3_lay_0 20 rfl rfl)
theorem dX3_lay_21 : decode cX3_lay 21 = .ok (.ireturn, 1) := dk_172 (dk_at dksX3_lay_0 21 rfl rfl)
theorem dX3_lay_22 : decode cX3_lay 22 = .ok (.aload_n 0, 1) := dk_42 (dk_at dksX3_lay_0 22 rfl rfl)
theorem dX3_lay_23 : decode cX3_lay 23 = .ok (.aload_n 0, 1) := dk_42 (dk_at dksX3_lay_0 23 rfl rfl)
theorem dX3_lay_24 : decode cX3_lay 24 = .ok (.getfield 9, 3) := dk_180 0 9 (dk_at dksX3_lay_1 0 rfl rfl)
theorem dX3_lay_27 : decode cX3_lay 27 = .ok (.invokevirtual 236, 3) := dk_182 0 236 (dk_at dksX3_lay_1 3 rfl rfl)
theorem dX3_lay_30 : decode cX3_lay 30 = .ok (.aload_n 0, 1) := dk_42 (dk_at dksX3_lay_1 6 rfl rfl)
theorem dX3_lay_31 : decode cX3_lay 31 = .ok (.getfield 9, 3) := dk_180 0 9 (dk_at dksX3_lay_1 7 rfl rfl)
theorem dX3_lay_34 : decode cX3_lay 34 = .ok (.iload_n 1, 1) := dk_27 (dk_at dksX3_lay_1 10 rfl rfl)
theorem dX3_lay_35 : decode cX3_lay 35 = .ok (.iload_n 2, 1) := dk_28 (dk_at dksX3_lay_1 11 rfl rfl)
theorem dX3_lay_36 : decode cX3_lay 36 = .ok (.invokestatic 260, 3) := dk_184 1 4 (dk_at dksX3_lay_1 12 rfl rfl)
theorem dX3_lay_39 : decode cX3_lay 39 = .ok (.iconst 0, 1) := dk_3 (dk_at dksX3_lay_1 15 rfl rfl)
theorem dX3_lay_40 : decode cX3_lay 40 = .ok (.bipush 99, 2) := dk_16 99 (dk_at dksX3_lay_1 16 rfl rfl)
theorem dX3_lay_42 : decode cX3_lay 42 = .ok (.aload_n 0, 1) := dk_42 (dk_at dksX3_lay_1 18 rfl rfl)
theorem dX3_lay_43 : decode cX3_lay 43 = .ok (.aload_n 0, 1) := dk_42 (dk_at dksX3_lay_1 19 rfl rfl)
theorem dX3_lay_44 : decode cX3_lay 44 = .ok (.getfield 9, 3) := dk_180 0 9 (dk_at dksX3_lay_1 20 rfl rfl)
theorem dX3_lay_47 : decode cX3_lay 47 = .ok (.iload_n 1, 1) := dk_27 (dk_at dksX3_lay_1 23 rfl rfl)
theorem dX3_lay_48 : decode cX3_lay 48 = .ok (.invokevirtual 225, 3) := dk_182 0 225 (dk_at dksX3_lay_2 0 rfl rfl)
theorem dX3_lay_51 : decode cX3_lay 51 = .ok (.invokestatic 215, 3) := dk_184 0 215 (dk_at dksX3_lay_2 3 rfl rfl)
theorem dX3_lay_54 : decode cX3_lay 54 = .ok (.invokestatic 198, 3) := dk_184 0 198 (dk_at dksX3_lay_2 6 rfl rfl)
theorem dX3_lay_57 : decode cX3_lay 57 = .ok (.ireturn, 1) := dk_172 (dk_at dksX3_lay_2 9 rfl rfl)
abbrev cX3_refusesLay : ByteArray := prog_9_method_51_code
def yX3_refusesLay : MethodName := ⟨RX3, "refusesLay", "([III)I"⟩
def dkwX3_refusesLay_1 : List UInt8 := [153, 0, 6, 16, 254, 172, 42, 43, 28, 182, 0, 221, 153, 0, 7, 3, 167, 0, 5, 16, 253, 172]
abbrev dktX3_refusesLay_1 : List UInt8 := dkwX3_refusesLay_1 ++ []
def dkwX3_refusesLay_0 : List UInt8 := [42, 28, 182, 0, 96, 153, 0, 10, 29, 184, 0, 253, 154, 0, 5, 2, 172, 43, 16, 48, 28, 96, 46]
abbrev dktX3_refusesLay_0 : List UInt8 := dkwX3_refusesLay_0 ++ dktX3_refusesLay_1
theorem dksX3_refusesLay_0 : cX3_refusesLay.data.toList.drop 0 = dktX3_refusesLay_0 := by decide +kernel
theorem dksX3_refusesLay_1 : cX3_refusesLay.data.toList.drop 23 = dktX3_refusesLay_1 := dk_seg dksX3_refusesLay_0 23 rfl rfl
theorem dX3_refusesLay_0 : decode cX3_refusesLay 0 = .ok (.aload_n 0, 1) := dk_42 (dk_at dksX3_refusesLay_0 0 rfl rfl)
theorem dX3_refusesLay_1 : decode cX3_refusesLay 1 = .ok (.iload_n 2, 1) := dk_28 (dk_at dksX3_refusesLay_0 1 rfl rfl)
theorem dX3_refusesLay_2 : decode cX3_refusesLay 2 = .ok (.invokevirtual 96, 3) := dk_182 0 96 (dk_at dksX3_refusesLay_0 2 rfl rfl)
theorem dX3_refusesLay_5 : decode cX3_refusesLay 5 = .ok (.ifCond .eq 10, 3) := dk_153 0 10 (dk_at dksX3_refusesLay_0 5 rfl rfl)
theorem dX3_refusesLay_8 : decode cX3_refusesLay 8 = .ok (.iload_n 3, 1) := dk_29 (dk_at dksX3_refusesLay_0 8 rfl rfl)
theorem dX3_refusesLay_9 : decode cX3_refusesLay 9 = .ok (.invokestatic 253, 3) := dk_184 0 253 (dk_at dksX3_refusesLay_0 9 rfl rfl)
theorem dX3_refusesLay_12 : decode cX3_refusesLay 12 = .ok (.ifCond .ne 5, 3) := dk_154 0 5 (dk_at dksX3_refusesLay_0 12 rfl rfl)
theorem dX3_refusesLay_15 : decode cX3_refusesLay 15 = .ok (.iconst (-1), 1) := dk_2 (dk_at dksX3_refusesLay_0 15 rfl rfl)
theorem dX3_refusesLay_16 : decode cX3_refusesLay 16 = .ok (.ireturn, 1) := dk_172 (dk_at dksX3_refusesLay_0 16 rfl rfl)
theorem dX3_refusesLay_17 : decode cX3_refusesLay 17 = .ok (.aload_n 1, 1) := dk_43 (dk_at dksX3_refusesLay_0 17 rfl rfl)
theorem dX3_refusesLay_18 : decode cX3_refusesLay 18 = .ok (.bipush 48, 2) := dk_16 48 (dk_at dksX3_refusesLay_0 18 rfl rfl)
theorem dX3_refusesLay_20 : decode cX3_refusesLay 20 = .ok (.iload_n 2, 1) := dk_28 (dk_at dksX3_refusesLay_0 20 rfl rfl)
theorem dX3_refusesLay_21 : decode cX3_refusesLay 21 = .ok (.iadd, 1) := dk_96 (dk_at dksX3_refusesLay_0 21 rfl rfl)
theorem dX3_refusesLay_22 : decode cX3_refusesLay 22 = .ok (.iaload, 1) := dk_46 (dk_at dksX3_refusesLay_0 22 rfl rfl)
theorem dX3_refusesLay_23 : decode cX3_refusesLay 23 = .ok (.ifCond .eq 6, 3) := dk_153 0 6 (dk_at dksX3_refusesLay_1 0 rfl rfl)
theorem dX3_refusesLay_26 : decode cX3_refusesLay 26 = .ok (.bipush (-2), 2) := dk_16 254 (dk_at dksX3_refusesLay_1 3 rfl rfl)
theorem dX3_refusesLay_28 : decode cX3_refusesLay 28 = .ok (.ireturn, 1) := dk_172 (dk_at dksX3_refusesLay_1 5 rfl rfl)
theorem dX3_refusesLay_29 : decode cX3_refusesLay 29 = .ok (.aload_n 0, 1) := dk_42 (dk_at dksX3_refusesLay_1 6 rfl rfl)
theorem dX3_refusesLay_30 : decode cX3_refusesLay 30 = .ok (.aload_n 1, 1) := dk_43 (dk_at dksX3_refusesLay_1 7 rfl rfl)
theorem dX3_refusesLay_31 : decode cX3_refusesLay 31 = .ok (.iload_n 2, 1) := dk_28 (dk_at dksX3_refusesLay_1 8 rfl rfl)
theorem dX3_refusesLay_32 : decode cX3_refusesLay 32 = .ok (.invokevirtual 221, 3) := dk_182 0 221 (dk_at dksX3_refusesLay_1 9 rfl rfl)
theorem dX3_refusesLay_35 : decode cX3_refusesLay 35 = .ok (.ifCond .eq 7, 3) := dk_153 0 7 (dk_at dksX3_refusesLay_1 12 rfl rfl)
theorem dX3_refusesLay_38 : decode cX3_refusesLay 38 = .ok (.iconst 0, 1) := dk_3 (dk_at dksX3_refusesLay_1 15 rfl rfl)
theorem dX3_refusesLay_39 : decode cX3_refusesLay 39 = .ok (.goto 5, 3) := dk_167 0 5 (dk_at dksX3_refusesLay_1 16 rfl rfl)
theorem dX3_refusesLay_42 : decode cX3_refusesLay 42 = .ok (.bipush (-3), 2) := dk_16 253 (dk_at dksX3_refusesLay_1 19 rfl rfl)
theorem dX3_refusesLay_44 : decode cX3_refusesLay 44 = .ok (.ireturn, 1) := dk_172 (dk_at dksX3_refusesLay_1 21 rfl rfl)
abbrev cX3_isColour : ByteArray := prog_9_method_9_code
def yX3_isColour : MethodName := ⟨RX3, "isColour", "(I)Z"⟩
def dkwX3_isColour_0 : List UInt8 := [26, 3, 16, 9, 184, 0, 92, 172]
abbrev dktX3_isColour_0 : List UInt8 := dkwX3_isColour_0 ++ []
theorem dksX3_isColour_0 : cX3_isColour.data.toList.drop 0 = dktX3_isColour_0 := by decide +kernel
theorem dX3_isColour_0 : decode cX3_isColour 0 = .ok (.iload_n 0, 1) := dk_26 (dk_at dksX3_isColour_0 0 rfl rfl)
theorem dX3_isColour_1 : decode cX3_isColour 1 = .ok (.iconst 0, 1) := dk_3 (dk_at dksX3_isColour_0 1 rfl rfl)
theorem dX3_isColour_2 : decode cX3_isColour 2 = .ok (.bipush 9, 2) := dk_16 9 (dk_at dksX3_isColour_0 2 rfl rfl)
theorem dX3_isColour_4 : decode cX3_isColour 4 = .ok (.invokestatic 92, 3) := dk_184 0 92 (dk_at dksX3_isColour_0 4 rfl rfl)
theorem dX3_isColour_7 : decode cX3_isColour 7 = .ok (.ireturn, 1) := dk_172 (dk_at dksX3_isColour_0 7 rfl rfl)
abbrev cX3_goLay : ByteArray := prog_9_method_52_code
def yX3_goLay : MethodName := ⟨RX3, "goLay", "([III)V"⟩
def dkwX3_goLay_1 : List UInt8 := [27, 96, 3, 79, 42, 16, 24, 27, 96, 3, 42, 16, 24, 27, 96, 46, 4, 100, 184, 0, 198, 79, 177]
abbrev dktX3_goLay_1 : List UInt8 := dkwX3_goLay_1 ++ []
def dkwX3_goLay_0 : List UInt8 := [42, 16, 48, 27, 96, 4, 79, 42, 16, 56, 27, 96, 28, 79, 42, 16, 64, 27, 96, 3, 79, 42, 16, 72]
abbrev dktX3_goLay_0 : List UInt8 := dkwX3_goLay_0 ++ dktX3_goLay_1
theorem dksX3_goLay_0 : cX3_goLay.data.toList.drop 0 = dktX3_goLay_0 := by decide +kernel
theorem dksX3_goLay_1 : cX3_goLay.data.toList.drop 24 = dktX3_goLay_1 := dk_seg dksX3_goLay_0 24 rfl rfl
theorem dX3_goLay_0 : decode cX3_goLay 0 = .ok (.aload_n 0, 1) := dk_42 (dk_at dksX3_goLay_0 0 rfl rfl)
theorem dX3_goLay_1 : decode cX3_goLay 1 = .ok (.bipush 48, 2) := dk_16 48 (dk_at dksX3_goLay_0 1 rfl rfl)
theorem dX3_goLay_3 : decode cX3_goLay 3 = .ok (.iload_n 1, 1) := dk_27 (dk_at dksX3_goLay_0 3 rfl rfl)
theorem dX3_goLay_4 : decode cX3_goLay 4 = .ok (.iadd, 1) := dk_96 (dk_at dksX3_goLay_0 4 rfl rfl)
theorem dX3_goLay_5 : decode cX3_goLay 5 = .ok (.iconst 1, 1) := dk_4 (dk_at dksX3_goLay_0 5 rfl rfl)
theorem dX3_goLay_6 : decode cX3_goLay 6 = .ok (.iastore, 1) := dk_79 (dk_at dksX3_goLay_0 6 rfl rfl)
theorem dX3_goLay_7 : decode cX3_goLay 7 = .ok (.aload_n 0, 1) := dk_42 (dk_at dksX3_goLay_0 7 rfl rfl)
theorem dX3_goLay_8 : decode cX3_goLay 8 = .ok (.bipush 56, 2) := dk_16 56 (dk_at dksX3_goLay_0 8 rfl rfl)
theorem dX3_goLay_10 : decode cX3_goLay 10 = .ok (.iload_n 1, 1) := dk_27 (dk_at dksX3_goLay_0 10 rfl rfl)
theorem dX3_goLay_11 : decode cX3_goLay 11 = .ok (.iadd, 1) := dk_96 (dk_at dksX3_goLay_0 11 rfl rfl)
theorem dX3_goLay_12 : decode cX3_goLay 12 = .ok (.iload_n 2, 1) := dk_28 (dk_at dksX3_goLay_0 12 rfl rfl)
theorem dX3_goLay_13 : decode cX3_goLay 13 = .ok (.iastore, 1) := dk_79 (dk_at dksX3_goLay_0 13 rfl rfl)
theorem dX3_goLay_14 : decode cX3_goLay 14 = .ok (.aload_n 0, 1) := dk_42 (dk_at dksX3_goLay_0 14 rfl rfl)
theorem dX3_goLay_15 : decode cX3_goLay 15 = .ok (.bipush 64, 2) := dk_16 64 (dk_at dksX3_goLay_0 15 rfl rfl)
theorem dX3_goLay_17 : decode cX3_goLay 17 = .ok (.iload_n 1, 1) := dk_27 (dk_at dksX3_goLay_0 17 rfl rfl)
theorem dX3_goLay_18 : decode cX3_goLay 18 = .ok (.iadd, 1) := dk_96 (dk_at dksX3_goLay_0 18 rfl rfl)
theorem dX3_goLay_19 : decode cX3_goLay 19 = .ok (.iconst 0, 1) := dk_3 (dk_at dksX3_goLay_0 19 rfl rfl)
theorem dX3_goLay_20 : decode cX3_goLay 20 = .ok (.iastore, 1) := dk_79 (dk_at dksX3_goLay_0 20 rfl rfl)
theorem dX3_goLay_21 : decode cX3_goLay 21 = .ok (.aload_n 0, 1) := dk_42 (dk_at dksX3_goLay_0 21 rfl rfl)
theorem dX3_goLay_22 : decode cX3_goLay 22 = .ok (.bipush 72, 2) := dk_16 72 (dk_at dksX3_goLay_0 22 rfl rfl)
theorem dX3_goLay_24 : decode cX3_goLay 24 = .ok (.iload_n 1, 1) := dk_27 (dk_at dksX3_goLay_1 0 rfl rfl)
theorem dX3_goLay_25 : decode cX3_goLay 25 = .ok (.iadd, 1) := dk_96 (dk_at dksX3_goLay_1 1 rfl rfl)
theorem dX3_goLay_26 : decode cX3_goLay 26 = .ok (.iconst 0, 1) := dk_3 (dk_at dksX3_goLay_1 2 rfl rfl)
theorem dX3_goLay_27 : decode cX3_goLay 27 = .ok (.iastore, 1) := dk_79 (dk_at dksX3_goLay_1 3 rfl rfl)
theorem dX3_goLay_28 : decode cX3_goLay 28 = .ok (.aload_n 0, 1) := dk_42 (dk_at dksX3_goLay_1 4 rfl rfl)
theorem dX3_goLay_29 : decode cX3_goLay 29 = .ok (.bipush 24, 2) := dk_16 24 (dk_at dksX3_goLay_1 5 rfl rfl)
theorem dX3_goLay_31 : decode cX3_goLay 31 = .ok (.iload_n 1, 1) := dk_27 (dk_at dksX3_goLay_1 7 rfl rfl)
theorem dX3_goLay_32 : decode cX3_goLay 32 = .ok (.iadd, 1) := dk_96 (dk_at dksX3_goLay_1 8 rfl rfl)
theorem dX3_goLay_33 : decode cX3_goLay 33 = .ok (.iconst 0, 1) := dk_3 (dk_at dksX3_goLay_1 9 rfl rfl)
theorem dX3_goLay_34 : decode cX3_goLay 34 = .ok (.aload_n 0, 1) := dk_42 (dk_at dksX3_goLay_1 10 rfl rfl)
theorem dX3_goLay_35 : decode cX3_goLay 35 = .ok (.bipush 24, 2) := dk_16 24 (dk_at dksX3_goLay_1 11 rfl rfl)
theorem dX3_goLay_37 : decode cX3_goLay 37 = .ok (.iload_n 1, 1) := dk_27 (dk_at dksX3_goLay_1 13 rfl rfl)
theorem dX3_goLay_38 : decode cX3_goLay 38 = .ok (.iadd, 1) := dk_96 (dk_at dksX3_goLay_1 14 rfl rfl)
theorem dX3_goLay_39 : decode cX3_goLay 39 = .ok (.iaload, 1) := dk_46 (dk_at dksX3_goLay_1 15 rfl rfl)
theorem dX3_goLay_40 : decode cX3_goLay 40 = .ok (.iconst 1, 1) := dk_4 (dk_at dksX3_goLay_1 16 rfl rfl)
theorem dX3_goLay_41 : decode cX3_goLay 41 = .ok (.isub, 1) := dk_100 (dk_at dksX3_goLay_1 17 rfl rfl)
theorem dX3_goLay_42 : decode cX3_goLay 42 = .ok (.invokestatic 198, 3) := dk_184 0 198 (dk_at dksX3_goLay_1 18 rfl rfl)
theorem dX3_goLay_45 : decode cX3_goLay 45 = .ok (.iastore, 1) := dk_79 (dk_at dksX3_goLay_1 21 rfl rfl)
theorem dX3_goLay_46 : decode cX3_goLay 46 = .ok (.return_, 1) := dk_177 (dk_at dksX3_goLay_1 22 rfl rfl)
abbrev cX3_tint : ByteArray := prog_9_method_55_code
def yX3_tint : MethodName := ⟨RX3, "tint", "(II)I"⟩
def dkwX3_tint_2 : List UInt8 := [21, 4, 172]
abbrev dktX3_tint_2 : List UInt8 := dkwX3_tint_2 ++ []
def dkwX3_tint_1 : List UInt8 := [182, 0, 236, 42, 180, 0, 9, 16, 56, 27, 96, 46, 54, 4, 42, 180, 0, 9, 16, 56, 27, 96, 28, 79]
abbrev dktX3_tint_1 : List UInt8 := dkwX3_tint_1 ++ dktX3_tint_2
def dkwX3_tint_0 : List UInt8 := [42, 3, 181, 0, 83, 42, 27, 28, 182, 1, 8, 62, 29, 156, 0, 5, 29, 172, 42, 42, 180, 0, 9]
abbrev dktX3_tint_0 : List UInt8 := dkwX3_tint_0 ++ dktX3_tint_1
theorem dksX3_tint_0 : cX3_tint.data.toList.drop 0 = dktX3_tint_0 := by decide +kernel
theorem dksX3_tint_1 : cX3_tint.data.toList.drop 23 = dktX3_tint_1 := dk_seg dksX3_tint_0 23 rfl rfl
theorem dksX3_tint_2 : cX3_tint.data.toList.drop 47 = dktX3_tint_2 := dk_seg dksX3_tint_1 24 rfl rfl
theorem dX3_tint_0 : decode cX3_tint 0 = .ok (.aload_n 0, 1) := dk_42 (dk_at dksX3_tint_0 0 rfl rfl)
theorem dX3_tint_1 : decode cX3_tint 1 = .ok (.iconst 0, 1) := dk_3 (dk_at dksX3_tint_0 1 rfl rfl)
theorem dX3_tint_2 : decode cX3_tint 2 = .ok (.putfield 83, 3) := dk_181 0 83 (dk_at dksX3_tint_0 2 rfl rfl)
theorem dX3_tint_5 : decode cX3_tint 5 = .ok (.aload_n 0, 1) := dk_42 (dk_at dksX3_tint_0 5 rfl rfl)
theorem dX3_tint_6 : decode cX3_tint 6 = .ok (.iload_n 1, 1) := dk_27 (dk_at dksX3_tint_0 6 rfl rfl)
theorem dX3_tint_7 : decode cX3_tint 7 = .ok (.iload_n 2, 1) := dk_28 (dk_at dksX3_tint_0 7 rfl rfl)
theorem dX3_tint_8 : decode cX3_tint 8 = .ok (.invokevirtual 264, 3) := dk_182 1 8 (dk_at dksX3_tint_0 8 rfl rfl)
theorem dX3_tint_11 : decode cX3_tint 11 = .ok (.istore_n 3, 1) := dk_62 (dk_at dksX3_tint_0 11 rfl rfl)
theorem dX3_tint_12 : decode cX3_tint 12 = .ok (.iload_n 3, 1) := dk_29 (dk_at dksX3_tint_0 12 rfl rfl)
theorem dX3_tint_13 : decode cX3_tint 13 = .ok (.ifCond .ge 5, 3) := dk_156 0 5 (dk_at dksX3_tint_0 13 rfl rfl)
theorem dX3_tint_16 : decode cX3_tint 16 = .ok (.iload_n 3, 1) := dk_29 (dk_at dksX3_tint_0 16 rfl rfl)
theorem dX3_tint_17 : decode cX3_tint 17 = .ok (.ireturn, 1) := dk_172 (dk_at dksX3_tint_0 17 rfl rfl)
theorem dX3_tint_18 : decode cX3_tint 18 = .ok (.aload_n 0, 1) := dk_42 (dk_at dksX3_tint_0 18 rfl rfl)
theorem dX3_tint_19 : decode cX3_tint 19 = .ok (.aload_n 0, 1) := dk_42 (dk_at dksX3_tint_0 19 rfl rfl)
theorem dX3_tint_20 : decode cX3_tint 20 = .ok (.getfield 9, 3) := dk_180 0 9 (dk_at dksX3_tint_0 20 rfl rfl)
theorem dX3_tint_23 : decode cX3_tint 23 = .ok (.invokevirtual 236, 3) := dk_182 0 236 (dk_at dksX3_tint_1 0 rfl rfl)
theorem dX3_tint_26 : decode cX3_tint 26 = .ok (.aload_n 0, 1) := dk_42 (dk_at dksX3_tint_1 3 rfl rfl)
theorem dX3_tint_27 : decode cX3_tint 27 = .ok (.getfield 9, 3) := dk_180 0 9 (dk_at dksX3_tint_1 4 rfl rfl)
theorem dX3_tint_30 : decode cX3_tint 30 = .ok (.bipush 56, 2) := dk_16 56 (dk_at dksX3_tint_1 7 rfl rfl)
theorem dX3_tint_32 : decode cX3_tint 32 = .ok (.iload_n 1, 1) := dk_27 (dk_at dksX3_tint_1 9 rfl rfl)
theorem dX3_tint_33 : decode cX3_tint 33 = .ok (.iadd, 1) := dk_96 (dk_at dksX3_tint_1 10 rfl rfl)
theorem dX3_tint_34 : decode cX3_tint 34 = .ok (.iaload, 1) := dk_46 (dk_at dksX3_tint_1 11 rfl rfl)
theorem dX3_tint_35 : decode cX3_tint 35 = .ok (.istore 4, 2) := dk_54 4 (dk_at dksX3_tint_1 12 rfl rfl)
theorem dX3_tint_37 : decode cX3_tint 37 = .ok (.aload_n 0, 1) := dk_42 (dk_at dksX3_tint_1 14 rfl rfl)
theorem dX3_tint_38 : decode cX3_tint 38 = .ok (.getfield 9, 3) := dk_180 0 9 (dk_at dksX3_tint_1 15 rfl rfl)
theorem dX3_tint_41 : decode cX3_tint 41 = .ok (.bipush 56, 2) := dk_16 56 (dk_at dksX3_tint_1 18 rfl rfl)
theorem dX3_tint_43 : decode cX3_tint 43 = .ok (.iload_n 1, 1) := dk_27 (dk_at dksX3_tint_1 20 rfl rfl)
theorem dX3_tint_44 : decode cX3_tint 44 = .ok (.iadd, 1) := dk_96 (dk_at dksX3_tint_1 21 rfl rfl)
theorem dX3_tint_45 : decode cX3_tint 45 = .ok (.iload_n 2, 1) := dk_28 (dk_at dksX3_tint_1 22 rfl rfl)
theorem dX3_tint_46 : decode cX3_tint 46 = .ok (.iastore, 1) := dk_79 (dk_at dksX3_tint_1 23 rfl rfl)
theorem dX3_tint_47 : decode cX3_tint 47 = .ok (.iload 4, 2) := dk_21 4 (dk_at dksX3_tint_2 0 rfl rfl)
theorem dX3_tint_49 : decode cX3_tint 49 = .ok (.ireturn, 1) := dk_172 (dk_at dksX3_tint_2 2 rfl rfl)
abbrev cX3_refusesTint : ByteArray := prog_9_method_54_code
def yX3_refusesTint : MethodName := ⟨RX3, "refusesTint", "(II)I"⟩
def dkwX3_refusesTint_1 : List UInt8 := [96, 46, 4, 160, 0, 7, 3, 167, 0, 5, 16, 254, 172]
abbrev dktX3_refusesTint_1 : List UInt8 := dkwX3_refusesTint_1 ++ []
def dkwX3_refusesTint_0 : List UInt8 := [42, 27, 182, 0, 96, 153, 0, 10, 28, 184, 0, 253, 154, 0, 5, 2, 172, 42, 180, 0, 9, 16, 48, 27]
abbrev dktX3_refusesTint_0 : List UInt8 := dkwX3_refusesTint_0 ++ dktX3_refusesTint_1
theorem dksX3_refusesTint_0 : cX3_refusesTint.data.toList.drop 0 = dktX3_refusesTint_0 := by decide +kernel
theorem dksX3_refusesTint_1 : cX3_refusesTint.data.toList.drop 24 = dktX3_refusesTint_1 := dk_seg dksX3_refusesTint_0 24 rfl rfl
theorem dX3_refusesTint_0 : decode cX3_refusesTint 0 = .ok (.aload_n 0, 1) := dk_42 (dk_at dksX3_refusesTint_0 0 rfl rfl)
theorem dX3_refusesTint_1 : decode cX3_refusesTint 1 = .ok (.iload_n 1, 1) := dk_27 (dk_at dksX3_refusesTint_0 1 rfl rfl)
theorem dX3_refusesTint_2 : decode cX3_refusesTint 2 = .ok (.invokevirtual 96, 3) := dk_182 0 96 (dk_at dksX3_refusesTint_0 2 rfl rfl)
theorem dX3_refusesTint_5 : decode cX3_refusesTint 5 = .ok (.ifCond .eq 10, 3) := dk_153 0 10 (dk_at dksX3_refusesTint_0 5 rfl rfl)
theorem dX3_refusesTint_8 : decode cX3_refusesTint 8 = .ok (.iload_n 2, 1) := dk_28 (dk_at dksX3_refusesTint_0 8 rfl rfl)
theorem dX3_refusesTint_9 : decode cX3_refusesTint 9 = .ok (.invokestatic 253, 3) := dk_184 0 253 (dk_at dksX3_refusesTint_0 9 rfl rfl)
theorem dX3_refusesTint_12 : decode cX3_refusesTint 12 = .ok (.ifCond .ne 5, 3) := dk_154 0 5 (dk_at dksX3_refusesTint_0 12 rfl rfl)
theorem dX3_refusesTint_15 : decode cX3_refusesTint 15 = .ok (.iconst (-1), 1) := dk_2 (dk_at dksX3_refusesTint_0 15 rfl rfl)
theorem dX3_refusesTint_16 : decode cX3_refusesTint 16 = .ok (.ireturn, 1) := dk_172 (dk_at dksX3_refusesTint_0 16 rfl rfl)
theorem dX3_refusesTint_17 : decode cX3_refusesTint 17 = .ok (.aload_n 0, 1) := dk_42 (dk_at dksX3_refusesTint_0 17 rfl rfl)
theorem dX3_refusesTint_18 : decode cX3_refusesTint 18 = .ok (.getfield 9, 3) := dk_180 0 9 (dk_at dksX3_refusesTint_0 18 rfl rfl)
theorem dX3_refusesTint_21 : decode cX3_refusesTint 21 = .ok (.bipush 48, 2) := dk_16 48 (dk_at dksX3_refusesTint_0 21 rfl rfl)
theorem dX3_refusesTint_23 : decode cX3_refusesTint 23 = .ok (.iload_n 1, 1) := dk_27 (dk_at dksX3_refusesTint_0 23 rfl rfl)
theorem dX3_refusesTint_24 : decode cX3_refusesTint 24 = .ok (.iadd, 1) := dk_96 (dk_at dksX3_refusesTint_1 0 rfl rfl)
theorem dX3_refusesTint_25 : decode cX3_refusesTint 25 = .ok (.iaload, 1) := dk_46 (dk_at dksX3_refusesTint_1 1 rfl rfl)
theorem dX3_refusesTint_26 : decode cX3_refusesTint 26 = .ok (.iconst 1, 1) := dk_4 (dk_at dksX3_refusesTint_1 2 rfl rfl)
theorem dX3_refusesTint_27 : decode cX3_refusesTint 27 = .ok (.if_icmp .ne 7, 3) := dk_160 0 7 (dk_at dksX3_refusesTint_1 3 rfl rfl)
theorem dX3_refusesTint_30 : decode cX3_refusesTint 30 = .ok (.iconst 0, 1) := dk_3 (dk_at dksX3_refusesTint_1 6 rfl rfl)
theorem dX3_refusesTint_31 : decode cX3_refusesTint 31 = .ok (.goto 5, 3) := dk_167 0 5 (dk_at dksX3_refusesTint_1 7 rfl rfl)
theorem dX3_refusesTint_34 : decode cX3_refusesTint 34 = .ok (.bipush (-2), 2) := dk_16 254 (dk_at dksX3_refusesTint_1 10 rfl rfl)
theorem dX3_refusesTint_36 : decode cX3_refusesTint 36 = .ok (.ireturn, 1) := dk_172 (dk_at dksX3_refusesTint_1 12 rfl rfl)
abbrev cX3_exchange : ByteArray := prog_9_method_57_code
def yX3_exchange : MethodName := ⟨RX3, "exchange", "(II)I"⟩
def dkwX3_exchange_2 : List UInt8 := [28, 96, 46, 96, 172]
abbrev dktX3_exchange_2 : List UInt8 := dkwX3_exchange_2 ++ []
def dkwX3_exchange_1 : List UInt8 := [42, 180, 0, 9, 27, 28, 184, 1, 15, 42, 180, 0, 9, 16, 24, 27, 96, 46, 42, 180, 0, 9, 16, 24]
abbrev dktX3_exchange_1 : List UInt8 := dkwX3_exchange_1 ++ dktX3_exchange_2
def dkwX3_exchange_0 : List UInt8 := [42, 3, 181, 0, 83, 42, 27, 28, 182, 1, 11, 154, 0, 5, 2, 172, 42, 42, 180, 0, 9, 182, 0, 236]
abbrev dktX3_exchange_0 : List UInt8 := dkwX3_exchange_0 ++ dktX3_exchange_1
theorem dksX3_exchange_0 : cX3_exchange.data.toList.drop 0 = dktX3_exchange_0 := by decide +kernel
theorem dksX3_exchange_1 : cX3_exchange.data.toList.drop 24 = dktX3_exchange_1 := dk_seg dksX3_exchange_0 24 rfl rfl
theorem dksX3_exchange_2 : cX3_exchange.data.toList.drop 48 = dktX3_exchange_2 := dk_seg dksX3_exchange_1 24 rfl rfl
theorem dX3_exchange_0 : decode cX3_exchange 0 = .ok (.aload_n 0, 1) := dk_42 (dk_at dksX3_exchange_0 0 rfl rfl)
theorem dX3_exchange_1 : decode cX3_exchange 1 = .ok (.iconst 0, 1) := dk_3 (dk_at dksX3_exchange_0 1 rfl rfl)
theorem dX3_exchange_2 : decode cX3_exchange 2 = .ok (.putfield 83, 3) := dk_181 0 83 (dk_at dksX3_exchange_0 2 rfl rfl)
theorem dX3_exchange_5 : decode cX3_exchange 5 = .ok (.aload_n 0, 1) := dk_42 (dk_at dksX3_exchange_0 5 rfl rfl)
theorem dX3_exchange_6 : decode cX3_exchange 6 = .ok (.iload_n 1, 1) := dk_27 (dk_at dksX3_exchange_0 6 rfl rfl)
theorem dX3_exchange_7 : decode cX3_exchange 7 = .ok (.iload_n 2, 1) := dk_28 (dk_at dksX3_exchange_0 7 rfl rfl)
theorem dX3_exchange_8 : decode cX3_exchange 8 = .ok (.invokevirtual 267, 3) := dk_182 1 11 (dk_at dksX3_exchange_0 8 rfl rfl)
theorem dX3_exchange_11 : decode cX3_exchange 11 = .ok (.ifCond .ne 5, 3) := dk_154 0 5 (dk_at dksX3_exchange_0 11 rfl rfl)
theorem dX3_exchange_14 : decode cX3_exchange 14 = .ok (.iconst (-1), 1) := dk_2 (dk_at dksX3_exchange_0 14 rfl rfl)
theorem dX3_exchange_15 : decode cX3_exchange 15 = .ok (.ireturn, 1) := dk_172 (dk_at dksX3_exchange_0 15 rfl rfl)
theorem dX3_exchange_16 : decode cX3_exchange 16 = .ok (.aload_n 0, 1) := dk_42 (dk_at dksX3_exchange_0 16 rfl rfl)
theorem dX3_exchange_17 : decode cX3_exchange 17 = .ok (.aload_n 0, 1) := dk_42 (dk_at dksX3_exchange_0 17 rfl rfl)
theorem dX3_exchange_18 : decode cX3_exchange 18 = .ok (.getfield 9, 3) := dk_180 0 9 (dk_at dksX3_exchange_0 18 rfl rfl)
theorem dX3_exchange_21 : decode cX3_exchange 21 = .ok (.invokevirtual 236, 3) := dk_182 0 236 (dk_at dksX3_exchange_0 21 rfl rfl)
theorem dX3_exchange_24 : decode cX3_exchange 24 = .ok (.aload_n 0, 1) := dk_42 (dk_at dksX3_exchange_1 0 rfl rfl)
theorem dX3_exchange_25 : decode cX3_exchange 25 = .ok (.getfield 9, 3) := dk_180 0 9 (dk_at dksX3_exchange_1 1 rfl rfl)
theorem dX3_exchange_28 : decode cX3_exchange 28 = .ok (.iload_n 1, 1) := dk_27 (dk_at dksX3_exchange_1 4 rfl rfl)
theorem dX3_exchange_29 : decode cX3_exchange 29 = .ok (.iload_n 2, 1) := dk_28 (dk_at dksX3_exchange_1 5 rfl rfl)
theorem dX3_exchange_30 : decode cX3_exchange 30 = .ok (.invokestatic 271, 3) := dk_184 1 15 (dk_at dksX3_exchange_1 6 rfl rfl)
theorem dX3_exchange_33 : decode cX3_exchange 33 = .ok (.aload_n 0, 1) := dk_42 (dk_at dksX3_exchange_1 9 rfl rfl)
theorem dX3_exchange_34 : decode cX3_exchange 34 = .ok (.getfield 9, 3) := dk_180 0 9 (dk_at dksX3_exchange_1 10 rfl rfl)
theorem dX3_exchange_37 : decode cX3_exchange 37 = .ok (.bipush 24, 2) := dk_16 24 (dk_at dksX3_exchange_1 13 rfl rfl)
theorem dX3_exchange_39 : decode cX3_exchange 39 = .ok (.iload_n 1, 1) := dk_27 (dk_at dksX3_exchange_1 15 rfl rfl)
theorem dX3_exchange_40 : decode cX3_exchange 40 = .ok (.iadd, 1) := dk_96 (dk_at dksX3_exchange_1 16 rfl rfl)
theorem dX3_exchange_41 : decode cX3_exchange 41 = .ok (.iaload, 1) := dk_46 (dk_at dksX3_exchange_1 17 rfl rfl)
theorem dX3_exchange_42 : decode cX3_exchange 42 = .ok (.aload_n 0, 1) := dk_42 (dk_at dksX3_exchange_1 18 rfl rfl)
theorem dX3_exchange_43 : decode cX3_exchange 43 = .ok (.getfield 9, 3) := dk_180 0 9 (dk_at dksX3_exchange_1 19 rfl rfl)
theorem dX3_exchange_46 : decode cX3_exchange 46 = .ok (.bipush 24, 2) := dk_16 24 (dk_at dksX3_exchange_1 22 rfl rfl)
theorem dX3_exchange_48 : decode cX3_exchange 48 = .ok (.iload_n 2, 1) := dk_28 (dk_at dksX3_exchange_2 0 rfl rfl)
theorem dX3_exchange_49 : decode cX3_exchange 49 = .ok (.iadd, 1) := dk_96 (dk_at dksX3_exchange_2 1 rfl rfl)
theorem dX3_exchange_50 : decode cX3_exchange 50 = .ok (.iaload, 1) := dk_46 (dk_at dksX3_exchange_2 2 rfl rfl)
theorem dX3_exchange_51 : decode cX3_exchange 51 = .ok (.iadd, 1) := dk_96 (dk_at dksX3_exchange_2 3 rfl rfl)
theorem dX3_exchange_52 : decode cX3_exchange 52 = .ok (.ireturn, 1) := dk_172 (dk_at dksX3_exchange_2 4 rfl rfl)
abbrev cX3_areTwo : ByteArray := prog_9_method_8_code
def yX3_areTwo : MethodName := ⟨RX3, "areTwo", "(II)Z"⟩
def dkwX3_areTwo_1 : List UInt8 := [167, 0, 4, 3, 172]
abbrev dktX3_areTwo_1 : List UInt8 := dkwX3_areTwo_1 ++ []
def dkwX3_areTwo_0 : List UInt8 := [42, 27, 182, 0, 96, 153, 0, 20, 42, 28, 182, 0, 96, 153, 0, 12, 27, 28, 159, 0, 7, 4]
abbrev dktX3_areTwo_0 : List UInt8 := dkwX3_areTwo_0 ++ dktX3_areTwo_1
theorem dksX3_areTwo_0 : cX3_areTwo.data.toList.drop 0 = dktX3_areTwo_0 := by decide +kernel
theorem dksX3_areTwo_1 : cX3_areTwo.data.toList.drop 22 = dktX3_areTwo_1 := dk_seg dksX3_areTwo_0 22 rfl rfl
theorem dX3_areTwo_0 : decode cX3_areTwo 0 = .ok (.aload_n 0, 1) := dk_42 (dk_at dksX3_areTwo_0 0 rfl rfl)
theorem dX3_areTwo_1 : decode cX3_areTwo 1 = .ok (.iload_n 1, 1) := dk_27 (dk_at dksX3_areTwo_0 1 rfl rfl)
theorem dX3_areTwo_2 : decode cX3_areTwo 2 = .ok (.invokevirtual 96, 3) := dk_182 0 96 (dk_at dksX3_areTwo_0 2 rfl rfl)
theorem dX3_areTwo_5 : decode cX3_areTwo 5 = .ok (.ifCond .eq 20, 3) := dk_153 0 20 (dk_at dksX3_areTwo_0 5 rfl rfl)
theorem dX3_areTwo_8 : decode cX3_areTwo 8 = .ok (.aload_n 0, 1) := dk_42 (dk_at dksX3_areTwo_0 8 rfl rfl)
theorem dX3_areTwo_9 : decode cX3_areTwo 9 = .ok (.iload_n 2, 1) := dk_28 (dk_at dksX3_areTwo_0 9 rfl rfl)
theorem dX3_areTwo_10 : decode cX3_areTwo 10 = .ok (.invokevirtual 96, 3) := dk_182 0 96 (dk_at dksX3_areTwo_0 10 rfl rfl)
theorem dX3_areTwo_13 : decode cX3_areTwo 13 = .ok (.ifCond .eq 12, 3) := dk_153 0 12 (dk_at dksX3_areTwo_0 13 rfl rfl)
theorem dX3_areTwo_16 : decode cX3_areTwo 16 = .ok (.iload_n 1, 1) := dk_27 (dk_at dksX3_areTwo_0 16 rfl rfl)
theorem dX3_areTwo_17 : decode cX3_areTwo 17 = .ok (.iload_n 2, 1) := dk_28 (dk_at dksX3_areTwo_0 17 rfl rfl)
theorem dX3_areTwo_18 : decode cX3_areTwo 18 = .ok (.if_icmp .eq 7, 3) := dk_159 0 7 (dk_at dksX3_areTwo_0 18 rfl rfl)
theorem dX3_areTwo_21 : decode cX3_areTwo 21 = .ok (.iconst 1, 1) := dk_4 (dk_at dksX3_areTwo_0 21 rfl rfl)
theorem dX3_areTwo_22 : decode cX3_areTwo 22 = .ok (.goto 4, 3) := dk_167 0 4 (dk_at dksX3_areTwo_1 0 rfl rfl)
theorem dX3_areTwo_25 : decode cX3_areTwo 25 = .ok (.iconst 0, 1) := dk_3 (dk_at dksX3_areTwo_1 3 rfl rfl)
theorem dX3_areTwo_26 : decode cX3_areTwo 26 = .ok (.ireturn, 1) := dk_172 (dk_at dksX3_areTwo_1 4 rfl rfl)
abbrev cX3_goExchange : ByteArray := prog_9_method_56_code
def yX3_goExchange : MethodName := ⟨RX3, "goExchange", "([III)V"⟩
def dkwX3_goExchange_2 : List UInt8 := [167, 255, 212, 177]
abbrev dktX3_goExchange_2 : List UInt8 := dkwX3_goExchange_2 ++ []
def dkwX3_goExchange_1 : List UInt8 := [42, 16, 8, 29, 104, 28, 96, 46, 79, 42, 16, 8, 29, 104, 28, 96, 21, 4, 79, 132, 3, 1]
abbrev dktX3_goExchange_1 : List UInt8 := dkwX3_goExchange_1 ++ dktX3_goExchange_2
def dkwX3_goExchange_0 : List UInt8 := [3, 62, 29, 7, 162, 0, 45, 42, 16, 8, 29, 104, 27, 96, 46, 54, 4, 42, 16, 8, 29, 104, 27, 96]
abbrev dktX3_goExchange_0 : List UInt8 := dkwX3_goExchange_0 ++ dktX3_goExchange_1
theorem dksX3_goExchange_0 : cX3_goExchange.data.toList.drop 0 = dktX3_goExchange_0 := by decide +kernel
theorem dksX3_goExchange_1 : cX3_goExchange.data.toList.drop 24 = dktX3_goExchange_1 := dk_seg dksX3_goExchange_0 24 rfl rfl
theorem dksX3_goExchange_2 : cX3_goExchange.data.toList.drop 46 = dktX3_goExchange_2 := dk_seg dksX3_goExchange_1 22 rfl rfl
theorem dX3_goExchange_0 : decode cX3_goExchange 0 = .ok (.iconst 0, 1) := dk_3 (dk_at dksX3_goExchange_0 0 rfl rfl)
theorem dX3_goExchange_1 : decode cX3_goExchange 1 = .ok (.istore_n 3, 1) := dk_62 (dk_at dksX3_goExchange_0 1 rfl rfl)
theorem dX3_goExchange_2 : decode cX3_goExchange 2 = .ok (.iload_n 3, 1) := dk_29 (dk_at dksX3_goExchange_0 2 rfl rfl)
theorem dX3_goExchange_3 : decode cX3_goExchange 3 = .ok (.iconst 4, 1) := dk_7 (dk_at dksX3_goExchange_0 3 rfl rfl)
theorem dX3_goExchange_4 : decode cX3_goExchange 4 = .ok (.if_icmp .ge 45, 3) := dk_162 0 45 (dk_at dksX3_goExchange_0 4 rfl rfl)
theorem dX3_goExchange_7 : decode cX3_goExchange 7 = .ok (.aload_n 0, 1) := dk_42 (dk_at dksX3_goExchange_0 7 rfl rfl)
theorem dX3_goExchange_8 : decode cX3_goExchange 8 = .ok (.bipush 8, 2) := dk_16 8 (dk_at dksX3_goExchange_0 8 rfl rfl)
theorem dX3_goExchange_10 : decode cX3_goExchange 10 = .ok (.iload_n 3, 1) := dk_29 (dk_at dksX3_goExchange_0 10 rfl rfl)
theorem dX3_goExchange_11 : decode cX3_goExchange 11 = .ok (.imul, 1) := dk_104 (dk_at dksX3_goExchange_0 11 rfl rfl)
theorem dX3_goExchange_12 : decode cX3_goExchange 12 = .ok (.iload_n 1, 1) := dk_27 (dk_at dksX3_goExchange_0 12 rfl rfl)
theorem dX3_goExchange_13 : decode cX3_goExchange 13 = .ok (.iadd, 1) := dk_96 (dk_at dksX3_goExchange_0 13 rfl rfl)
theorem dX3_goExchange_14 : decode cX3_goExchange 14 = .ok (.iaload, 1) := dk_46 (dk_at dksX3_goExchange_0 14 rfl rfl)
theorem dX3_goExchange_15 : decode cX3_goExchange 15 = .ok (.istore 4, 2) := dk_54 4 (dk_at dksX3_goExchange_0 15 rfl rfl)
theorem dX3_goExchange_17 : decode cX3_goExchange 17 = .ok (.aload_n 0, 1) := dk_42 (dk_at dksX3_goExchange_0 17 rfl rfl)
theorem dX3_goExchange_18 : decode cX3_goExchange 18 = .ok (.bipush 8, 2) := dk_16 8 (dk_at dksX3_goExchange_0 18 rfl rfl)
theorem dX3_goExchange_20 : decode cX3_goExchange 20 = .ok (.iload_n 3, 1) := dk_29 (dk_at dksX3_goExchange_0 20 rfl rfl)
theorem dX3_goExchange_21 : decode cX3_goExchange 21 = .ok (.imul, 1) := dk_104 (dk_at dksX3_goExchange_0 21 rfl rfl)
theorem dX3_goExchange_22 : decode cX3_goExchange 22 = .ok (.iload_n 1, 1) := dk_27 (dk_at dksX3_goExchange_0 22 rfl rfl)
theorem dX3_goExchange_23 : decode cX3_goExchange 23 = .ok (.iadd, 1) := dk_96 (dk_at dksX3_goExchange_0 23 rfl rfl)
theorem dX3_goExchange_24 : decode cX3_goExchange 24 = .ok (.aload_n 0, 1) := dk_42 (dk_at dksX3_goExchange_1 0 rfl rfl)
theorem dX3_goExchange_25 : decode cX3_goExchange 25 = .ok (.bipush 8, 2) := dk_16 8 (dk_at dksX3_goExchange_1 1 rfl rfl)
theorem dX3_goExchange_27 : decode cX3_goExchange 27 = .ok (.iload_n 3, 1) := dk_29 (dk_at dksX3_goExchange_1 3 rfl rfl)
theorem dX3_goExchange_28 : decode cX3_goExchange 28 = .ok (.imul, 1) := dk_104 (dk_at dksX3_goExchange_1 4 rfl rfl)
theorem dX3_goExchange_29 : decode cX3_goExchange 29 = .ok (.iload_n 2, 1) := dk_28 (dk_at dksX3_goExchange_1 5 rfl rfl)
theorem dX3_goExchange_30 : decode cX3_goExchange 30 = .ok (.iadd, 1) := dk_96 (dk_at dksX3_goExchange_1 6 rfl rfl)
theorem dX3_goExchange_31 : decode cX3_goExchange 31 = .ok (.iaload, 1) := dk_46 (dk_at dksX3_goExchange_1 7 rfl rfl)
theorem dX3_goExchange_32 : decode cX3_goExchange 32 = .ok (.iastore, 1) := dk_79 (dk_at dksX3_goExchange_1 8 rfl rfl)
theorem dX3_goExchange_33 : decode cX3_goExchange 33 = .ok (.aload_n 0, 1) := dk_42 (dk_at dksX3_goExchange_1 9 rfl rfl)
theorem dX3_goExchange_34 : decode cX3_goExchange 34 = .ok (.bipush 8, 2) := dk_16 8 (dk_at dksX3_goExchange_1 10 rfl rfl)
theorem dX3_goExchange_36 : decode cX3_goExchange 36 = .ok (.iload_n 3, 1) := dk_29 (dk_at dksX3_goExchange_1 12 rfl rfl)
theorem dX3_goExchange_37 : decode cX3_goExchange 37 = .ok (.imul, 1) := dk_104 (dk_at dksX3_goExchange_1 13 rfl rfl)
theorem dX3_goExchange_38 : decode cX3_goExchange 38 = .ok (.iload_n 2, 1) := dk_28 (dk_at dksX3_goExchange_1 14 rfl rfl)
theorem dX3_goExchange_39 : decode cX3_goExchange 39 = .ok (.iadd, 1) := dk_96 (dk_at dksX3_goExchange_1 15 rfl rfl)
theorem dX3_goExchange_40 : decode cX3_goExchange 40 = .ok (.iload 4, 2) := dk_21 4 (dk_at dksX3_goExchange_1 16 rfl rfl)
theorem dX3_goExchange_42 : decode cX3_goExchange 42 = .ok (.iastore, 1) := dk_79 (dk_at dksX3_goExchange_1 18 rfl rfl)
theorem dX3_goExchange_43 : decode cX3_goExchange 43 = .ok (.iinc 3 1, 3) := dk_132 3 1 (dk_at dksX3_goExchange_1 19 rfl rfl)
theorem dX3_goExchange_46 : decode cX3_goExchange 46 = .ok (.goto (-44), 3) := dk_167 255 212 (dk_at dksX3_goExchange_2 0 rfl rfl)
theorem dX3_goExchange_49 : decode cX3_goExchange 49 = .ok (.return_, 1) := dk_177 (dk_at dksX3_goExchange_2 3 rfl rfl)
abbrev cX3_days : ByteArray := prog_9_method_61_code
def yX3_days : MethodName := ⟨RX3, "days", "(I)I"⟩
def dkwX3_days_4 : List UInt8 := [100, 172]
abbrev dktX3_days_4 : List UInt8 := dkwX3_days_4 ++ []
def dkwX3_days_3 : List UInt8 := [182, 1, 30, 42, 42, 42, 180, 0, 9, 182, 0, 202, 133, 182, 1, 30, 42, 180, 0, 9, 16, 81, 46, 28]
abbrev dktX3_days_3 : List UInt8 := dkwX3_days_3 ++ dktX3_days_4
def dkwX3_days_2 : List UInt8 := [180, 0, 9, 27, 182, 1, 27, 42, 3, 181, 0, 86, 42, 42, 180, 0, 9, 16, 82, 46, 29, 100, 133]
abbrev dktX3_days_2 : List UInt8 := dkwX3_days_2 ++ dktX3_days_3
def dkwX3_days_1 : List UInt8 := [180, 0, 9, 182, 0, 236, 42, 180, 0, 9, 16, 81, 46, 61, 42, 180, 0, 9, 16, 82, 46, 62, 42, 42]
abbrev dktX3_days_1 : List UInt8 := dkwX3_days_1 ++ dktX3_days_2
def dkwX3_days_0 : List UInt8 := [42, 3, 181, 0, 83, 27, 3, 16, 60, 184, 0, 92, 154, 0, 5, 2, 172, 27, 158, 0, 11, 42, 42]
abbrev dktX3_days_0 : List UInt8 := dkwX3_days_0 ++ dktX3_days_1
theorem dksX3_days_0 : cX3_days.data.toList.drop 0 = dktX3_days_0 := by decide +kernel
theorem dksX3_days_1 : cX3_days.data.toList.drop 23 = dktX3_days_1 := dk_seg dksX3_days_0 23 rfl rfl
theorem dksX3_days_2 : cX3_days.data.toList.drop 47 = dktX3_days_2 := dk_seg dksX3_days_1 24 rfl rfl
theorem dksX3_days_3 : cX3_days.data.toList.drop 70 = dktX3_days_3 := dk_seg dksX3_days_2 23 rfl rfl
theorem dksX3_days_4 : cX3_days.data.toList.drop 94 = dktX3_days_4 := dk_seg dksX3_days_3 24 rfl rfl
theorem dX3_days_0 : decode cX3_days 0 = .ok (.aload_n 0, 1) := dk_42 (dk_at dksX3_days_0 0 rfl rfl)
theorem dX3_days_1 : decode cX3_days 1 = .ok (.iconst 0, 1) := dk_3 (dk_at dksX3_days_0 1 rfl rfl)
theorem dX3_days_2 : decode cX3_days 2 = .ok (.putfield 83, 3) := dk_181 0 83 (dk_at dksX3_days_0 2 rfl rfl)
theorem dX3_days_5 : decode cX3_days 5 = .ok (.iload_n 1, 1) := dk_27 (dk_at dksX3_days_0 5 rfl rfl)
theorem dX3_days_6 : decode cX3_days 6 = .ok (.iconst 0, 1) := dk_3 (dk_at dksX3_days_0 6 rfl rfl)
theorem dX3_days_7 : decode cX3_days 7 = .ok (.bipush 60, 2) := dk_16 60 (dk_at dksX3_days_0 7 rfl rfl)
theorem dX3_days_9 : decode cX3_days 9 = .ok (.invokestatic 92, 3) := dk_184 0 92 (dk_at dksX3_days_0 9 rfl rfl)
theorem dX3_days_12 : decode cX3_days 12 = .ok (.ifCond .ne 5, 3) := dk_154 0 5 (dk_at dksX3_days_0 12 rfl rfl)
theorem dX3_days_15 : decode cX3_days 15 = .ok (.iconst (-1), 1) := dk_2 (dk_at dksX3_days_0 15 rfl rfl)
theorem dX3_days_16 : decode cX3_days 16 = .ok (.ireturn, 1) := dk_172 (dk_at dksX3_days_0 16 rfl rfl)
theorem dX3_days_17 : decode cX3_days 17 = .ok (.iload_n 1, 1) := dk_27 (dk_at dksX3_days_0 17 rfl rfl)
theorem dX3_days_18 : decode cX3_days 18 = .ok (.ifCond .le 11, 3) := dk_158 0 11 (dk_at dksX3_days_0 18 rfl rfl)
theorem dX3_days_21 : decode cX3_days 21 = .ok (.aload_n 0, 1) := dk_42 (dk_at dksX3_days_0 21 rfl rfl)
theorem dX3_days_22 : decode cX3_days 22 = .ok (.aload_n 0, 1) := dk_42 (dk_at dksX3_days_0 22 rfl rfl)
theorem dX3_days_23 : decode cX3_days 23 = .ok (.getfield 9, 3) := dk_180 0 9 (dk_at dksX3_days_1 0 rfl rfl)
theorem dX3_days_26 : decode cX3_days 26 = .ok (.invokevirtual 236, 3) := dk_182 0 236 (dk_at dksX3_days_1 3 rfl rfl)
theorem dX3_days_29 : decode cX3_days 29 = .ok (.aload_n 0, 1) := dk_42 (dk_at dksX3_days_1 6 rfl rfl)
theorem dX3_days_30 : decode cX3_days 30 = .ok (.getfield 9, 3) := dk_180 0 9 (dk_at dksX3_days_1 7 rfl rfl)
theorem dX3_days_33 : decode cX3_days 33 = .ok (.bipush 81, 2) := dk_16 81 (dk_at dksX3_days_1 10 rfl rfl)
theorem dX3_days_35 : decode cX3_days 35 = .ok (.iaload, 1) := dk_46 (dk_at dksX3_days_1 12 rfl rfl)
theorem dX3_days_36 : decode cX3_days 36 = .ok (.istore_n 2, 1) := dk_61 (dk_at dksX3_days_1 13 rfl rfl)
theorem dX3_days_37 : decode cX3_days 37 = .ok (.aload_n 0, 1) := dk_42 (dk_at dksX3_days_1 14 rfl rfl)
theorem dX3_days_38 : decode cX3_days 38 = .ok (.getfield 9, 3) := dk_180 0 9 (dk_at dksX3_days_1 15 rfl rfl)
theorem dX3_days_41 : decode cX3_days 41 = .ok (.bipush 82, 2) := dk_16 82 (dk_at dksX3_days_1 18 rfl rfl)
theorem dX3_days_43 : decode cX3_days 43 = .ok (.iaload, 1) := dk_46 (dk_at dksX3_days_1 20 rfl rfl)
theorem dX3_days_44 : decode cX3_days 44 = .ok (.istore_n 3, 1) := dk_62 (dk_at dksX3_days_1 21 rfl rfl)
theorem dX3_days_45 : decode cX3_days 45 = .ok (.aload_n 0, 1) := dk_42 (dk_at dksX3_days_1 22 rfl rfl)
theorem dX3_days_46 : decode cX3_days 46 = .ok (.aload_n 0, 1) := dk_42 (dk_at dksX3_days_1 23 rfl rfl)
theorem dX3_days_47 : decode cX3_days 47 = .ok (.getfield 9, 3) := dk_180 0 9 (dk_at dksX3_days_2 0 rfl rfl)
theorem dX3_days_50 : decode cX3_days 50 = .ok (.iload_n 1, 1) := dk_27 (dk_at dksX3_days_2 3 rfl rfl)
theorem dX3_days_51 : decode cX3_days 51 = .ok (.invokevirtual 283, 3) := dk_182 1 27 (dk_at dksX3_days_2 4 rfl rfl)
theorem dX3_days_54 : decode cX3_days 54 = .ok (.aload_n 0, 1) := dk_42 (dk_at dksX3_days_2 7 rfl rfl)
theorem dX3_days_55 : decode cX3_days 55 = .ok (.iconst 0, 1) := dk_3 (dk_at dksX3_days_2 8 rfl rfl)
theorem dX3_days_56 : decode cX3_days 56 = .ok (.putfield 86, 3) := dk_181 0 86 (dk_at dksX3_days_2 9 rfl rfl)
theorem dX3_days_59 : decode cX3_days 59 = .ok (.aload_n 0, 1) := dk_42 (dk_at dksX3_days_2 12 rfl rfl)
theorem dX3_days_60 : decode cX3_days 60 = .ok (.aload_n 0, 1) := dk_42 (dk_at dksX3_days_2 13 rfl rfl)
theorem dX3_days_61 : decode cX3_days 61 = .ok (.getfield 9, 3) := dk_180 0 9 (dk_at dksX3_days_2 14 rfl rfl)
theorem dX3_days_64 : decode cX3_days 64 = .ok (.bipush 82, 2) := dk_16 82 (dk_at dksX3_days_2 17 rfl rfl)
theorem dX3_days_66 : decode cX3_days 66 = .ok (.iaload, 1) := dk_46 (dk_at dksX3_days_2 19 rfl rfl)
theorem dX3_days_67 : decode cX3_days 67 = .ok (.iload_n 3, 1) := dk_29 (dk_at dksX3_days_2 20 rfl rfl)
theorem dX3_days_68 : decode cX3_days 68 = .ok (.isub, 1) := dk_100 (dk_at dksX3_days_2 21 rfl rfl)
theorem dX3_days_69 : decode cX3_days 69 = .ok (.i2l, 1) := dk_133 (dk_at dksX3_days_2 22 rfl rfl)
theorem dX3_days_70 : decode cX3_days 70 = .ok (.invokevirtual 286, 3) := dk_182 1 30 (dk_at dksX3_days_3 0 rfl rfl)
theorem dX3_days_73 : decode cX3_days 73 = .ok (.aload_n 0, 1) := dk_42 (dk_at dksX3_days_3 3 rfl rfl)
theorem dX3_days_74 : decode cX3_days 74 = .ok (.aload_n 0, 1) := dk_42 (dk_at dksX3_days_3 4 rfl rfl)
theorem dX3_days_75 : decode cX3_days 75 = .ok (.aload_n 0, 1) := dk_42 (dk_at dksX3_days_3 5 rfl rfl)
theorem dX3_days_76 : decode cX3_days 76 = .ok (.getfield 9, 3) := dk_180 0 9 (dk_at dksX3_days_3 6 rfl rfl)
theorem dX3_days_79 : decode cX3_days 79 = .ok (.invokevirtual 202, 3) := dk_182 0 202 (dk_at dksX3_days_3 9 rfl rfl)
theorem dX3_days_82 : decode cX3_days 82 = .ok (.i2l, 1) := dk_133 (dk_at dksX3_days_3 12 rfl rfl)
theorem dX3_days_83 : decode cX3_days 83 = .ok (.invokevirtual 286, 3) := dk_182 1 30 (dk_at dksX3_days_3 13 rfl rfl)
theorem dX3_days_86 : decode cX3_days 86 = .ok (.aload_n 0, 1) := dk_42 (dk_at dksX3_days_3 16 rfl rfl)
theorem dX3_days_87 : decode cX3_days 87 = .ok (.getfield 9, 3) := dk_180 0 9 (dk_at dksX3_days_3 17 rfl rfl)
theorem dX3_days_90 : decode cX3_days 90 = .ok (.bipush 81, 2) := dk_16 81 (dk_at dksX3_days_3 20 rfl rfl)
theorem dX3_days_92 : decode cX3_days 92 = .ok (.iaload, 1) := dk_46 (dk_at dksX3_days_3 22 rfl rfl)
theorem dX3_days_93 : decode cX3_days 93 = .ok (.iload_n 2, 1) := dk_28 (dk_at dksX3_days_3 23 rfl rfl)
theorem dX3_days_94 : decode cX3_days 94 = .ok (.isub, 1) := dk_100 (dk_at dksX3_days_4 0 rfl rfl)
theorem dX3_days_95 : decode cX3_days 95 = .ok (.ireturn, 1) := dk_172 (dk_at dksX3_days_4 1 rfl rfl)
abbrev cX3_goDays : ByteArray := prog_9_method_60_code
def yX3_goDays : MethodName := ⟨RX3, "goDays", "([II)V"⟩
def dkwX3_goDays_0 : List UInt8 := [3, 62, 29, 28, 162, 0, 14, 42, 43, 182, 1, 24, 132, 3, 1, 167, 255, 243, 177]
abbrev dktX3_goDays_0 : List UInt8 := dkwX3_goDays_0 ++ []
theorem dksX3_goDays_0 : cX3_goDays.data.toList.drop 0 = dktX3_goDays_0 := by decide +kernel
theorem dX3_goDays_0 : decode cX3_goDays 0 = .ok (.iconst 0, 1) := dk_3 (dk_at dksX3_goDays_0 0 rfl rfl)
theorem dX3_goDays_1 : decode cX3_goDays 1 = .ok (.istore_n 3, 1) := dk_62 (dk_at dksX3_goDays_0 1 rfl rfl)
theorem dX3_goDays_2 : decode cX3_goDays 2 = .ok (.iload_n 3, 1) := dk_29 (dk_at dksX3_goDays_0 2 rfl rfl)
theorem dX3_goDays_3 : decode cX3_goDays 3 = .ok (.iload_n 2, 1) := dk_28 (dk_at dksX3_goDays_0 3 rfl rfl)
theorem dX3_goDays_4 : decode cX3_goDays 4 = .ok (.if_icmp .ge 14, 3) := dk_162 0 14 (dk_at dksX3_goDays_0 4 rfl rfl)
theorem dX3_goDays_7 : decode cX3_goDays 7 = .ok (.aload_n 0, 1) := dk_42 (dk_at dksX3_goDays_0 7 rfl rfl)
theorem dX3_goDays_8 : decode cX3_goDays 8 = .ok (.aload_n 1, 1) := dk_43 (dk_at dksX3_goDays_0 8 rfl rfl)
theorem dX3_goDays_9 : decode cX3_goDays 9 = .ok (.invokevirtual 280, 3) := dk_182 1 24 (dk_at dksX3_goDays_0 9 rfl rfl)
theorem dX3_goDays_12 : decode cX3_goDays 12 = .ok (.iinc 3 1, 3) := dk_132 3 1 (dk_at dksX3_goDays_0 12 rfl rfl)
theorem dX3_goDays_15 : decode cX3_goDays 15 = .ok (.goto (-13), 3) := dk_167 255 243 (dk_at dksX3_goDays_0 15 rfl rfl)
theorem dX3_goDays_18 : decode cX3_goDays 18 = .ok (.return_, 1) := dk_177 (dk_at dksX3_goDays_0 18 rfl rfl)
abbrev cX3_goDay : ByteArray := prog_9_method_59_code
def yX3_goDay : MethodName := ⟨RX3, "goDay", "([I)V"⟩
def dkwX3_goDay_8 : List UInt8 := [132, 3, 1, 167, 255, 74, 43, 16, 80, 92, 46, 4, 96, 79, 177]
abbrev dktX3_goDay_8 : List UInt8 := dkwX3_goDay_8 ++ []
def dkwX3_goDay_7 : List UInt8 := [2, 159, 0, 22, 43, 16, 32, 29, 96, 16, 99, 43, 16, 32, 29, 96, 46, 4, 96, 184, 0, 215, 79]
abbrev dktX3_goDay_7 : List UInt8 := dkwX3_goDay_7 ++ dktX3_goDay_8
def dkwX3_goDay_6 : List UInt8 := [6, 161, 0, 17, 43, 16, 48, 29, 96, 5, 79, 43, 16, 24, 29, 96, 3, 79, 43, 16, 32, 29, 96, 46]
abbrev dktX3_goDay_6 : List UInt8 := dkwX3_goDay_6 ++ dktX3_goDay_7
def dkwX3_goDay_5 : List UInt8 := [16, 64, 29, 96, 16, 99, 43, 16, 64, 29, 96, 46, 4, 96, 184, 0, 215, 79, 43, 16, 64, 29, 96, 46]
abbrev dktX3_goDay_5 : List UInt8 := dkwX3_goDay_5 ++ dktX3_goDay_6
def dkwX3_goDay_4 : List UInt8 := [79, 43, 16, 82, 92, 46, 4, 96, 79, 167, 0, 56, 43, 16, 48, 29, 96, 46, 4, 160, 0, 46, 43]
abbrev dktX3_goDay_4 : List UInt8 := dkwX3_goDay_4 ++ dktX3_goDay_5
def dkwX3_goDay_3 : List UInt8 := [16, 81, 92, 46, 4, 96, 79, 167, 0, 82, 28, 29, 184, 1, 21, 153, 0, 21, 43, 16, 48, 29, 96, 3]
abbrev dktX3_goDay_3 : List UInt8 := dkwX3_goDay_3 ++ dktX3_goDay_4
def dkwX3_goDay_2 : List UInt8 := [184, 0, 215, 79, 43, 16, 72, 29, 96, 46, 16, 30, 161, 0, 100, 43, 16, 48, 29, 96, 3, 79, 43]
abbrev dktX3_goDay_2 : List UInt8 := dkwX3_goDay_2 ++ dktX3_goDay_3
def dkwX3_goDay_1 : List UInt8 := [160, 0, 56, 43, 16, 72, 29, 96, 16, 99, 43, 16, 72, 29, 96, 46, 43, 16, 8, 29, 96, 46, 96]
abbrev dktX3_goDay_1 : List UInt8 := dkwX3_goDay_1 ++ dktX3_goDay_2
def dkwX3_goDay_0 : List UInt8 := [42, 43, 182, 1, 18, 61, 3, 62, 29, 42, 180, 0, 89, 162, 0, 180, 43, 16, 48, 29, 96, 46, 5]
abbrev dktX3_goDay_0 : List UInt8 := dkwX3_goDay_0 ++ dktX3_goDay_1
theorem dksX3_goDay_0 : cX3_goDay.data.toList.drop 0 = dktX3_goDay_0 := by decide +kernel
theorem dksX3_goDay_1 : cX3_goDay.data.toList.drop 23 = dktX3_goDay_1 := dk_seg dksX3_goDay_0 23 rfl rfl
theorem dksX3_goDay_2 : cX3_goDay.data.toList.drop 46 = dktX3_goDay_2 := dk_seg dksX3_goDay_1 23 rfl rfl
theorem dksX3_goDay_3 : cX3_goDay.data.toList.drop 69 = dktX3_goDay_3 := dk_seg dksX3_goDay_2 23 rfl rfl
theorem dksX3_goDay_4 : cX3_goDay.data.toList.drop 93 = dktX3_goDay_4 := dk_seg dksX3_goDay_3 24 rfl rfl
theorem dksX3_goDay_5 : cX3_goDay.data.toList.drop 116 = dktX3_goDay_5 := dk_seg dksX3_goDay_4 23 rfl rfl
theorem dksX3_goDay_6 : cX3_goDay.data.toList.drop 140 = dktX3_goDay_6 := dk_seg dksX3_goDay_5 24 rfl rfl
theorem dksX3_goDay_7 : cX3_goDay.data.toList.drop 164 = dktX3_goDay_7 := dk_seg dksX3_goDay_6 24 rfl rfl
theorem dksX3_goDay_8 : cX3_goDay.data.toList.drop 187 = dktX3_goDay_8 := dk_seg dksX3_goDay_7 23 rfl rfl
theorem dX3_goDay_0 : decode cX3_goDay 0 = .ok (.aload_n 0, 1) := dk_42 (dk_at dksX3_goDay_0 0 rfl rfl)
theorem dX3_goDay_1 : decode cX3_goDay 1 = .ok (.aload_n 1, 1) := dk_43 (dk_at dksX3_goDay_0 1 rfl rfl)
theorem dX3_goDay_2 : decode cX3_goDay 2 = .ok (.invokevirtual 274, 3) := dk_182 1 18 (dk_at dksX3_goDay_0 2 rfl rfl)
theorem dX3_goDay_5 : decode cX3_goDay 5 = .ok (.istore_n 2, 1) := dk_61 (dk_at dksX3_goDay_0 5 rfl rfl)
theorem dX3_goDay_6 : decode cX3_goDay 6 = .ok (.iconst 0, 1) := dk_3 (dk_at dksX3_goDay_0 6 rfl rfl)
theorem dX3_goDay_7 : decode cX3_goDay 7 = .ok (.istore_n 3, 1) := dk_62 (dk_at dksX3_goDay_0 7 rfl rfl)
theorem dX3_goDay_8 : decode cX3_goDay 8 = .ok (.iload_n 3, 1) := dk_29 (dk_at dksX3_goDay_0 8 rfl rfl)
theorem dX3_goDay_9 : decode cX3_goDay 9 = .ok (.aload_n 0, 1) := dk_42 (dk_at dksX3_goDay_0 9 rfl rfl)
theorem dX3_goDay_10 : decode cX3_goDay 10 = .ok (.getfield 89, 3) := dk_180 0 89 (dk_at dksX3_goDay_0 10 rfl rfl)
theorem dX3_goDay_13 : decode cX3_goDay 13 = .ok (.if_icmp .ge 180, 3) := dk_162 0 180 (dk_at dksX3_goDay_0 13 rfl rfl)
theorem dX3_goDay_16 : decode cX3_goDay 16 = .ok (.aload_n 1, 1) := dk_43 (dk_at dksX3_goDay_0 16 rfl rfl)
theorem dX3_goDay_17 : decode cX3_goDay 17 = .ok (.bipush 48, 2) := dk_16 48 (dk_at dksX3_goDay_0 17 rfl rfl)
theorem dX3_goDay_19 : decode cX3_goDay 19 = .ok (.iload_n 3, 1) := dk_29 (dk_at dksX3_goDay_0 19 rfl rfl)
theorem dX3_goDay_20 : decode cX3_goDay 20 = .ok (.iadd, 1) := dk_96 (dk_at dksX3_goDay_0 20 rfl rfl)
theorem dX3_goDay_21 : decode cX3_goDay 21 = .ok (.iaload, 1) := dk_46 (dk_at dksX3_goDay_0 21 rfl rfl)
theorem dX3_goDay_22 : decode cX3_goDay 22 = .ok (.iconst 2, 1) := dk_5 (dk_at dksX3_goDay_0 22 rfl rfl)
theorem dX3_goDay_23 : decode cX3_goDay 23 = .ok (.if_icmp .ne 56, 3) := dk_160 0 56 (dk_at dksX3_goDay_1 0 rfl rfl)
theorem dX3_goDay_26 : decode cX3_goDay 26 = .ok (.aload_n 1, 1) := dk_43 (dk_at dksX3_goDay_1 3 rfl rfl)
theorem dX3_goDay_27 : decode cX3_goDay 27 = .ok (.bipush 72, 2) := dk_16 72 (dk_at dksX3_goDay_1 4 rfl rfl)
theorem dX3_goDay_29 : decode cX3_goDay 29 = .ok (.iload_n 3, 1) := dk_29 (dk_at dksX3_goDay_1 6 rfl rfl)
theorem dX3_goDay_30 : decode cX3_goDay 30 = .ok (.iadd, 1) := dk_96 (dk_at dksX3_goDay_1 7 rfl rfl)
theorem dX3_goDay_31 : decode cX3_goDay 31 = .ok (.bipush 99, 2) := dk_16 99 (dk_at dksX3_goDay_1 8 rfl rfl)
theorem dX3_goDay_33 : decode cX3_goDay 33 = .ok (.aload_n 1, 1) := dk_43 (dk_at dksX3_goDay_1 10 rfl rfl)
theorem dX3_goDay_34 : decode cX3_goDay 34 = .ok (.bipush 72, 2) := dk_16 72 (dk_at dksX3_goDay_1 11 rfl rfl)
theorem dX3_goDay_36 : decode cX3_goDay 36 = .ok (.iload_n 3, 1) := dk_29 (dk_at dksX3_goDay_1 13 rfl rfl)
theorem dX3_goDay_37 : decode cX3_goDay 37 = .ok (.iadd, 1) := dk_96 (dk_at dksX3_goDay_1 14 rfl rfl)
theorem dX3_goDay_38 : decode cX3_goDay 38 = .ok (.iaload, 1) := dk_46 (dk_at dksX3_goDay_1 15 rfl rfl)
theorem dX3_goDay_39 : decode cX3_goDay 39 = .ok (.aload_n 1, 1) := dk_43 (dk_at dksX3_goDay_1 16 rfl rfl)
theorem dX3_goDay_40 : decode cX3_goDay 40 = .ok (.bipush 8, 2) := dk_16 8 (dk_at dksX3_goDay_1 17 rfl rfl)
theorem dX3_goDay_42 : decode cX3_goDay 42 = .ok (.iload_n 3, 1) := dk_29 (dk_at dksX3_goDay_1 19 rfl rfl)
theorem dX3_goDay_43 : decode cX3_goDay 43 = .ok (.iadd, 1) := dk_96 (dk_at dksX3_goDay_1 20 rfl rfl)
theorem dX3_goDay_44 : decode cX3_goDay 44 = .ok (.iaload, 1) := dk_46 (dk_at dksX3_goDay_1 21 rfl rfl)
theorem dX3_goDay_45 : decode cX3_goDay 45 = .ok (.iadd, 1) := dk_96 (dk_at dksX3_goDay_1 22 rfl rfl)
theorem dX3_goDay_46 : decode cX3_goDay 46 = .ok (.invokestatic 215, 3) := dk_184 0 215 (dk_at dksX3_goDay_2 0 rfl rfl)
theorem dX3_goDay_49 : decode cX3_goDay 49 = .ok (.iastore, 1) := dk_79 (dk_at dksX3_goDay_2 3 rfl rfl)
theorem dX3_goDay_50 : decode cX3_goDay 50 = .ok (.aload_n 1, 1) := dk_43 (dk_at dksX3_goDay_2 4 rfl rfl)
theorem dX3_goDay_51 : decode cX3_goDay 51 = .ok (.bipush 72, 2) := dk_16 72 (dk_at dksX3_goDay_2 5 rfl rfl)
theorem dX3_goDay_53 : decode cX3_goDay 53 = .ok (.iload_n 3, 1) := dk_29 (dk_at dksX3_goDay_2 7 rfl rfl)
theorem dX3_goDay_54 : decode cX3_goDay 54 = .ok (.iadd, 1) := dk_96 (dk_at dksX3_goDay_2 8 rfl rfl)
theorem dX3_goDay_55 : decode cX3_goDay 55 = .ok (.iaload, 1) := dk_46 (dk_at dksX3_goDay_2 9 rfl rfl)
theorem dX3_goDay_56 : decode cX3_goDay 56 = .ok (.bipush 30, 2) := dk_16 30 (dk_at dksX3_goDay_2 10 rfl rfl)
theorem dX3_goDay_58 : decode cX3_goDay 58 = .ok (.if_icmp .lt 100, 3) := dk_161 0 100 (dk_at dksX3_goDay_2 12 rfl rfl)
theorem dX3_goDay_61 : decode cX3_goDay 61 = .ok (.aload_n 1, 1) := dk_43 (dk_at dksX3_goDay_2 15 rfl rfl)
theorem dX3_goDay_62 : decode cX3_goDay 62 = .ok (.bipush 48, 2) := dk_16 48 (dk_at dksX3_goDay_2 16 rfl rfl)
theorem dX3_goDay_64 : decode cX3_goDay 64 = .ok (.iload_n 3, 1) := dk_29 (dk_at dksX3_goDay_2 18 rfl rfl)
theorem dX3_goDay_65 : decode cX3_goDay 65 = .ok (.iadd, 1) := dk_96 (dk_at dksX3_goDay_2 19 rfl rfl)
theorem dX3_goDay_66 : decode cX3_goDay 66 = .ok (.iconst 0, 1) := dk_3 (dk_at dksX3_goDay_2 20 rfl rfl)
theorem dX3_goDay_67 : decode cX3_goDay 67 = .ok (.iastore, 1) := dk_79 (dk_at dksX3_goDay_2 21 rfl rfl)
theorem dX3_goDay_68 : decode cX3_goDay 68 = .ok (.aload_n 1, 1) := dk_43 (dk_at dksX3_goDay_2 22 rfl rfl)
theorem dX3_goDay_69 : decode cX3_goDay 69 = .ok (.bipush 81, 2) := dk_16 81 (dk_at dksX3_goDay_3 0 rfl rfl)
theorem dX3_goDay_71 : decode cX3_goDay 71 = .ok (.dup2, 1) := dk_92 (dk_at dksX3_goDay_3 2 rfl rfl)
theorem dX3_goDay_72 : decode cX3_goDay 72 = .ok (.iaload, 1) := dk_46 (dk_at dksX3_goDay_3 3 rfl rfl)
theorem dX3_goDay_73 : decode cX3_goDay 73 = .ok (.iconst 1, 1) := dk_4 (dk_at dksX3_goDay_3 4 rfl rfl)
theorem dX3_goDay_74 : decode cX3_goDay 74 = .ok (.iadd, 1) := dk_96 (dk_at dksX3_goDay_3 5 rfl rfl)
theorem dX3_goDay_75 : decode cX3_goDay 75 = .ok (.iastore, 1) := dk_79 (dk_at dksX3_goDay_3 6 rfl rfl)
theorem dX3_goDay_76 : decode cX3_goDay 76 = .ok (.goto 82, 3) := dk_167 0 82 (dk_at dksX3_goDay_3 7 rfl rfl)
theorem dX3_goDay_79 : decode cX3_goDay 79 = .ok (.iload_n 2, 1) := dk_28 (dk_at dksX3_goDay_3 10 rfl rfl)
theorem dX3_goDay_80 : decode cX3_goDay 80 = .ok (.iload_n 3, 1) := dk_29 (dk_at dksX3_goDay_3 11 rfl rfl)
theorem dX3_goDay_81 : decode cX3_goDay 81 = .ok (.invokestatic 277, 3) := dk_184 1 21 (dk_at dksX3_goDay_3 12 rfl rfl)
theorem dX3_goDay_84 : decode cX3_goDay 84 = .ok (.ifCond .eq 21, 3) := dk_153 0 21 (dk_at dksX3_goDay_3 15 rfl rfl)
theorem dX3_goDay_87 : decode cX3_goDay 87 = .ok (.aload_n 1, 1) := dk_43 (dk_at dksX3_goDay_3 18 rfl rfl)
theorem dX3_goDay_88 : decode cX3_goDay 88 = .ok (.bipush 48, 2) := dk_16 48 (dk_at dksX3_goDay_3 19 rfl rfl)
theorem dX3_goDay_90 : decode cX3_goDay 90 = .ok (.iload_n 3, 1) := dk_29 (dk_at dksX3_goDay_3 21 rfl rfl)
theorem dX3_goDay_91 : decode cX3_goDay 91 = .ok (.iadd, 1) := dk_96 (dk_at dksX3_goDay_3 22 rfl rfl)
theorem dX3_goDay_92 : decode cX3_goDay 92 = .ok (.iconst 0, 1) := dk_3 (dk_at dksX3_goDay_3 23 rfl rfl)
theorem dX3_goDay_93 : decode cX3_goDay 93 = .ok (.iastore, 1) := dk_79 (dk_at dksX3_goDay_4 0 rfl rfl)
theorem dX3_goDay_94 : decode cX3_goDay 94 = .ok (.aload_n 1, 1) := dk_43 (dk_at dksX3_goDay_4 1 rfl rfl)
theorem dX3_goDay_95 : decode cX3_goDay 95 = .ok (.bipush 82, 2) := dk_16 82 (dk_at dksX3_goDay_4 2 rfl rfl)
theorem dX3_goDay_97 : decode cX3_goDay 97 = .ok (.dup2, 1) := dk_92 (dk_at dksX3_goDay_4 4 rfl rfl)
theorem dX3_goDay_98 : decode cX3_goDay 98 = .ok (.iaload, 1) := dk_46 (dk_at dksX3_goDay_4 5 rfl rfl)
theorem dX3_goDay_99 : decode cX3_goDay 99 = .ok (.iconst 1, 1) := dk_4 (dk_at dksX3_goDay_4 6 rfl rfl)
theorem dX3_goDay_100 : decode cX3_goDay 100 = .ok (.iadd, 1) := dk_96 (dk_at dksX3_goDay_4 7 rfl rfl)
theorem dX3_goDay_101 : decode cX3_goDay 101 = .ok (.iastore, 1) := dk_79 (dk_at dksX3_goDay_4 8 rfl rfl)
theorem dX3_goDay_102 : decode cX3_goDay 102 = .ok (.goto 56, 3) := dk_167 0 56 (dk_at dksX3_goDay_4 9 rfl rfl)
theorem dX3_goDay_105 : decode cX3_goDay 105 = .ok (.aload_n 1, 1) := dk_43 (dk_at dksX3_goDay_4 12 rfl rfl)
theorem dX3_goDay_106 : decode cX3_goDay 106 = .ok (.bipush 48, 2) := dk_16 48 (dk_at dksX3_goDay_4 13 rfl rfl)
theorem dX3_goDay_108 : decode cX3_goDay 108 = .ok (.iload_n 3, 1) := dk_29 (dk_at dksX3_goDay_4 15 rfl rfl)
theorem dX3_goDay_109 : decode cX3_goDay 109 = .ok (.iadd, 1) := dk_96 (dk_at dksX3_goDay_4 16 rfl rfl)
theorem dX3_goDay_110 : decode cX3_goDay 110 = .ok (.iaload, 1) := dk_46 (dk_at dksX3_goDay_4 17 rfl rfl)
theorem dX3_goDay_111 : decode cX3_goDay 111 = .ok (.iconst 1, 1) := dk_4 (dk_at dksX3_goDay_4 18 rfl rfl)
theorem dX3_goDay_112 : decode cX3_goDay 112 = .ok (.if_icmp .ne 46, 3) := dk_160 0 46 (dk_at dksX3_goDay_4 19 rfl rfl)
theorem dX3_goDay_115 : decode cX3_goDay 115 = .ok (.aload_n 1, 1) := dk_43 (dk_at dksX3_goDay_4 22 rfl rfl)
theorem dX3_goDay_116 : decode cX3_goDay 116 = .ok (.bipush 64, 2) := dk_16 64 (dk_at dksX3_goDay_5 0 rfl rfl)
theorem dX3_goDay_118 : decode cX3_goDay 118 = .ok (.iload_n 3, 1) := dk_29 (dk_at dksX3_goDay_5 2 rfl rfl)
theorem dX3_goDay_119 : decode cX3_goDay 119 = .ok (.iadd, 1) := dk_96 (dk_at dksX3_goDay_5 3 rfl rfl)
theorem dX3_goDay_120 : decode cX3_goDay 120 = .ok (.bipush 99, 2) := dk_16 99 (dk_at dksX3_goDay_5 4 rfl rfl)
theorem dX3_goDay_122 : decode cX3_goDay 122 = .ok (.aload_n 1, 1) := dk_43 (dk_at dksX3_goDay_5 6 rfl rfl)
theorem dX3_goDay_123 : decode cX3_goDay 123 = .ok (.bipush 64, 2) := dk_16 64 (dk_at dksX3_goDay_5 7 rfl rfl)
theorem dX3_goDay_125 : decode cX3_goDay 125 = .ok (.iload_n 3, 1) := dk_29 (dk_at dksX3_goDay_5 9 rfl rfl)
theorem dX3_goDay_126 : decode cX3_goDay 126 = .ok (.iadd, 1) := dk_96 (dk_at dksX3_goDay_5 10 rfl rfl)
theorem dX3_goDay_127 : decode cX3_goDay 127 = .ok (.iaload, 1) := dk_46 (dk_at dksX3_goDay_5 11 rfl rfl)
theorem dX3_goDay_128 : decode cX3_goDay 128 = .ok (.iconst 1, 1) := dk_4 (dk_at dksX3_goDay_5 12 rfl rfl)
theorem dX3_goDay_129 : decode cX3_goDay 129 = .ok (.iadd, 1) := dk_96 (dk_at dksX3_goDay_5 13 rfl rfl)
theorem dX3_goDay_130 : decode cX3_goDay 130 = .ok (.invokestatic 215, 3) := dk_184 0 215 (dk_at dksX3_goDay_5 14 rfl rfl)
theorem dX3_goDay_133 : decode cX3_goDay 133 = .ok (.iastore, 1) := dk_79 (dk_at dksX3_goDay_5 17 rfl rfl)
theorem dX3_goDay_134 : decode cX3_goDay 134 = .ok (.aload_n 1, 1) := dk_43 (dk_at dksX3_goDay_5 18 rfl rfl)
theorem dX3_goDay_135 : decode cX3_goDay 135 = .ok (.bipush 64, 2) := dk_16 64 (dk_at dksX3_goDay_5 19 rfl rfl)
theorem dX3_goDay_137 : decode cX3_goDay 137 = .ok (.iload_n 3, 1) := dk_29 (dk_at dksX3_goDay_5 21 rfl rfl)
theorem dX3_goDay_138 : decode cX3_goDay 138 = .ok (.iadd, 1) := dk_96 (dk_at dksX3_goDay_5 22 rfl rfl)
theorem dX3_goDay_139 : decode cX3_goDay 139 = .ok (.iaload, 1) := dk_46 (dk_at dksX3_goDay_5 23 rfl rfl)
theorem dX3_goDay_140 : decode cX3_goDay 140 = .ok (.iconst 3, 1) := dk_6 (dk_at dksX3_goDay_6 0 rfl rfl)
theorem dX3_goDay_141 : decode cX3_goDay 141 = .ok (.if_icmp .lt 17, 3) := dk_161 0 17 (dk_at dksX3_goDay_6 1 rfl rfl)
theorem dX3_goDay_144 : decode cX3_goDay 144 = .ok (.aload_n 1, 1) := dk_43 (dk_at dksX3_goDay_6 4 rfl rfl)
theorem dX3_goDay_145 : decode cX3_goDay 145 = .ok (.bipush 48, 2) := dk_16 48 (dk_at dksX3_goDay_6 5 rfl rfl)
theorem dX3_goDay_147 : decode cX3_goDay 147 = .ok (.iload_n 3, 1) := dk_29 (dk_at dksX3_goDay_6 7 rfl rfl)
theorem dX3_goDay_148 : decode cX3_goDay 148 = .ok (.iadd, 1) := dk_96 (dk_at dksX3_goDay_6 8 rfl rfl)
theorem dX3_goDay_149 : decode cX3_goDay 149 = .ok (.iconst 2, 1) := dk_5 (dk_at dksX3_goDay_6 9 rfl rfl)
theorem dX3_goDay_150 : decode cX3_goDay 150 = .ok (.iastore, 1) := dk_79 (dk_at dksX3_goDay_6 10 rfl rfl)
theorem dX3_goDay_151 : decode cX3_goDay 151 = .ok (.aload_n 1, 1) := dk_43 (dk_at dksX3_goDay_6 11 rfl rfl)
theorem dX3_goDay_152 : decode cX3_goDay 152 = .ok (.bipush 24, 2) := dk_16 24 (dk_at dksX3_goDay_6 12 rfl rfl)
theorem dX3_goDay_154 : decode cX3_goDay 154 = .ok (.iload_n 3, 1) := dk_29 (dk_at dksX3_goDay_6 14 rfl rfl)
theorem dX3_goDay_155 : decode cX3_goDay 155 = .ok (.iadd, 1) := dk_96 (dk_at dksX3_goDay_6 15 rfl rfl)
theorem dX3_goDay_156 : decode cX3_goDay 156 = .ok (.iconst 0, 1) := dk_3 (dk_at dksX3_goDay_6 16 rfl rfl)
theorem dX3_goDay_157 : decode cX3_goDay 157 = .ok (.iastore, 1) := dk_79 (dk_at dksX3_goDay_6 17 rfl rfl)
theorem dX3_goDay_158 : decode cX3_goDay 158 = .ok (.aload_n 1, 1) := dk_43 (dk_at dksX3_goDay_6 18 rfl rfl)
theorem dX3_goDay_159 : decode cX3_goDay 159 = .ok (.bipush 32, 2) := dk_16 32 (dk_at dksX3_goDay_6 19 rfl rfl)
theorem dX3_goDay_161 : decode cX3_goDay 161 = .ok (.iload_n 3, 1) := dk_29 (dk_at dksX3_goDay_6 21 rfl rfl)
theorem dX3_goDay_162 : decode cX3_goDay 162 = .ok (.iadd, 1) := dk_96 (dk_at dksX3_goDay_6 22 rfl rfl)
theorem dX3_goDay_163 : decode cX3_goDay 163 = .ok (.iaload, 1) := dk_46 (dk_at dksX3_goDay_6 23 rfl rfl)
theorem dX3_goDay_164 : decode cX3_goDay 164 = .ok (.iconst (-1), 1) := dk_2 (dk_at dksX3_goDay_7 0 rfl rfl)
theorem dX3_goDay_165 : decode cX3_goDay 165 = .ok (.if_icmp .eq 22, 3) := dk_159 0 22 (dk_at dksX3_goDay_7 1 rfl rfl)
theorem dX3_goDay_168 : decode cX3_goDay 168 = .ok (.aload_n 1, 1) := dk_43 (dk_at dksX3_goDay_7 4 rfl rfl)
theorem dX3_goDay_169 : decode cX3_goDay 169 = .ok (.bipush 32, 2) := dk_16 32 (dk_at dksX3_goDay_7 5 rfl rfl)
theorem dX3_goDay_171 : decode cX3_goDay 171 = .ok (.iload_n 3, 1) := dk_29 (dk_at dksX3_goDay_7 7 rfl rfl)
theorem dX3_goDay_172 : decode cX3_goDay 172 = .ok (.iadd, 1) := dk_96 (dk_at dksX3_goDay_7 8 rfl rfl)
theorem dX3_goDay_173 : decode cX3_goDay 173 = .ok (.bipush 99, 2) := dk_16 99 (dk_at dksX3_goDay_7 9 rfl rfl)
theorem dX3_goDay_175 : decode cX3_goDay 175 = .ok (.aload_n 1, 1) := dk_43 (dk_at dksX3_goDay_7 11 rfl rfl)
theorem dX3_goDay_176 : decode cX3_goDay 176 = .ok (.bipush 32, 2) := dk_16 32 (dk_at dksX3_goDay_7 12 rfl rfl)
theorem dX3_goDay_178 : decode cX3_goDay 178 = .ok (.iload_n 3, 1) := dk_29 (dk_at dksX3_goDay_7 14 rfl rfl)
theorem dX3_goDay_179 : decode cX3_goDay 179 = .ok (.iadd, 1) := dk_96 (dk_at dksX3_goDay_7 15 rfl rfl)
theorem dX3_goDay_180 : decode cX3_goDay 180 = .ok (.iaload, 1) := dk_46 (dk_at dksX3_goDay_7 16 rfl rfl)
theorem dX3_goDay_181 : decode cX3_goDay 181 = .ok (.iconst 1, 1) := dk_4 (dk_at dksX3_goDay_7 17 rfl rfl)
theorem dX3_goDay_182 : decode cX3_goDay 182 = .ok (.iadd, 1) := dk_96 (dk_at dksX3_goDay_7 18 rfl rfl)
theorem dX3_goDay_183 : decode cX3_goDay 183 = .ok (.invokestatic 215, 3) := dk_184 0 215 (dk_at dksX3_goDay_7 19 rfl rfl)
theorem dX3_goDay_186 : decode cX3_goDay 186 = .ok (.iastore, 1) := dk_79 (dk_at dksX3_goDay_7 22 rfl rfl)
theorem dX3_goDay_187 : decode cX3_goDay 187 = .ok (.iinc 3 1, 3) := dk_132 3 1 (dk_at dksX3_goDay_8 0 rfl rfl)
theorem dX3_goDay_190 : decode cX3_goDay 190 = .ok (.goto (-182), 3) := dk_167 255 74 (dk_at dksX3_goDay_8 3 rfl rfl)
theorem dX3_goDay_193 : decode cX3_goDay 193 = .ok (.aload_n 1, 1) := dk_43 (dk_at dksX3_goDay_8 6 rfl rfl)
theorem dX3_goDay_194 : decode cX3_goDay 194 = .ok (.bipush 80, 2) := dk_16 80 (dk_at dksX3_goDay_8 7 rfl rfl)
theorem dX3_goDay_196 : decode cX3_goDay 196 = .ok (.dup2, 1) := dk_92 (dk_at dksX3_goDay_8 9 rfl rfl)
theorem dX3_goDay_197 : decode cX3_goDay 197 = .ok (.iaload, 1) := dk_46 (dk_at dksX3_goDay_8 10 rfl rfl)
theorem dX3_goDay_198 : decode cX3_goDay 198 = .ok (.iconst 1, 1) := dk_4 (dk_at dksX3_goDay_8 11 rfl rfl)
theorem dX3_goDay_199 : decode cX3_goDay 199 = .ok (.iadd, 1) := dk_96 (dk_at dksX3_goDay_8 12 rfl rfl)
theorem dX3_goDay_200 : decode cX3_goDay 200 = .ok (.iastore, 1) := dk_79 (dk_at dksX3_goDay_8 13 rfl rfl)
theorem dX3_goDay_201 : decode cX3_goDay 201 = .ok (.return_, 1) := dk_177 (dk_at dksX3_goDay_8 14 rfl rfl)
abbrev cX3_outs : ByteArray := prog_9_method_58_code
def yX3_outs : MethodName := ⟨RX3, "outs", "([I)I"⟩
def dkwX3_outs_2 : List UInt8 := [28, 172]
abbrev dktX3_outs_2 : List UInt8 := dkwX3_outs_2 ++ []
def dkwX3_outs_1 : List UInt8 := [43, 29, 182, 0, 225, 8, 164, 0, 9, 4, 29, 120, 167, 0, 4, 3, 128, 61, 132, 3, 1, 167, 255, 215]
abbrev dktX3_outs_1 : List UInt8 := dkwX3_outs_1 ++ dktX3_outs_2
def dkwX3_outs_0 : List UInt8 := [3, 61, 3, 62, 29, 42, 180, 0, 89, 162, 0, 39, 28, 43, 16, 48, 29, 96, 46, 4, 160, 0, 19, 42]
abbrev dktX3_outs_0 : List UInt8 := dkwX3_outs_0 ++ dktX3_outs_1
theorem dksX3_outs_0 : cX3_outs.data.toList.drop 0 = dktX3_outs_0 := by decide +kernel
theorem dksX3_outs_1 : cX3_outs.data.toList.drop 24 = dktX3_outs_1 := dk_seg dksX3_outs_0 24 rfl rfl
theorem dksX3_outs_2 : cX3_outs.data.toList.drop 48 = dktX3_outs_2 := dk_seg dksX3_outs_1 24 rfl rfl
theorem dX3_outs_0 : decode cX3_outs 0 = .ok (.iconst 0, 1) := dk_3 (dk_at dksX3_outs_0 0 rfl rfl)
theorem dX3_outs_1 : decode cX3_outs 1 = .ok (.istore_n 2, 1) := dk_61 (dk_at dksX3_outs_0 1 rfl rfl)
theorem dX3_outs_2 : decode cX3_outs 2 = .ok (.iconst 0, 1) := dk_3 (dk_at dksX3_outs_0 2 rfl rfl)
theorem dX3_outs_3 : decode cX3_outs 3 = .ok (.istore_n 3, 1) := dk_62 (dk_at dksX3_outs_0 3 rfl rfl)
theorem dX3_outs_4 : decode cX3_outs 4 = .ok (.iload_n 3, 1) := dk_29 (dk_at dksX3_outs_0 4 rfl rfl)
theorem dX3_outs_5 : decode cX3_outs 5 = .ok (.aload_n 0, 1) := dk_42 (dk_at dksX3_outs_0 5 rfl rfl)
theorem dX3_outs_6 : decode cX3_outs 6 = .ok (.getfield 89, 3) := dk_180 0 89 (dk_at dksX3_outs_0 6 rfl rfl)
theorem dX3_outs_9 : decode cX3_outs 9 = .ok (.if_icmp .ge 39, 3) := dk_162 0 39 (dk_at dksX3_outs_0 9 rfl rfl)
theorem dX3_outs_12 : decode cX3_outs 12 = .ok (.iload_n 2, 1) := dk_28 (dk_at dksX3_outs_0 12 rfl rfl)
theorem dX3_outs_13 : decode cX3_outs 13 = .ok (.aload_n 1, 1) := dk_43 (dk_at dksX3_outs_0 13 rfl rfl)
theorem dX3_outs_14 : decode cX3_outs 14 = .ok (.bipush 48, 2) := dk_16 48 (dk_at dksX3_outs_0 14 rfl rfl)
theorem dX3_outs_16 : decode cX3_outs 16 = .ok (.iload_n 3, 1) := dk_29 (dk_at dksX3_outs_0 16 rfl rfl)
theorem dX3_outs_17 : decode cX3_outs 17 = .ok (.iadd, 1) := dk_96 (dk_at dksX3_outs_0 17 rfl rfl)
theorem dX3_outs_18 : decode cX3_outs 18 = .ok (.iaload, 1) := dk_46 (dk_at dksX3_outs_0 18 rfl rfl)
theorem dX3_outs_19 : decode cX3_outs 19 = .ok (.iconst 1, 1) := dk_4 (dk_at dksX3_outs_0 19 rfl rfl)
theorem dX3_outs_20 : decode cX3_outs 20 = .ok (.if_icmp .ne 19, 3) := dk_160 0 19 (dk_at dksX3_outs_0 20 rfl rfl)
theorem dX3_outs_23 : decode cX3_outs 23 = .ok (.aload_n 0, 1) := dk_42 (dk_at dksX3_outs_0 23 rfl rfl)
theorem dX3_outs_24 : decode cX3_outs 24 = .ok (.aload_n 1, 1) := dk_43 (dk_at dksX3_outs_1 0 rfl rfl)
theorem dX3_outs_25 : decode cX3_outs 25 = .ok (.iload_n 3, 1) := dk_29 (dk_at dksX3_outs_1 1 rfl rfl)
theorem dX3_outs_26 : decode cX3_outs 26 = .ok (.invokevirtual 225, 3) := dk_182 0 225 (dk_at dksX3_outs_1 2 rfl rfl)
theorem dX3_outs_29 : decode cX3_outs 29 = .ok (.iconst 5, 1) := dk_8 (dk_at dksX3_outs_1 5 rfl rfl)
theorem dX3_outs_30 : decode cX3_outs 30 = .ok (.if_icmp .le 9, 3) := dk_164 0 9 (dk_at dksX3_outs_1 6 rfl rfl)
theorem dX3_outs_33 : decode cX3_outs 33 = .ok (.iconst 1, 1) := dk_4 (dk_at dksX3_outs_1 9 rfl rfl)
theorem dX3_outs_34 : decode cX3_outs 34 = .ok (.iload_n 3, 1) := dk_29 (dk_at dksX3_outs_1 10 rfl rfl)
theorem dX3_outs_35 : decode cX3_outs 35 = .ok (.ishl, 1) := dk_120 (dk_at dksX3_outs_1 11 rfl rfl)
theorem dX3_outs_36 : decode cX3_outs 36 = .ok (.goto 4, 3) := dk_167 0 4 (dk_at dksX3_outs_1 12 rfl rfl)
theorem dX3_outs_39 : decode cX3_outs 39 = .ok (.iconst 0, 1) := dk_3 (dk_at dksX3_outs_1 15 rfl rfl)
theorem dX3_outs_40 : decode cX3_outs 40 = .ok (.ior, 1) := dk_128 (dk_at dksX3_outs_1 16 rfl rfl)
theorem dX3_outs_41 : decode cX3_outs 41 = .ok (.istore_n 2, 1) := dk_61 (dk_at dksX3_outs_1 17 rfl rfl)
theorem dX3_outs_42 : decode cX3_outs 42 = .ok (.iinc 3 1, 3) := dk_132 3 1 (dk_at dksX3_outs_1 18 rfl rfl)
theorem dX3_outs_45 : decode cX3_outs 45 = .ok (.goto (-41), 3) := dk_167 255 215 (dk_at dksX3_outs_1 21 rfl rfl)
theorem dX3_outs_48 : decode cX3_outs 48 = .ok (.iload_n 2, 1) := dk_28 (dk_at dksX3_outs_2 0 rfl rfl)
theorem dX3_outs_49 : decode cX3_outs 49 = .ok (.ireturn, 1) := dk_172 (dk_at dksX3_outs_2 1 rfl rfl)
abbrev cX3_has : ByteArray := prog_9_method_4_code
def yX3_has : MethodName := ⟨RX3, "has", "(II)Z"⟩
def dkwX3_has_0 : List UInt8 := [26, 27, 122, 4, 126, 4, 160, 0, 7, 4, 167, 0, 4, 3, 172]
abbrev dktX3_has_0 : List UInt8 := dkwX3_has_0 ++ []
theorem dksX3_has_0 : cX3_has.data.toList.drop 0 = dktX3_has_0 := by decide +kernel
theorem dX3_has_0 : decode cX3_has 0 = .ok (.iload_n 0, 1) := dk_26 (dk_at dksX3_has_0 0 rfl rfl)
theorem dX3_has_1 : decode cX3_has 1 = .ok (.iload_n 1, 1) := dk_27 (dk_at dksX3_has_0 1 rfl rfl)
theorem dX3_has_2 : decode cX3_has 2 = .ok (.ishr, 1) := dk_122 (dk_at dksX3_has_0 2 rfl rfl)
theorem dX3_has_3 : decode cX3_has 3 = .ok (.iconst 1, 1) := dk_4 (dk_at dksX3_has_0 3 rfl rfl)
theorem dX3_has_4 : decode cX3_has 4 = .ok (.iand, 1) := dk_126 (dk_at dksX3_has_0 4 rfl rfl)
theorem dX3_has_5 : decode cX3_has 5 = .ok (.iconst 1, 1) := dk_4 (dk_at dksX3_has_0 5 rfl rfl)
theorem dX3_has_6 : decode cX3_has 6 = .ok (.if_icmp .ne 7, 3) := dk_160 0 7 (dk_at dksX3_has_0 6 rfl rfl)
theorem dX3_has_9 : decode cX3_has 9 = .ok (.iconst 1, 1) := dk_4 (dk_at dksX3_has_0 9 rfl rfl)
theorem dX3_has_10 : decode cX3_has 10 = .ok (.goto 4, 3) := dk_167 0 4 (dk_at dksX3_has_0 10 rfl rfl)
theorem dX3_has_13 : decode cX3_has 13 = .ok (.iconst 0, 1) := dk_3 (dk_at dksX3_has_0 13 rfl rfl)
theorem dX3_has_14 : decode cX3_has 14 = .ok (.ireturn, 1) := dk_172 (dk_at dksX3_has_0 14 rfl rfl)
abbrev cX3_tell : ByteArray := prog_9_method_6_code
def yX3_tell : MethodName := ⟨RX3, "tell", "(J)V"⟩
def dkwX3_tell_0 : List UInt8 := [42, 180, 0, 21, 42, 180, 0, 86, 31, 80, 42, 89, 180, 0, 86, 4, 96, 181, 0, 86, 177]
abbrev dktX3_tell_0 : List UInt8 := dkwX3_tell_0 ++ []
theorem dksX3_tell_0 : cX3_tell.data.toList.drop 0 = dktX3_tell_0 := by decide +kernel
theorem dX3_tell_0 : decode cX3_tell 0 = .ok (.aload_n 0, 1) := dk_42 (dk_at dksX3_tell_0 0 rfl rfl)
theorem dX3_tell_1 : decode cX3_tell 1 = .ok (.getfield 21, 3) := dk_180 0 21 (dk_at dksX3_tell_0 1 rfl rfl)
theorem dX3_tell_4 : decode cX3_tell 4 = .ok (.aload_n 0, 1) := dk_42 (dk_at dksX3_tell_0 4 rfl rfl)
theorem dX3_tell_5 : decode cX3_tell 5 = .ok (.getfield 86, 3) := dk_180 0 86 (dk_at dksX3_tell_0 5 rfl rfl)
theorem dX3_tell_8 : decode cX3_tell 8 = .ok (.lload_n 1, 1) := dk_31 (dk_at dksX3_tell_0 8 rfl rfl)
theorem dX3_tell_9 : decode cX3_tell 9 = .ok (.lastore, 1) := dk_80 (dk_at dksX3_tell_0 9 rfl rfl)
theorem dX3_tell_10 : decode cX3_tell 10 = .ok (.aload_n 0, 1) := dk_42 (dk_at dksX3_tell_0 10 rfl rfl)
theorem dX3_tell_11 : decode cX3_tell 11 = .ok (.dup, 1) := dk_89 (dk_at dksX3_tell_0 11 rfl rfl)
theorem dX3_tell_12 : decode cX3_tell 12 = .ok (.getfield 86, 3) := dk_180 0 86 (dk_at dksX3_tell_0 12 rfl rfl)
theorem dX3_tell_15 : decode cX3_tell 15 = .ok (.iconst 1, 1) := dk_4 (dk_at dksX3_tell_0 15 rfl rfl)
theorem dX3_tell_16 : decode cX3_tell 16 = .ok (.iadd, 1) := dk_96 (dk_at dksX3_tell_0 16 rfl rfl)
theorem dX3_tell_17 : decode cX3_tell 17 = .ok (.putfield 86, 3) := dk_181 0 86 (dk_at dksX3_tell_0 17 rfl rfl)
theorem dX3_tell_20 : decode cX3_tell 20 = .ok (.return_, 1) := dk_177 (dk_at dksX3_tell_0 20 rfl rfl)
abbrev cX3_spring : ByteArray := prog_9_method_62_code
def yX3_spring : MethodName := ⟨RX3, "spring", "()I"⟩
def dkwX3_spring_6 : List UInt8 := [167, 0, 4, 9, 182, 1, 30, 42, 42, 180, 0, 9, 16, 81, 46, 133, 182, 1, 30, 28, 172]
abbrev dktX3_spring_6 : List UInt8 := dkwX3_spring_6 ++ []
def dkwX3_spring_5 : List UInt8 := [158, 0, 11, 42, 42, 180, 0, 40, 182, 0, 236, 42, 3, 181, 0, 86, 42, 28, 27, 162, 0, 7, 10]
abbrev dktX3_spring_5 : List UInt8 := dkwX3_spring_5 ++ dktX3_spring_6
def dkwX3_spring_4 : List UInt8 := [42, 180, 0, 49, 6, 28, 104, 5, 96, 46, 182, 1, 37, 153, 0, 9, 132, 2, 1, 167, 255, 213, 28]
abbrev dktX3_spring_4 : List UInt8 := dkwX3_spring_4 ++ dktX3_spring_5
def dkwX3_spring_3 : List UInt8 := [28, 27, 162, 0, 44, 42, 42, 180, 0, 49, 6, 28, 104, 46, 42, 180, 0, 49, 6, 28, 104, 4, 96, 46]
abbrev dktX3_spring_3 : List UInt8 := dkwX3_spring_3 ++ dktX3_spring_4
def dkwX3_spring_2 : List UInt8 := [154, 0, 10, 2, 42, 180, 0, 115, 100, 172, 42, 180, 0, 9, 42, 180, 0, 40, 3, 184, 0, 229, 3, 61]
abbrev dktX3_spring_2 : List UInt8 := dkwX3_spring_2 ++ dktX3_spring_3
def dkwX3_spring_1 : List UInt8 := [42, 180, 0, 106, 162, 0, 16, 42, 6, 27, 104, 182, 1, 34, 132, 1, 1, 167, 255, 228, 42, 182, 0, 152]
abbrev dktX3_spring_1 : List UInt8 := dkwX3_spring_1 ++ dktX3_spring_2
def dkwX3_spring_0 : List UInt8 := [42, 3, 181, 0, 83, 42, 16, 60, 182, 0, 146, 3, 60, 42, 182, 0, 122, 153, 0, 27, 42, 180, 0, 112]
abbrev dktX3_spring_0 : List UInt8 := dkwX3_spring_0 ++ dktX3_spring_1
theorem dksX3_spring_0 : cX3_spring.data.toList.drop 0 = dktX3_spring_0 := by decide +kernel
theorem dksX3_spring_1 : cX3_spring.data.toList.drop 24 = dktX3_spring_1 := dk_seg dksX3_spring_0 24 rfl rfl
theorem dksX3_spring_2 : cX3_spring.data.toList.drop 48 = dktX3_spring_2 := dk_seg dksX3_spring_1 24 rfl rfl
theorem dksX3_spring_3 : cX3_spring.data.toList.drop 72 = dktX3_spring_3 := dk_seg dksX3_spring_2 24 rfl rfl
theorem dksX3_spring_4 : cX3_spring.data.toList.drop 96 = dktX3_spring_4 := dk_seg dksX3_spring_3 24 rfl rfl
theorem dksX3_spring_5 : cX3_spring.data.toList.drop 119 = dktX3_spring_5 := dk_seg dksX3_spring_4 23 rfl rfl
theorem dksX3_spring_6 : cX3_spring.data.toList.drop 142 = dktX3_spring_6 := dk_seg dksX3_spring_5 23 rfl rfl
theorem dX3_spring_0 : decode cX3_spring 0 = .ok (.aload_n 0, 1) := dk_42 (dk_at dksX3_spring_0 0 rfl rfl)
theorem dX3_spring_1 : decode cX3_spring 1 = .ok (.iconst 0, 1) := dk_3 (dk_at dksX3_spring_0 1 rfl rfl)
theorem dX3_spring_2 : decode cX3_spring 2 = .ok (.putfield 83, 3) := dk_181 0 83 (dk_at dksX3_spring_0 2 rfl rfl)
theorem dX3_spring_5 : decode cX3_spring 5 = .ok (.aload_n 0, 1) := dk_42 (dk_at dksX3_spring_0 5 rfl rfl)
theorem dX3_spring_6 : decode cX3_spring 6 = .ok (.bipush 60, 2) := dk_16 60 (dk_at dksX3_spring_0 6 rfl rfl)
theorem dX3_spring_8 : decode cX3_spring 8 = .ok (.invokevirtual 146, 3) := dk_182 0 146 (dk_at dksX3_spring_0 8 rfl rfl)
theorem dX3_spring_11 : decode cX3_spring 11 = .ok (.iconst 0, 1) := dk_3 (dk_at dksX3_spring_0 11 rfl rfl)
theorem dX3_spring_12 : decode cX3_spring 12 = .ok (.istore_n 1, 1) := dk_60 (dk_at dksX3_spring_0 12 rfl rfl)
theorem dX3_spring_13 : decode cX3_spring 13 = .ok (.aload_n 0, 1) := dk_42 (dk_at dksX3_spring_0 13 rfl rfl)
theorem dX3_spring_14 : decode cX3_spring 14 = .ok (.invokevirtual 122, 3) := dk_182 0 122 (dk_at dksX3_spring_0 14 rfl rfl)
theorem dX3_spring_17 : decode cX3_spring 17 = .ok (.ifCond .eq 27, 3) := dk_153 0 27 (dk_at dksX3_spring_0 17 rfl rfl)
theorem dX3_spring_20 : decode cX3_spring 20 = .ok (.aload_n 0, 1) := dk_42 (dk_at dksX3_spring_0 20 rfl rfl)
theorem dX3_spring_21 : decode cX3_spring 21 = .ok (.getfield 112, 3) := dk_180 0 112 (dk_at dksX3_spring_0 21 rfl rfl)
theorem dX3_spring_24 : decode cX3_spring 24 = .ok (.aload_n 0, 1) := dk_42 (dk_at dksX3_spring_1 0 rfl rfl)
theorem dX3_spring_25 : decode cX3_spring 25 = .ok (.getfield 106, 3) := dk_180 0 106 (dk_at dksX3_spring_1 1 rfl rfl)
theorem dX3_spring_28 : decode cX3_spring 28 = .ok (.if_icmp .ge 16, 3) := dk_162 0 16 (dk_at dksX3_spring_1 4 rfl rfl)
theorem dX3_spring_31 : decode cX3_spring 31 = .ok (.aload_n 0, 1) := dk_42 (dk_at dksX3_spring_1 7 rfl rfl)
theorem dX3_spring_32 : decode cX3_spring 32 = .ok (.iconst 3, 1) := dk_6 (dk_at dksX3_spring_1 8 rfl rfl)
theorem dX3_spring_33 : decode cX3_spring 33 = .ok (.iload_n 1, 1) := dk_27 (dk_at dksX3_spring_1 9 rfl rfl)
theorem dX3_spring_34 : decode cX3_spring 34 = .ok (.imul, 1) := dk_104 (dk_at dksX3_spring_1 10 rfl rfl)
theorem dX3_spring_35 : decode cX3_spring 35 = .ok (.invokevirtual 290, 3) := dk_182 1 34 (dk_at dksX3_spring_1 11 rfl rfl)
theorem dX3_spring_38 : decode cX3_spring 38 = .ok (.iinc 1 1, 3) := dk_132 1 1 (dk_at dksX3_spring_1 14 rfl rfl)
theorem dX3_spring_41 : decode cX3_spring 41 = .ok (.goto (-28), 3) := dk_167 255 228 (dk_at dksX3_spring_1 17 rfl rfl)
theorem dX3_spring_44 : decode cX3_spring 44 = .ok (.aload_n 0, 1) := dk_42 (dk_at dksX3_spring_1 20 rfl rfl)
theorem dX3_spring_45 : decode cX3_spring 45 = .ok (.invokevirtual 152, 3) := dk_182 0 152 (dk_at dksX3_spring_1 21 rfl rfl)
theorem dX3_spring_48 : decode cX3_spring 48 = .ok (.ifCond .ne 10, 3) := dk_154 0 10 (dk_at dksX3_spring_2 0 rfl rfl)
theorem dX3_spring_51 : decode cX3_spring 51 = .ok (.iconst (-1), 1) := dk_2 (dk_at dksX3_spring_2 3 rfl rfl)
theorem dX3_spring_52 : decode cX3_spring 52 = .ok (.aload_n 0, 1) := dk_42 (dk_at dksX3_spring_2 4 rfl rfl)
theorem dX3_spring_53 : decode cX3_spring 53 = .ok (.getfield 115, 3) := dk_180 0 115 (dk_at dksX3_spring_2 5 rfl rfl)
theorem dX3_spring_56 : decode cX3_spring 56 = .ok (.isub, 1) := dk_100 (dk_at dksX3_spring_2 8 rfl rfl)
theorem dX3_spring_57 : decode cX3_spring 57 = .ok (.ireturn, 1) := dk_172 (dk_at dksX3_spring_2 9 rfl rfl)
theorem dX3_spring_58 : decode cX3_spring 58 = .ok (.aload_n 0, 1) := dk_42 (dk_at dksX3_spring_2 10 rfl rfl)
theorem dX3_spring_59 : decode cX3_spring 59 = .ok (.getfield 9, 3) := dk_180 0 9 (dk_at dksX3_spring_2 11 rfl rfl)
theorem dX3_spring_62 : decode cX3_spring 62 = .ok (.aload_n 0, 1) := dk_42 (dk_at dksX3_spring_2 14 rfl rfl)
theorem dX3_spring_63 : decode cX3_spring 63 = .ok (.getfield 40, 3) := dk_180 0 40 (dk_at dksX3_spring_2 15 rfl rfl)
theorem dX3_spring_66 : decode cX3_spring 66 = .ok (.iconst 0, 1) := dk_3 (dk_at dksX3_spring_2 18 rfl rfl)
theorem dX3_spring_67 : decode cX3_spring 67 = .ok (.invokestatic 229, 3) := dk_184 0 229 (dk_at dksX3_spring_2 19 rfl rfl)
theorem dX3_spring_70 : decode cX3_spring 70 = .ok (.iconst 0, 1) := dk_3 (dk_at dksX3_spring_2 22 rfl rfl)
theorem dX3_spring_71 : decode cX3_spring 71 = .ok (.istore_n 2, 1) := dk_61 (dk_at dksX3_spring_2 23 rfl rfl)
theorem dX3_spring_72 : decode cX3_spring 72 = .ok (.iload_n 2, 1) := dk_28 (dk_at dksX3_spring_3 0 rfl rfl)
theorem dX3_spring_73 : decode cX3_spring 73 = .ok (.iload_n 1, 1) := dk_27 (dk_at dksX3_spring_3 1 rfl rfl)
theorem dX3_spring_74 : decode cX3_spring 74 = .ok (.if_icmp .ge 44, 3) := dk_162 0 44 (dk_at dksX3_spring_3 2 rfl rfl)
theorem dX3_spring_77 : decode cX3_spring 77 = .ok (.aload_n 0, 1) := dk_42 (dk_at dksX3_spring_3 5 rfl rfl)
theorem dX3_spring_78 : decode cX3_spring 78 = .ok (.aload_n 0, 1) := dk_42 (dk_at dksX3_spring_3 6 rfl rfl)
theorem dX3_spring_79 : decode cX3_spring 79 = .ok (.getfield 49, 3) := dk_180 0 49 (dk_at dksX3_spring_3 7 rfl rfl)
theorem dX3_spring_82 : decode cX3_spring 82 = .ok (.iconst 3, 1) := dk_6 (dk_at dksX3_spring_3 10 rfl rfl)
theorem dX3_spring_83 : decode cX3_spring 83 = .ok (.iload_n 2, 1) := dk_28 (dk_at dksX3_spring_3 11 rfl rfl)
theorem dX3_spring_84 : decode cX3_spring 84 = .ok (.imul, 1) := dk_104 (dk_at dksX3_spring_3 12 rfl rfl)
theorem dX3_spring_85 : decode cX3_spring 85 = .ok (.iaload, 1) := dk_46 (dk_at dksX3_spring_3 13 rfl rfl)
theorem dX3_spring_86 : decode cX3_spring 86 = .ok (.aload_n 0, 1) := dk_42 (dk_at dksX3_spring_3 14 rfl rfl)
theorem dX3_spring_87 : decode cX3_spring 87 = .ok (.getfield 49, 3) := dk_180 0 49 (dk_at dksX3_spring_3 15 rfl rfl)
theorem dX3_spring_90 : decode cX3_spring 90 = .ok (.iconst 3, 1) := dk_6 (dk_at dksX3_spring_3 18 rfl rfl)
theorem dX3_spring_91 : decode cX3_spring 91 = .ok (.iload_n 2, 1) := dk_28 (dk_at dksX3_spring_3 19 rfl rfl)
theorem dX3_spring_92 : decode cX3_spring 92 = .ok (.imul, 1) := dk_104 (dk_at dksX3_spring_3 20 rfl rfl)
theorem dX3_spring_93 : decode cX3_spring 93 = .ok (.iconst 1, 1) := dk_4 (dk_at dksX3_spring_3 21 rfl rfl)
theorem dX3_spring_94 : decode cX3_spring 94 = .ok (.iadd, 1) := dk_96 (dk_at dksX3_spring_3 22 rfl rfl)
theorem dX3_spring_95 : decode cX3_spring 95 = .ok (.iaload, 1) := dk_46 (dk_at dksX3_spring_3 23 rfl rfl)
theorem dX3_spring_96 : decode cX3_spring 96 = .ok (.aload_n 0, 1) := dk_42 (dk_at dksX3_spring_4 0 rfl rfl)
theorem dX3_spring_97 : decode cX3_spring 97 = .ok (.getfield 49, 3) := dk_180 0 49 (dk_at dksX3_spring_4 1 rfl rfl)
theorem dX3_spring_100 : decode cX3_spring 100 = .ok (.iconst 3, 1) := dk_6 (dk_at dksX3_spring_4 4 rfl rfl)
theorem dX3_spring_101 : decode cX3_spring 101 = .ok (.iload_n 2, 1) := dk_28 (dk_at dksX3_spring_4 5 rfl rfl)
theorem dX3_spring_102 : decode cX3_spring 102 = .ok (.imul, 1) := dk_104 (dk_at dksX3_spring_4 6 rfl rfl)
theorem dX3_spring_103 : decode cX3_spring 103 = .ok (.iconst 2, 1) := dk_5 (dk_at dksX3_spring_4 7 rfl rfl)
theorem dX3_spring_104 : decode cX3_spring 104 = .ok (.iadd, 1) := dk_96 (dk_at dksX3_spring_4 8 rfl rfl)
theorem dX3_spring_105 : decode cX3_spring 105 = .ok (.iaload, 1) := dk_46 (dk_at dksX3_spring_4 9 rfl rfl)
theorem dX3_spring_106 : decode cX3_spring 106 = .ok (.invokevirtual 293, 3) := dk_182 1 37 (dk_at dksX3_spring_4 10 rfl rfl)
theorem dX3_spring_109 : decode cX3_spring 109 = .ok (.ifCond .eq 9, 3) := dk_153 0 9 (dk_at dksX3_spring_4 13 rfl rfl)
theorem dX3_spring_112 : decode cX3_spring 112 = .ok (.iinc 2 1, 3) := dk_132 2 1 (dk_at dksX3_spring_4 16 rfl rfl)
theorem dX3_spring_115 : decode cX3_spring 115 = .ok (.goto (-43), 3) := dk_167 255 213 (dk_at dksX3_spring_4 19 rfl rfl)
theorem dX3_spring_118 : decode cX3_spring 118 = .ok (.iload_n 2, 1) := dk_28 (dk_at dksX3_spring_4 22 rfl rfl)
theorem dX3_spring_119 : decode cX3_spring 119 = .ok (.ifCond .le 11, 3) := dk_158 0 11 (dk_at dksX3_spring_5 0 rfl rfl)
theorem dX3_spring_122 : decode cX3_spring 122 = .ok (.aload_n 0, 1) := dk_42 (dk_at dksX3_spring_5 3 rfl rfl)
theorem dX3_spring_123 : decode cX3_spring 123 = .ok (.aload_n 0, 1) := dk_42 (dk_at dksX3_spring_5 4 rfl rfl)
theorem dX3_spring_124 : decode cX3_spring 124 = .ok (.getfield 40, 3) := dk_180 0 40 (dk_at dksX3_spring_5 5 rfl rfl)
theorem dX3_spring_127 : decode cX3_spring 127 = .ok (.invokevirtual 236, 3) := dk_182 0 236 (dk_at dksX3_spring_5 8 rfl rfl)
theorem dX3_spring_130 : decode cX3_spring 130 = .ok (.aload_n 0, 1) := dk_42 (dk_at dksX3_spring_5 11 rfl rfl)
theorem dX3_spring_131 : decode cX3_spring 131 = .ok (.iconst 0, 1) := dk_3 (dk_at dksX3_spring_5 12 rfl rfl)
theorem dX3_spring_132 : decode cX3_spring 132 = .ok (.putfield 86, 3) := dk_181 0 86 (dk_at dksX3_spring_5 13 rfl rfl)
theorem dX3_spring_135 : decode cX3_spring 135 = .ok (.aload_n 0, 1) := dk_42 (dk_at dksX3_spring_5 16 rfl rfl)
theorem dX3_spring_136 : decode cX3_spring 136 = .ok (.iload_n 2, 1) := dk_28 (dk_at dksX3_spring_5 17 rfl rfl)
theorem dX3_spring_137 : decode cX3_spring 137 = .ok (.iload_n 1, 1) := dk_27 (dk_at dksX3_spring_5 18 rfl rfl)
theorem dX3_spring_138 : decode cX3_spring 138 = .ok (.if_icmp .ge 7, 3) := dk_162 0 7 (dk_at dksX3_spring_5 19 rfl rfl)
theorem dX3_spring_141 : decode cX3_spring 141 = .ok (.lconst 1, 1) := dk_10 (dk_at dksX3_spring_5 22 rfl rfl)
theorem dX3_spring_142 : decode cX3_spring 142 = .ok (.goto 4, 3) := dk_167 0 4 (dk_at dksX3_spring_6 0 rfl rfl)
theorem dX3_spring_145 : decode cX3_spring 145 = .ok (.lconst 0, 1) := dk_9 (dk_at dksX3_spring_6 3 rfl rfl)
theorem dX3_spring_146 : decode cX3_spring 146 = .ok (.invokevirtual 286, 3) := dk_182 1 30 (dk_at dksX3_spring_6 4 rfl rfl)
theorem dX3_spring_149 : decode cX3_spring 149 = .ok (.aload_n 0, 1) := dk_42 (dk_at dksX3_spring_6 7 rfl rfl)
theorem dX3_spring_150 : decode cX3_spring 150 = .ok (.aload_n 0, 1) := dk_42 (dk_at dksX3_spring_6 8 rfl rfl)
theorem dX3_spring_151 : decode cX3_spring 151 = .ok (.getfield 9, 3) := dk_180 0 9 (dk_at dksX3_spring_6 9 rfl rfl)
theorem dX3_spring_154 : decode cX3_spring 154 = .ok (.bipush 81, 2) := dk_16 81 (dk_at dksX3_spring_6 12 rfl rfl)
theorem dX3_spring_156 : decode cX3_spring 156 = .ok (.iaload, 1) := dk_46 (dk_at dksX3_spring_6 14 rfl rfl)
theorem dX3_spring_157 : decode cX3_spring 157 = .ok (.i2l, 1) := dk_133 (dk_at dksX3_spring_6 15 rfl rfl)
theorem dX3_spring_158 : decode cX3_spring 158 = .ok (.invokevirtual 286, 3) := dk_182 1 30 (dk_at dksX3_spring_6 16 rfl rfl)
theorem dX3_spring_161 : decode cX3_spring 161 = .ok (.iload_n 2, 1) := dk_28 (dk_at dksX3_spring_6 19 rfl rfl)
theorem dX3_spring_162 : decode cX3_spring 162 = .ok (.ireturn, 1) := dk_172 (dk_at dksX3_spring_6 20 rfl rfl)
abbrev cX3_readAct : ByteArray := prog_9_method_63_code
def yX3_readAct : MethodName := ⟨RX3, "readAct", "(I)V"⟩
def dkwX3_readAct_4 : List UInt8 := [153, 0, 19, 42, 180, 0, 49, 27, 5, 96, 42, 16, 48, 16, 10, 182, 0, 138, 79, 177]
abbrev dktX3_readAct_4 : List UInt8 := dkwX3_readAct_4 ++ []
def dkwX3_readAct_3 : List UInt8 := [180, 0, 49, 27, 28, 79, 42, 180, 0, 49, 27, 4, 96, 42, 16, 48, 16, 10, 182, 0, 138, 79, 29]
abbrev dktX3_readAct_3 : List UInt8 := dkwX3_readAct_3 ++ dktX3_readAct_4
def dkwX3_readAct_2 : List UInt8 := [159, 0, 12, 42, 42, 180, 0, 112, 182, 0, 134, 177, 42, 89, 180, 0, 112, 4, 96, 181, 0, 112, 42]
abbrev dktX3_readAct_2 : List UInt8 := dkwX3_readAct_2 ++ dktX3_readAct_3
def dkwX3_readAct_1 : List UInt8 := [167, 0, 4, 3, 62, 29, 154, 0, 30, 28, 16, 110, 159, 0, 24, 28, 16, 114, 159, 0, 18, 28, 16, 100]
abbrev dktX3_readAct_1 : List UInt8 := dkwX3_readAct_1 ++ dktX3_readAct_2
def dkwX3_readAct_0 : List UInt8 := [42, 182, 0, 126, 61, 28, 16, 108, 159, 0, 15, 28, 16, 116, 159, 0, 9, 28, 16, 120, 160, 0, 7, 4]
abbrev dktX3_readAct_0 : List UInt8 := dkwX3_readAct_0 ++ dktX3_readAct_1
theorem dksX3_readAct_0 : cX3_readAct.data.toList.drop 0 = dktX3_readAct_0 := by decide +kernel
theorem dksX3_readAct_1 : cX3_readAct.data.toList.drop 24 = dktX3_readAct_1 := dk_seg dksX3_readAct_0 24 rfl rfl
theorem dksX3_readAct_2 : cX3_readAct.data.toList.drop 48 = dktX3_readAct_2 := dk_seg dksX3_readAct_1 24 rfl rfl
theorem dksX3_readAct_3 : cX3_readAct.data.toList.drop 71 = dktX3_readAct_3 := dk_seg dksX3_readAct_2 23 rfl rfl
theorem dksX3_readAct_4 : cX3_readAct.data.toList.drop 94 = dktX3_readAct_4 := dk_seg dksX3_readAct_3 23 rfl rfl
theorem dX3_readAct_0 : decode cX3_readAct 0 = .ok (.aload_n 0, 1) := dk_42 (dk_at dksX3_readAct_0 0 rfl rfl)
theorem dX3_readAct_1 : decode cX3_readAct 1 = .ok (.invokevirtual 126, 3) := dk_182 0 126 (dk_at dksX3_readAct_0 1 rfl rfl)
theorem dX3_readAct_4 : decode cX3_readAct 4 = .ok (.istore_n 2, 1) := dk_61 (dk_at dksX3_readAct_0 4 rfl rfl)
theorem dX3_readAct_5 : decode cX3_readAct 5 = .ok (.iload_n 2, 1) := dk_28 (dk_at dksX3_readAct_0 5 rfl rfl)
theorem dX3_readAct_6 : decode cX3_readAct 6 = .ok (.bipush 108, 2) := dk_16 108 (dk_at dksX3_readAct_0 6 rfl rfl)
theorem dX3_readAct_8 : decode cX3_readAct 8 = .ok (.if_icmp .eq 15, 3) := dk_159 0 15 (dk_at dksX3_readAct_0 8 rfl rfl)
theorem dX3_readAct_11 : decode cX3_readAct 11 = .ok (.iload_n 2, 1) := dk_28 (dk_at dksX3_readAct_0 11 rfl rfl)
theorem dX3_readAct_12 : decode cX3_readAct 12 = .ok (.bipush 116, 2) := dk_16 116 (dk_at dksX3_readAct_0 12 rfl rfl)
theorem dX3_readAct_14 : decode cX3_readAct 14 = .ok (.if_icmp .eq 9, 3) := dk_159 0 9 (dk_at dksX3_readAct_0 14 rfl rfl)
theorem dX3_readAct_17 : decode cX3_readAct 17 = .ok (.iload_n 2, 1) := dk_28 (dk_at dksX3_readAct_0 17 rfl rfl)
theorem dX3_readAct_18 : decode cX3_readAct 18 = .ok (.bipush 120, 2) := dk_16 120 (dk_at dksX3_readAct_0 18 rfl rfl)
theorem dX3_readAct_20 : decode cX3_readAct 20 = .ok (.if_icmp .ne 7, 3) := dk_160 0 7 (dk_at dksX3_readAct_0 20 rfl rfl)
theorem dX3_readAct_23 : decode cX3_readAct 23 = .ok (.iconst 1, 1) := dk_4 (dk_at dksX3_readAct_0 23 rfl rfl)
theorem dX3_readAct_24 : decode cX3_readAct 24 = .ok (.goto 4, 3) := dk_167 0 4 (dk_at dksX3_readAct_1 0 rfl rfl)
theorem dX3_readAct_27 : decode cX3_readAct 27 = .ok (.iconst 0, 1) := dk_3 (dk_at dksX3_readAct_1 3 rfl rfl)
theorem dX3_readAct_28 : decode cX3_readAct 28 = .ok (.istore_n 3, 1) := dk_62 (dk_at dksX3_readAct_1 4 rfl rfl)
theorem dX3_readAct_29 : decode cX3_readAct 29 = .ok (.iload_n 3, 1) := dk_29 (dk_at dksX3_readAct_1 5 rfl rfl)
theorem dX3_readAct_30 : decode cX3_readAct 30 = .ok (.ifCond .ne 30, 3) := dk_154 0 30 (dk_at dksX3_readAct_1 6 rfl rfl)
theorem dX3_readAct_33 : decode cX3_readAct 33 = .ok (.iload_n 2, 1) := dk_28 (dk_at dksX3_readAct_1 9 rfl rfl)
theorem dX3_readAct_34 : decode cX3_readAct 34 = .ok (.bipush 110, 2) := dk_16 110 (dk_at dksX3_readAct_1 10 rfl rfl)
theorem dX3_readAct_36 : decode cX3_readAct 36 = .ok (.if_icmp .eq 24, 3) := dk_159 0 24 (dk_at dksX3_readAct_1 12 rfl rfl)
theorem dX3_readAct_39 : decode cX3_readAct 39 = .ok (.iload_n 2, 1) := dk_28 (dk_at dksX3_readAct_1 15 rfl rfl)
theorem dX3_readAct_40 : decode cX3_readAct 40 = .ok (.bipush 114, 2) := dk_16 114 (dk_at dksX3_readAct_1 16 rfl rfl)
theorem dX3_readAct_42 : decode cX3_readAct 42 = .ok (.if_icmp .eq 18, 3) := dk_159 0 18 (dk_at dksX3_readAct_1 18 rfl rfl)
theorem dX3_readAct_45 : decode cX3_readAct 45 = .ok (.iload_n 2, 1) := dk_28 (dk_at dksX3_readAct_1 21 rfl rfl)
theorem dX3_readAct_46 : decode cX3_readAct 46 = .ok (.bipush 100, 2) := dk_16 100 (dk_at dksX3_readAct_1 22 rfl rfl)
theorem dX3_readAct_48 : decode cX3_readAct 48 = .ok (.if_icmp .eq 12, 3) := dk_159 0 12 (dk_at dksX3_readAct_2 0 rfl rfl)
theorem dX3_readAct_51 : decode cX3_readAct 51 = .ok (.aload_n 0, 1) := dk_42 (dk_at dksX3_readAct_2 3 rfl rfl)
theorem dX3_readAct_52 : decode cX3_readAct 52 = .ok (.aload_n 0, 1) := dk_42 (dk_at dksX3_readAct_2 4 rfl rfl)
theorem dX3_readAct_53 : decode cX3_readAct 53 = .ok (.getfield 112, 3) := dk_180 0 112 (dk_at dksX3_readAct_2 5 rfl rfl)
theorem dX3_readAct_56 : decode cX3_readAct 56 = .ok (.invokevirtual 134, 3) := dk_182 0 134 (dk_at dksX3_readAct_2 8 rfl rfl)
theorem dX3_readAct_59 : decode cX3_readAct 59 = .ok (.return_, 1) := dk_177 (dk_at dksX3_readAct_2 11 rfl rfl)
theorem dX3_readAct_60 : decode cX3_readAct 60 = .ok (.aload_n 0, 1) := dk_42 (dk_at dksX3_readAct_2 12 rfl rfl)
theorem dX3_readAct_61 : decode cX3_readAct 61 = .ok (.dup, 1) := dk_89 (dk_at dksX3_readAct_2 13 rfl rfl)
theorem dX3_readAct_62 : decode cX3_readAct 62 = .ok (.getfield 112, 3) := dk_180 0 112 (dk_at dksX3_readAct_2 14 rfl rfl)
theorem dX3_readAct_65 : decode cX3_readAct 65 = .ok (.iconst 1, 1) := dk_4 (dk_at dksX3_readAct_2 17 rfl rfl)
theorem dX3_readAct_66 : decode cX3_readAct 66 = .ok (.iadd, 1) := dk_96 (dk_at dksX3_readAct_2 18 rfl rfl)
theorem dX3_readAct_67 : decode cX3_readAct 67 = .ok (.putfield 112, 3) := dk_181 0 112 (dk_at dksX3_readAct_2 19 rfl rfl)
theorem dX3_readAct_70 : decode cX3_readAct 70 = .ok (.aload_n 0, 1) := dk_42 (dk_at dksX3_readAct_2 22 rfl rfl)
theorem dX3_readAct_71 : decode cX3_readAct 71 = .ok (.getfield 49, 3) := dk_180 0 49 (dk_at dksX3_readAct_3 0 rfl rfl)
theorem dX3_readAct_74 : decode cX3_readAct 74 = .ok (.iload_n 1, 1) := dk_27 (dk_at dksX3_readAct_3 3 rfl rfl)
theorem dX3_readAct_75 : decode cX3_readAct 75 = .ok (.iload_n 2, 1) := dk_28 (dk_at dksX3_readAct_3 4 rfl rfl)
theorem dX3_readAct_76 : decode cX3_readAct 76 = .ok (.iastore, 1) := dk_79 (dk_at dksX3_readAct_3 5 rfl rfl)
theorem dX3_readAct_77 : decode cX3_readAct 77 = .ok (.aload_n 0, 1) := dk_42 (dk_at dksX3_readAct_3 6 rfl rfl)
theorem dX3_readAct_78 : decode cX3_readAct 78 = .ok (.getfield 49, 3) := dk_180 0 49 (dk_at dksX3_readAct_3 7 rfl rfl)
theorem dX3_readAct_81 : decode cX3_readAct 81 = .ok (.iload_n 1, 1) := dk_27 (dk_at dksX3_readAct_3 10 rfl rfl)
theorem dX3_readAct_82 : decode cX3_readAct 82 = .ok (.iconst 1, 1) := dk_4 (dk_at dksX3_readAct_3 11 rfl rfl)
theorem dX3_readAct_83 : decode cX3_readAct 83 = .ok (.iadd, 1) := dk_96 (dk_at dksX3_readAct_3 12 rfl rfl)
theorem dX3_readAct_84 : decode cX3_readAct 84 = .ok (.aload_n 0, 1) := dk_42 (dk_at dksX3_readAct_3 13 rfl rfl)
theorem dX3_readAct_85 : decode cX3_readAct 85 = .ok (.bipush 48, 2) := dk_16 48 (dk_at dksX3_readAct_3 14 rfl rfl)
theorem dX3_readAct_87 : decode cX3_readAct 87 = .ok (.bipush 10, 2) := dk_16 10 (dk_at dksX3_readAct_3 16 rfl rfl)
theorem dX3_readAct_89 : decode cX3_readAct 89 = .ok (.invokevirtual 138, 3) := dk_182 0 138 (dk_at dksX3_readAct_3 18 rfl rfl)
theorem dX3_readAct_92 : decode cX3_readAct 92 = .ok (.iastore, 1) := dk_79 (dk_at dksX3_readAct_3 21 rfl rfl)
theorem dX3_readAct_93 : decode cX3_readAct 93 = .ok (.iload_n 3, 1) := dk_29 (dk_at dksX3_readAct_3 22 rfl rfl)
theorem dX3_readAct_94 : decode cX3_readAct 94 = .ok (.ifCond .eq 19, 3) := dk_153 0 19 (dk_at dksX3_readAct_4 0 rfl rfl)
theorem dX3_readAct_97 : decode cX3_readAct 97 = .ok (.aload_n 0, 1) := dk_42 (dk_at dksX3_readAct_4 3 rfl rfl)
theorem dX3_readAct_98 : decode cX3_readAct 98 = .ok (.getfield 49, 3) := dk_180 0 49 (dk_at dksX3_readAct_4 4 rfl rfl)
theorem dX3_readAct_101 : decode cX3_readAct 101 = .ok (.iload_n 1, 1) := dk_27 (dk_at dksX3_readAct_4 7 rfl rfl)
theorem dX3_readAct_102 : decode cX3_readAct 102 = .ok (.iconst 2, 1) := dk_5 (dk_at dksX3_readAct_4 8 rfl rfl)
theorem dX3_readAct_103 : decode cX3_readAct 103 = .ok (.iadd, 1) := dk_96 (dk_at dksX3_readAct_4 9 rfl rfl)
theorem dX3_readAct_104 : decode cX3_readAct 104 = .ok (.aload_n 0, 1) := dk_42 (dk_at dksX3_readAct_4 10 rfl rfl)
theorem dX3_readAct_105 : decode cX3_readAct 105 = .ok (.bipush 48, 2) := dk_16 48 (dk_at dksX3_readAct_4 11 rfl rfl)
theorem dX3_readAct_107 : decode cX3_readAct 107 = .ok (.bipush 10, 2) := dk_16 10 (dk_at dksX3_readAct_4 13 rfl rfl)
theorem dX3_readAct_109 : decode cX3_readAct 109 = .ok (.invokevirtual 138, 3) := dk_182 0 138 (dk_at dksX3_readAct_4 15 rfl rfl)
theorem dX3_readAct_112 : decode cX3_readAct 112 = .ok (.iastore, 1) := dk_79 (dk_at dksX3_readAct_4 18 rfl rfl)
theorem dX3_readAct_113 : decode cX3_readAct 113 = .ok (.return_, 1) := dk_177 (dk_at dksX3_readAct_4 19 rfl rfl)
abbrev cX3_act : ByteArray := prog_9_method_64_code
def yX3_act : MethodName := ⟨RX3, "act", "(III)Z"⟩
def dkwX3_act_7 : List UInt8 := [42, 180, 0, 9, 28, 182, 1, 27, 4, 172]
abbrev dktX3_act_7 : List UInt8 := dkwX3_act_7 ++ []
def dkwX3_act_6 : List UInt8 := [172, 42, 28, 29, 182, 1, 11, 154, 0, 5, 3, 172, 42, 180, 0, 9, 28, 29, 184, 1, 15, 4, 172, 42]
abbrev dktX3_act_6 : List UInt8 := dkwX3_act_6 ++ dktX3_act_7
def dkwX3_act_5 : List UInt8 := [4, 172, 42, 28, 29, 182, 1, 8, 156, 0, 5, 3, 172, 42, 180, 0, 9, 16, 56, 28, 96, 29, 79, 4]
abbrev dktX3_act_5 : List UInt8 := dkwX3_act_5 ++ dktX3_act_6
def dkwX3_act_4 : List UInt8 := [42, 42, 180, 0, 9, 28, 29, 182, 1, 0, 156, 0, 5, 3, 172, 42, 180, 0, 9, 28, 29, 184, 1, 4]
abbrev dktX3_act_4 : List UInt8 := dkwX3_act_4 ++ dktX3_act_5
def dkwX3_act_3 : List UInt8 := [42, 42, 180, 0, 9, 28, 182, 0, 247, 156, 0, 5, 3, 172, 42, 180, 0, 9, 28, 184, 0, 250, 4, 172]
abbrev dktX3_act_3 : List UInt8 := dkwX3_act_3 ++ dktX3_act_4
def dkwX3_act_2 : List UInt8 := [42, 42, 180, 0, 9, 28, 182, 0, 233, 156, 0, 5, 3, 172, 42, 180, 0, 9, 28, 184, 0, 240, 4, 172]
abbrev dktX3_act_2 : List UInt8 := dkwX3_act_2 ++ dktX3_act_3
def dkwX3_act_1 : List UInt8 := [170, 0, 0, 0, 0, 0, 186, 0, 0, 0, 108, 0, 0, 0, 120, 0, 0, 0, 115, 0, 0, 0, 186, 0, 0, 0, 67, 0, 0, 0, 186, 0, 0, 0, 186, 0, 0, 0, 186, 0, 0, 0, 91, 0, 0, 0, 186, 0, 0, 0, 141, 0, 0, 0, 186, 0, 0, 0, 186, 0, 0, 0, 186, 0, 0, 0, 164]
abbrev dktX3_act_1 : List UInt8 := dkwX3_act_1 ++ dktX3_act_2
def dkwX3_act_0 : List UInt8 := [27]
abbrev dktX3_act_0 : List UInt8 := dkwX3_act_0 ++ dktX3_act_1
theorem dksX3_act_0 : cX3_act.data.toList.drop 0 = dktX3_act_0 := by decide +kernel
theorem dksX3_act_1 : cX3_act.data.toList.drop 1 = dktX3_act_1 := dk_seg dksX3_act_0 1 rfl rfl
theorem dksX3_act_2 : cX3_act.data.toList.drop 68 = dktX3_act_2 := dk_seg dksX3_act_1 67 rfl rfl
theorem dksX3_act_3 : cX3_act.data.toList.drop 92 = dktX3_act_3 := dk_seg dksX3_act_2 24 rfl rfl
theorem dksX3_act_4 : cX3_act.data.toList.drop 116 = dktX3_act_4 := dk_seg dksX3_act_3 24 rfl rfl
theorem dksX3_act_5 : cX3_act.data.toList.drop 140 = dktX3_act_5 := dk_seg dksX3_act_4 24 rfl rfl
theorem dksX3_act_6 : cX3_act.data.toList.drop 164 = dktX3_act_6 := dk_seg dksX3_act_5 24 rfl rfl
theorem dksX3_act_7 : cX3_act.data.toList.drop 188 = dktX3_act_7 := dk_seg dksX3_act_6 24 rfl rfl
theorem dX3_act_0 : decode cX3_act 0 = .ok (.iload_n 1, 1) := dk_27 (dk_at dksX3_act_0 0 rfl rfl)
theorem dX3_act_1 : decode cX3_act 1 = .ok (.tableswitch 186 108 120 #[115, 186, 67, 186, 186, 186, 91, 186, 141, 186, 186, 186, 164], 67) := by decide +kernel
theorem dX3_act_68 : decode cX3_act 68 = .ok (.aload_n 0, 1) := dk_42 (dk_at dksX3_act_2 0 rfl rfl)
theorem dX3_act_69 : decode cX3_act 69 = .ok (.aload_n 0, 1) := dk_42 (dk_at dksX3_act_2 1 rfl rfl)
theorem dX3_act_70 : decode cX3_act 70 = .ok (.getfield 9, 3) := dk_180 0 9 (dk_at dksX3_act_2 2 rfl rfl)
theorem dX3_act_73 : decode cX3_act 73 = .ok (.iload_n 2, 1) := dk_28 (dk_at dksX3_act_2 5 rfl rfl)
theorem dX3_act_74 : decode cX3_act 74 = .ok (.invokevirtual 233, 3) := dk_182 0 233 (dk_at dksX3_act_2 6 rfl rfl)
theorem dX3_act_77 : decode cX3_act 77 = .ok (.ifCond .ge 5, 3) := dk_156 0 5 (dk_at dksX3_act_2 9 rfl rfl)
theorem dX3_act_80 : decode cX3_act 80 = .ok (.iconst 0, 1) := dk_3 (dk_at dksX3_act_2 12 rfl rfl)
theorem dX3_act_81 : decode cX3_act 81 = .ok (.ireturn, 1) := dk_172 (dk_at dksX3_act_2 13 rfl rfl)
theorem dX3_act_82 : decode cX3_act 82 = .ok (.aload_n 0, 1) := dk_42 (dk_at dksX3_act_2 14 rfl rfl)
theorem dX3_act_83 : decode cX3_act 83 = .ok (.getfield 9, 3) := dk_180 0 9 (dk_at dksX3_act_2 15 rfl rfl)
theorem dX3_act_86 : decode cX3_act 86 = .ok (.iload_n 2, 1) := dk_28 (dk_at dksX3_act_2 18 rfl rfl)
theorem dX3_act_87 : decode cX3_act 87 = .ok (.invokestatic 240, 3) := dk_184 0 240 (dk_at dksX3_act_2 19 rfl rfl)
theorem dX3_act_90 : decode cX3_act 90 = .ok (.iconst 1, 1) := dk_4 (dk_at dksX3_act_2 22 rfl rfl)
theorem dX3_act_91 : decode cX3_act 91 = .ok (.ireturn, 1) := dk_172 (dk_at dksX3_act_2 23 rfl rfl)
theorem dX3_act_92 : decode cX3_act 92 = .ok (.aload_n 0, 1) := dk_42 (dk_at dksX3_act_3 0 rfl rfl)
theorem dX3_act_93 : decode cX3_act 93 = .ok (.aload_n 0, 1) := dk_42 (dk_at dksX3_act_3 1 rfl rfl)
theorem dX3_act_94 : decode cX3_act 94 = .ok (.getfield 9, 3) := dk_180 0 9 (dk_at dksX3_act_3 2 rfl rfl)
theorem dX3_act_97 : decode cX3_act 97 = .ok (.iload_n 2, 1) := dk_28 (dk_at dksX3_act_3 5 rfl rfl)
theorem dX3_act_98 : decode cX3_act 98 = .ok (.invokevirtual 247, 3) := dk_182 0 247 (dk_at dksX3_act_3 6 rfl rfl)
theorem dX3_act_101 : decode cX3_act 101 = .ok (.ifCond .ge 5, 3) := dk_156 0 5 (dk_at dksX3_act_3 9 rfl rfl)
theorem dX3_act_104 : decode cX3_act 104 = .ok (.iconst 0, 1) := dk_3 (dk_at dksX3_act_3 12 rfl rfl)
theorem dX3_act_105 : decode cX3_act 105 = .ok (.ireturn, 1) := dk_172 (dk_at dksX3_act_3 13 rfl rfl)
theorem dX3_act_106 : decode cX3_act 106 = .ok (.aload_n 0, 1) := dk_42 (dk_at dksX3_act_3 14 rfl rfl)
theorem dX3_act_107 : decode cX3_act 107 = .ok (.getfield 9, 3) := dk_180 0 9 (dk_at dksX3_act_3 15 rfl rfl)
theorem dX3_act_110 : decode cX3_act 110 = .ok (.iload_n 2, 1) := dk_28 (dk_at dksX3_act_3 18 rfl rfl)
theorem dX3_act_111 : decode cX3_act 111 = .ok (.invokestatic 250, 3) := dk_184 0 250 (dk_at dksX3_act_3 19 rfl rfl)
theorem dX3_act_114 : decode cX3_act 114 = .ok (.iconst 1, 1) := dk_4 (dk_at dksX3_act_3 22 rfl rfl)
theorem dX3_act_115 : decode cX3_act 115 = .ok (.ireturn, 1) := dk_172 (dk_at dksX3_act_3 23 rfl rfl)
theorem dX3_act_116 : decode cX3_act 116 = .ok (.aload_n 0, 1) := dk_42 (dk_at dksX3_act_4 0 rfl rfl)
theorem dX3_act_117 : decode cX3_act 117 = .ok (.aload_n 0, 1) := dk_42 (dk_at dksX3_act_4 1 rfl rfl)
theorem dX3_act_118 : decode cX3_act 118 = .ok (.getfield 9, 3) := dk_180 0 9 (dk_at dksX3_act_4 2 rfl rfl)
theorem dX3_act_121 : decode cX3_act 121 = .ok (.iload_n 2, 1) := dk_28 (dk_at dksX3_act_4 5 rfl rfl)
theorem dX3_act_122 : decode cX3_act 122 = .ok (.iload_n 3, 1) := dk_29 (dk_at dksX3_act_4 6 rfl rfl)
theorem dX3_act_123 : decode cX3_act 123 = .ok (.invokevirtual 256, 3) := dk_182 1 0 (dk_at dksX3_act_4 7 rfl rfl)
theorem dX3_act_126 : decode cX3_act 126 = .ok (.ifCond .ge 5, 3) := dk_156 0 5 (dk_at dksX3_act_4 10 rfl rfl)
theorem dX3_act_129 : decode cX3_act 129 = .ok (.iconst 0, 1) := dk_3 (dk_at dksX3_act_4 13 rfl rfl)
theorem dX3_act_130 : decode cX3_act 130 = .ok (.ireturn, 1) := dk_172 (dk_at dksX3_act_4 14 rfl rfl)
theorem dX3_act_131 : decode cX3_act 131 = .ok (.aload_n 0, 1) := dk_42 (dk_at dksX3_act_4 15 rfl rfl)
theorem dX3_act_132 : decode cX3_act 132 = .ok (.getfield 9, 3) := dk_180 0 9 (dk_at dksX3_act_4 16 rfl rfl)
theorem dX3_act_135 : decode cX3_act 135 = .ok (.iload_n 2, 1) := dk_28 (dk_at dksX3_act_4 19 rfl rfl)
theorem dX3_act_136 : decode cX3_act 136 = .ok (.iload_n 3, 1) := dk_29 (dk_at dksX3_act_4 20 rfl rfl)
theorem dX3_act_137 : decode cX3_act 137 = .ok (.invokestatic 260, 3) := dk_184 1 4 (dk_at dksX3_act_4 21 rfl rfl)
theorem dX3_act_140 : decode cX3_act 140 = .ok (.iconst 1, 1) := dk_4 (dk_at dksX3_act_5 0 rfl rfl)
theorem dX3_act_141 : decode cX3_act 141 = .ok (.ireturn, 1) := dk_172 (dk_at dksX3_act_5 1 rfl rfl)
theorem dX3_act_142 : decode cX3_act 142 = .ok (.aload_n 0, 1) := dk_42 (dk_at dksX3_act_5 2 rfl rfl)
theorem dX3_act_143 : decode cX3_act 143 = .ok (.iload_n 2, 1) := dk_28 (dk_at dksX3_act_5 3 rfl rfl)
theorem dX3_act_144 : decode cX3_act 144 = .ok (.iload_n 3, 1) := dk_29 (dk_at dksX3_act_5 4 rfl rfl)
theorem dX3_act_145 : decode cX3_act 145 = .ok (.invokevirtual 264, 3) := dk_182 1 8 (dk_at dksX3_act_5 5 rfl rfl)
theorem dX3_act_148 : decode cX3_act 148 = .ok (.ifCond .ge 5, 3) := dk_156 0 5 (dk_at dksX3_act_5 8 rfl rfl)
theorem dX3_act_151 : decode cX3_act 151 = .ok (.iconst 0, 1) := dk_3 (dk_at dksX3_act_5 11 rfl rfl)
theorem dX3_act_152 : decode cX3_act 152 = .ok (.ireturn, 1) := dk_172 (dk_at dksX3_act_5 12 rfl rfl)
theorem dX3_act_153 : decode cX3_act 153 = .ok (.aload_n 0, 1) := dk_42 (dk_at dksX3_act_5 13 rfl rfl)
theorem dX3_act_154 : decode cX3_act 154 = .ok (.getfield 9, 3) := dk_180 0 9 (dk_at dksX3_act_5 14 rfl rfl)
theorem dX3_act_157 : decode cX3_act 157 = .ok (.bipush 56, 2) := dk_16 56 (dk_at dksX3_act_5 17 rfl rfl)
theorem dX3_act_159 : decode cX3_act 159 = .ok (.iload_n 2, 1) := dk_28 (dk_at dksX3_act_5 19 rfl rfl)
theorem dX3_act_160 : decode cX3_act 160 = .ok (.iadd, 1) := dk_96 (dk_at dksX3_act_5 20 rfl rfl)
theorem dX3_act_161 : decode cX3_act 161 = .ok (.iload_n 3, 1) := dk_29 (dk_at dksX3_act_5 21 rfl rfl)
theorem dX3_act_162 : decode cX3_act 162 = .ok (.iastore, 1) := dk_79 (dk_at dksX3_act_5 22 rfl rfl)
theorem dX3_act_163 : decode cX3_act 163 = .ok (.iconst 1, 1) := dk_4 (dk_at dksX3_act_5 23 rfl rfl)
theorem dX3_act_164 : decode cX3_act 164 = .ok (.ireturn, 1) := dk_172 (dk_at dksX3_act_6 0 rfl rfl)
theorem dX3_act_165 : decode cX3_act 165 = .ok (.aload_n 0, 1) := dk_42 (dk_at dksX3_act_6 1 rfl rfl)
theorem dX3_act_166 : decode cX3_act 166 = .ok (.iload_n 2, 1) := dk_28 (dk_at dksX3_act_6 2 rfl rfl)
theorem dX3_act_167 : decode cX3_act 167 = .ok (.iload_n 3, 1) := dk_29 (dk_at dksX3_act_6 3 rfl rfl)
theorem dX3_act_168 : decode cX3_act 168 = .ok (.invokevirtual 267, 3) := dk_182 1 11 (dk_at dksX3_act_6 4 rfl rfl)
theorem dX3_act_171 : decode cX3_act 171 = .ok (.ifCond .ne 5, 3) := dk_154 0 5 (dk_at dksX3_act_6 7 rfl rfl)
theorem dX3_act_174 : decode cX3_act 174 = .ok (.iconst 0, 1) := dk_3 (dk_at dksX3_act_6 10 rfl rfl)
theorem dX3_act_175 : decode cX3_act 175 = .ok (.ireturn, 1) := dk_172 (dk_at dksX3_act_6 11 rfl rfl)
theorem dX3_act_176 : decode cX3_act 176 = .ok (.aload_n 0, 1) := dk_42 (dk_at dksX3_act_6 12 rfl rfl)
theorem dX3_act_177 : decode cX3_act 177 = .ok (.getfield 9, 3) := dk_180 0 9 (dk_at dksX3_act_6 13 rfl rfl)
theorem dX3_act_180 : decode cX3_act 180 = .ok (.iload_n 2, 1) := dk_28 (dk_at dksX3_act_6 16 rfl rfl)
theorem dX3_act_181 : decode cX3_act 181 = .ok (.iload_n 3, 1) := dk_29 (dk_at dksX3_act_6 17 rfl rfl)
theorem dX3_act_182 : decode cX3_act 182 = .ok (.invokestatic 271, 3) := dk_184 1 15 (dk_at dksX3_act_6 18 rfl rfl)
theorem dX3_act_185 : decode cX3_act 185 = .ok (.iconst 1, 1) := dk_4 (dk_at dksX3_act_6 21 rfl rfl)
theorem dX3_act_186 : decode cX3_act 186 = .ok (.ireturn, 1) := dk_172 (dk_at dksX3_act_6 22 rfl rfl)
theorem dX3_act_187 : decode cX3_act 187 = .ok (.aload_n 0, 1) := dk_42 (dk_at dksX3_act_6 23 rfl rfl)
theorem dX3_act_188 : decode cX3_act 188 = .ok (.aload_n 0, 1) := dk_42 (dk_at dksX3_act_7 0 rfl rfl)
theorem dX3_act_189 : decode cX3_act 189 = .ok (.getfield 9, 3) := dk_180 0 9 (dk_at dksX3_act_7 1 rfl rfl)
theorem dX3_act_192 : decode cX3_act 192 = .ok (.iload_n 2, 1) := dk_28 (dk_at dksX3_act_7 4 rfl rfl)
theorem dX3_act_193 : decode cX3_act 193 = .ok (.invokevirtual 283, 3) := dk_182 1 27 (dk_at dksX3_act_7 5 rfl rfl)
theorem dX3_act_196 : decode cX3_act 196 = .ok (.iconst 1, 1) := dk_4 (dk_at dksX3_act_7 8 rfl rfl)
theorem dX3_act_197 : decode cX3_act 197 = .ok (.ireturn, 1) := dk_172 (dk_at dksX3_act_7 9 rfl rfl)
abbrev cX3_undo : ByteArray := prog_9_method_65_code
def yX3_undo : MethodName := ⟨RX3, "undo", "()I"⟩
def dkwX3_undo_2 : List UInt8 := [27, 96, 46, 79, 132, 1, 1, 167, 255, 227, 42, 180, 0, 155, 172]
abbrev dktX3_undo_2 : List UInt8 := dkwX3_undo_2 ++ []
def dkwX3_undo_1 : List UInt8 := [3, 60, 27, 16, 83, 162, 0, 29, 42, 180, 0, 9, 27, 42, 180, 0, 37, 16, 83, 42, 180, 0, 155, 104]
abbrev dktX3_undo_1 : List UInt8 := dkwX3_undo_1 ++ dktX3_undo_2
def dkwX3_undo_0 : List UInt8 := [42, 3, 181, 0, 83, 42, 180, 0, 155, 154, 0, 5, 2, 172, 42, 89, 180, 0, 155, 4, 100, 181, 0, 155]
abbrev dktX3_undo_0 : List UInt8 := dkwX3_undo_0 ++ dktX3_undo_1
theorem dksX3_undo_0 : cX3_undo.data.toList.drop 0 = dktX3_undo_0 := by decide +kernel
theorem dksX3_undo_1 : cX3_undo.data.toList.drop 24 = dktX3_undo_1 := dk_seg dksX3_undo_0 24 rfl rfl
theorem dksX3_undo_2 : cX3_undo.data.toList.drop 48 = dktX3_undo_2 := dk_seg dksX3_undo_1 24 rfl rfl
theorem dX3_undo_0 : decode cX3_undo 0 = .ok (.aload_n 0, 1) := dk_42 (dk_at dksX3_undo_0 0 rfl rfl)
theorem dX3_undo_1 : decode cX3_undo 1 = .ok (.iconst 0, 1) := dk_3 (dk_at dksX3_undo_0 1 rfl rfl)
theorem dX3_undo_2 : decode cX3_undo 2 = .ok (.putfield 83, 3) := dk_181 0 83 (dk_at dksX3_undo_0 2 rfl rfl)
theorem dX3_undo_5 : decode cX3_undo 5 = .ok (.aload_n 0, 1) := dk_42 (dk_at dksX3_undo_0 5 rfl rfl)
theorem dX3_undo_6 : decode cX3_undo 6 = .ok (.getfield 155, 3) := dk_180 0 155 (dk_at dksX3_undo_0 6 rfl rfl)
theorem dX3_undo_9 : decode cX3_undo 9 = .ok (.ifCond .ne 5, 3) := dk_154 0 5 (dk_at dksX3_undo_0 9 rfl rfl)
theorem dX3_undo_12 : decode cX3_undo 12 = .ok (.iconst (-1), 1) := dk_2 (dk_at dksX3_undo_0 12 rfl rfl)
theorem dX3_undo_13 : decode cX3_undo 13 = .ok (.ireturn, 1) := dk_172 (dk_at dksX3_undo_0 13 rfl rfl)
theorem dX3_undo_14 : decode cX3_undo 14 = .ok (.aload_n 0, 1) := dk_42 (dk_at dksX3_undo_0 14 rfl rfl)
theorem dX3_undo_15 : decode cX3_undo 15 = .ok (.dup, 1) := dk_89 (dk_at dksX3_undo_0 15 rfl rfl)
theorem dX3_undo_16 : decode cX3_undo 16 = .ok (.getfield 155, 3) := dk_180 0 155 (dk_at dksX3_undo_0 16 rfl rfl)
theorem dX3_undo_19 : decode cX3_undo 19 = .ok (.iconst 1, 1) := dk_4 (dk_at dksX3_undo_0 19 rfl rfl)
theorem dX3_undo_20 : decode cX3_undo 20 = .ok (.isub, 1) := dk_100 (dk_at dksX3_undo_0 20 rfl rfl)
theorem dX3_undo_21 : decode cX3_undo 21 = .ok (.putfield 155, 3) := dk_181 0 155 (dk_at dksX3_undo_0 21 rfl rfl)
theorem dX3_undo_24 : decode cX3_undo 24 = .ok (.iconst 0, 1) := dk_3 (dk_at dksX3_undo_1 0 rfl rfl)
theorem dX3_undo_25 : decode cX3_undo 25 = .ok (.istore_n 1, 1) := dk_60 (dk_at dksX3_undo_1 1 rfl rfl)
theorem dX3_undo_26 : decode cX3_undo 26 = .ok (.iload_n 1, 1) := dk_27 (dk_at dksX3_undo_1 2 rfl rfl)
theorem dX3_undo_27 : decode cX3_undo 27 = .ok (.bipush 83, 2) := dk_16 83 (dk_at dksX3_undo_1 3 rfl rfl)
theorem dX3_undo_29 : decode cX3_undo 29 = .ok (.if_icmp .ge 29, 3) := dk_162 0 29 (dk_at dksX3_undo_1 5 rfl rfl)
theorem dX3_undo_32 : decode cX3_undo 32 = .ok (.aload_n 0, 1) := dk_42 (dk_at dksX3_undo_1 8 rfl rfl)
theorem dX3_undo_33 : decode cX3_undo 33 = .ok (.getfield 9, 3) := dk_180 0 9 (dk_at dksX3_undo_1 9 rfl rfl)
theorem dX3_undo_36 : decode cX3_undo 36 = .ok (.iload_n 1, 1) := dk_27 (dk_at dksX3_undo_1 12 rfl rfl)
theorem dX3_undo_37 : decode cX3_undo 37 = .ok (.aload_n 0, 1) := dk_42 (dk_at dksX3_undo_1 13 rfl rfl)
theorem dX3_undo_38 : decode cX3_undo 38 = .ok (.getfield 37, 3) := dk_180 0 37 (dk_at dksX3_undo_1 14 rfl rfl)
theorem dX3_undo_41 : decode cX3_undo 41 = .ok (.bipush 83, 2) := dk_16 83 (dk_at dksX3_undo_1 17 rfl rfl)
theorem dX3_undo_43 : decode cX3_undo 43 = .ok (.aload_n 0, 1) := dk_42 (dk_at dksX3_undo_1 19 rfl rfl)
theorem dX3_undo_44 : decode cX3_undo 44 = .ok (.getfield 155, 3) := dk_180 0 155 (dk_at dksX3_undo_1 20 rfl rfl)
theorem dX3_undo_47 : decode cX3_undo 47 = .ok (.imul, 1) := dk_104 (dk_at dksX3_undo_1 23 rfl rfl)
theorem dX3_undo_48 : decode cX3_undo 48 = .ok (.iload_n 1, 1) := dk_27 (dk_at dksX3_undo_2 0 rfl rfl)
theorem dX3_undo_49 : decode cX3_undo 49 = .ok (.iadd, 1) := dk_96 (dk_at dksX3_undo_2 1 rfl rfl)
theorem dX3_undo_50 : decode cX3_undo 50 = .ok (.iaload, 1) := dk_46 (dk_at dksX3_undo_2 2 rfl rfl)
theorem dX3_undo_51 : decode cX3_undo 51 = .ok (.iastore, 1) := dk_79 (dk_at dksX3_undo_2 3 rfl rfl)
theorem dX3_undo_52 : decode cX3_undo 52 = .ok (.iinc 1 1, 3) := dk_132 1 1 (dk_at dksX3_undo_2 4 rfl rfl)
theorem dX3_undo_55 : decode cX3_undo 55 = .ok (.goto (-29), 3) := dk_167 255 227 (dk_at dksX3_undo_2 7 rfl rfl)
theorem dX3_undo_58 : decode cX3_undo 58 = .ok (.aload_n 0, 1) := dk_42 (dk_at dksX3_undo_2 10 rfl rfl)
theorem dX3_undo_59 : decode cX3_undo 59 = .ok (.getfield 155, 3) := dk_180 0 155 (dk_at dksX3_undo_2 11 rfl rfl)
theorem dX3_undo_62 : decode cX3_undo 62 = .ok (.ireturn, 1) := dk_172 (dk_at dksX3_undo_2 14 rfl rfl)
abbrev cX3_odd : ByteArray := prog_9_method_66_code
def yX3_odd : MethodName := ⟨RX3, "odd", "(II)I"⟩
def dkwX3_odd_1 : List UInt8 := [180, 0, 9, 27, 28, 182, 1, 40, 184, 1, 43, 167, 0, 4, 2, 172]
abbrev dktX3_odd_1 : List UInt8 := dkwX3_odd_1 ++ []
def dkwX3_odd_0 : List UInt8 := [42, 3, 181, 0, 83, 42, 27, 182, 0, 96, 153, 0, 26, 28, 184, 0, 253, 153, 0, 19, 42, 42]
abbrev dktX3_odd_0 : List UInt8 := dkwX3_odd_0 ++ dktX3_odd_1
theorem dksX3_odd_0 : cX3_odd.data.toList.drop 0 = dktX3_odd_0 := by decide +kernel
theorem dksX3_odd_1 : cX3_odd.data.toList.drop 22 = dktX3_odd_1 := dk_seg dksX3_odd_0 22 rfl rfl
theorem dX3_odd_0 : decode cX3_odd 0 = .ok (.aload_n 0, 1) := dk_42 (dk_at dksX3_odd_0 0 rfl rfl)
theorem dX3_odd_1 : decode cX3_odd 1 = .ok (.iconst 0, 1) := dk_3 (dk_at dksX3_odd_0 1 rfl rfl)
theorem dX3_odd_2 : decode cX3_odd 2 = .ok (.putfield 83, 3) := dk_181 0 83 (dk_at dksX3_odd_0 2 rfl rfl)
theorem dX3_odd_5 : decode cX3_odd 5 = .ok (.aload_n 0, 1) := dk_42 (dk_at dksX3_odd_0 5 rfl rfl)
theorem dX3_odd_6 : decode cX3_odd 6 = .ok (.iload_n 1, 1) := dk_27 (dk_at dksX3_odd_0 6 rfl rfl)
theorem dX3_odd_7 : decode cX3_odd 7 = .ok (.invokevirtual 96, 3) := dk_182 0 96 (dk_at dksX3_odd_0 7 rfl rfl)
theorem dX3_odd_10 : decode cX3_odd 10 = .ok (.ifCond .eq 26, 3) := dk_153 0 26 (dk_at dksX3_odd_0 10 rfl rfl)
theorem dX3_odd_13 : decode cX3_odd 13 = .ok (.iload_n 2, 1) := dk_28 (dk_at dksX3_odd_0 13 rfl rfl)
theorem dX3_odd_14 : decode cX3_odd 14 = .ok (.invokestatic 253, 3) := dk_184 0 253 (dk_at dksX3_odd_0 14 rfl rfl)
theorem dX3_odd_17 : decode cX3_odd 17 = .ok (.ifCond .eq 19, 3) := dk_153 0 19 (dk_at dksX3_odd_0 17 rfl rfl)
theorem dX3_odd_20 : decode cX3_odd 20 = .ok (.aload_n 0, 1) := dk_42 (dk_at dksX3_odd_0 20 rfl rfl)
theorem dX3_odd_21 : decode cX3_odd 21 = .ok (.aload_n 0, 1) := dk_42 (dk_at dksX3_odd_0 21 rfl rfl)
theorem dX3_odd_22 : decode cX3_odd 22 = .ok (.getfield 9, 3) := dk_180 0 9 (dk_at dksX3_odd_1 0 rfl rfl)
theorem dX3_odd_25 : decode cX3_odd 25 = .ok (.iload_n 1, 1) := dk_27 (dk_at dksX3_odd_1 3 rfl rfl)
theorem dX3_odd_26 : decode cX3_odd 26 = .ok (.iload_n 2, 1) := dk_28 (dk_at dksX3_odd_1 4 rfl rfl)
theorem dX3_odd_27 : decode cX3_odd 27 = .ok (.invokevirtual 296, 3) := dk_182 1 40 (dk_at dksX3_odd_1 5 rfl rfl)
theorem dX3_odd_30 : decode cX3_odd 30 = .ok (.invokestatic 299, 3) := dk_184 1 43 (dk_at dksX3_odd_1 8 rfl rfl)
theorem dX3_odd_33 : decode cX3_odd 33 = .ok (.goto 4, 3) := dk_167 0 4 (dk_at dksX3_odd_1 11 rfl rfl)
theorem dX3_odd_36 : decode cX3_odd 36 = .ok (.iconst (-1), 1) := dk_2 (dk_at dksX3_odd_1 14 rfl rfl)
theorem dX3_odd_37 : decode cX3_odd 37 = .ok (.ireturn, 1) := dk_172 (dk_at dksX3_odd_1 15 rfl rfl)
abbrev cX3_oddLaid : ByteArray := prog_9_method_35_code
def yX3_oddLaid : MethodName := ⟨RX3, "oddLaid", "([III)I"⟩
def dkwX3_oddLaid_1 : List UInt8 := [120, 128, 184, 0, 206, 182, 0, 211, 172]
abbrev dktX3_oddLaid_1 : List UInt8 := dkwX3_oddLaid_1 ++ []
def dkwX3_oddLaid_0 : List UInt8 := [42, 43, 28, 29, 3, 3, 43, 16, 24, 28, 96, 46, 4, 100, 184, 0, 198, 42, 43, 182, 0, 202, 4, 28]
abbrev dktX3_oddLaid_0 : List UInt8 := dkwX3_oddLaid_0 ++ dktX3_oddLaid_1
theorem dksX3_oddLaid_0 : cX3_oddLaid.data.toList.drop 0 = dktX3_oddLaid_0 := by decide +kernel
theorem dksX3_oddLaid_1 : cX3_oddLaid.data.toList.drop 24 = dktX3_oddLaid_1 := dk_seg dksX3_oddLaid_0 24 rfl rfl
theorem dX3_oddLaid_0 : decode cX3_oddLaid 0 = .ok (.aload_n 0, 1) := dk_42 (dk_at dksX3_oddLaid_0 0 rfl rfl)
theorem dX3_oddLaid_1 : decode cX3_oddLaid 1 = .ok (.aload_n 1, 1) := dk_43 (dk_at dksX3_oddLaid_0 1 rfl rfl)
theorem dX3_oddLaid_2 : decode cX3_oddLaid 2 = .ok (.iload_n 2, 1) := dk_28 (dk_at dksX3_oddLaid_0 2 rfl rfl)
theorem dX3_oddLaid_3 : decode cX3_oddLaid 3 = .ok (.iload_n 3, 1) := dk_29 (dk_at dksX3_oddLaid_0 3 rfl rfl)
theorem dX3_oddLaid_4 : decode cX3_oddLaid 4 = .ok (.iconst 0, 1) := dk_3 (dk_at dksX3_oddLaid_0 4 rfl rfl)
theorem dX3_oddLaid_5 : decode cX3_oddLaid 5 = .ok (.iconst 0, 1) := dk_3 (dk_at dksX3_oddLaid_0 5 rfl rfl)
theorem dX3_oddLaid_6 : decode cX3_oddLaid 6 = .ok (.aload_n 1, 1) := dk_43 (dk_at dksX3_oddLaid_0 6 rfl rfl)
theorem dX3_oddLaid_7 : decode cX3_oddLaid 7 = .ok (.bipush 24, 2) := dk_16 24 (dk_at dksX3_oddLaid_0 7 rfl rfl)
theorem dX3_oddLaid_9 : decode cX3_oddLaid 9 = .ok (.iload_n 2, 1) := dk_28 (dk_at dksX3_oddLaid_0 9 rfl rfl)
theorem dX3_oddLaid_10 : decode cX3_oddLaid 10 = .ok (.iadd, 1) := dk_96 (dk_at dksX3_oddLaid_0 10 rfl rfl)
theorem dX3_oddLaid_11 : decode cX3_oddLaid 11 = .ok (.iaload, 1) := dk_46 (dk_at dksX3_oddLaid_0 11 rfl rfl)
theorem dX3_oddLaid_12 : decode cX3_oddLaid 12 = .ok (.iconst 1, 1) := dk_4 (dk_at dksX3_oddLaid_0 12 rfl rfl)
theorem dX3_oddLaid_13 : decode cX3_oddLaid 13 = .ok (.isub, 1) := dk_100 (dk_at dksX3_oddLaid_0 13 rfl rfl)
theorem dX3_oddLaid_14 : decode cX3_oddLaid 14 = .ok (.invokestatic 198, 3) := dk_184 0 198 (dk_at dksX3_oddLaid_0 14 rfl rfl)
theorem dX3_oddLaid_17 : decode cX3_oddLaid 17 = .ok (.aload_n 0, 1) := dk_42 (dk_at dksX3_oddLaid_0 17 rfl rfl)
theorem dX3_oddLaid_18 : decode cX3_oddLaid 18 = .ok (.aload_n 1, 1) := dk_43 (dk_at dksX3_oddLaid_0 18 rfl rfl)
theorem dX3_oddLaid_19 : decode cX3_oddLaid 19 = .ok (.invokevirtual 202, 3) := dk_182 0 202 (dk_at dksX3_oddLaid_0 19 rfl rfl)
theorem dX3_oddLaid_22 : decode cX3_oddLaid 22 = .ok (.iconst 1, 1) := dk_4 (dk_at dksX3_oddLaid_0 22 rfl rfl)
theorem dX3_oddLaid_23 : decode cX3_oddLaid 23 = .ok (.iload_n 2, 1) := dk_28 (dk_at dksX3_oddLaid_0 23 rfl rfl)
theorem dX3_oddLaid_24 : decode cX3_oddLaid 24 = .ok (.ishl, 1) := dk_120 (dk_at dksX3_oddLaid_1 0 rfl rfl)
theorem dX3_oddLaid_25 : decode cX3_oddLaid 25 = .ok (.ior, 1) := dk_128 (dk_at dksX3_oddLaid_1 1 rfl rfl)
theorem dX3_oddLaid_26 : decode cX3_oddLaid 26 = .ok (.invokestatic 206, 3) := dk_184 0 206 (dk_at dksX3_oddLaid_1 2 rfl rfl)
theorem dX3_oddLaid_29 : decode cX3_oddLaid 29 = .ok (.invokevirtual 211, 3) := dk_182 0 211 (dk_at dksX3_oddLaid_1 5 rfl rfl)
theorem dX3_oddLaid_32 : decode cX3_oddLaid 32 = .ok (.ireturn, 1) := dk_172 (dk_at dksX3_oddLaid_1 8 rfl rfl)
abbrev cX3_put : ByteArray := prog_9_method_36_code
def yX3_put : MethodName := ⟨RX3, "put", "(I)I"⟩
def dkwX3_put_0 : List UInt8 := [17, 3, 232, 17, 252, 25, 17, 3, 231, 26, 184, 0, 215, 184, 0, 198, 96, 172]
abbrev dktX3_put_0 : List UInt8 := dkwX3_put_0 ++ []
theorem dksX3_put_0 : cX3_put.data.toList.drop 0 = dktX3_put_0 := by decide +kernel
theorem dX3_put_0 : decode cX3_put 0 = .ok (.sipush 1000, 3) := dk_17 3 232 (dk_at dksX3_put_0 0 rfl rfl)
theorem dX3_put_3 : decode cX3_put 3 = .ok (.sipush (-999), 3) := dk_17 252 25 (dk_at dksX3_put_0 3 rfl rfl)
theorem dX3_put_6 : decode cX3_put 6 = .ok (.sipush 999, 3) := dk_17 3 231 (dk_at dksX3_put_0 6 rfl rfl)
theorem dX3_put_9 : decode cX3_put 9 = .ok (.iload_n 0, 1) := dk_26 (dk_at dksX3_put_0 9 rfl rfl)
theorem dX3_put_10 : decode cX3_put 10 = .ok (.invokestatic 215, 3) := dk_184 0 215 (dk_at dksX3_put_0 10 rfl rfl)
theorem dX3_put_13 : decode cX3_put 13 = .ok (.invokestatic 198, 3) := dk_184 0 198 (dk_at dksX3_put_0 13 rfl rfl)
theorem dX3_put_16 : decode cX3_put 16 = .ok (.iadd, 1) := dk_96 (dk_at dksX3_put_0 16 rfl rfl)
theorem dX3_put_17 : decode cX3_put 17 = .ok (.ireturn, 1) := dk_172 (dk_at dksX3_put_0 17 rfl rfl)
abbrev cX3_colours : ByteArray := prog_9_method_67_code
def yX3_colours : MethodName := ⟨RX3, "colours", "(I)I"⟩
def dkwX3_colours_4 : List UInt8 := [42, 28, 184, 0, 206, 133, 182, 1, 30, 42, 29, 133, 182, 1, 30, 28, 172]
abbrev dktX3_colours_4 : List UInt8 := dkwX3_colours_4 ++ []
def dkwX3_colours_3 : List UInt8 := [182, 1, 40, 162, 0, 8, 21, 4, 167, 0, 4, 29, 62, 132, 4, 1, 167, 255, 194, 42, 3, 181, 0, 86]
abbrev dktX3_colours_3 : List UInt8 := dkwX3_colours_3 ++ dktX3_colours_4
def dkwX3_colours_2 : List UInt8 := [163, 0, 10, 4, 21, 4, 120, 167, 0, 4, 3, 128, 61, 21, 5, 42, 42, 180, 0, 9, 27, 29]
abbrev dktX3_colours_2 : List UInt8 := dkwX3_colours_2 ++ dktX3_colours_3
def dkwX3_colours_1 : List UInt8 := [16, 10, 162, 0, 61, 42, 42, 180, 0, 9, 27, 21, 4, 182, 1, 40, 54, 5, 28, 21, 5, 8]
abbrev dktX3_colours_1 : List UInt8 := dkwX3_colours_1 ++ dktX3_colours_2
def dkwX3_colours_0 : List UInt8 := [42, 3, 181, 0, 83, 42, 27, 182, 0, 96, 154, 0, 5, 2, 172, 3, 61, 3, 62, 3, 54, 4, 21, 4]
abbrev dktX3_colours_0 : List UInt8 := dkwX3_colours_0 ++ dktX3_colours_1
theorem dksX3_colours_0 : cX3_colours.data.toList.drop 0 = dktX3_colours_0 := by decide +kernel
theorem dksX3_colours_1 : cX3_colours.data.toList.drop 24 = dktX3_colours_1 := dk_seg dksX3_colours_0 24 rfl rfl
theorem dksX3_colours_2 : cX3_colours.data.toList.drop 46 = dktX3_colours_2 := dk_seg dksX3_colours_1 22 rfl rfl
theorem dksX3_colours_3 : cX3_colours.data.toList.drop 68 = dktX3_colours_3 := dk_seg dksX3_colours_2 22 rfl rfl
theorem dksX3_colours_4 : cX3_colours.data.toList.drop 92 = dktX3_colours_4 := dk_seg dksX3_colours_3 24 rfl rfl
theorem dX3_colours_0 : decode cX3_colours 0 = .ok (.aload_n 0, 1) := dk_42 (dk_at dksX3_colours_0 0 rfl rfl)
theorem dX3_colours_1 : decode cX3_colours 1 = .ok (.iconst 0, 1) := dk_3 (dk_at dksX3_colours_0 1 rfl rfl)
theorem dX3_colours_2 : decode cX3_colours 2 = .ok (.putfield 83, 3) := dk_181 0 83 (dk_at dksX3_colours_0 2 rfl rfl)
theorem dX3_colours_5 : decode cX3_colours 5 = .ok (.aload_n 0, 1) := dk_42 (dk_at dksX3_colours_0 5 rfl rfl)
theorem dX3_colours_6 : decode cX3_colours 6 = .ok (.iload_n 1, 1) := dk_27 (dk_at dksX3_colours_0 6 rfl rfl)
theorem dX3_colours_7 : decode cX3_colours 7 = .ok (.invokevirtual 96, 3) := dk_182 0 96 (dk_at dksX3_colours_0 7 rfl rfl)
theorem dX3_colours_10 : decode cX3_colours 10 = .ok (.ifCond .ne 5, 3) := dk_154 0 5 (dk_at dksX3_colours_0 10 rfl rfl)
theorem dX3_colours_13 : decode cX3_colours 13 = .ok (.iconst (-1), 1) := dk_2 (dk_at dksX3_colours_0 13 rfl rfl)
theorem dX3_colours_14 : decode cX3_colours 14 = .ok (.ireturn, 1) := dk_172 (dk_at dksX3_colours_0 14 rfl rfl)
theorem dX3_colours_15 : decode cX3_colours 15 = .ok (.iconst 0, 1) := dk_3 (dk_at dksX3_colours_0 15 rfl rfl)
theorem dX3_colours_16 : decode cX3_colours 16 = .ok (.istore_n 2, 1) := dk_61 (dk_at dksX3_colours_0 16 rfl rfl)
theorem dX3_colours_17 : decode cX3_colours 17 = .ok (.iconst 0, 1) := dk_3 (dk_at dksX3_colours_0 17 rfl rfl)
theorem dX3_colours_18 : decode cX3_colours 18 = .ok (.istore_n 3, 1) := dk_62 (dk_at dksX3_colours_0 18 rfl rfl)
theorem dX3_colours_19 : decode cX3_colours 19 = .ok (.iconst 0, 1) := dk_3 (dk_at dksX3_colours_0 19 rfl rfl)
theorem dX3_colours_20 : decode cX3_colours 20 = .ok (.istore 4, 2) := dk_54 4 (dk_at dksX3_colours_0 20 rfl rfl)
theorem dX3_colours_22 : decode cX3_colours 22 = .ok (.iload 4, 2) := dk_21 4 (dk_at dksX3_colours_0 22 rfl rfl)
theorem dX3_colours_24 : decode cX3_colours 24 = .ok (.bipush 10, 2) := dk_16 10 (dk_at dksX3_colours_1 0 rfl rfl)
theorem dX3_colours_26 : decode cX3_colours 26 = .ok (.if_icmp .ge 61, 3) := dk_162 0 61 (dk_at dksX3_colours_1 2 rfl rfl)
theorem dX3_colours_29 : decode cX3_colours 29 = .ok (.aload_n 0, 1) := dk_42 (dk_at dksX3_colours_1 5 rfl rfl)
theorem dX3_colours_30 : decode cX3_colours 30 = .ok (.aload_n 0, 1) := dk_42 (dk_at dksX3_colours_1 6 rfl rfl)
theorem dX3_colours_31 : decode cX3_colours 31 = .ok (.getfield 9, 3) := dk_180 0 9 (dk_at dksX3_colours_1 7 rfl rfl)
theorem dX3_colours_34 : decode cX3_colours 34 = .ok (.iload_n 1, 1) := dk_27 (dk_at dksX3_colours_1 10 rfl rfl)
theorem dX3_colours_35 : decode cX3_colours 35 = .ok (.iload 4, 2) := dk_21 4 (dk_at dksX3_colours_1 11 rfl rfl)
theorem dX3_colours_37 : decode cX3_colours 37 = .ok (.invokevirtual 296, 3) := dk_182 1 40 (dk_at dksX3_colours_1 13 rfl rfl)
theorem dX3_colours_40 : decode cX3_colours 40 = .ok (.istore 5, 2) := dk_54 5 (dk_at dksX3_colours_1 16 rfl rfl)
theorem dX3_colours_42 : decode cX3_colours 42 = .ok (.iload_n 2, 1) := dk_28 (dk_at dksX3_colours_1 18 rfl rfl)
theorem dX3_colours_43 : decode cX3_colours 43 = .ok (.iload 5, 2) := dk_21 5 (dk_at dksX3_colours_1 19 rfl rfl)
theorem dX3_colours_45 : decode cX3_colours 45 = .ok (.iconst 5, 1) := dk_8 (dk_at dksX3_colours_1 21 rfl rfl)
theorem dX3_colours_46 : decode cX3_colours 46 = .ok (.if_icmp .gt 10, 3) := dk_163 0 10 (dk_at dksX3_colours_2 0 rfl rfl)
theorem dX3_colours_49 : decode cX3_colours 49 = .ok (.iconst 1, 1) := dk_4 (dk_at dksX3_colours_2 3 rfl rfl)
theorem dX3_colours_50 : decode cX3_colours 50 = .ok (.iload 4, 2) := dk_21 4 (dk_at dksX3_colours_2 4 rfl rfl)
theorem dX3_colours_52 : decode cX3_colours 52 = .ok (.ishl, 1) := dk_120 (dk_at dksX3_colours_2 6 rfl rfl)
theorem dX3_colours_53 : decode cX3_colours 53 = .ok (.goto 4, 3) := dk_167 0 4 (dk_at dksX3_colours_2 7 rfl rfl)
theorem dX3_colours_56 : decode cX3_colours 56 = .ok (.iconst 0, 1) := dk_3 (dk_at dksX3_colours_2 10 rfl rfl)
theorem dX3_colours_57 : decode cX3_colours 57 = .ok (.ior, 1) := dk_128 (dk_at dksX3_colours_2 11 rfl rfl)
theorem dX3_colours_58 : decode cX3_colours 58 = .ok (.istore_n 2, 1) := dk_61 (dk_at dksX3_colours_2 12 rfl rfl)
theorem dX3_colours_59 : decode cX3_colours 59 = .ok (.iload 5, 2) := dk_21 5 (dk_at dksX3_colours_2 13 rfl rfl)
theorem dX3_colours_61 : decode cX3_colours 61 = .ok (.aload_n 0, 1) := dk_42 (dk_at dksX3_colours_2 15 rfl rfl)
theorem dX3_colours_62 : decode cX3_colours 62 = .ok (.aload_n 0, 1) := dk_42 (dk_at dksX3_colours_2 16 rfl rfl)
theorem dX3_colours_63 : decode cX3_colours 63 = .ok (.getfield 9, 3) := dk_180 0 9 (dk_at dksX3_colours_2 17 rfl rfl)
theorem dX3_colours_66 : decode cX3_colours 66 = .ok (.iload_n 1, 1) := dk_27 (dk_at dksX3_colours_2 20 rfl rfl)
theorem dX3_colours_67 : decode cX3_colours 67 = .ok (.iload_n 3, 1) := dk_29 (dk_at dksX3_colours_2 21 rfl rfl)
theorem dX3_colours_68 : decode cX3_colours 68 = .ok (.invokevirtual 296, 3) := dk_182 1 40 (dk_at dksX3_colours_3 0 rfl rfl)
theorem dX3_colours_71 : decode cX3_colours 71 = .ok (.if_icmp .ge 8, 3) := dk_162 0 8 (dk_at dksX3_colours_3 3 rfl rfl)
theorem dX3_colours_74 : decode cX3_colours 74 = .ok (.iload 4, 2) := dk_21 4 (dk_at dksX3_colours_3 6 rfl rfl)
theorem dX3_colours_76 : decode cX3_colours 76 = .ok (.goto 4, 3) := dk_167 0 4 (dk_at dksX3_colours_3 8 rfl rfl)
theorem dX3_colours_79 : decode cX3_colours 79 = .ok (.iload_n 3, 1) := dk_29 (dk_at dksX3_colours_3 11 rfl rfl)
theorem dX3_colours_80 : decode cX3_colours 80 = .ok (.istore_n 3, 1) := dk_62 (dk_at dksX3_colours_3 12 rfl rfl)
theorem dX3_colours_81 : decode cX3_colours 81 = .ok (.iinc 4 1, 3) := dk_132 4 1 (dk_at dksX3_colours_3 13 rfl rfl)
theorem dX3_colours_84 : decode cX3_colours 84 = .ok (.goto (-62), 3) := dk_167 255 194 (dk_at dksX3_colours_3 16 rfl rfl)
theorem dX3_colours_87 : decode cX3_colours 87 = .ok (.aload_n 0, 1) := dk_42 (dk_at dksX3_colours_3 19 rfl rfl)
theorem dX3_colours_88 : decode cX3_colours 88 = .ok (.iconst 0, 1) := dk_3 (dk_at dksX3_colours_3 20 rfl rfl)
theorem dX3_colours_89 : decode cX3_colours 89 = .ok (.putfield 86, 3) := dk_181 0 86 (dk_at dksX3_colours_3 21 rfl rfl)
theorem dX3_colours_92 : decode cX3_colours 92 = .ok (.aload_n 0, 1) := dk_42 (dk_at dksX3_colours_4 0 rfl rfl)
theorem dX3_colours_93 : decode cX3_colours 93 = .ok (.iload_n 2, 1) := dk_28 (dk_at dksX3_colours_4 1 rfl rfl)
theorem dX3_colours_94 : decode cX3_colours 94 = .ok (.invokestatic 206, 3) := dk_184 0 206 (dk_at dksX3_colours_4 2 rfl rfl)
theorem dX3_colours_97 : decode cX3_colours 97 = .ok (.i2l, 1) := dk_133 (dk_at dksX3_colours_4 5 rfl rfl)
theorem dX3_colours_98 : decode cX3_colours 98 = .ok (.invokevirtual 286, 3) := dk_182 1 30 (dk_at dksX3_colours_4 6 rfl rfl)
theorem dX3_colours_101 : decode cX3_colours 101 = .ok (.aload_n 0, 1) := dk_42 (dk_at dksX3_colours_4 9 rfl rfl)
theorem dX3_colours_102 : decode cX3_colours 102 = .ok (.iload_n 3, 1) := dk_29 (dk_at dksX3_colours_4 10 rfl rfl)
theorem dX3_colours_103 : decode cX3_colours 103 = .ok (.i2l, 1) := dk_133 (dk_at dksX3_colours_4 11 rfl rfl)
theorem dX3_colours_104 : decode cX3_colours 104 = .ok (.invokevirtual 286, 3) := dk_182 1 30 (dk_at dksX3_colours_4 12 rfl rfl)
theorem dX3_colours_107 : decode cX3_colours 107 = .ok (.iload_n 2, 1) := dk_28 (dk_at dksX3_colours_4 15 rfl rfl)
theorem dX3_colours_108 : decode cX3_colours 108 = .ok (.ireturn, 1) := dk_172 (dk_at dksX3_colours_4 16 rfl rfl)
abbrev cX3_where : ByteArray := prog_9_method_68_code
def yX3_where : MethodName := ⟨RX3, "where", "(I)I"⟩
def dkwX3_where_4 : List UInt8 := [181, 0, 86, 42, 42, 42, 180, 0, 9, 28, 27, 182, 1, 40, 184, 1, 43, 133, 182, 1, 30, 28, 172]
abbrev dktX3_where_4 : List UInt8 := dkwX3_where_4 ++ []
def dkwX3_where_3 : List UInt8 := [162, 0, 5, 29, 61, 132, 3, 1, 167, 255, 198, 28, 16, 254, 160, 0, 6, 16, 254, 172, 42, 3]
abbrev dktX3_where_3 : List UInt8 := dkwX3_where_3 ++ dktX3_where_4
def dkwX3_where_2 : List UInt8 := [159, 0, 26, 42, 42, 180, 0, 9, 29, 27, 182, 1, 40, 42, 42, 180, 0, 9, 28, 27, 182, 1, 40]
abbrev dktX3_where_2 : List UInt8 := dkwX3_where_2 ++ dktX3_where_3
def dkwX3_where_1 : List UInt8 := [162, 0, 56, 42, 42, 180, 0, 9, 29, 27, 182, 1, 0, 156, 0, 6, 167, 0, 34, 28, 16, 254]
abbrev dktX3_where_1 : List UInt8 := dkwX3_where_1 ++ dktX3_where_2
def dkwX3_where_0 : List UInt8 := [42, 3, 181, 0, 83, 27, 184, 0, 253, 154, 0, 5, 2, 172, 16, 254, 61, 3, 62, 29, 42, 180, 0, 89]
abbrev dktX3_where_0 : List UInt8 := dkwX3_where_0 ++ dktX3_where_1
theorem dksX3_where_0 : cX3_where.data.toList.drop 0 = dktX3_where_0 := by decide +kernel
theorem dksX3_where_1 : cX3_where.data.toList.drop 24 = dktX3_where_1 := dk_seg dksX3_where_0 24 rfl rfl
theorem dksX3_where_2 : cX3_where.data.toList.drop 46 = dktX3_where_2 := dk_seg dksX3_where_1 22 rfl rfl
theorem dksX3_where_3 : cX3_where.data.toList.drop 69 = dktX3_where_3 := dk_seg dksX3_where_2 23 rfl rfl
theorem dksX3_where_4 : cX3_where.data.toList.drop 91 = dktX3_where_4 := dk_seg dksX3_where_3 22 rfl rfl
theorem dX3_where_0 : decode cX3_where 0 = .ok (.aload_n 0, 1) := dk_42 (dk_at dksX3_where_0 0 rfl rfl)
theorem dX3_where_1 : decode cX3_where 1 = .ok (.iconst 0, 1) := dk_3 (dk_at dksX3_where_0 1 rfl rfl)
theorem dX3_where_2 : decode cX3_where 2 = .ok (.putfield 83, 3) := dk_181 0 83 (dk_at dksX3_where_0 2 rfl rfl)
theorem dX3_where_5 : decode cX3_where 5 = .ok (.iload_n 1, 1) := dk_27 (dk_at dksX3_where_0 5 rfl rfl)
theorem dX3_where_6 : decode cX3_where 6 = .ok (.invokestatic 253, 3) := dk_184 0 253 (dk_at dksX3_where_0 6 rfl rfl)
theorem dX3_where_9 : decode cX3_where 9 = .ok (.ifCond .ne 5, 3) := dk_154 0 5 (dk_at dksX3_where_0 9 rfl rfl)
theorem dX3_where_12 : decode cX3_where 12 = .ok (.iconst (-1), 1) := dk_2 (dk_at dksX3_where_0 12 rfl rfl)
theorem dX3_where_13 : decode cX3_where 13 = .ok (.ireturn, 1) := dk_172 (dk_at dksX3_where_0 13 rfl rfl)
theorem dX3_where_14 : decode cX3_where 14 = .ok (.bipush (-2), 2) := dk_16 254 (dk_at dksX3_where_0 14 rfl rfl)
theorem dX3_where_16 : decode cX3_where 16 = .ok (.istore_n 2, 1) := dk_61 (dk_at dksX3_where_0 16 rfl rfl)
theorem dX3_where_17 : decode cX3_where 17 = .ok (.iconst 0, 1) := dk_3 (dk_at dksX3_where_0 17 rfl rfl)
theorem dX3_where_18 : decode cX3_where 18 = .ok (.istore_n 3, 1) := dk_62 (dk_at dksX3_where_0 18 rfl rfl)
theorem dX3_where_19 : decode cX3_where 19 = .ok (.iload_n 3, 1) := dk_29 (dk_at dksX3_where_0 19 rfl rfl)
theorem dX3_where_20 : decode cX3_where 20 = .ok (.aload_n 0, 1) := dk_42 (dk_at dksX3_where_0 20 rfl rfl)
theorem dX3_where_21 : decode cX3_where 21 = .ok (.getfield 89, 3) := dk_180 0 89 (dk_at dksX3_where_0 21 rfl rfl)
theorem dX3_where_24 : decode cX3_where 24 = .ok (.if_icmp .ge 56, 3) := dk_162 0 56 (dk_at dksX3_where_1 0 rfl rfl)
theorem dX3_where_27 : decode cX3_where 27 = .ok (.aload_n 0, 1) := dk_42 (dk_at dksX3_where_1 3 rfl rfl)
theorem dX3_where_28 : decode cX3_where 28 = .ok (.aload_n 0, 1) := dk_42 (dk_at dksX3_where_1 4 rfl rfl)
theorem dX3_where_29 : decode cX3_where 29 = .ok (.getfield 9, 3) := dk_180 0 9 (dk_at dksX3_where_1 5 rfl rfl)
theorem dX3_where_32 : decode cX3_where 32 = .ok (.iload_n 3, 1) := dk_29 (dk_at dksX3_where_1 8 rfl rfl)
theorem dX3_where_33 : decode cX3_where 33 = .ok (.iload_n 1, 1) := dk_27 (dk_at dksX3_where_1 9 rfl rfl)
theorem dX3_where_34 : decode cX3_where 34 = .ok (.invokevirtual 256, 3) := dk_182 1 0 (dk_at dksX3_where_1 10 rfl rfl)
theorem dX3_where_37 : decode cX3_where 37 = .ok (.ifCond .ge 6, 3) := dk_156 0 6 (dk_at dksX3_where_1 13 rfl rfl)
theorem dX3_where_40 : decode cX3_where 40 = .ok (.goto 34, 3) := dk_167 0 34 (dk_at dksX3_where_1 16 rfl rfl)
theorem dX3_where_43 : decode cX3_where 43 = .ok (.iload_n 2, 1) := dk_28 (dk_at dksX3_where_1 19 rfl rfl)
theorem dX3_where_44 : decode cX3_where 44 = .ok (.bipush (-2), 2) := dk_16 254 (dk_at dksX3_where_1 20 rfl rfl)
theorem dX3_where_46 : decode cX3_where 46 = .ok (.if_icmp .eq 26, 3) := dk_159 0 26 (dk_at dksX3_where_2 0 rfl rfl)
theorem dX3_where_49 : decode cX3_where 49 = .ok (.aload_n 0, 1) := dk_42 (dk_at dksX3_where_2 3 rfl rfl)
theorem dX3_where_50 : decode cX3_where 50 = .ok (.aload_n 0, 1) := dk_42 (dk_at dksX3_where_2 4 rfl rfl)
theorem dX3_where_51 : decode cX3_where 51 = .ok (.getfield 9, 3) := dk_180 0 9 (dk_at dksX3_where_2 5 rfl rfl)
theorem dX3_where_54 : decode cX3_where 54 = .ok (.iload_n 3, 1) := dk_29 (dk_at dksX3_where_2 8 rfl rfl)
theorem dX3_where_55 : decode cX3_where 55 = .ok (.iload_n 1, 1) := dk_27 (dk_at dksX3_where_2 9 rfl rfl)
theorem dX3_where_56 : decode cX3_where 56 = .ok (.invokevirtual 296, 3) := dk_182 1 40 (dk_at dksX3_where_2 10 rfl rfl)
theorem dX3_where_59 : decode cX3_where 59 = .ok (.aload_n 0, 1) := dk_42 (dk_at dksX3_where_2 13 rfl rfl)
theorem dX3_where_60 : decode cX3_where 60 = .ok (.aload_n 0, 1) := dk_42 (dk_at dksX3_where_2 14 rfl rfl)
theorem dX3_where_61 : decode cX3_where 61 = .ok (.getfield 9, 3) := dk_180 0 9 (dk_at dksX3_where_2 15 rfl rfl)
theorem dX3_where_64 : decode cX3_where 64 = .ok (.iload_n 2, 1) := dk_28 (dk_at dksX3_where_2 18 rfl rfl)
theorem dX3_where_65 : decode cX3_where 65 = .ok (.iload_n 1, 1) := dk_27 (dk_at dksX3_where_2 19 rfl rfl)
theorem dX3_where_66 : decode cX3_where 66 = .ok (.invokevirtual 296, 3) := dk_182 1 40 (dk_at dksX3_where_2 20 rfl rfl)
theorem dX3_where_69 : decode cX3_where 69 = .ok (.if_icmp .ge 5, 3) := dk_162 0 5 (dk_at dksX3_where_3 0 rfl rfl)
theorem dX3_where_72 : decode cX3_where 72 = .ok (.iload_n 3, 1) := dk_29 (dk_at dksX3_where_3 3 rfl rfl)
theorem dX3_where_73 : decode cX3_where 73 = .ok (.istore_n 2, 1) := dk_61 (dk_at dksX3_where_3 4 rfl rfl)
theorem dX3_where_74 : decode cX3_where 74 = .ok (.iinc 3 1, 3) := dk_132 3 1 (dk_at dksX3_where_3 5 rfl rfl)
theorem dX3_where_77 : decode cX3_where 77 = .ok (.goto (-58), 3) := dk_167 255 198 (dk_at dksX3_where_3 8 rfl rfl)
theorem dX3_where_80 : decode cX3_where 80 = .ok (.iload_n 2, 1) := dk_28 (dk_at dksX3_where_3 11 rfl rfl)
theorem dX3_where_81 : decode cX3_where 81 = .ok (.bipush (-2), 2) := dk_16 254 (dk_at dksX3_where_3 12 rfl rfl)
theorem dX3_where_83 : decode cX3_where 83 = .ok (.if_icmp .ne 6, 3) := dk_160 0 6 (dk_at dksX3_where_3 14 rfl rfl)
theorem dX3_where_86 : decode cX3_where 86 = .ok (.bipush (-2), 2) := dk_16 254 (dk_at dksX3_where_3 17 rfl rfl)
theorem dX3_where_88 : decode cX3_where 88 = .ok (.ireturn, 1) := dk_172 (dk_at dksX3_where_3 19 rfl rfl)
theorem dX3_where_89 : decode cX3_where 89 = .ok (.aload_n 0, 1) := dk_42 (dk_at dksX3_where_3 20 rfl rfl)
theorem dX3_where_90 : decode cX3_where 90 = .ok (.iconst 0, 1) := dk_3 (dk_at dksX3_where_3 21 rfl rfl)
theorem dX3_where_91 : decode cX3_where 91 = .ok (.putfield 86, 3) := dk_181 0 86 (dk_at dksX3_where_4 0 rfl rfl)
theorem dX3_where_94 : decode cX3_where 94 = .ok (.aload_n 0, 1) := dk_42 (dk_at dksX3_where_4 3 rfl rfl)
theorem dX3_where_95 : decode cX3_where 95 = .ok (.aload_n 0, 1) := dk_42 (dk_at dksX3_where_4 4 rfl rfl)
theorem dX3_where_96 : decode cX3_where 96 = .ok (.aload_n 0, 1) := dk_42 (dk_at dksX3_where_4 5 rfl rfl)
theorem dX3_where_97 : decode cX3_where 97 = .ok (.getfield 9, 3) := dk_180 0 9 (dk_at dksX3_where_4 6 rfl rfl)
theorem dX3_where_100 : decode cX3_where 100 = .ok (.iload_n 2, 1) := dk_28 (dk_at dksX3_where_4 9 rfl rfl)
theorem dX3_where_101 : decode cX3_where 101 = .ok (.iload_n 1, 1) := dk_27 (dk_at dksX3_where_4 10 rfl rfl)
theorem dX3_where_102 : decode cX3_where 102 = .ok (.invokevirtual 296, 3) := dk_182 1 40 (dk_at dksX3_where_4 11 rfl rfl)
theorem dX3_where_105 : decode cX3_where 105 = .ok (.invokestatic 299, 3) := dk_184 1 43 (dk_at dksX3_where_4 14 rfl rfl)
theorem dX3_where_108 : decode cX3_where 108 = .ok (.i2l, 1) := dk_133 (dk_at dksX3_where_4 17 rfl rfl)
theorem dX3_where_109 : decode cX3_where 109 = .ok (.invokevirtual 286, 3) := dk_182 1 30 (dk_at dksX3_where_4 18 rfl rfl)
theorem dX3_where_112 : decode cX3_where 112 = .ok (.iload_n 2, 1) := dk_28 (dk_at dksX3_where_4 21 rfl rfl)
theorem dX3_where_113 : decode cX3_where 113 = .ok (.ireturn, 1) := dk_172 (dk_at dksX3_where_4 22 rfl rfl)
abbrev cX3_flies : ByteArray := prog_9_method_70_code
def yX3_flies : MethodName := ⟨RX3, "flies", "(II)I"⟩
def dkwX3_flies_4 : List UInt8 := [16, 82, 46, 100, 133, 182, 1, 30, 29, 172]
abbrev dktX3_flies_4 : List UInt8 := dkwX3_flies_4 ++ []
def dkwX3_flies_3 : List UInt8 := [156, 0, 6, 16, 254, 172, 42, 3, 181, 0, 86, 42, 42, 180, 0, 43, 16, 82, 46, 42, 180, 0, 9]
abbrev dktX3_flies_3 : List UInt8 := dkwX3_flies_3 ++ dktX3_flies_4
def dkwX3_flies_2 : List UInt8 := [184, 0, 229, 42, 180, 0, 43, 27, 28, 184, 1, 4, 42, 42, 180, 0, 43, 27, 182, 1, 46, 62, 29]
abbrev dktX3_flies_2 : List UInt8 := dkwX3_flies_2 ++ dktX3_flies_3
def dkwX3_flies_1 : List UInt8 := [180, 0, 9, 16, 48, 27, 96, 46, 153, 0, 6, 16, 253, 172, 42, 180, 0, 9, 42, 180, 0, 43, 3]
abbrev dktX3_flies_1 : List UInt8 := dkwX3_flies_1 ++ dktX3_flies_2
def dkwX3_flies_0 : List UInt8 := [42, 3, 181, 0, 83, 42, 27, 182, 0, 96, 153, 0, 10, 28, 184, 0, 253, 154, 0, 5, 2, 172, 42]
abbrev dktX3_flies_0 : List UInt8 := dkwX3_flies_0 ++ dktX3_flies_1
theorem dksX3_flies_0 : cX3_flies.data.toList.drop 0 = dktX3_flies_0 := by decide +kernel
theorem dksX3_flies_1 : cX3_flies.data.toList.drop 23 = dktX3_flies_1 := dk_seg dksX3_flies_0 23 rfl rfl
theorem dksX3_flies_2 : cX3_flies.data.toList.drop 46 = dktX3_flies_2 := dk_seg dksX3_flies_1 23 rfl rfl
theorem dksX3_flies_3 : cX3_flies.data.toList.drop 69 = dktX3_flies_3 := dk_seg dksX3_flies_2 23 rfl rfl
theorem dksX3_flies_4 : cX3_flies.data.toList.drop 92 = dktX3_flies_4 := dk_seg dksX3_flies_3 23 rfl rfl
theorem dX3_flies_0 : decode cX3_flies 0 = .ok (.aload_n 0, 1) := dk_42 (dk_at dksX3_flies_0 0 rfl rfl)
theorem dX3_flies_1 : decode cX3_flies 1 = .ok (.iconst 0, 1) := dk_3 (dk_at dksX3_flies_0 1 rfl rfl)
theorem dX3_flies_2 : decode cX3_flies 2 = .ok (.putfield 83, 3) := dk_181 0 83 (dk_at dksX3_flies_0 2 rfl rfl)
theorem dX3_flies_5 : decode cX3_flies 5 = .ok (.aload_n 0, 1) := dk_42 (dk_at dksX3_flies_0 5 rfl rfl)
theorem dX3_flies_6 : decode cX3_flies 6 = .ok (.iload_n 1, 1) := dk_27 (dk_at dksX3_flies_0 6 rfl rfl)
theorem dX3_flies_7 : decode cX3_flies 7 = .ok (.invokevirtual 96, 3) := dk_182 0 96 (dk_at dksX3_flies_0 7 rfl rfl)
theorem dX3_flies_10 : decode cX3_flies 10 = .ok (.ifCond .eq 10, 3) := dk_153 0 10 (dk_at dksX3_flies_0 10 rfl rfl)
theorem dX3_flies_13 : decode cX3_flies 13 = .ok (.iload_n 2, 1) := dk_28 (dk_at dksX3_flies_0 13 rfl rfl)
theorem dX3_flies_14 : decode cX3_flies 14 = .ok (.invokestatic 253, 3) := dk_184 0 253 (dk_at dksX3_flies_0 14 rfl rfl)
theorem dX3_flies_17 : decode cX3_flies 17 = .ok (.ifCond .ne 5, 3) := dk_154 0 5 (dk_at dksX3_flies_0 17 rfl rfl)
theorem dX3_flies_20 : decode cX3_flies 20 = .ok (.iconst (-1), 1) := dk_2 (dk_at dksX3_flies_0 20 rfl rfl)
theorem dX3_flies_21 : decode cX3_flies 21 = .ok (.ireturn, 1) := dk_172 (dk_at dksX3_flies_0 21 rfl rfl)
theorem dX3_flies_22 : decode cX3_flies 22 = .ok (.aload_n 0, 1) := dk_42 (dk_at dksX3_flies_0 22 rfl rfl)
theorem dX3_flies_23 : decode cX3_flies 23 = .ok (.getfield 9, 3) := dk_180 0 9 (dk_at dksX3_flies_1 0 rfl rfl)
theorem dX3_flies_26 : decode cX3_flies 26 = .ok (.bipush 48, 2) := dk_16 48 (dk_at dksX3_flies_1 3 rfl rfl)
theorem dX3_flies_28 : decode cX3_flies 28 = .ok (.iload_n 1, 1) := dk_27 (dk_at dksX3_flies_1 5 rfl rfl)
theorem dX3_flies_29 : decode cX3_flies 29 = .ok (.iadd, 1) := dk_96 (dk_at dksX3_flies_1 6 rfl rfl)
theorem dX3_flies_30 : decode cX3_flies 30 = .ok (.iaload, 1) := dk_46 (dk_at dksX3_flies_1 7 rfl rfl)
theorem dX3_flies_31 : decode cX3_flies 31 = .ok (.ifCond .eq 6, 3) := dk_153 0 6 (dk_at dksX3_flies_1 8 rfl rfl)
theorem dX3_flies_34 : decode cX3_flies 34 = .ok (.bipush (-3), 2) := dk_16 253 (dk_at dksX3_flies_1 11 rfl rfl)
theorem dX3_flies_36 : decode cX3_flies 36 = .ok (.ireturn, 1) := dk_172 (dk_at dksX3_flies_1 13 rfl rfl)
theorem dX3_flies_37 : decode cX3_flies 37 = .ok (.aload_n 0, 1) := dk_42 (dk_at dksX3_flies_1 14 rfl rfl)
theorem dX3_flies_38 : decode cX3_flies 38 = .ok (.getfield 9, 3) := dk_180 0 9 (dk_at dksX3_flies_1 15 rfl rfl)
theorem dX3_flies_41 : decode cX3_flies 41 = .ok (.aload_n 0, 1) := dk_42 (dk_at dksX3_flies_1 18 rfl rfl)
theorem dX3_flies_42 : decode cX3_flies 42 = .ok (.getfield 43, 3) := dk_180 0 43 (dk_at dksX3_flies_1 19 rfl rfl)
theorem dX3_flies_45 : decode cX3_flies 45 = .ok (.iconst 0, 1) := dk_3 (dk_at dksX3_flies_1 22 rfl rfl)
theorem dX3_flies_46 : decode cX3_flies 46 = .ok (.invokestatic 229, 3) := dk_184 0 229 (dk_at dksX3_flies_2 0 rfl rfl)
theorem dX3_flies_49 : decode cX3_flies 49 = .ok (.aload_n 0, 1) := dk_42 (dk_at dksX3_flies_2 3 rfl rfl)
theorem dX3_flies_50 : decode cX3_flies 50 = .ok (.getfield 43, 3) := dk_180 0 43 (dk_at dksX3_flies_2 4 rfl rfl)
theorem dX3_flies_53 : decode cX3_flies 53 = .ok (.iload_n 1, 1) := dk_27 (dk_at dksX3_flies_2 7 rfl rfl)
theorem dX3_flies_54 : decode cX3_flies 54 = .ok (.iload_n 2, 1) := dk_28 (dk_at dksX3_flies_2 8 rfl rfl)
theorem dX3_flies_55 : decode cX3_flies 55 = .ok (.invokestatic 260, 3) := dk_184 1 4 (dk_at dksX3_flies_2 9 rfl rfl)
theorem dX3_flies_58 : decode cX3_flies 58 = .ok (.aload_n 0, 1) := dk_42 (dk_at dksX3_flies_2 12 rfl rfl)
theorem dX3_flies_59 : decode cX3_flies 59 = .ok (.aload_n 0, 1) := dk_42 (dk_at dksX3_flies_2 13 rfl rfl)
theorem dX3_flies_60 : decode cX3_flies 60 = .ok (.getfield 43, 3) := dk_180 0 43 (dk_at dksX3_flies_2 14 rfl rfl)
theorem dX3_flies_63 : decode cX3_flies 63 = .ok (.iload_n 1, 1) := dk_27 (dk_at dksX3_flies_2 17 rfl rfl)
theorem dX3_flies_64 : decode cX3_flies 64 = .ok (.invokevirtual 302, 3) := dk_182 1 46 (dk_at dksX3_flies_2 18 rfl rfl)
theorem dX3_flies_67 : decode cX3_flies 67 = .ok (.istore_n 3, 1) := dk_62 (dk_at dksX3_flies_2 21 rfl rfl)
theorem dX3_flies_68 : decode cX3_flies 68 = .ok (.iload_n 3, 1) := dk_29 (dk_at dksX3_flies_2 22 rfl rfl)
theorem dX3_flies_69 : decode cX3_flies 69 = .ok (.ifCond .ge 6, 3) := dk_156 0 6 (dk_at dksX3_flies_3 0 rfl rfl)
theorem dX3_flies_72 : decode cX3_flies 72 = .ok (.bipush (-2), 2) := dk_16 254 (dk_at dksX3_flies_3 3 rfl rfl)
theorem dX3_flies_74 : decode cX3_flies 74 = .ok (.ireturn, 1) := dk_172 (dk_at dksX3_flies_3 5 rfl rfl)
theorem dX3_flies_75 : decode cX3_flies 75 = .ok (.aload_n 0, 1) := dk_42 (dk_at dksX3_flies_3 6 rfl rfl)
theorem dX3_flies_76 : decode cX3_flies 76 = .ok (.iconst 0, 1) := dk_3 (dk_at dksX3_flies_3 7 rfl rfl)
theorem dX3_flies_77 : decode cX3_flies 77 = .ok (.putfield 86, 3) := dk_181 0 86 (dk_at dksX3_flies_3 8 rfl rfl)
theorem dX3_flies_80 : decode cX3_flies 80 = .ok (.aload_n 0, 1) := dk_42 (dk_at dksX3_flies_3 11 rfl rfl)
theorem dX3_flies_81 : decode cX3_flies 81 = .ok (.aload_n 0, 1) := dk_42 (dk_at dksX3_flies_3 12 rfl rfl)
theorem dX3_flies_82 : decode cX3_flies 82 = .ok (.getfield 43, 3) := dk_180 0 43 (dk_at dksX3_flies_3 13 rfl rfl)
theorem dX3_flies_85 : decode cX3_flies 85 = .ok (.bipush 82, 2) := dk_16 82 (dk_at dksX3_flies_3 16 rfl rfl)
theorem dX3_flies_87 : decode cX3_flies 87 = .ok (.iaload, 1) := dk_46 (dk_at dksX3_flies_3 18 rfl rfl)
theorem dX3_flies_88 : decode cX3_flies 88 = .ok (.aload_n 0, 1) := dk_42 (dk_at dksX3_flies_3 19 rfl rfl)
theorem dX3_flies_89 : decode cX3_flies 89 = .ok (.getfield 9, 3) := dk_180 0 9 (dk_at dksX3_flies_3 20 rfl rfl)
theorem dX3_flies_92 : decode cX3_flies 92 = .ok (.bipush 82, 2) := dk_16 82 (dk_at dksX3_flies_4 0 rfl rfl)
theorem dX3_flies_94 : decode cX3_flies 94 = .ok (.iaload, 1) := dk_46 (dk_at dksX3_flies_4 2 rfl rfl)
theorem dX3_flies_95 : decode cX3_flies 95 = .ok (.isub, 1) := dk_100 (dk_at dksX3_flies_4 3 rfl rfl)
theorem dX3_flies_96 : decode cX3_flies 96 = .ok (.i2l, 1) := dk_133 (dk_at dksX3_flies_4 4 rfl rfl)
theorem dX3_flies_97 : decode cX3_flies 97 = .ok (.invokevirtual 286, 3) := dk_182 1 30 (dk_at dksX3_flies_4 5 rfl rfl)
theorem dX3_flies_100 : decode cX3_flies 100 = .ok (.iload_n 3, 1) := dk_29 (dk_at dksX3_flies_4 8 rfl rfl)
theorem dX3_flies_101 : decode cX3_flies 101 = .ok (.ireturn, 1) := dk_172 (dk_at dksX3_flies_4 9 rfl rfl)
abbrev cX3_fliesIn : ByteArray := prog_9_method_69_code
def yX3_fliesIn : MethodName := ⟨RX3, "fliesIn", "([II)I"⟩
def dkwX3_fliesIn_2 : List UInt8 := [167, 255, 212, 16, 254, 172]
abbrev dktX3_fliesIn_2 : List UInt8 := dkwX3_fliesIn_2 ++ []
def dkwX3_fliesIn_1 : List UInt8 := [28, 96, 46, 154, 0, 16, 21, 4, 5, 160, 0, 7, 29, 167, 0, 5, 16, 254, 172, 132, 3, 1]
abbrev dktX3_fliesIn_1 : List UInt8 := dkwX3_fliesIn_1 ++ dktX3_fliesIn_2
def dkwX3_fliesIn_0 : List UInt8 := [4, 62, 29, 16, 60, 163, 0, 44, 43, 16, 48, 28, 96, 46, 54, 4, 42, 43, 182, 1, 24, 43, 16, 48]
abbrev dktX3_fliesIn_0 : List UInt8 := dkwX3_fliesIn_0 ++ dktX3_fliesIn_1
theorem dksX3_fliesIn_0 : cX3_fliesIn.data.toList.drop 0 = dktX3_fliesIn_0 := by decide +kernel
theorem dksX3_fliesIn_1 : cX3_fliesIn.data.toList.drop 24 = dktX3_fliesIn_1 := dk_seg dksX3_fliesIn_0 24 rfl rfl
theorem dksX3_fliesIn_2 : cX3_fliesIn.data.toList.drop 46 = dktX3_fliesIn_2 := dk_seg dksX3_fliesIn_1 22 rfl rfl
theorem dX3_fliesIn_0 : decode cX3_fliesIn 0 = .ok (.iconst 1, 1) := dk_4 (dk_at dksX3_fliesIn_0 0 rfl rfl)
theorem dX3_fliesIn_1 : decode cX3_fliesIn 1 = .ok (.istore_n 3, 1) := dk_62 (dk_at dksX3_fliesIn_0 1 rfl rfl)
theorem dX3_fliesIn_2 : decode cX3_fliesIn 2 = .ok (.iload_n 3, 1) := dk_29 (dk_at dksX3_fliesIn_0 2 rfl rfl)
theorem dX3_fliesIn_3 : decode cX3_fliesIn 3 = .ok (.bipush 60, 2) := dk_16 60 (dk_at dksX3_fliesIn_0 3 rfl rfl)
theorem dX3_fliesIn_5 : decode cX3_fliesIn 5 = .ok (.if_icmp .gt 44, 3) := dk_163 0 44 (dk_at dksX3_fliesIn_0 5 rfl rfl)
theorem dX3_fliesIn_8 : decode cX3_fliesIn 8 = .ok (.aload_n 1, 1) := dk_43 (dk_at dksX3_fliesIn_0 8 rfl rfl)
theorem dX3_fliesIn_9 : decode cX3_fliesIn 9 = .ok (.bipush 48, 2) := dk_16 48 (dk_at dksX3_fliesIn_0 9 rfl rfl)
theorem dX3_fliesIn_11 : decode cX3_fliesIn 11 = .ok (.iload_n 2, 1) := dk_28 (dk_at dksX3_fliesIn_0 11 rfl rfl)
theorem dX3_fliesIn_12 : decode cX3_fliesIn 12 = .ok (.iadd, 1) := dk_96 (dk_at dksX3_fliesIn_0 12 rfl rfl)
theorem dX3_fliesIn_13 : decode cX3_fliesIn 13 = .ok (.iaload, 1) := dk_46 (dk_at dksX3_fliesIn_0 13 rfl rfl)
theorem dX3_fliesIn_14 : decode cX3_fliesIn 14 = .ok (.istore 4, 2) := dk_54 4 (dk_at dksX3_fliesIn_0 14 rfl rfl)
theorem dX3_fliesIn_16 : decode cX3_fliesIn 16 = .ok (.aload_n 0, 1) := dk_42 (dk_at dksX3_fliesIn_0 16 rfl rfl)
theorem dX3_fliesIn_17 : decode cX3_fliesIn 17 = .ok (.aload_n 1, 1) := dk_43 (dk_at dksX3_fliesIn_0 17 rfl rfl)
theorem dX3_fliesIn_18 : decode cX3_fliesIn 18 = .ok (.invokevirtual 280, 3) := dk_182 1 24 (dk_at dksX3_fliesIn_0 18 rfl rfl)
theorem dX3_fliesIn_21 : decode cX3_fliesIn 21 = .ok (.aload_n 1, 1) := dk_43 (dk_at dksX3_fliesIn_0 21 rfl rfl)
theorem dX3_fliesIn_22 : decode cX3_fliesIn 22 = .ok (.bipush 48, 2) := dk_16 48 (dk_at dksX3_fliesIn_0 22 rfl rfl)
theorem dX3_fliesIn_24 : decode cX3_fliesIn 24 = .ok (.iload_n 2, 1) := dk_28 (dk_at dksX3_fliesIn_1 0 rfl rfl)
theorem dX3_fliesIn_25 : decode cX3_fliesIn 25 = .ok (.iadd, 1) := dk_96 (dk_at dksX3_fliesIn_1 1 rfl rfl)
theorem dX3_fliesIn_26 : decode cX3_fliesIn 26 = .ok (.iaload, 1) := dk_46 (dk_at dksX3_fliesIn_1 2 rfl rfl)
theorem dX3_fliesIn_27 : decode cX3_fliesIn 27 = .ok (.ifCond .ne 16, 3) := dk_154 0 16 (dk_at dksX3_fliesIn_1 3 rfl rfl)
theorem dX3_fliesIn_30 : decode cX3_fliesIn 30 = .ok (.iload 4, 2) := dk_21 4 (dk_at dksX3_fliesIn_1 6 rfl rfl)
theorem dX3_fliesIn_32 : decode cX3_fliesIn 32 = .ok (.iconst 2, 1) := dk_5 (dk_at dksX3_fliesIn_1 8 rfl rfl)
theorem dX3_fliesIn_33 : decode cX3_fliesIn 33 = .ok (.if_icmp .ne 7, 3) := dk_160 0 7 (dk_at dksX3_fliesIn_1 9 rfl rfl)
theorem dX3_fliesIn_36 : decode cX3_fliesIn 36 = .ok (.iload_n 3, 1) := dk_29 (dk_at dksX3_fliesIn_1 12 rfl rfl)
theorem dX3_fliesIn_37 : decode cX3_fliesIn 37 = .ok (.goto 5, 3) := dk_167 0 5 (dk_at dksX3_fliesIn_1 13 rfl rfl)
theorem dX3_fliesIn_40 : decode cX3_fliesIn 40 = .ok (.bipush (-2), 2) := dk_16 254 (dk_at dksX3_fliesIn_1 16 rfl rfl)
theorem dX3_fliesIn_42 : decode cX3_fliesIn 42 = .ok (.ireturn, 1) := dk_172 (dk_at dksX3_fliesIn_1 18 rfl rfl)
theorem dX3_fliesIn_43 : decode cX3_fliesIn 43 = .ok (.iinc 3 1, 3) := dk_132 3 1 (dk_at dksX3_fliesIn_1 19 rfl rfl)
theorem dX3_fliesIn_46 : decode cX3_fliesIn 46 = .ok (.goto (-44), 3) := dk_167 255 212 (dk_at dksX3_fliesIn_2 0 rfl rfl)
theorem dX3_fliesIn_49 : decode cX3_fliesIn 49 = .ok (.bipush (-2), 2) := dk_16 254 (dk_at dksX3_fliesIn_2 3 rfl rfl)
theorem dX3_fliesIn_51 : decode cX3_fliesIn 51 = .ok (.ireturn, 1) := dk_172 (dk_at dksX3_fliesIn_2 5 rfl rfl)
abbrev cX3_later : ByteArray := prog_9_method_71_code
def yX3_later : MethodName := ⟨RX3, "later", "(I)I"⟩
def dkwX3_later_3 : List UInt8 := [182, 0, 202, 133, 182, 1, 30, 42, 180, 0, 43, 16, 81, 46, 42, 180, 0, 9, 16, 81, 46, 100, 172]
abbrev dktX3_later_3 : List UInt8 := dkwX3_later_3 ++ []
def dkwX3_later_2 : List UInt8 := [180, 0, 43, 16, 82, 46, 42, 180, 0, 9, 16, 82, 46, 100, 133, 182, 1, 30, 42, 42, 42, 180, 0, 43]
abbrev dktX3_later_2 : List UInt8 := dkwX3_later_2 ++ dktX3_later_3
def dkwX3_later_1 : List UInt8 := [180, 0, 43, 3, 184, 0, 229, 42, 42, 180, 0, 43, 27, 182, 1, 27, 42, 3, 181, 0, 86, 42, 42]
abbrev dktX3_later_1 : List UInt8 := dkwX3_later_1 ++ dktX3_later_2
def dkwX3_later_0 : List UInt8 := [42, 3, 181, 0, 83, 27, 3, 16, 99, 184, 0, 92, 154, 0, 5, 2, 172, 42, 180, 0, 9, 42]
abbrev dktX3_later_0 : List UInt8 := dkwX3_later_0 ++ dktX3_later_1
theorem dksX3_later_0 : cX3_later.data.toList.drop 0 = dktX3_later_0 := by decide +kernel
theorem dksX3_later_1 : cX3_later.data.toList.drop 22 = dktX3_later_1 := dk_seg dksX3_later_0 22 rfl rfl
theorem dksX3_later_2 : cX3_later.data.toList.drop 45 = dktX3_later_2 := dk_seg dksX3_later_1 23 rfl rfl
theorem dksX3_later_3 : cX3_later.data.toList.drop 69 = dktX3_later_3 := dk_seg dksX3_later_2 24 rfl rfl
theorem dX3_later_0 : decode cX3_later 0 = .ok (.aload_n 0, 1) := dk_42 (dk_at dksX3_later_0 0 rfl rfl)
theorem dX3_later_1 : decode cX3_later 1 = .ok (.iconst 0, 1) := dk_3 (dk_at dksX3_later_0 1 rfl rfl)
theorem dX3_later_2 : decode cX3_later 2 = .ok (.putfield 83, 3) := dk_181 0 83 (dk_at dksX3_later_0 2 rfl rfl)
theorem dX3_later_5 : decode cX3_later 5 = .ok (.iload_n 1, 1) := dk_27 (dk_at dksX3_later_0 5 rfl rfl)
theorem dX3_later_6 : decode cX3_later 6 = .ok (.iconst 0, 1) := dk_3 (dk_at dksX3_later_0 6 rfl rfl)
theorem dX3_later_7 : decode cX3_later 7 = .ok (.bipush 99, 2) := dk_16 99 (dk_at dksX3_later_0 7 rfl rfl)
theorem dX3_later_9 : decode cX3_later 9 = .ok (.invokestatic 92, 3) := dk_184 0 92 (dk_at dksX3_later_0 9 rfl rfl)
theorem dX3_later_12 : decode cX3_later 12 = .ok (.ifCond .ne 5, 3) := dk_154 0 5 (dk_at dksX3_later_0 12 rfl rfl)
theorem dX3_later_15 : decode cX3_later 15 = .ok (.iconst (-1), 1) := dk_2 (dk_at dksX3_later_0 15 rfl rfl)
theorem dX3_later_16 : decode cX3_later 16 = .ok (.ireturn, 1) := dk_172 (dk_at dksX3_later_0 16 rfl rfl)
theorem dX3_later_17 : decode cX3_later 17 = .ok (.aload_n 0, 1) := dk_42 (dk_at dksX3_later_0 17 rfl rfl)
theorem dX3_later_18 : decode cX3_later 18 = .ok (.getfield 9, 3) := dk_180 0 9 (dk_at dksX3_later_0 18 rfl rfl)
theorem dX3_later_21 : decode cX3_later 21 = .ok (.aload_n 0, 1) := dk_42 (dk_at dksX3_later_0 21 rfl rfl)
theorem dX3_later_22 : decode cX3_later 22 = .ok (.getfield 43, 3) := dk_180 0 43 (dk_at dksX3_later_1 0 rfl rfl)
theorem dX3_later_25 : decode cX3_later 25 = .ok (.iconst 0, 1) := dk_3 (dk_at dksX3_later_1 3 rfl rfl)
theorem dX3_later_26 : decode cX3_later 26 = .ok (.invokestatic 229, 3) := dk_184 0 229 (dk_at dksX3_later_1 4 rfl rfl)
theorem dX3_later_29 : decode cX3_later 29 = .ok (.aload_n 0, 1) := dk_42 (dk_at dksX3_later_1 7 rfl rfl)
theorem dX3_later_30 : decode cX3_later 30 = .ok (.aload_n 0, 1) := dk_42 (dk_at dksX3_later_1 8 rfl rfl)
theorem dX3_later_31 : decode cX3_later 31 = .ok (.getfield 43, 3) := dk_180 0 43 (dk_at dksX3_later_1 9 rfl rfl)
theorem dX3_later_34 : decode cX3_later 34 = .ok (.iload_n 1, 1) := dk_27 (dk_at dksX3_later_1 12 rfl rfl)
theorem dX3_later_35 : decode cX3_later 35 = .ok (.invokevirtual 283, 3) := dk_182 1 27 (dk_at dksX3_later_1 13 rfl rfl)
theorem dX3_later_38 : decode cX3_later 38 = .ok (.aload_n 0, 1) := dk_42 (dk_at dksX3_later_1 16 rfl rfl)
theorem dX3_later_39 : decode cX3_later 39 = .ok (.iconst 0, 1) := dk_3 (dk_at dksX3_later_1 17 rfl rfl)
theorem dX3_later_40 : decode cX3_later 40 = .ok (.putfield 86, 3) := dk_181 0 86 (dk_at dksX3_later_1 18 rfl rfl)
theorem dX3_later_43 : decode cX3_later 43 = .ok (.aload_n 0, 1) := dk_42 (dk_at dksX3_later_1 21 rfl rfl)
theorem dX3_later_44 : decode cX3_later 44 = .ok (.aload_n 0, 1) := dk_42 (dk_at dksX3_later_1 22 rfl rfl)
theorem dX3_later_45 : decode cX3_later 45 = .ok (.getfield 43, 3) := dk_180 0 43 (dk_at dksX3_later_2 0 rfl rfl)
theorem dX3_later_48 : decode cX3_later 48 = .ok (.bipush 82, 2) := dk_16 82 (dk_at dksX3_later_2 3 rfl rfl)
theorem dX3_later_50 : decode cX3_later 50 = .ok (.iaload, 1) := dk_46 (dk_at dksX3_later_2 5 rfl rfl)
theorem dX3_later_51 : decode cX3_later 51 = .ok (.aload_n 0, 1) := dk_42 (dk_at dksX3_later_2 6 rfl rfl)
theorem dX3_later_52 : decode cX3_later 52 = .ok (.getfield 9, 3) := dk_180 0 9 (dk_at dksX3_later_2 7 rfl rfl)
theorem dX3_later_55 : decode cX3_later 55 = .ok (.bipush 82, 2) := dk_16 82 (dk_at dksX3_later_2 10 rfl rfl)
theorem dX3_later_57 : decode cX3_later 57 = .ok (.iaload, 1) := dk_46 (dk_at dksX3_later_2 12 rfl rfl)
theorem dX3_later_58 : decode cX3_later 58 = .ok (.isub, 1) := dk_100 (dk_at dksX3_later_2 13 rfl rfl)
theorem dX3_later_59 : decode cX3_later 59 = .ok (.i2l, 1) := dk_133 (dk_at dksX3_later_2 14 rfl rfl)
theorem dX3_later_60 : decode cX3_later 60 = .ok (.invokevirtual 286, 3) := dk_182 1 30 (dk_at dksX3_later_2 15 rfl rfl)
theorem dX3_later_63 : decode cX3_later 63 = .ok (.aload_n 0, 1) := dk_42 (dk_at dksX3_later_2 18 rfl rfl)
theorem dX3_later_64 : decode cX3_later 64 = .ok (.aload_n 0, 1) := dk_42 (dk_at dksX3_later_2 19 rfl rfl)
theorem dX3_later_65 : decode cX3_later 65 = .ok (.aload_n 0, 1) := dk_42 (dk_at dksX3_later_2 20 rfl rfl)
theorem dX3_later_66 : decode cX3_later 66 = .ok (.getfield 43, 3) := dk_180 0 43 (dk_at dksX3_later_2 21 rfl rfl)
theorem dX3_later_69 : decode cX3_later 69 = .ok (.invokevirtual 202, 3) := dk_182 0 202 (dk_at dksX3_later_3 0 rfl rfl)
theorem dX3_later_72 : decode cX3_later 72 = .ok (.i2l, 1) := dk_133 (dk_at dksX3_later_3 3 rfl rfl)
theorem dX3_later_73 : decode cX3_later 73 = .ok (.invokevirtual 286, 3) := dk_182 1 30 (dk_at dksX3_later_3 4 rfl rfl)
theorem dX3_later_76 : decode cX3_later 76 = .ok (.aload_n 0, 1) := dk_42 (dk_at dksX3_later_3 7 rfl rfl)
theorem dX3_later_77 : decode cX3_later 77 = .ok (.getfield 43, 3) := dk_180 0 43 (dk_at dksX3_later_3 8 rfl rfl)
theorem dX3_later_80 : decode cX3_later 80 = .ok (.bipush 81, 2) := dk_16 81 (dk_at dksX3_later_3 11 rfl rfl)
theorem dX3_later_82 : decode cX3_later 82 = .ok (.iaload, 1) := dk_46 (dk_at dksX3_later_3 13 rfl rfl)
theorem dX3_later_83 : decode cX3_later 83 = .ok (.aload_n 0, 1) := dk_42 (dk_at dksX3_later_3 14 rfl rfl)
theorem dX3_later_84 : decode cX3_later 84 = .ok (.getfield 9, 3) := dk_180 0 9 (dk_at dksX3_later_3 15 rfl rfl)
theorem dX3_later_87 : decode cX3_later 87 = .ok (.bipush 81, 2) := dk_16 81 (dk_at dksX3_later_3 18 rfl rfl)
theorem dX3_later_89 : decode cX3_later 89 = .ok (.iaload, 1) := dk_46 (dk_at dksX3_later_3 20 rfl rfl)
theorem dX3_later_90 : decode cX3_later 90 = .ok (.isub, 1) := dk_100 (dk_at dksX3_later_3 21 rfl rfl)
theorem dX3_later_91 : decode cX3_later 91 = .ok (.ireturn, 1) := dk_172 (dk_at dksX3_later_3 22 rfl rfl)
abbrev cX3_place : ByteArray := prog_9_method_74_code
def yX3_place : MethodName := ⟨RX3, "place", "()I"⟩
def dkwX3_place_5 : List UInt8 := [132, 2, 1, 167, 255, 237, 42, 180, 1, 49, 42, 180, 0, 9, 16, 81, 46, 100, 172]
abbrev dktX3_place_5 : List UInt8 := dkwX3_place_5 ++ []
def dkwX3_place_4 : List UInt8 := [3, 181, 0, 86, 3, 61, 28, 27, 162, 0, 20, 42, 42, 180, 0, 58, 28, 46, 133, 182, 1, 30]
abbrev dktX3_place_4 : List UInt8 := dkwX3_place_4 ++ dktX3_place_5
def dkwX3_place_3 : List UInt8 := [27, 162, 0, 7, 17, 255, 56, 172, 42, 2, 181, 1, 49, 42, 3, 27, 42, 182, 1, 56, 182, 1, 52, 42]
abbrev dktX3_place_3 : List UInt8 := dkwX3_place_3 ++ dktX3_place_4
def dkwX3_place_2 : List UInt8 := [167, 255, 220, 42, 182, 0, 152, 154, 0, 10, 2, 42, 180, 0, 115, 100, 172, 42, 182, 1, 56, 184, 0, 206]
abbrev dktX3_place_2 : List UInt8 := dkwX3_place_2 ++ dktX3_place_3
def dkwX3_place_1 : List UInt8 := [182, 0, 126, 2, 159, 0, 23, 42, 180, 0, 52, 27, 42, 16, 48, 16, 10, 182, 0, 138, 79, 132, 1, 1]
abbrev dktX3_place_1 : List UInt8 := dkwX3_place_1 ++ dktX3_place_2
def dkwX3_place_0 : List UInt8 := [42, 3, 181, 0, 83, 42, 7, 182, 0, 146, 3, 60, 42, 182, 0, 122, 153, 0, 35, 27, 153, 0, 11, 42]
abbrev dktX3_place_0 : List UInt8 := dkwX3_place_0 ++ dktX3_place_1
theorem dksX3_place_0 : cX3_place.data.toList.drop 0 = dktX3_place_0 := by decide +kernel
theorem dksX3_place_1 : cX3_place.data.toList.drop 24 = dktX3_place_1 := dk_seg dksX3_place_0 24 rfl rfl
theorem dksX3_place_2 : cX3_place.data.toList.drop 48 = dktX3_place_2 := dk_seg dksX3_place_1 24 rfl rfl
theorem dksX3_place_3 : cX3_place.data.toList.drop 72 = dktX3_place_3 := dk_seg dksX3_place_2 24 rfl rfl
theorem dksX3_place_4 : cX3_place.data.toList.drop 96 = dktX3_place_4 := dk_seg dksX3_place_3 24 rfl rfl
theorem dksX3_place_5 : cX3_place.data.toList.drop 118 = dktX3_place_5 := dk_seg dksX3_place_4 22 rfl rfl
theorem dX3_place_0 : decode cX3_place 0 = .ok (.aload_n 0, 1) := dk_42 (dk_at dksX3_place_0 0 rfl rfl)
theorem dX3_place_1 : decode cX3_place 1 = .ok (.iconst 0, 1) := dk_3 (dk_at dksX3_place_0 1 rfl rfl)
theorem dX3_place_2 : decode cX3_place 2 = .ok (.putfield 83, 3) := dk_181 0 83 (dk_at dksX3_place_0 2 rfl rfl)
theorem dX3_place_5 : decode cX3_place 5 = .ok (.aload_n 0, 1) := dk_42 (dk_at dksX3_place_0 5 rfl rfl)
theorem dX3_place_6 : decode cX3_place 6 = .ok (.iconst 4, 1) := dk_7 (dk_at dksX3_place_0 6 rfl rfl)
theorem dX3_place_7 : decode cX3_place 7 = .ok (.invokevirtual 146, 3) := dk_182 0 146 (dk_at dksX3_place_0 7 rfl rfl)
theorem dX3_place_10 : decode cX3_place 10 = .ok (.iconst 0, 1) := dk_3 (dk_at dksX3_place_0 10 rfl rfl)
theorem dX3_place_11 : decode cX3_place 11 = .ok (.istore_n 1, 1) := dk_60 (dk_at dksX3_place_0 11 rfl rfl)
theorem dX3_place_12 : decode cX3_place 12 = .ok (.aload_n 0, 1) := dk_42 (dk_at dksX3_place_0 12 rfl rfl)
theorem dX3_place_13 : decode cX3_place 13 = .ok (.invokevirtual 122, 3) := dk_182 0 122 (dk_at dksX3_place_0 13 rfl rfl)
theorem dX3_place_16 : decode cX3_place 16 = .ok (.ifCond .eq 35, 3) := dk_153 0 35 (dk_at dksX3_place_0 16 rfl rfl)
theorem dX3_place_19 : decode cX3_place 19 = .ok (.iload_n 1, 1) := dk_27 (dk_at dksX3_place_0 19 rfl rfl)
theorem dX3_place_20 : decode cX3_place 20 = .ok (.ifCond .eq 11, 3) := dk_153 0 11 (dk_at dksX3_place_0 20 rfl rfl)
theorem dX3_place_23 : decode cX3_place 23 = .ok (.aload_n 0, 1) := dk_42 (dk_at dksX3_place_0 23 rfl rfl)
theorem dX3_place_24 : decode cX3_place 24 = .ok (.invokevirtual 126, 3) := dk_182 0 126 (dk_at dksX3_place_1 0 rfl rfl)
theorem dX3_place_27 : decode cX3_place 27 = .ok (.iconst (-1), 1) := dk_2 (dk_at dksX3_place_1 3 rfl rfl)
theorem dX3_place_28 : decode cX3_place 28 = .ok (.if_icmp .eq 23, 3) := dk_159 0 23 (dk_at dksX3_place_1 4 rfl rfl)
theorem dX3_place_31 : decode cX3_place 31 = .ok (.aload_n 0, 1) := dk_42 (dk_at dksX3_place_1 7 rfl rfl)
theorem dX3_place_32 : decode cX3_place 32 = .ok (.getfield 52, 3) := dk_180 0 52 (dk_at dksX3_place_1 8 rfl rfl)
theorem dX3_place_35 : decode cX3_place 35 = .ok (.iload_n 1, 1) := dk_27 (dk_at dksX3_place_1 11 rfl rfl)
theorem dX3_place_36 : decode cX3_place 36 = .ok (.aload_n 0, 1) := dk_42 (dk_at dksX3_place_1 12 rfl rfl)
theorem dX3_place_37 : decode cX3_place 37 = .ok (.bipush 48, 2) := dk_16 48 (dk_at dksX3_place_1 13 rfl rfl)
theorem dX3_place_39 : decode cX3_place 39 = .ok (.bipush 10, 2) := dk_16 10 (dk_at dksX3_place_1 15 rfl rfl)
theorem dX3_place_41 : decode cX3_place 41 = .ok (.invokevirtual 138, 3) := dk_182 0 138 (dk_at dksX3_place_1 17 rfl rfl)
theorem dX3_place_44 : decode cX3_place 44 = .ok (.iastore, 1) := dk_79 (dk_at dksX3_place_1 20 rfl rfl)
theorem dX3_place_45 : decode cX3_place 45 = .ok (.iinc 1 1, 3) := dk_132 1 1 (dk_at dksX3_place_1 21 rfl rfl)
theorem dX3_place_48 : decode cX3_place 48 = .ok (.goto (-36), 3) := dk_167 255 220 (dk_at dksX3_place_2 0 rfl rfl)
theorem dX3_place_51 : decode cX3_place 51 = .ok (.aload_n 0, 1) := dk_42 (dk_at dksX3_place_2 3 rfl rfl)
theorem dX3_place_52 : decode cX3_place 52 = .ok (.invokevirtual 152, 3) := dk_182 0 152 (dk_at dksX3_place_2 4 rfl rfl)
theorem dX3_place_55 : decode cX3_place 55 = .ok (.ifCond .ne 10, 3) := dk_154 0 10 (dk_at dksX3_place_2 7 rfl rfl)
theorem dX3_place_58 : decode cX3_place 58 = .ok (.iconst (-1), 1) := dk_2 (dk_at dksX3_place_2 10 rfl rfl)
theorem dX3_place_59 : decode cX3_place 59 = .ok (.aload_n 0, 1) := dk_42 (dk_at dksX3_place_2 11 rfl rfl)
theorem dX3_place_60 : decode cX3_place 60 = .ok (.getfield 115, 3) := dk_180 0 115 (dk_at dksX3_place_2 12 rfl rfl)
theorem dX3_place_63 : decode cX3_place 63 = .ok (.isub, 1) := dk_100 (dk_at dksX3_place_2 15 rfl rfl)
theorem dX3_place_64 : decode cX3_place 64 = .ok (.ireturn, 1) := dk_172 (dk_at dksX3_place_2 16 rfl rfl)
theorem dX3_place_65 : decode cX3_place 65 = .ok (.aload_n 0, 1) := dk_42 (dk_at dksX3_place_2 17 rfl rfl)
theorem dX3_place_66 : decode cX3_place 66 = .ok (.invokevirtual 312, 3) := dk_182 1 56 (dk_at dksX3_place_2 18 rfl rfl)
theorem dX3_place_69 : decode cX3_place 69 = .ok (.invokestatic 206, 3) := dk_184 0 206 (dk_at dksX3_place_2 21 rfl rfl)
theorem dX3_place_72 : decode cX3_place 72 = .ok (.iload_n 1, 1) := dk_27 (dk_at dksX3_place_3 0 rfl rfl)
theorem dX3_place_73 : decode cX3_place 73 = .ok (.if_icmp .ge 7, 3) := dk_162 0 7 (dk_at dksX3_place_3 1 rfl rfl)
theorem dX3_place_76 : decode cX3_place 76 = .ok (.sipush (-200), 3) := dk_17 255 56 (dk_at dksX3_place_3 4 rfl rfl)
theorem dX3_place_79 : decode cX3_place 79 = .ok (.ireturn, 1) := dk_172 (dk_at dksX3_place_3 7 rfl rfl)
theorem dX3_place_80 : decode cX3_place 80 = .ok (.aload_n 0, 1) := dk_42 (dk_at dksX3_place_3 8 rfl rfl)
theorem dX3_place_81 : decode cX3_place 81 = .ok (.iconst (-1), 1) := dk_2 (dk_at dksX3_place_3 9 rfl rfl)
theorem dX3_place_82 : decode cX3_place 82 = .ok (.putfield 305, 3) := dk_181 1 49 (dk_at dksX3_place_3 10 rfl rfl)
theorem dX3_place_85 : decode cX3_place 85 = .ok (.aload_n 0, 1) := dk_42 (dk_at dksX3_place_3 13 rfl rfl)
theorem dX3_place_86 : decode cX3_place 86 = .ok (.iconst 0, 1) := dk_3 (dk_at dksX3_place_3 14 rfl rfl)
theorem dX3_place_87 : decode cX3_place 87 = .ok (.iload_n 1, 1) := dk_27 (dk_at dksX3_place_3 15 rfl rfl)
theorem dX3_place_88 : decode cX3_place 88 = .ok (.aload_n 0, 1) := dk_42 (dk_at dksX3_place_3 16 rfl rfl)
theorem dX3_place_89 : decode cX3_place 89 = .ok (.invokevirtual 312, 3) := dk_182 1 56 (dk_at dksX3_place_3 17 rfl rfl)
theorem dX3_place_92 : decode cX3_place 92 = .ok (.invokevirtual 308, 3) := dk_182 1 52 (dk_at dksX3_place_3 20 rfl rfl)
theorem dX3_place_95 : decode cX3_place 95 = .ok (.aload_n 0, 1) := dk_42 (dk_at dksX3_place_3 23 rfl rfl)
theorem dX3_place_96 : decode cX3_place 96 = .ok (.iconst 0, 1) := dk_3 (dk_at dksX3_place_4 0 rfl rfl)
theorem dX3_place_97 : decode cX3_place 97 = .ok (.putfield 86, 3) := dk_181 0 86 (dk_at dksX3_place_4 1 rfl rfl)
theorem dX3_place_100 : decode cX3_place 100 = .ok (.iconst 0, 1) := dk_3 (dk_at dksX3_place_4 4 rfl rfl)
theorem dX3_place_101 : decode cX3_place 101 = .ok (.istore_n 2, 1) := dk_61 (dk_at dksX3_place_4 5 rfl rfl)
theorem dX3_place_102 : decode cX3_place 102 = .ok (.iload_n 2, 1) := dk_28 (dk_at dksX3_place_4 6 rfl rfl)
theorem dX3_place_103 : decode cX3_place 103 = .ok (.iload_n 1, 1) := dk_27 (dk_at dksX3_place_4 7 rfl rfl)
theorem dX3_place_104 : decode cX3_place 104 = .ok (.if_icmp .ge 20, 3) := dk_162 0 20 (dk_at dksX3_place_4 8 rfl rfl)
theorem dX3_place_107 : decode cX3_place 107 = .ok (.aload_n 0, 1) := dk_42 (dk_at dksX3_place_4 11 rfl rfl)
theorem dX3_place_108 : decode cX3_place 108 = .ok (.aload_n 0, 1) := dk_42 (dk_at dksX3_place_4 12 rfl rfl)
theorem dX3_place_109 : decode cX3_place 109 = .ok (.getfield 58, 3) := dk_180 0 58 (dk_at dksX3_place_4 13 rfl rfl)
theorem dX3_place_112 : decode cX3_place 112 = .ok (.iload_n 2, 1) := dk_28 (dk_at dksX3_place_4 16 rfl rfl)
theorem dX3_place_113 : decode cX3_place 113 = .ok (.iaload, 1) := dk_46 (dk_at dksX3_place_4 17 rfl rfl)
theorem dX3_place_114 : decode cX3_place 114 = .ok (.i2l, 1) := dk_133 (dk_at dksX3_place_4 18 rfl rfl)
theorem dX3_place_115 : decode cX3_place 115 = .ok (.invokevirtual 286, 3) := dk_182 1 30 (dk_at dksX3_place_4 19 rfl rfl)
theorem dX3_place_118 : decode cX3_place 118 = .ok (.iinc 2 1, 3) := dk_132 2 1 (dk_at dksX3_place_5 0 rfl rfl)
theorem dX3_place_121 : decode cX3_place 121 = .ok (.goto (-19), 3) := dk_167 255 237 (dk_at dksX3_place_5 3 rfl rfl)
theorem dX3_place_124 : decode cX3_place 124 = .ok (.aload_n 0, 1) := dk_42 (dk_at dksX3_place_5 6 rfl rfl)
theorem dX3_place_125 : decode cX3_place 125 = .ok (.getfield 305, 3) := dk_180 1 49 (dk_at dksX3_place_5 7 rfl rfl)
theorem dX3_place_128 : decode cX3_place 128 = .ok (.aload_n 0, 1) := dk_42 (dk_at dksX3_place_5 10 rfl rfl)
theorem dX3_place_129 : decode cX3_place 129 = .ok (.getfield 9, 3) := dk_180 0 9 (dk_at dksX3_place_5 11 rfl rfl)
theorem dX3_place_132 : decode cX3_place 132 = .ok (.bipush 81, 2) := dk_16 81 (dk_at dksX3_place_5 14 rfl rfl)
theorem dX3_place_134 : decode cX3_place 134 = .ok (.iaload, 1) := dk_46 (dk_at dksX3_place_5 16 rfl rfl)
theorem dX3_place_135 : decode cX3_place 135 = .ok (.isub, 1) := dk_100 (dk_at dksX3_place_5 17 rfl rfl)
theorem dX3_place_136 : decode cX3_place 136 = .ok (.ireturn, 1) := dk_172 (dk_at dksX3_place_5 18 rfl rfl)
abbrev cX3_openFree : ByteArray := prog_9_method_73_code
def yX3_openFree : MethodName := ⟨RX3, "openFree", "()I"⟩
def dkwX3_openFree_1 : List UInt8 := [154, 0, 9, 4, 28, 120, 167, 0, 4, 3, 128, 60, 132, 2, 1, 167, 255, 222, 27, 172]
abbrev dktX3_openFree_1 : List UInt8 := dkwX3_openFree_1 ++ []
def dkwX3_openFree_0 : List UInt8 := [3, 60, 3, 61, 28, 42, 180, 0, 89, 162, 0, 32, 27, 42, 42, 180, 0, 9, 28, 3, 182, 1, 0]
abbrev dktX3_openFree_0 : List UInt8 := dkwX3_openFree_0 ++ dktX3_openFree_1
theorem dksX3_openFree_0 : cX3_openFree.data.toList.drop 0 = dktX3_openFree_0 := by decide +kernel
theorem dksX3_openFree_1 : cX3_openFree.data.toList.drop 23 = dktX3_openFree_1 := dk_seg dksX3_openFree_0 23 rfl rfl
theorem dX3_openFree_0 : decode cX3_openFree 0 = .ok (.iconst 0, 1) := dk_3 (dk_at dksX3_openFree_0 0 rfl rfl)
theorem dX3_openFree_1 : decode cX3_openFree 1 = .ok (.istore_n 1, 1) := dk_60 (dk_at dksX3_openFree_0 1 rfl rfl)
theorem dX3_openFree_2 : decode cX3_openFree 2 = .ok (.iconst 0, 1) := dk_3 (dk_at dksX3_openFree_0 2 rfl rfl)
theorem dX3_openFree_3 : decode cX3_openFree 3 = .ok (.istore_n 2, 1) := dk_61 (dk_at dksX3_openFree_0 3 rfl rfl)
theorem dX3_openFree_4 : decode cX3_openFree 4 = .ok (.iload_n 2, 1) := dk_28 (dk_at dksX3_openFree_0 4 rfl rfl)
theorem dX3_openFree_5 : decode cX3_openFree 5 = .ok (.aload_n 0, 1) := dk_42 (dk_at dksX3_openFree_0 5 rfl rfl)
theorem dX3_openFree_6 : decode cX3_openFree 6 = .ok (.getfield 89, 3) := dk_180 0 89 (dk_at dksX3_openFree_0 6 rfl rfl)
theorem dX3_openFree_9 : decode cX3_openFree 9 = .ok (.if_icmp .ge 32, 3) := dk_162 0 32 (dk_at dksX3_openFree_0 9 rfl rfl)
theorem dX3_openFree_12 : decode cX3_openFree 12 = .ok (.iload_n 1, 1) := dk_27 (dk_at dksX3_openFree_0 12 rfl rfl)
theorem dX3_openFree_13 : decode cX3_openFree 13 = .ok (.aload_n 0, 1) := dk_42 (dk_at dksX3_openFree_0 13 rfl rfl)
theorem dX3_openFree_14 : decode cX3_openFree 14 = .ok (.aload_n 0, 1) := dk_42 (dk_at dksX3_openFree_0 14 rfl rfl)
theorem dX3_openFree_15 : decode cX3_openFree 15 = .ok (.getfield 9, 3) := dk_180 0 9 (dk_at dksX3_openFree_0 15 rfl rfl)
theorem dX3_openFree_18 : decode cX3_openFree 18 = .ok (.iload_n 2, 1) := dk_28 (dk_at dksX3_openFree_0 18 rfl rfl)
theorem dX3_openFree_19 : decode cX3_openFree 19 = .ok (.iconst 0, 1) := dk_3 (dk_at dksX3_openFree_0 19 rfl rfl)
theorem dX3_openFree_20 : decode cX3_openFree 20 = .ok (.invokevirtual 256, 3) := dk_182 1 0 (dk_at dksX3_openFree_0 20 rfl rfl)
theorem dX3_openFree_23 : decode cX3_openFree 23 = .ok (.ifCond .ne 9, 3) := dk_154 0 9 (dk_at dksX3_openFree_1 0 rfl rfl)
theorem dX3_openFree_26 : decode cX3_openFree 26 = .ok (.iconst 1, 1) := dk_4 (dk_at dksX3_openFree_1 3 rfl rfl)
theorem dX3_openFree_27 : decode cX3_openFree 27 = .ok (.iload_n 2, 1) := dk_28 (dk_at dksX3_openFree_1 4 rfl rfl)
theorem dX3_openFree_28 : decode cX3_openFree 28 = .ok (.ishl, 1) := dk_120 (dk_at dksX3_openFree_1 5 rfl rfl)
theorem dX3_openFree_29 : decode cX3_openFree 29 = .ok (.goto 4, 3) := dk_167 0 4 (dk_at dksX3_openFree_1 6 rfl rfl)
theorem dX3_openFree_32 : decode cX3_openFree 32 = .ok (.iconst 0, 1) := dk_3 (dk_at dksX3_openFree_1 9 rfl rfl)
theorem dX3_openFree_33 : decode cX3_openFree 33 = .ok (.ior, 1) := dk_128 (dk_at dksX3_openFree_1 10 rfl rfl)
theorem dX3_openFree_34 : decode cX3_openFree 34 = .ok (.istore_n 1, 1) := dk_60 (dk_at dksX3_openFree_1 11 rfl rfl)
theorem dX3_openFree_35 : decode cX3_openFree 35 = .ok (.iinc 2 1, 3) := dk_132 2 1 (dk_at dksX3_openFree_1 12 rfl rfl)
theorem dX3_openFree_38 : decode cX3_openFree 38 = .ok (.goto (-34), 3) := dk_167 255 222 (dk_at dksX3_openFree_1 15 rfl rfl)
theorem dX3_openFree_41 : decode cX3_openFree 41 = .ok (.iload_n 1, 1) := dk_27 (dk_at dksX3_openFree_1 18 rfl rfl)
theorem dX3_openFree_42 : decode cX3_openFree 42 = .ok (.ireturn, 1) := dk_172 (dk_at dksX3_openFree_1 19 rfl rfl)
abbrev cX3_goPlace : ByteArray := prog_9_method_72_code
def yX3_goPlace : MethodName := ⟨RX3, "goPlace", "(III)V"⟩
def dkwX3_goPlace_7 : List UInt8 := [132, 4, 1, 167, 255, 208, 177]
abbrev dktX3_goPlace_7 : List UInt8 := dkwX3_goPlace_7 ++ []
def dkwX3_goPlace_6 : List UInt8 := [42, 180, 0, 55, 27, 21, 4, 79, 42, 27, 4, 96, 28, 29, 4, 21, 4, 120, 2, 130, 126, 182, 1, 52]
abbrev dktX3_goPlace_6 : List UInt8 := dkwX3_goPlace_6 ++ dktX3_goPlace_7
def dkwX3_goPlace_5 : List UInt8 := [3, 54, 4, 21, 4, 42, 180, 0, 89, 162, 0, 45, 29, 21, 4, 184, 1, 21, 154, 0, 6, 167, 0, 27]
abbrev dktX3_goPlace_5 : List UInt8 := dkwX3_goPlace_5 ++ dktX3_goPlace_6
def dkwX3_goPlace_4 : List UInt8 := [162, 0, 23, 42, 180, 0, 58, 21, 4, 42, 180, 0, 55, 21, 4, 46, 79, 132, 4, 1, 167, 255, 233, 177]
abbrev dktX3_goPlace_4 : List UInt8 := dkwX3_goPlace_4 ++ dktX3_goPlace_5
def dkwX3_goPlace_3 : List UInt8 := [180, 1, 49, 163, 0, 4, 177, 42, 42, 180, 0, 43, 16, 81, 46, 181, 1, 49, 3, 54, 4, 21, 4, 28]
abbrev dktX3_goPlace_3 : List UInt8 := dkwX3_goPlace_3 ++ dktX3_goPlace_4
def dkwX3_goPlace_2 : List UInt8 := [132, 4, 1, 167, 255, 226, 42, 42, 180, 0, 43, 16, 60, 182, 1, 27, 42, 180, 0, 43, 16, 81, 46, 42]
abbrev dktX3_goPlace_2 : List UInt8 := dkwX3_goPlace_2 ++ dktX3_goPlace_3
def dkwX3_goPlace_1 : List UInt8 := [162, 0, 30, 42, 180, 0, 43, 42, 180, 0, 55, 21, 4, 46, 42, 180, 0, 52, 21, 4, 46, 184, 1, 4]
abbrev dktX3_goPlace_1 : List UInt8 := dkwX3_goPlace_1 ++ dktX3_goPlace_2
def dkwX3_goPlace_0 : List UInt8 := [27, 28, 160, 0, 117, 42, 180, 0, 9, 42, 180, 0, 43, 3, 184, 0, 229, 3, 54, 4, 21, 4, 28]
abbrev dktX3_goPlace_0 : List UInt8 := dkwX3_goPlace_0 ++ dktX3_goPlace_1
theorem dksX3_goPlace_0 : cX3_goPlace.data.toList.drop 0 = dktX3_goPlace_0 := by decide +kernel
theorem dksX3_goPlace_1 : cX3_goPlace.data.toList.drop 23 = dktX3_goPlace_1 := dk_seg dksX3_goPlace_0 23 rfl rfl
theorem dksX3_goPlace_2 : cX3_goPlace.data.toList.drop 47 = dktX3_goPlace_2 := dk_seg dksX3_goPlace_1 24 rfl rfl
theorem dksX3_goPlace_3 : cX3_goPlace.data.toList.drop 71 = dktX3_goPlace_3 := dk_seg dksX3_goPlace_2 24 rfl rfl
theorem dksX3_goPlace_4 : cX3_goPlace.data.toList.drop 95 = dktX3_goPlace_4 := dk_seg dksX3_goPlace_3 24 rfl rfl
theorem dksX3_goPlace_5 : cX3_goPlace.data.toList.drop 119 = dktX3_goPlace_5 := dk_seg dksX3_goPlace_4 24 rfl rfl
theorem dksX3_goPlace_6 : cX3_goPlace.data.toList.drop 143 = dktX3_goPlace_6 := dk_seg dksX3_goPlace_5 24 rfl rfl
theorem dksX3_goPlace_7 : cX3_goPlace.data.toList.drop 167 = dktX3_goPlace_7 := dk_seg dksX3_goPlace_6 24 rfl rfl
theorem dX3_goPlace_0 : decode cX3_goPlace 0 = .ok (.iload_n 1, 1) := dk_27 (dk_at dksX3_goPlace_0 0 rfl rfl)
theorem dX3_goPlace_1 : decode cX3_goPlace 1 = .ok (.iload_n 2, 1) := dk_28 (dk_at dksX3_goPlace_0 1 rfl rfl)
theorem dX3_goPlace_2 : decode cX3_goPlace 2 = .ok (.if_icmp .ne 117, 3) := dk_160 0 117 (dk_at dksX3_goPlace_0 2 rfl rfl)
theorem dX3_goPlace_5 : decode cX3_goPlace 5 = .ok (.aload_n 0, 1) := dk_42 (dk_at dksX3_goPlace_0 5 rfl rfl)
theorem dX3_goPlace_6 : decode cX3_goPlace 6 = .ok (.getfield 9, 3) := dk_180 0 9 (dk_at dksX3_goPlace_0 6 rfl rfl)
theorem dX3_goPlace_9 : decode cX3_goPlace 9 = .ok (.aload_n 0, 1) := dk_42 (dk_at dksX3_goPlace_0 9 rfl rfl)
theorem dX3_goPlace_10 : decode cX3_goPlace 10 = .ok (.getfield 43, 3) := dk_180 0 43 (dk_at dksX3_goPlace_0 10 rfl rfl)
theorem dX3_goPlace_13 : decode cX3_goPlace 13 = .ok (.iconst 0, 1) := dk_3 (dk_at dksX3_goPlace_0 13 rfl rfl)
theorem dX3_goPlace_14 : decode cX3_goPlace 14 = .ok (.invokestatic 229, 3) := dk_184 0 229 (dk_at dksX3_goPlace_0 14 rfl rfl)
theorem dX3_goPlace_17 : decode cX3_goPlace 17 = .ok (.iconst 0, 1) := dk_3 (dk_at dksX3_goPlace_0 17 rfl rfl)
theorem dX3_goPlace_18 : decode cX3_goPlace 18 = .ok (.istore 4, 2) := dk_54 4 (dk_at dksX3_goPlace_0 18 rfl rfl)
theorem dX3_goPlace_20 : decode cX3_goPlace 20 = .ok (.iload 4, 2) := dk_21 4 (dk_at dksX3_goPlace_0 20 rfl rfl)
theorem dX3_goPlace_22 : decode cX3_goPlace 22 = .ok (.iload_n 2, 1) := dk_28 (dk_at dksX3_goPlace_0 22 rfl rfl)
theorem dX3_goPlace_23 : decode cX3_goPlace 23 = .ok (.if_icmp .ge 30, 3) := dk_162 0 30 (dk_at dksX3_goPlace_1 0 rfl rfl)
theorem dX3_goPlace_26 : decode cX3_goPlace 26 = .ok (.aload_n 0, 1) := dk_42 (dk_at dksX3_goPlace_1 3 rfl rfl)
theorem dX3_goPlace_27 : decode cX3_goPlace 27 = .ok (.getfield 43, 3) := dk_180 0 43 (dk_at dksX3_goPlace_1 4 rfl rfl)
theorem dX3_goPlace_30 : decode cX3_goPlace 30 = .ok (.aload_n 0, 1) := dk_42 (dk_at dksX3_goPlace_1 7 rfl rfl)
theorem dX3_goPlace_31 : decode cX3_goPlace 31 = .ok (.getfield 55, 3) := dk_180 0 55 (dk_at dksX3_goPlace_1 8 rfl rfl)
theorem dX3_goPlace_34 : decode cX3_goPlace 34 = .ok (.iload 4, 2) := dk_21 4 (dk_at dksX3_goPlace_1 11 rfl rfl)
theorem dX3_goPlace_36 : decode cX3_goPlace 36 = .ok (.iaload, 1) := dk_46 (dk_at dksX3_goPlace_1 13 rfl rfl)
theorem dX3_goPlace_37 : decode cX3_goPlace 37 = .ok (.aload_n 0, 1) := dk_42 (dk_at dksX3_goPlace_1 14 rfl rfl)
theorem dX3_goPlace_38 : decode cX3_goPlace 38 = .ok (.getfield 52, 3) := dk_180 0 52 (dk_at dksX3_goPlace_1 15 rfl rfl)
theorem dX3_goPlace_41 : decode cX3_goPlace 41 = .ok (.iload 4, 2) := dk_21 4 (dk_at dksX3_goPlace_1 18 rfl rfl)
theorem dX3_goPlace_43 : decode cX3_goPlace 43 = .ok (.iaload, 1) := dk_46 (dk_at dksX3_goPlace_1 20 rfl rfl)
theorem dX3_goPlace_44 : decode cX3_goPlace 44 = .ok (.invokestatic 260, 3) := dk_184 1 4 (dk_at dksX3_goPlace_1 21 rfl rfl)
theorem dX3_goPlace_47 : decode cX3_goPlace 47 = .ok (.iinc 4 1, 3) := dk_132 4 1 (dk_at dksX3_goPlace_2 0 rfl rfl)
theorem dX3_goPlace_50 : decode cX3_goPlace 50 = .ok (.goto (-30), 3) := dk_167 255 226 (dk_at dksX3_goPlace_2 3 rfl rfl)
theorem dX3_goPlace_53 : decode cX3_goPlace 53 = .ok (.aload_n 0, 1) := dk_42 (dk_at dksX3_goPlace_2 6 rfl rfl)
theorem dX3_goPlace_54 : decode cX3_goPlace 54 = .ok (.aload_n 0, 1) := dk_42 (dk_at dksX3_goPlace_2 7 rfl rfl)
theorem dX3_goPlace_55 : decode cX3_goPlace 55 = .ok (.getfield 43, 3) := dk_180 0 43 (dk_at dksX3_goPlace_2 8 rfl rfl)
theorem dX3_goPlace_58 : decode cX3_goPlace 58 = .ok (.bipush 60, 2) := dk_16 60 (dk_at dksX3_goPlace_2 11 rfl rfl)
theorem dX3_goPlace_60 : decode cX3_goPlace 60 = .ok (.invokevirtual 283, 3) := dk_182 1 27 (dk_at dksX3_goPlace_2 13 rfl rfl)
theorem dX3_goPlace_63 : decode cX3_goPlace 63 = .ok (.aload_n 0, 1) := dk_42 (dk_at dksX3_goPlace_2 16 rfl rfl)
theorem dX3_goPlace_64 : decode cX3_goPlace 64 = .ok (.getfield 43, 3) := dk_180 0 43 (dk_at dksX3_goPlace_2 17 rfl rfl)
theorem dX3_goPlace_67 : decode cX3_goPlace 67 = .ok (.bipush 81, 2) := dk_16 81 (dk_at dksX3_goPlace_2 20 rfl rfl)
theorem dX3_goPlace_69 : decode cX3_goPlace 69 = .ok (.iaload, 1) := dk_46 (dk_at dksX3_goPlace_2 22 rfl rfl)
theorem dX3_goPlace_70 : decode cX3_goPlace 70 = .ok (.aload_n 0, 1) := dk_42 (dk_at dksX3_goPlace_2 23 rfl rfl)
theorem dX3_goPlace_71 : decode cX3_goPlace 71 = .ok (.getfield 305, 3) := dk_180 1 49 (dk_at dksX3_goPlace_3 0 rfl rfl)
theorem dX3_goPlace_74 : decode cX3_goPlace 74 = .ok (.if_icmp .gt 4, 3) := dk_163 0 4 (dk_at dksX3_goPlace_3 3 rfl rfl)
theorem dX3_goPlace_77 : decode cX3_goPlace 77 = .ok (.return_, 1) := dk_177 (dk_at dksX3_goPlace_3 6 rfl rfl)
theorem dX3_goPlace_78 : decode cX3_goPlace 78 = .ok (.aload_n 0, 1) := dk_42 (dk_at dksX3_goPlace_3 7 rfl rfl)
theorem dX3_goPlace_79 : decode cX3_goPlace 79 = .ok (.aload_n 0, 1) := dk_42 (dk_at dksX3_goPlace_3 8 rfl rfl)
theorem dX3_goPlace_80 : decode cX3_goPlace 80 = .ok (.getfield 43, 3) := dk_180 0 43 (dk_at dksX3_goPlace_3 9 rfl rfl)
theorem dX3_goPlace_83 : decode cX3_goPlace 83 = .ok (.bipush 81, 2) := dk_16 81 (dk_at dksX3_goPlace_3 12 rfl rfl)
theorem dX3_goPlace_85 : decode cX3_goPlace 85 = .ok (.iaload, 1) := dk_46 (dk_at dksX3_goPlace_3 14 rfl rfl)
theorem dX3_goPlace_86 : decode cX3_goPlace 86 = .ok (.putfield 305, 3) := dk_181 1 49 (dk_at dksX3_goPlace_3 15 rfl rfl)
theorem dX3_goPlace_89 : decode cX3_goPlace 89 = .ok (.iconst 0, 1) := dk_3 (dk_at dksX3_goPlace_3 18 rfl rfl)
theorem dX3_goPlace_90 : decode cX3_goPlace 90 = .ok (.istore 4, 2) := dk_54 4 (dk_at dksX3_goPlace_3 19 rfl rfl)
theorem dX3_goPlace_92 : decode cX3_goPlace 92 = .ok (.iload 4, 2) := dk_21 4 (dk_at dksX3_goPlace_3 21 rfl rfl)
theorem dX3_goPlace_94 : decode cX3_goPlace 94 = .ok (.iload_n 2, 1) := dk_28 (dk_at dksX3_goPlace_3 23 rfl rfl)
theorem dX3_goPlace_95 : decode cX3_goPlace 95 = .ok (.if_icmp .ge 23, 3) := dk_162 0 23 (dk_at dksX3_goPlace_4 0 rfl rfl)
theorem dX3_goPlace_98 : decode cX3_goPlace 98 = .ok (.aload_n 0, 1) := dk_42 (dk_at dksX3_goPlace_4 3 rfl rfl)
theorem dX3_goPlace_99 : decode cX3_goPlace 99 = .ok (.getfield 58, 3) := dk_180 0 58 (dk_at dksX3_goPlace_4 4 rfl rfl)
theorem dX3_goPlace_102 : decode cX3_goPlace 102 = .ok (.iload 4, 2) := dk_21 4 (dk_at dksX3_goPlace_4 7 rfl rfl)
theorem dX3_goPlace_104 : decode cX3_goPlace 104 = .ok (.aload_n 0, 1) := dk_42 (dk_at dksX3_goPlace_4 9 rfl rfl)
theorem dX3_goPlace_105 : decode cX3_goPlace 105 = .ok (.getfield 55, 3) := dk_180 0 55 (dk_at dksX3_goPlace_4 10 rfl rfl)
theorem dX3_goPlace_108 : decode cX3_goPlace 108 = .ok (.iload 4, 2) := dk_21 4 (dk_at dksX3_goPlace_4 13 rfl rfl)
theorem dX3_goPlace_110 : decode cX3_goPlace 110 = .ok (.iaload, 1) := dk_46 (dk_at dksX3_goPlace_4 15 rfl rfl)
theorem dX3_goPlace_111 : decode cX3_goPlace 111 = .ok (.iastore, 1) := dk_79 (dk_at dksX3_goPlace_4 16 rfl rfl)
theorem dX3_goPlace_112 : decode cX3_goPlace 112 = .ok (.iinc 4 1, 3) := dk_132 4 1 (dk_at dksX3_goPlace_4 17 rfl rfl)
theorem dX3_goPlace_115 : decode cX3_goPlace 115 = .ok (.goto (-23), 3) := dk_167 255 233 (dk_at dksX3_goPlace_4 20 rfl rfl)
theorem dX3_goPlace_118 : decode cX3_goPlace 118 = .ok (.return_, 1) := dk_177 (dk_at dksX3_goPlace_4 23 rfl rfl)
theorem dX3_goPlace_119 : decode cX3_goPlace 119 = .ok (.iconst 0, 1) := dk_3 (dk_at dksX3_goPlace_5 0 rfl rfl)
theorem dX3_goPlace_120 : decode cX3_goPlace 120 = .ok (.istore 4, 2) := dk_54 4 (dk_at dksX3_goPlace_5 1 rfl rfl)
theorem dX3_goPlace_122 : decode cX3_goPlace 122 = .ok (.iload 4, 2) := dk_21 4 (dk_at dksX3_goPlace_5 3 rfl rfl)
theorem dX3_goPlace_124 : decode cX3_goPlace 124 = .ok (.aload_n 0, 1) := dk_42 (dk_at dksX3_goPlace_5 5 rfl rfl)
theorem dX3_goPlace_125 : decode cX3_goPlace 125 = .ok (.getfield 89, 3) := dk_180 0 89 (dk_at dksX3_goPlace_5 6 rfl rfl)
theorem dX3_goPlace_128 : decode cX3_goPlace 128 = .ok (.if_icmp .ge 45, 3) := dk_162 0 45 (dk_at dksX3_goPlace_5 9 rfl rfl)
theorem dX3_goPlace_131 : decode cX3_goPlace 131 = .ok (.iload_n 3, 1) := dk_29 (dk_at dksX3_goPlace_5 12 rfl rfl)
theorem dX3_goPlace_132 : decode cX3_goPlace 132 = .ok (.iload 4, 2) := dk_21 4 (dk_at dksX3_goPlace_5 13 rfl rfl)
theorem dX3_goPlace_134 : decode cX3_goPlace 134 = .ok (.invokestatic 277, 3) := dk_184 1 21 (dk_at dksX3_goPlace_5 15 rfl rfl)
theorem dX3_goPlace_137 : decode cX3_goPlace 137 = .ok (.ifCond .ne 6, 3) := dk_154 0 6 (dk_at dksX3_goPlace_5 18 rfl rfl)
theorem dX3_goPlace_140 : decode cX3_goPlace 140 = .ok (.goto 27, 3) := dk_167 0 27 (dk_at dksX3_goPlace_5 21 rfl rfl)
theorem dX3_goPlace_143 : decode cX3_goPlace 143 = .ok (.aload_n 0, 1) := dk_42 (dk_at dksX3_goPlace_6 0 rfl rfl)
theorem dX3_goPlace_144 : decode cX3_goPlace 144 = .ok (.getfield 55, 3) := dk_180 0 55 (dk_at dksX3_goPlace_6 1 rfl rfl)
theorem dX3_goPlace_147 : decode cX3_goPlace 147 = .ok (.iload_n 1, 1) := dk_27 (dk_at dksX3_goPlace_6 4 rfl rfl)
theorem dX3_goPlace_148 : decode cX3_goPlace 148 = .ok (.iload 4, 2) := dk_21 4 (dk_at dksX3_goPlace_6 5 rfl rfl)
theorem dX3_goPlace_150 : decode cX3_goPlace 150 = .ok (.iastore, 1) := dk_79 (dk_at dksX3_goPlace_6 7 rfl rfl)
theorem dX3_goPlace_151 : decode cX3_goPlace 151 = .ok (.aload_n 0, 1) := dk_42 (dk_at dksX3_goPlace_6 8 rfl rfl)
theorem dX3_goPlace_152 : decode cX3_goPlace 152 = .ok (.iload_n 1, 1) := dk_27 (dk_at dksX3_goPlace_6 9 rfl rfl)
theorem dX3_goPlace_153 : decode cX3_goPlace 153 = .ok (.iconst 1, 1) := dk_4 (dk_at dksX3_goPlace_6 10 rfl rfl)
theorem dX3_goPlace_154 : decode cX3_goPlace 154 = .ok (.iadd, 1) := dk_96 (dk_at dksX3_goPlace_6 11 rfl rfl)
theorem dX3_goPlace_155 : decode cX3_goPlace 155 = .ok (.iload_n 2, 1) := dk_28 (dk_at dksX3_goPlace_6 12 rfl rfl)
theorem dX3_goPlace_156 : decode cX3_goPlace 156 = .ok (.iload_n 3, 1) := dk_29 (dk_at dksX3_goPlace_6 13 rfl rfl)
theorem dX3_goPlace_157 : decode cX3_goPlace 157 = .ok (.iconst 1, 1) := dk_4 (dk_at dksX3_goPlace_6 14 rfl rfl)
theorem dX3_goPlace_158 : decode cX3_goPlace 158 = .ok (.iload 4, 2) := dk_21 4 (dk_at dksX3_goPlace_6 15 rfl rfl)
theorem dX3_goPlace_160 : decode cX3_goPlace 160 = .ok (.ishl, 1) := dk_120 (dk_at dksX3_goPlace_6 17 rfl rfl)
theorem dX3_goPlace_161 : decode cX3_goPlace 161 = .ok (.iconst (-1), 1) := dk_2 (dk_at dksX3_goPlace_6 18 rfl rfl)
theorem dX3_goPlace_162 : decode cX3_goPlace 162 = .ok (.ixor, 1) := dk_130 (dk_at dksX3_goPlace_6 19 rfl rfl)
theorem dX3_goPlace_163 : decode cX3_goPlace 163 = .ok (.iand, 1) := dk_126 (dk_at dksX3_goPlace_6 20 rfl rfl)
theorem dX3_goPlace_164 : decode cX3_goPlace 164 = .ok (.invokevirtual 308, 3) := dk_182 1 52 (dk_at dksX3_goPlace_6 21 rfl rfl)
theorem dX3_goPlace_167 : decode cX3_goPlace 167 = .ok (.iinc 4 1, 3) := dk_132 4 1 (dk_at dksX3_goPlace_7 0 rfl rfl)
theorem dX3_goPlace_170 : decode cX3_goPlace 170 = .ok (.goto (-48), 3) := dk_167 255 208 (dk_at dksX3_goPlace_7 3 rfl rfl)
theorem dX3_goPlace_173 : decode cX3_goPlace 173 = .ok (.return_, 1) := dk_177 (dk_at dksX3_goPlace_7 6 rfl rfl)
abbrev cX3_suspects : ByteArray := prog_9_method_75_code
def yX3_suspects : MethodName := ⟨RX3, "suspects", "()I"⟩
def dkwX3_suspects_3 : List UInt8 := [17, 3, 231, 28, 184, 0, 215, 133, 182, 1, 30, 27, 172]
abbrev dktX3_suspects_3 : List UInt8 := dkwX3_suspects_3 ++ []
def dkwX3_suspects_2 : List UInt8 := [61, 132, 3, 1, 167, 255, 223, 42, 3, 181, 0, 86, 42, 27, 184, 0, 206, 133, 182, 1, 30, 42]
abbrev dktX3_suspects_2 : List UInt8 := dkwX3_suspects_2 ++ dktX3_suspects_3
def dkwX3_suspects_1 : List UInt8 := [162, 0, 31, 27, 29, 184, 1, 21, 153, 0, 17, 28, 42, 42, 180, 0, 9, 29, 182, 0, 225, 184, 0, 198]
abbrev dktX3_suspects_1 : List UInt8 := dkwX3_suspects_1 ++ dktX3_suspects_2
def dkwX3_suspects_0 : List UInt8 := [42, 3, 181, 0, 83, 42, 42, 180, 0, 9, 182, 1, 18, 60, 3, 61, 3, 62, 29, 42, 180, 0, 89]
abbrev dktX3_suspects_0 : List UInt8 := dkwX3_suspects_0 ++ dktX3_suspects_1
theorem dksX3_suspects_0 : cX3_suspects.data.toList.drop 0 = dktX3_suspects_0 := by decide +kernel
theorem dksX3_suspects_1 : cX3_suspects.data.toList.drop 23 = dktX3_suspects_1 := dk_seg dksX3_suspects_0 23 rfl rfl
theorem dksX3_suspects_2 : cX3_suspects.data.toList.drop 47 = dktX3_suspects_2 := dk_seg dksX3_suspects_1 24 rfl rfl
theorem dksX3_suspects_3 : cX3_suspects.data.toList.drop 69 = dktX3_suspects_3 := dk_seg dksX3_suspects_2 22 rfl rfl
theorem dX3_suspects_0 : decode cX3_suspects 0 = .ok (.aload_n 0, 1) := dk_42 (dk_at dksX3_suspects_0 0 rfl rfl)
theorem dX3_suspects_1 : decode cX3_suspects 1 = .ok (.iconst 0, 1) := dk_3 (dk_at dksX3_suspects_0 1 rfl rfl)
theorem dX3_suspects_2 : decode cX3_suspects 2 = .ok (.putfield 83, 3) := dk_181 0 83 (dk_at dksX3_suspects_0 2 rfl rfl)
theorem dX3_suspects_5 : decode cX3_suspects 5 = .ok (.aload_n 0, 1) := dk_42 (dk_at dksX3_suspects_0 5 rfl rfl)
theorem dX3_suspects_6 : decode cX3_suspects 6 = .ok (.aload_n 0, 1) := dk_42 (dk_at dksX3_suspects_0 6 rfl rfl)
theorem dX3_suspects_7 : decode cX3_suspects 7 = .ok (.getfield 9, 3) := dk_180 0 9 (dk_at dksX3_suspects_0 7 rfl rfl)
theorem dX3_suspects_10 : decode cX3_suspects 10 = .ok (.invokevirtual 274, 3) := dk_182 1 18 (dk_at dksX3_suspects_0 10 rfl rfl)
theorem dX3_suspects_13 : decode cX3_suspects 13 = .ok (.istore_n 1, 1) := dk_60 (dk_at dksX3_suspects_0 13 rfl rfl)
theorem dX3_suspects_14 : decode cX3_suspects 14 = .ok (.iconst 0, 1) := dk_3 (dk_at dksX3_suspects_0 14 rfl rfl)
theorem dX3_suspects_15 : decode cX3_suspects 15 = .ok (.istore_n 2, 1) := dk_61 (dk_at dksX3_suspects_0 15 rfl rfl)
theorem dX3_suspects_16 : decode cX3_suspects 16 = .ok (.iconst 0, 1) := dk_3 (dk_at dksX3_suspects_0 16 rfl rfl)
theorem dX3_suspects_17 : decode cX3_suspects 17 = .ok (.istore_n 3, 1) := dk_62 (dk_at dksX3_suspects_0 17 rfl rfl)
theorem dX3_suspects_18 : decode cX3_suspects 18 = .ok (.iload_n 3, 1) := dk_29 (dk_at dksX3_suspects_0 18 rfl rfl)
theorem dX3_suspects_19 : decode cX3_suspects 19 = .ok (.aload_n 0, 1) := dk_42 (dk_at dksX3_suspects_0 19 rfl rfl)
theorem dX3_suspects_20 : decode cX3_suspects 20 = .ok (.getfield 89, 3) := dk_180 0 89 (dk_at dksX3_suspects_0 20 rfl rfl)
theorem dX3_suspects_23 : decode cX3_suspects 23 = .ok (.if_icmp .ge 31, 3) := dk_162 0 31 (dk_at dksX3_suspects_1 0 rfl rfl)
theorem dX3_suspects_26 : decode cX3_suspects 26 = .ok (.iload_n 1, 1) := dk_27 (dk_at dksX3_suspects_1 3 rfl rfl)
theorem dX3_suspects_27 : decode cX3_suspects 27 = .ok (.iload_n 3, 1) := dk_29 (dk_at dksX3_suspects_1 4 rfl rfl)
theorem dX3_suspects_28 : decode cX3_suspects 28 = .ok (.invokestatic 277, 3) := dk_184 1 21 (dk_at dksX3_suspects_1 5 rfl rfl)
theorem dX3_suspects_31 : decode cX3_suspects 31 = .ok (.ifCond .eq 17, 3) := dk_153 0 17 (dk_at dksX3_suspects_1 8 rfl rfl)
theorem dX3_suspects_34 : decode cX3_suspects 34 = .ok (.iload_n 2, 1) := dk_28 (dk_at dksX3_suspects_1 11 rfl rfl)
theorem dX3_suspects_35 : decode cX3_suspects 35 = .ok (.aload_n 0, 1) := dk_42 (dk_at dksX3_suspects_1 12 rfl rfl)
theorem dX3_suspects_36 : decode cX3_suspects 36 = .ok (.aload_n 0, 1) := dk_42 (dk_at dksX3_suspects_1 13 rfl rfl)
theorem dX3_suspects_37 : decode cX3_suspects 37 = .ok (.getfield 9, 3) := dk_180 0 9 (dk_at dksX3_suspects_1 14 rfl rfl)
theorem dX3_suspects_40 : decode cX3_suspects 40 = .ok (.iload_n 3, 1) := dk_29 (dk_at dksX3_suspects_1 17 rfl rfl)
theorem dX3_suspects_41 : decode cX3_suspects 41 = .ok (.invokevirtual 225, 3) := dk_182 0 225 (dk_at dksX3_suspects_1 18 rfl rfl)
theorem dX3_suspects_44 : decode cX3_suspects 44 = .ok (.invokestatic 198, 3) := dk_184 0 198 (dk_at dksX3_suspects_1 21 rfl rfl)
theorem dX3_suspects_47 : decode cX3_suspects 47 = .ok (.istore_n 2, 1) := dk_61 (dk_at dksX3_suspects_2 0 rfl rfl)
theorem dX3_suspects_48 : decode cX3_suspects 48 = .ok (.iinc 3 1, 3) := dk_132 3 1 (dk_at dksX3_suspects_2 1 rfl rfl)
theorem dX3_suspects_51 : decode cX3_suspects 51 = .ok (.goto (-33), 3) := dk_167 255 223 (dk_at dksX3_suspects_2 4 rfl rfl)
theorem dX3_suspects_54 : decode cX3_suspects 54 = .ok (.aload_n 0, 1) := dk_42 (dk_at dksX3_suspects_2 7 rfl rfl)
theorem dX3_suspects_55 : decode cX3_suspects 55 = .ok (.iconst 0, 1) := dk_3 (dk_at dksX3_suspects_2 8 rfl rfl)
theorem dX3_suspects_56 : decode cX3_suspects 56 = .ok (.putfield 86, 3) := dk_181 0 86 (dk_at dksX3_suspects_2 9 rfl rfl)
theorem dX3_suspects_59 : decode cX3_suspects 59 = .ok (.aload_n 0, 1) := dk_42 (dk_at dksX3_suspects_2 12 rfl rfl)
theorem dX3_suspects_60 : decode cX3_suspects 60 = .ok (.iload_n 1, 1) := dk_27 (dk_at dksX3_suspects_2 13 rfl rfl)
theorem dX3_suspects_61 : decode cX3_suspects 61 = .ok (.invokestatic 206, 3) := dk_184 0 206 (dk_at dksX3_suspects_2 14 rfl rfl)
theorem dX3_suspects_64 : decode cX3_suspects 64 = .ok (.i2l, 1) := dk_133 (dk_at dksX3_suspects_2 17 rfl rfl)
theorem dX3_suspects_65 : decode cX3_suspects 65 = .ok (.invokevirtual 286, 3) := dk_182 1 30 (dk_at dksX3_suspects_2 18 rfl rfl)
theorem dX3_suspects_68 : decode cX3_suspects 68 = .ok (.aload_n 0, 1) := dk_42 (dk_at dksX3_suspects_2 21 rfl rfl)
theorem dX3_suspects_69 : decode cX3_suspects 69 = .ok (.sipush 999, 3) := dk_17 3 231 (dk_at dksX3_suspects_3 0 rfl rfl)
theorem dX3_suspects_72 : decode cX3_suspects 72 = .ok (.iload_n 2, 1) := dk_28 (dk_at dksX3_suspects_3 3 rfl rfl)
theorem dX3_suspects_73 : decode cX3_suspects 73 = .ok (.invokestatic 215, 3) := dk_184 0 215 (dk_at dksX3_suspects_3 4 rfl rfl)
theorem dX3_suspects_76 : decode cX3_suspects 76 = .ok (.i2l, 1) := dk_133 (dk_at dksX3_suspects_3 7 rfl rfl)
theorem dX3_suspects_77 : decode cX3_suspects 77 = .ok (.invokevirtual 286, 3) := dk_182 1 30 (dk_at dksX3_suspects_3 8 rfl rfl)
theorem dX3_suspects_80 : decode cX3_suspects 80 = .ok (.iload_n 1, 1) := dk_27 (dk_at dksX3_suspects_3 11 rfl rfl)
theorem dX3_suspects_81 : decode cX3_suspects 81 = .ok (.ireturn, 1) := dk_172 (dk_at dksX3_suspects_3 12 rfl rfl)
abbrev cX3_tinting : ByteArray := prog_9_method_77_code
def yX3_tinting : MethodName := ⟨RX3, "tinting", "(I)I"⟩
def dkwX3_tinting_3 : List UInt8 := [28, 182, 1, 59, 184, 1, 43, 133, 182, 1, 30, 28, 172]
abbrev dktX3_tinting_3 : List UInt8 := dkwX3_tinting_3 ++ []
def dkwX3_tinting_2 : List UInt8 := [27, 28, 182, 1, 59, 162, 0, 5, 29, 61, 132, 3, 1, 167, 255, 230, 42, 3, 181, 0, 86, 42, 42, 27]
abbrev dktX3_tinting_2 : List UInt8 := dkwX3_tinting_2 ++ dktX3_tinting_3
def dkwX3_tinting_1 : List UInt8 := [4, 159, 0, 6, 16, 254, 172, 3, 61, 4, 62, 29, 16, 10, 162, 0, 26, 42, 27, 29, 182, 1, 59, 42]
abbrev dktX3_tinting_1 : List UInt8 := dkwX3_tinting_1 ++ dktX3_tinting_2
def dkwX3_tinting_0 : List UInt8 := [42, 3, 181, 0, 83, 42, 27, 182, 0, 96, 154, 0, 5, 2, 172, 42, 180, 0, 9, 16, 48, 27, 96, 46]
abbrev dktX3_tinting_0 : List UInt8 := dkwX3_tinting_0 ++ dktX3_tinting_1
theorem dksX3_tinting_0 : cX3_tinting.data.toList.drop 0 = dktX3_tinting_0 := by decide +kernel
theorem dksX3_tinting_1 : cX3_tinting.data.toList.drop 24 = dktX3_tinting_1 := dk_seg dksX3_tinting_0 24 rfl rfl
theorem dksX3_tinting_2 : cX3_tinting.data.toList.drop 48 = dktX3_tinting_2 := dk_seg dksX3_tinting_1 24 rfl rfl
theorem dksX3_tinting_3 : cX3_tinting.data.toList.drop 72 = dktX3_tinting_3 := dk_seg dksX3_tinting_2 24 rfl rfl
theorem dX3_tinting_0 : decode cX3_tinting 0 = .ok (.aload_n 0, 1) := dk_42 (dk_at dksX3_tinting_0 0 rfl rfl)
theorem dX3_tinting_1 : decode cX3_tinting 1 = .ok (.iconst 0, 1) := dk_3 (dk_at dksX3_tinting_0 1 rfl rfl)
theorem dX3_tinting_2 : decode cX3_tinting 2 = .ok (.putfield 83, 3) := dk_181 0 83 (dk_at dksX3_tinting_0 2 rfl rfl)
theorem dX3_tinting_5 : decode cX3_tinting 5 = .ok (.aload_n 0, 1) := dk_42 (dk_at dksX3_tinting_0 5 rfl rfl)
theorem dX3_tinting_6 : decode cX3_tinting 6 = .ok (.iload_n 1, 1) := dk_27 (dk_at dksX3_tinting_0 6 rfl rfl)
theorem dX3_tinting_7 : decode cX3_tinting 7 = .ok (.invokevirtual 96, 3) := dk_182 0 96 (dk_at dksX3_tinting_0 7 rfl rfl)
theorem dX3_tinting_10 : decode cX3_tinting 10 = .ok (.ifCond .ne 5, 3) := dk_154 0 5 (dk_at dksX3_tinting_0 10 rfl rfl)
theorem dX3_tinting_13 : decode cX3_tinting 13 = .ok (.iconst (-1), 1) := dk_2 (dk_at dksX3_tinting_0 13 rfl rfl)
theorem dX3_tinting_14 : decode cX3_tinting 14 = .ok (.ireturn, 1) := dk_172 (dk_at dksX3_tinting_0 14 rfl rfl)
theorem dX3_tinting_15 : decode cX3_tinting 15 = .ok (.aload_n 0, 1) := dk_42 (dk_at dksX3_tinting_0 15 rfl rfl)
theorem dX3_tinting_16 : decode cX3_tinting 16 = .ok (.getfield 9, 3) := dk_180 0 9 (dk_at dksX3_tinting_0 16 rfl rfl)
theorem dX3_tinting_19 : decode cX3_tinting 19 = .ok (.bipush 48, 2) := dk_16 48 (dk_at dksX3_tinting_0 19 rfl rfl)
theorem dX3_tinting_21 : decode cX3_tinting 21 = .ok (.iload_n 1, 1) := dk_27 (dk_at dksX3_tinting_0 21 rfl rfl)
theorem dX3_tinting_22 : decode cX3_tinting 22 = .ok (.iadd, 1) := dk_96 (dk_at dksX3_tinting_0 22 rfl rfl)
theorem dX3_tinting_23 : decode cX3_tinting 23 = .ok (.iaload, 1) := dk_46 (dk_at dksX3_tinting_0 23 rfl rfl)
theorem dX3_tinting_24 : decode cX3_tinting 24 = .ok (.iconst 1, 1) := dk_4 (dk_at dksX3_tinting_1 0 rfl rfl)
theorem dX3_tinting_25 : decode cX3_tinting 25 = .ok (.if_icmp .eq 6, 3) := dk_159 0 6 (dk_at dksX3_tinting_1 1 rfl rfl)
theorem dX3_tinting_28 : decode cX3_tinting 28 = .ok (.bipush (-2), 2) := dk_16 254 (dk_at dksX3_tinting_1 4 rfl rfl)
theorem dX3_tinting_30 : decode cX3_tinting 30 = .ok (.ireturn, 1) := dk_172 (dk_at dksX3_tinting_1 6 rfl rfl)
theorem dX3_tinting_31 : decode cX3_tinting 31 = .ok (.iconst 0, 1) := dk_3 (dk_at dksX3_tinting_1 7 rfl rfl)
theorem dX3_tinting_32 : decode cX3_tinting 32 = .ok (.istore_n 2, 1) := dk_61 (dk_at dksX3_tinting_1 8 rfl rfl)
theorem dX3_tinting_33 : decode cX3_tinting 33 = .ok (.iconst 1, 1) := dk_4 (dk_at dksX3_tinting_1 9 rfl rfl)
theorem dX3_tinting_34 : decode cX3_tinting 34 = .ok (.istore_n 3, 1) := dk_62 (dk_at dksX3_tinting_1 10 rfl rfl)
theorem dX3_tinting_35 : decode cX3_tinting 35 = .ok (.iload_n 3, 1) := dk_29 (dk_at dksX3_tinting_1 11 rfl rfl)
theorem dX3_tinting_36 : decode cX3_tinting 36 = .ok (.bipush 10, 2) := dk_16 10 (dk_at dksX3_tinting_1 12 rfl rfl)
theorem dX3_tinting_38 : decode cX3_tinting 38 = .ok (.if_icmp .ge 26, 3) := dk_162 0 26 (dk_at dksX3_tinting_1 14 rfl rfl)
theorem dX3_tinting_41 : decode cX3_tinting 41 = .ok (.aload_n 0, 1) := dk_42 (dk_at dksX3_tinting_1 17 rfl rfl)
theorem dX3_tinting_42 : decode cX3_tinting 42 = .ok (.iload_n 1, 1) := dk_27 (dk_at dksX3_tinting_1 18 rfl rfl)
theorem dX3_tinting_43 : decode cX3_tinting 43 = .ok (.iload_n 3, 1) := dk_29 (dk_at dksX3_tinting_1 19 rfl rfl)
theorem dX3_tinting_44 : decode cX3_tinting 44 = .ok (.invokevirtual 315, 3) := dk_182 1 59 (dk_at dksX3_tinting_1 20 rfl rfl)
theorem dX3_tinting_47 : decode cX3_tinting 47 = .ok (.aload_n 0, 1) := dk_42 (dk_at dksX3_tinting_1 23 rfl rfl)
theorem dX3_tinting_48 : decode cX3_tinting 48 = .ok (.iload_n 1, 1) := dk_27 (dk_at dksX3_tinting_2 0 rfl rfl)
theorem dX3_tinting_49 : decode cX3_tinting 49 = .ok (.iload_n 2, 1) := dk_28 (dk_at dksX3_tinting_2 1 rfl rfl)
theorem dX3_tinting_50 : decode cX3_tinting 50 = .ok (.invokevirtual 315, 3) := dk_182 1 59 (dk_at dksX3_tinting_2 2 rfl rfl)
theorem dX3_tinting_53 : decode cX3_tinting 53 = .ok (.if_icmp .ge 5, 3) := dk_162 0 5 (dk_at dksX3_tinting_2 5 rfl rfl)
theorem dX3_tinting_56 : decode cX3_tinting 56 = .ok (.iload_n 3, 1) := dk_29 (dk_at dksX3_tinting_2 8 rfl rfl)
theorem dX3_tinting_57 : decode cX3_tinting 57 = .ok (.istore_n 2, 1) := dk_61 (dk_at dksX3_tinting_2 9 rfl rfl)
theorem dX3_tinting_58 : decode cX3_tinting 58 = .ok (.iinc 3 1, 3) := dk_132 3 1 (dk_at dksX3_tinting_2 10 rfl rfl)
theorem dX3_tinting_61 : decode cX3_tinting 61 = .ok (.goto (-26), 3) := dk_167 255 230 (dk_at dksX3_tinting_2 13 rfl rfl)
theorem dX3_tinting_64 : decode cX3_tinting 64 = .ok (.aload_n 0, 1) := dk_42 (dk_at dksX3_tinting_2 16 rfl rfl)
theorem dX3_tinting_65 : decode cX3_tinting 65 = .ok (.iconst 0, 1) := dk_3 (dk_at dksX3_tinting_2 17 rfl rfl)
theorem dX3_tinting_66 : decode cX3_tinting 66 = .ok (.putfield 86, 3) := dk_181 0 86 (dk_at dksX3_tinting_2 18 rfl rfl)
theorem dX3_tinting_69 : decode cX3_tinting 69 = .ok (.aload_n 0, 1) := dk_42 (dk_at dksX3_tinting_2 21 rfl rfl)
theorem dX3_tinting_70 : decode cX3_tinting 70 = .ok (.aload_n 0, 1) := dk_42 (dk_at dksX3_tinting_2 22 rfl rfl)
theorem dX3_tinting_71 : decode cX3_tinting 71 = .ok (.iload_n 1, 1) := dk_27 (dk_at dksX3_tinting_2 23 rfl rfl)
theorem dX3_tinting_72 : decode cX3_tinting 72 = .ok (.iload_n 2, 1) := dk_28 (dk_at dksX3_tinting_3 0 rfl rfl)
theorem dX3_tinting_73 : decode cX3_tinting 73 = .ok (.invokevirtual 315, 3) := dk_182 1 59 (dk_at dksX3_tinting_3 1 rfl rfl)
theorem dX3_tinting_76 : decode cX3_tinting 76 = .ok (.invokestatic 299, 3) := dk_184 1 43 (dk_at dksX3_tinting_3 4 rfl rfl)
theorem dX3_tinting_79 : decode cX3_tinting 79 = .ok (.i2l, 1) := dk_133 (dk_at dksX3_tinting_3 7 rfl rfl)
theorem dX3_tinting_80 : decode cX3_tinting 80 = .ok (.invokevirtual 286, 3) := dk_182 1 30 (dk_at dksX3_tinting_3 8 rfl rfl)
theorem dX3_tinting_83 : decode cX3_tinting 83 = .ok (.iload_n 2, 1) := dk_28 (dk_at dksX3_tinting_3 11 rfl rfl)
theorem dX3_tinting_84 : decode cX3_tinting 84 = .ok (.ireturn, 1) := dk_172 (dk_at dksX3_tinting_3 12 rfl rfl)
abbrev cX3_oddTinted : ByteArray := prog_9_method_76_code
def yX3_oddTinted : MethodName := ⟨RX3, "oddTinted", "(II)I"⟩
def dkwX3_oddTinted_1 : List UInt8 := [46, 42, 42, 180, 0, 9, 182, 0, 202, 184, 0, 206, 182, 0, 211, 172]
abbrev dktX3_oddTinted_1 : List UInt8 := dkwX3_oddTinted_1 ++ []
def dkwX3_oddTinted_0 : List UInt8 := [42, 42, 180, 0, 9, 27, 28, 42, 180, 0, 9, 16, 64, 27, 96, 46, 42, 180, 0, 9, 16, 24, 27, 96]
abbrev dktX3_oddTinted_0 : List UInt8 := dkwX3_oddTinted_0 ++ dktX3_oddTinted_1
theorem dksX3_oddTinted_0 : cX3_oddTinted.data.toList.drop 0 = dktX3_oddTinted_0 := by decide +kernel
theorem dksX3_oddTinted_1 : cX3_oddTinted.data.toList.drop 24 = dktX3_oddTinted_1 := dk_seg dksX3_oddTinted_0 24 rfl rfl
theorem dX3_oddTinted_0 : decode cX3_oddTinted 0 = .ok (.aload_n 0, 1) := dk_42 (dk_at dksX3_oddTinted_0 0 rfl rfl)
theorem dX3_oddTinted_1 : decode cX3_oddTinted 1 = .ok (.aload_n 0, 1) := dk_42 (dk_at dksX3_oddTinted_0 1 rfl rfl)
theorem dX3_oddTinted_2 : decode cX3_oddTinted 2 = .ok (.getfield 9, 3) := dk_180 0 9 (dk_at dksX3_oddTinted_0 2 rfl rfl)
theorem dX3_oddTinted_5 : decode cX3_oddTinted 5 = .ok (.iload_n 1, 1) := dk_27 (dk_at dksX3_oddTinted_0 5 rfl rfl)
theorem dX3_oddTinted_6 : decode cX3_oddTinted 6 = .ok (.iload_n 2, 1) := dk_28 (dk_at dksX3_oddTinted_0 6 rfl rfl)
theorem dX3_oddTinted_7 : decode cX3_oddTinted 7 = .ok (.aload_n 0, 1) := dk_42 (dk_at dksX3_oddTinted_0 7 rfl rfl)
theorem dX3_oddTinted_8 : decode cX3_oddTinted 8 = .ok (.getfield 9, 3) := dk_180 0 9 (dk_at dksX3_oddTinted_0 8 rfl rfl)
theorem dX3_oddTinted_11 : decode cX3_oddTinted 11 = .ok (.bipush 64, 2) := dk_16 64 (dk_at dksX3_oddTinted_0 11 rfl rfl)
theorem dX3_oddTinted_13 : decode cX3_oddTinted 13 = .ok (.iload_n 1, 1) := dk_27 (dk_at dksX3_oddTinted_0 13 rfl rfl)
theorem dX3_oddTinted_14 : decode cX3_oddTinted 14 = .ok (.iadd, 1) := dk_96 (dk_at dksX3_oddTinted_0 14 rfl rfl)
theorem dX3_oddTinted_15 : decode cX3_oddTinted 15 = .ok (.iaload, 1) := dk_46 (dk_at dksX3_oddTinted_0 15 rfl rfl)
theorem dX3_oddTinted_16 : decode cX3_oddTinted 16 = .ok (.aload_n 0, 1) := dk_42 (dk_at dksX3_oddTinted_0 16 rfl rfl)
theorem dX3_oddTinted_17 : decode cX3_oddTinted 17 = .ok (.getfield 9, 3) := dk_180 0 9 (dk_at dksX3_oddTinted_0 17 rfl rfl)
theorem dX3_oddTinted_20 : decode cX3_oddTinted 20 = .ok (.bipush 24, 2) := dk_16 24 (dk_at dksX3_oddTinted_0 20 rfl rfl)
theorem dX3_oddTinted_22 : decode cX3_oddTinted 22 = .ok (.iload_n 1, 1) := dk_27 (dk_at dksX3_oddTinted_0 22 rfl rfl)
theorem dX3_oddTinted_23 : decode cX3_oddTinted 23 = .ok (.iadd, 1) := dk_96 (dk_at dksX3_oddTinted_0 23 rfl rfl)
theorem dX3_oddTinted_24 : decode cX3_oddTinted 24 = .ok (.iaload, 1) := dk_46 (dk_at dksX3_oddTinted_1 0 rfl rfl)
theorem dX3_oddTinted_25 : decode cX3_oddTinted 25 = .ok (.aload_n 0, 1) := dk_42 (dk_at dksX3_oddTinted_1 1 rfl rfl)
theorem dX3_oddTinted_26 : decode cX3_oddTinted 26 = .ok (.aload_n 0, 1) := dk_42 (dk_at dksX3_oddTinted_1 2 rfl rfl)
theorem dX3_oddTinted_27 : decode cX3_oddTinted 27 = .ok (.getfield 9, 3) := dk_180 0 9 (dk_at dksX3_oddTinted_1 3 rfl rfl)
theorem dX3_oddTinted_30 : decode cX3_oddTinted 30 = .ok (.invokevirtual 202, 3) := dk_182 0 202 (dk_at dksX3_oddTinted_1 6 rfl rfl)
theorem dX3_oddTinted_33 : decode cX3_oddTinted 33 = .ok (.invokestatic 206, 3) := dk_184 0 206 (dk_at dksX3_oddTinted_1 9 rfl rfl)
theorem dX3_oddTinted_36 : decode cX3_oddTinted 36 = .ok (.invokevirtual 211, 3) := dk_182 0 211 (dk_at dksX3_oddTinted_1 12 rfl rfl)
theorem dX3_oddTinted_39 : decode cX3_oddTinted 39 = .ok (.ireturn, 1) := dk_172 (dk_at dksX3_oddTinted_1 15 rfl rfl)
abbrev cX3_waiting : ByteArray := prog_9_method_78_code
def yX3_waiting : MethodName := ⟨RX3, "waiting", "(II)I"⟩
def dkwX3_waiting_4 : List UInt8 := [182, 1, 24, 132, 3, 1, 167, 255, 191, 16, 254, 172]
abbrev dktX3_waiting_4 : List UInt8 := dkwX3_waiting_4 ++ []
def dkwX3_waiting_3 : List UInt8 := [27, 28, 184, 1, 4, 42, 42, 180, 0, 43, 27, 182, 1, 46, 158, 0, 5, 29, 172, 42, 42, 180, 0, 46]
abbrev dktX3_waiting_3 : List UInt8 := dkwX3_waiting_3 ++ dktX3_waiting_4
def dkwX3_waiting_2 : List UInt8 := [27, 28, 182, 1, 0, 154, 0, 38, 42, 180, 0, 46, 42, 180, 0, 43, 3, 184, 0, 229, 42, 180, 0, 43]
abbrev dktX3_waiting_2 : List UInt8 := dkwX3_waiting_2 ++ dktX3_waiting_3
def dkwX3_waiting_1 : List UInt8 := [180, 0, 9, 42, 180, 0, 46, 3, 184, 0, 229, 3, 62, 29, 16, 20, 163, 0, 65, 42, 42, 180, 0, 46]
abbrev dktX3_waiting_1 : List UInt8 := dkwX3_waiting_1 ++ dktX3_waiting_2
def dkwX3_waiting_0 : List UInt8 := [42, 3, 181, 0, 83, 42, 27, 182, 0, 96, 153, 0, 10, 28, 184, 0, 253, 154, 0, 5, 2, 172, 42]
abbrev dktX3_waiting_0 : List UInt8 := dkwX3_waiting_0 ++ dktX3_waiting_1
theorem dksX3_waiting_0 : cX3_waiting.data.toList.drop 0 = dktX3_waiting_0 := by decide +kernel
theorem dksX3_waiting_1 : cX3_waiting.data.toList.drop 23 = dktX3_waiting_1 := dk_seg dksX3_waiting_0 23 rfl rfl
theorem dksX3_waiting_2 : cX3_waiting.data.toList.drop 47 = dktX3_waiting_2 := dk_seg dksX3_waiting_1 24 rfl rfl
theorem dksX3_waiting_3 : cX3_waiting.data.toList.drop 71 = dktX3_waiting_3 := dk_seg dksX3_waiting_2 24 rfl rfl
theorem dksX3_waiting_4 : cX3_waiting.data.toList.drop 95 = dktX3_waiting_4 := dk_seg dksX3_waiting_3 24 rfl rfl
theorem dX3_waiting_0 : decode cX3_waiting 0 = .ok (.aload_n 0, 1) := dk_42 (dk_at dksX3_waiting_0 0 rfl rfl)
theorem dX3_waiting_1 : decode cX3_waiting 1 = .ok (.iconst 0, 1) := dk_3 (dk_at dksX3_waiting_0 1 rfl rfl)
theorem dX3_waiting_2 : decode cX3_waiting 2 = .ok (.putfield 83, 3) := dk_181 0 83 (dk_at dksX3_waiting_0 2 rfl rfl)
theorem dX3_waiting_5 : decode cX3_waiting 5 = .ok (.aload_n 0, 1) := dk_42 (dk_at dksX3_waiting_0 5 rfl rfl)
theorem dX3_waiting_6 : decode cX3_waiting 6 = .ok (.iload_n 1, 1) := dk_27 (dk_at dksX3_waiting_0 6 rfl rfl)
theorem dX3_waiting_7 : decode cX3_waiting 7 = .ok (.invokevirtual 96, 3) := dk_182 0 96 (dk_at dksX3_waiting_0 7 rfl rfl)
theorem dX3_waiting_10 : decode cX3_waiting 10 = .ok (.ifCond .eq 10, 3) := dk_153 0 10 (dk_at dksX3_waiting_0 10 rfl rfl)
theorem dX3_waiting_13 : decode cX3_waiting 13 = .ok (.iload_n 2, 1) := dk_28 (dk_at dksX3_waiting_0 13 rfl rfl)
theorem dX3_waiting_14 : decode cX3_waiting 14 = .ok (.invokestatic 253, 3) := dk_184 0 253 (dk_at dksX3_waiting_0 14 rfl rfl)
theorem dX3_waiting_17 : decode cX3_waiting 17 = .ok (.ifCond .ne 5, 3) := dk_154 0 5 (dk_at dksX3_waiting_0 17 rfl rfl)
theorem dX3_waiting_20 : decode cX3_waiting 20 = .ok (.iconst (-1), 1) := dk_2 (dk_at dksX3_waiting_0 20 rfl rfl)
theorem dX3_waiting_21 : decode cX3_waiting 21 = .ok (.ireturn, 1) := dk_172 (dk_at dksX3_waiting_0 21 rfl rfl)
theorem dX3_waiting_22 : decode cX3_waiting 22 = .ok (.aload_n 0, 1) := dk_42 (dk_at dksX3_waiting_0 22 rfl rfl)
theorem dX3_waiting_23 : decode cX3_waiting 23 = .ok (.getfield 9, 3) := dk_180 0 9 (dk_at dksX3_waiting_1 0 rfl rfl)
theorem dX3_waiting_26 : decode cX3_waiting 26 = .ok (.aload_n 0, 1) := dk_42 (dk_at dksX3_waiting_1 3 rfl rfl)
theorem dX3_waiting_27 : decode cX3_waiting 27 = .ok (.getfield 46, 3) := dk_180 0 46 (dk_at dksX3_waiting_1 4 rfl rfl)
theorem dX3_waiting_30 : decode cX3_waiting 30 = .ok (.iconst 0, 1) := dk_3 (dk_at dksX3_waiting_1 7 rfl rfl)
theorem dX3_waiting_31 : decode cX3_waiting 31 = .ok (.invokestatic 229, 3) := dk_184 0 229 (dk_at dksX3_waiting_1 8 rfl rfl)
theorem dX3_waiting_34 : decode cX3_waiting 34 = .ok (.iconst 0, 1) := dk_3 (dk_at dksX3_waiting_1 11 rfl rfl)
theorem dX3_waiting_35 : decode cX3_waiting 35 = .ok (.istore_n 3, 1) := dk_62 (dk_at dksX3_waiting_1 12 rfl rfl)
theorem dX3_waiting_36 : decode cX3_waiting 36 = .ok (.iload_n 3, 1) := dk_29 (dk_at dksX3_waiting_1 13 rfl rfl)
theorem dX3_waiting_37 : decode cX3_waiting 37 = .ok (.bipush 20, 2) := dk_16 20 (dk_at dksX3_waiting_1 14 rfl rfl)
theorem dX3_waiting_39 : decode cX3_waiting 39 = .ok (.if_icmp .gt 65, 3) := dk_163 0 65 (dk_at dksX3_waiting_1 16 rfl rfl)
theorem dX3_waiting_42 : decode cX3_waiting 42 = .ok (.aload_n 0, 1) := dk_42 (dk_at dksX3_waiting_1 19 rfl rfl)
theorem dX3_waiting_43 : decode cX3_waiting 43 = .ok (.aload_n 0, 1) := dk_42 (dk_at dksX3_waiting_1 20 rfl rfl)
theorem dX3_waiting_44 : decode cX3_waiting 44 = .ok (.getfield 46, 3) := dk_180 0 46 (dk_at dksX3_waiting_1 21 rfl rfl)
theorem dX3_waiting_47 : decode cX3_waiting 47 = .ok (.iload_n 1, 1) := dk_27 (dk_at dksX3_waiting_2 0 rfl rfl)
theorem dX3_waiting_48 : decode cX3_waiting 48 = .ok (.iload_n 2, 1) := dk_28 (dk_at dksX3_waiting_2 1 rfl rfl)
theorem dX3_waiting_49 : decode cX3_waiting 49 = .ok (.invokevirtual 256, 3) := dk_182 1 0 (dk_at dksX3_waiting_2 2 rfl rfl)
theorem dX3_waiting_52 : decode cX3_waiting 52 = .ok (.ifCond .ne 38, 3) := dk_154 0 38 (dk_at dksX3_waiting_2 5 rfl rfl)
theorem dX3_waiting_55 : decode cX3_waiting 55 = .ok (.aload_n 0, 1) := dk_42 (dk_at dksX3_waiting_2 8 rfl rfl)
theorem dX3_waiting_56 : decode cX3_waiting 56 = .ok (.getfield 46, 3) := dk_180 0 46 (dk_at dksX3_waiting_2 9 rfl rfl)
theorem dX3_waiting_59 : decode cX3_waiting 59 = .ok (.aload_n 0, 1) := dk_42 (dk_at dksX3_waiting_2 12 rfl rfl)
theorem dX3_waiting_60 : decode cX3_waiting 60 = .ok (.getfield 43, 3) := dk_180 0 43 (dk_at dksX3_waiting_2 13 rfl rfl)
theorem dX3_waiting_63 : decode cX3_waiting 63 = .ok (.iconst 0, 1) := dk_3 (dk_at dksX3_waiting_2 16 rfl rfl)
theorem dX3_waiting_64 : decode cX3_waiting 64 = .ok (.invokestatic 229, 3) := dk_184 0 229 (dk_at dksX3_waiting_2 17 rfl rfl)
theorem dX3_waiting_67 : decode cX3_waiting 67 = .ok (.aload_n 0, 1) := dk_42 (dk_at dksX3_waiting_2 20 rfl rfl)
theorem dX3_waiting_68 : decode cX3_waiting 68 = .ok (.getfield 43, 3) := dk_180 0 43 (dk_at dksX3_waiting_2 21 rfl rfl)
theorem dX3_waiting_71 : decode cX3_waiting 71 = .ok (.iload_n 1, 1) := dk_27 (dk_at dksX3_waiting_3 0 rfl rfl)
theorem dX3_waiting_72 : decode cX3_waiting 72 = .ok (.iload_n 2, 1) := dk_28 (dk_at dksX3_waiting_3 1 rfl rfl)
theorem dX3_waiting_73 : decode cX3_waiting 73 = .ok (.invokestatic 260, 3) := dk_184 1 4 (dk_at dksX3_waiting_3 2 rfl rfl)
theorem dX3_waiting_76 : decode cX3_waiting 76 = .ok (.aload_n 0, 1) := dk_42 (dk_at dksX3_waiting_3 5 rfl rfl)
theorem dX3_waiting_77 : decode cX3_waiting 77 = .ok (.aload_n 0, 1) := dk_42 (dk_at dksX3_waiting_3 6 rfl rfl)
theorem dX3_waiting_78 : decode cX3_waiting 78 = .ok (.getfield 43, 3) := dk_180 0 43 (dk_at dksX3_waiting_3 7 rfl rfl)
theorem dX3_waiting_81 : decode cX3_waiting 81 = .ok (.iload_n 1, 1) := dk_27 (dk_at dksX3_waiting_3 10 rfl rfl)
theorem dX3_waiting_82 : decode cX3_waiting 82 = .ok (.invokevirtual 302, 3) := dk_182 1 46 (dk_at dksX3_waiting_3 11 rfl rfl)
theorem dX3_waiting_85 : decode cX3_waiting 85 = .ok (.ifCond .le 5, 3) := dk_158 0 5 (dk_at dksX3_waiting_3 14 rfl rfl)
theorem dX3_waiting_88 : decode cX3_waiting 88 = .ok (.iload_n 3, 1) := dk_29 (dk_at dksX3_waiting_3 17 rfl rfl)
theorem dX3_waiting_89 : decode cX3_waiting 89 = .ok (.ireturn, 1) := dk_172 (dk_at dksX3_waiting_3 18 rfl rfl)
theorem dX3_waiting_90 : decode cX3_waiting 90 = .ok (.aload_n 0, 1) := dk_42 (dk_at dksX3_waiting_3 19 rfl rfl)
theorem dX3_waiting_91 : decode cX3_waiting 91 = .ok (.aload_n 0, 1) := dk_42 (dk_at dksX3_waiting_3 20 rfl rfl)
theorem dX3_waiting_92 : decode cX3_waiting 92 = .ok (.getfield 46, 3) := dk_180 0 46 (dk_at dksX3_waiting_3 21 rfl rfl)
theorem dX3_waiting_95 : decode cX3_waiting 95 = .ok (.invokevirtual 280, 3) := dk_182 1 24 (dk_at dksX3_waiting_4 0 rfl rfl)
theorem dX3_waiting_98 : decode cX3_waiting 98 = .ok (.iinc 3 1, 3) := dk_132 3 1 (dk_at dksX3_waiting_4 3 rfl rfl)
theorem dX3_waiting_101 : decode cX3_waiting 101 = .ok (.goto (-65), 3) := dk_167 255 191 (dk_at dksX3_waiting_4 6 rfl rfl)
theorem dX3_waiting_104 : decode cX3_waiting 104 = .ok (.bipush (-2), 2) := dk_16 254 (dk_at dksX3_waiting_4 9 rfl rfl)
theorem dX3_waiting_106 : decode cX3_waiting 106 = .ok (.ireturn, 1) := dk_172 (dk_at dksX3_waiting_4 11 rfl rfl)
abbrev cX3_exchanged : ByteArray := prog_9_method_79_code
def yX3_exchanged : MethodName := ⟨RX3, "exchanged", "()I"⟩
def dkwX3_exchanged_6 : List UInt8 := [182, 1, 18, 184, 0, 206, 133, 182, 1, 30, 27, 172]
abbrev dktX3_exchanged_6 : List UInt8 := dkwX3_exchanged_6 ++ []
def dkwX3_exchanged_5 : List UInt8 := [42, 3, 181, 0, 86, 42, 28, 133, 182, 1, 30, 42, 29, 133, 182, 1, 30, 42, 42, 42, 180, 0, 9]
abbrev dktX3_exchanged_5 : List UInt8 := dkwX3_exchanged_5 ++ dktX3_exchanged_6
def dkwX3_exchanged_4 : List UInt8 := [167, 0, 12, 21, 6, 60, 21, 4, 61, 21, 5, 62, 132, 5, 1, 167, 255, 190, 132, 4, 1, 167, 255, 169]
abbrev dktX3_exchanged_4 : List UInt8 := dkwX3_exchanged_4 ++ dktX3_exchanged_5
def dkwX3_exchanged_3 : List UInt8 := [184, 1, 15, 42, 42, 180, 0, 43, 182, 1, 18, 184, 0, 206, 54, 6, 21, 6, 27, 161, 0, 6]
abbrev dktX3_exchanged_3 : List UInt8 := dkwX3_exchanged_3 ++ dktX3_exchanged_4
def dkwX3_exchanged_2 : List UInt8 := [162, 0, 63, 42, 180, 0, 9, 42, 180, 0, 43, 3, 184, 0, 229, 42, 180, 0, 43, 21, 4, 21, 5]
abbrev dktX3_exchanged_2 : List UInt8 := dkwX3_exchanged_2 ++ dktX3_exchanged_3
def dkwX3_exchanged_1 : List UInt8 := [3, 54, 4, 21, 4, 42, 180, 0, 89, 162, 0, 84, 21, 4, 4, 96, 54, 5, 21, 5, 42, 180, 0, 89]
abbrev dktX3_exchanged_1 : List UInt8 := dkwX3_exchanged_1 ++ dktX3_exchanged_2
def dkwX3_exchanged_0 : List UInt8 := [42, 3, 181, 0, 83, 42, 180, 0, 89, 5, 162, 0, 6, 16, 254, 172, 19, 1, 62, 60, 2, 61, 2, 62]
abbrev dktX3_exchanged_0 : List UInt8 := dkwX3_exchanged_0 ++ dktX3_exchanged_1
theorem dksX3_exchanged_0 : cX3_exchanged.data.toList.drop 0 = dktX3_exchanged_0 := by decide +kernel
theorem dksX3_exchanged_1 : cX3_exchanged.data.toList.drop 24 = dktX3_exchanged_1 := dk_seg dksX3_exchanged_0 24 rfl rfl
theorem dksX3_exchanged_2 : cX3_exchanged.data.toList.drop 48 = dktX3_exchanged_2 := dk_seg dksX3_exchanged_1 24 rfl rfl
theorem dksX3_exchanged_3 : cX3_exchanged.data.toList.drop 71 = dktX3_exchanged_3 := dk_seg dksX3_exchanged_2 23 rfl rfl
theorem dksX3_exchanged_4 : cX3_exchanged.data.toList.drop 93 = dktX3_exchanged_4 := dk_seg dksX3_exchanged_3 22 rfl rfl
theorem dksX3_exchanged_5 : cX3_exchanged.data.toList.drop 117 = dktX3_exchanged_5 := dk_seg dksX3_exchanged_4 24 rfl rfl
theorem dksX3_exchanged_6 : cX3_exchanged.data.toList.drop 140 = dktX3_exchanged_6 := dk_seg dksX3_exchanged_5 23 rfl rfl
theorem dX3_exchanged_0 : decode cX3_exchanged 0 = .ok (.aload_n 0, 1) := dk_42 (dk_at dksX3_exchanged_0 0 rfl rfl)
theorem dX3_exchanged_1 : decode cX3_exchanged 1 = .ok (.iconst 0, 1) := dk_3 (dk_at dksX3_exchanged_0 1 rfl rfl)
theorem dX3_exchanged_2 : decode cX3_exchanged 2 = .ok (.putfield 83, 3) := dk_181 0 83 (dk_at dksX3_exchanged_0 2 rfl rfl)
theorem dX3_exchanged_5 : decode cX3_exchanged 5 = .ok (.aload_n 0, 1) := dk_42 (dk_at dksX3_exchanged_0 5 rfl rfl)
theorem dX3_exchanged_6 : decode cX3_exchanged 6 = .ok (.getfield 89, 3) := dk_180 0 89 (dk_at dksX3_exchanged_0 6 rfl rfl)
theorem dX3_exchanged_9 : decode cX3_exchanged 9 = .ok (.iconst 2, 1) := dk_5 (dk_at dksX3_exchanged_0 9 rfl rfl)
theorem dX3_exchanged_10 : decode cX3_exchanged 10 = .ok (.if_icmp .ge 6, 3) := dk_162 0 6 (dk_at dksX3_exchanged_0 10 rfl rfl)
theorem dX3_exchanged_13 : decode cX3_exchanged 13 = .ok (.bipush (-2), 2) := dk_16 254 (dk_at dksX3_exchanged_0 13 rfl rfl)
theorem dX3_exchanged_15 : decode cX3_exchanged 15 = .ok (.ireturn, 1) := dk_172 (dk_at dksX3_exchanged_0 15 rfl rfl)
theorem dX3_exchanged_16 : decode cX3_exchanged 16 = .ok (.ldc_w 318, 3) := dk_19 1 62 (dk_at dksX3_exchanged_0 16 rfl rfl)
theorem dX3_exchanged_19 : decode cX3_exchanged 19 = .ok (.istore_n 1, 1) := dk_60 (dk_at dksX3_exchanged_0 19 rfl rfl)
theorem dX3_exchanged_20 : decode cX3_exchanged 20 = .ok (.iconst (-1), 1) := dk_2 (dk_at dksX3_exchanged_0 20 rfl rfl)
theorem dX3_exchanged_21 : decode cX3_exchanged 21 = .ok (.istore_n 2, 1) := dk_61 (dk_at dksX3_exchanged_0 21 rfl rfl)
theorem dX3_exchanged_22 : decode cX3_exchanged 22 = .ok (.iconst (-1), 1) := dk_2 (dk_at dksX3_exchanged_0 22 rfl rfl)
theorem dX3_exchanged_23 : decode cX3_exchanged 23 = .ok (.istore_n 3, 1) := dk_62 (dk_at dksX3_exchanged_0 23 rfl rfl)
theorem dX3_exchanged_24 : decode cX3_exchanged 24 = .ok (.iconst 0, 1) := dk_3 (dk_at dksX3_exchanged_1 0 rfl rfl)
theorem dX3_exchanged_25 : decode cX3_exchanged 25 = .ok (.istore 4, 2) := dk_54 4 (dk_at dksX3_exchanged_1 1 rfl rfl)
theorem dX3_exchanged_27 : decode cX3_exchanged 27 = .ok (.iload 4, 2) := dk_21 4 (dk_at dksX3_exchanged_1 3 rfl rfl)
theorem dX3_exchanged_29 : decode cX3_exchanged 29 = .ok (.aload_n 0, 1) := dk_42 (dk_at dksX3_exchanged_1 5 rfl rfl)
theorem dX3_exchanged_30 : decode cX3_exchanged 30 = .ok (.getfield 89, 3) := dk_180 0 89 (dk_at dksX3_exchanged_1 6 rfl rfl)
theorem dX3_exchanged_33 : decode cX3_exchanged 33 = .ok (.if_icmp .ge 84, 3) := dk_162 0 84 (dk_at dksX3_exchanged_1 9 rfl rfl)
theorem dX3_exchanged_36 : decode cX3_exchanged 36 = .ok (.iload 4, 2) := dk_21 4 (dk_at dksX3_exchanged_1 12 rfl rfl)
theorem dX3_exchanged_38 : decode cX3_exchanged 38 = .ok (.iconst 1, 1) := dk_4 (dk_at dksX3_exchanged_1 14 rfl rfl)
theorem dX3_exchanged_39 : decode cX3_exchanged 39 = .ok (.iadd, 1) := dk_96 (dk_at dksX3_exchanged_1 15 rfl rfl)
theorem dX3_exchanged_40 : decode cX3_exchanged 40 = .ok (.istore 5, 2) := dk_54 5 (dk_at dksX3_exchanged_1 16 rfl rfl)
theorem dX3_exchanged_42 : decode cX3_exchanged 42 = .ok (.iload 5, 2) := dk_21 5 (dk_at dksX3_exchanged_1 18 rfl rfl)
theorem dX3_exchanged_44 : decode cX3_exchanged 44 = .ok (.aload_n 0, 1) := dk_42 (dk_at dksX3_exchanged_1 20 rfl rfl)
theorem dX3_exchanged_45 : decode cX3_exchanged 45 = .ok (.getfield 89, 3) := dk_180 0 89 (dk_at dksX3_exchanged_1 21 rfl rfl)
theorem dX3_exchanged_48 : decode cX3_exchanged 48 = .ok (.if_icmp .ge 63, 3) := dk_162 0 63 (dk_at dksX3_exchanged_2 0 rfl rfl)
theorem dX3_exchanged_51 : decode cX3_exchanged 51 = .ok (.aload_n 0, 1) := dk_42 (dk_at dksX3_exchanged_2 3 rfl rfl)
theorem dX3_exchanged_52 : decode cX3_exchanged 52 = .ok (.getfield 9, 3) := dk_180 0 9 (dk_at dksX3_exchanged_2 4 rfl rfl)
theorem dX3_exchanged_55 : decode cX3_exchanged 55 = .ok (.aload_n 0, 1) := dk_42 (dk_at dksX3_exchanged_2 7 rfl rfl)
theorem dX3_exchanged_56 : decode cX3_exchanged 56 = .ok (.getfield 43, 3) := dk_180 0 43 (dk_at dksX3_exchanged_2 8 rfl rfl)
theorem dX3_exchanged_59 : decode cX3_exchanged 59 = .ok (.iconst 0, 1) := dk_3 (dk_at dksX3_exchanged_2 11 rfl rfl)
theorem dX3_exchanged_60 : decode cX3_exchanged 60 = .ok (.invokestatic 229, 3) := dk_184 0 229 (dk_at dksX3_exchanged_2 12 rfl rfl)
theorem dX3_exchanged_63 : decode cX3_exchanged 63 = .ok (.aload_n 0, 1) := dk_42 (dk_at dksX3_exchanged_2 15 rfl rfl)
theorem dX3_exchanged_64 : decode cX3_exchanged 64 = .ok (.getfield 43, 3) := dk_180 0 43 (dk_at dksX3_exchanged_2 16 rfl rfl)
theorem dX3_exchanged_67 : decode cX3_exchanged 67 = .ok (.iload 4, 2) := dk_21 4 (dk_at dksX3_exchanged_2 19 rfl rfl)
theorem dX3_exchanged_69 : decode cX3_exchanged 69 = .ok (.iload 5, 2) := dk_21 5 (dk_at dksX3_exchanged_2 21 rfl rfl)
theorem dX3_exchanged_71 : decode cX3_exchanged 71 = .ok (.invokestatic 271, 3) := dk_184 1 15 (dk_at dksX3_exchanged_3 0 rfl rfl)
theorem dX3_exchanged_74 : decode cX3_exchanged 74 = .ok (.aload_n 0, 1) := dk_42 (dk_at dksX3_exchanged_3 3 rfl rfl)
theorem dX3_exchanged_75 : decode cX3_exchanged 75 = .ok (.aload_n 0, 1) := dk_42 (dk_at dksX3_exchanged_3 4 rfl rfl)
theorem dX3_exchanged_76 : decode cX3_exchanged 76 = .ok (.getfield 43, 3) := dk_180 0 43 (dk_at dksX3_exchanged_3 5 rfl rfl)
theorem dX3_exchanged_79 : decode cX3_exchanged 79 = .ok (.invokevirtual 274, 3) := dk_182 1 18 (dk_at dksX3_exchanged_3 8 rfl rfl)
theorem dX3_exchanged_82 : decode cX3_exchanged 82 = .ok (.invokestatic 206, 3) := dk_184 0 206 (dk_at dksX3_exchanged_3 11 rfl rfl)
theorem dX3_exchanged_85 : decode cX3_exchanged 85 = .ok (.istore 6, 2) := dk_54 6 (dk_at dksX3_exchanged_3 14 rfl rfl)
theorem dX3_exchanged_87 : decode cX3_exchanged 87 = .ok (.iload 6, 2) := dk_21 6 (dk_at dksX3_exchanged_3 16 rfl rfl)
theorem dX3_exchanged_89 : decode cX3_exchanged 89 = .ok (.iload_n 1, 1) := dk_27 (dk_at dksX3_exchanged_3 18 rfl rfl)
theorem dX3_exchanged_90 : decode cX3_exchanged 90 = .ok (.if_icmp .lt 6, 3) := dk_161 0 6 (dk_at dksX3_exchanged_3 19 rfl rfl)
theorem dX3_exchanged_93 : decode cX3_exchanged 93 = .ok (.goto 12, 3) := dk_167 0 12 (dk_at dksX3_exchanged_4 0 rfl rfl)
theorem dX3_exchanged_96 : decode cX3_exchanged 96 = .ok (.iload 6, 2) := dk_21 6 (dk_at dksX3_exchanged_4 3 rfl rfl)
theorem dX3_exchanged_98 : decode cX3_exchanged 98 = .ok (.istore_n 1, 1) := dk_60 (dk_at dksX3_exchanged_4 5 rfl rfl)
theorem dX3_exchanged_99 : decode cX3_exchanged 99 = .ok (.iload 4, 2) := dk_21 4 (dk_at dksX3_exchanged_4 6 rfl rfl)
theorem dX3_exchanged_101 : decode cX3_exchanged 101 = .ok (.istore_n 2, 1) := dk_61 (dk_at dksX3_exchanged_4 8 rfl rfl)
theorem dX3_exchanged_102 : decode cX3_exchanged 102 = .ok (.iload 5, 2) := dk_21 5 (dk_at dksX3_exchanged_4 9 rfl rfl)
theorem dX3_exchanged_104 : decode cX3_exchanged 104 = .ok (.istore_n 3, 1) := dk_62 (dk_at dksX3_exchanged_4 11 rfl rfl)
theorem dX3_exchanged_105 : decode cX3_exchanged 105 = .ok (.iinc 5 1, 3) := dk_132 5 1 (dk_at dksX3_exchanged_4 12 rfl rfl)
theorem dX3_exchanged_108 : decode cX3_exchanged 108 = .ok (.goto (-66), 3) := dk_167 255 190 (dk_at dksX3_exchanged_4 15 rfl rfl)
theorem dX3_exchanged_111 : decode cX3_exchanged 111 = .ok (.iinc 4 1, 3) := dk_132 4 1 (dk_at dksX3_exchanged_4 18 rfl rfl)
theorem dX3_exchanged_114 : decode cX3_exchanged 114 = .ok (.goto (-87), 3) := dk_167 255 169 (dk_at dksX3_exchanged_4 21 rfl rfl)
theorem dX3_exchanged_117 : decode cX3_exchanged 117 = .ok (.aload_n 0, 1) := dk_42 (dk_at dksX3_exchanged_5 0 rfl rfl)
theorem dX3_exchanged_118 : decode cX3_exchanged 118 = .ok (.iconst 0, 1) := dk_3 (dk_at dksX3_exchanged_5 1 rfl rfl)
theorem dX3_exchanged_119 : decode cX3_exchanged 119 = .ok (.putfield 86, 3) := dk_181 0 86 (dk_at dksX3_exchanged_5 2 rfl rfl)
theorem dX3_exchanged_122 : decode cX3_exchanged 122 = .ok (.aload_n 0, 1) := dk_42 (dk_at dksX3_exchanged_5 5 rfl rfl)
theorem dX3_exchanged_123 : decode cX3_exchanged 123 = .ok (.iload_n 2, 1) := dk_28 (dk_at dksX3_exchanged_5 6 rfl rfl)
theorem dX3_exchanged_124 : decode cX3_exchanged 124 = .ok (.i2l, 1) := dk_133 (dk_at dksX3_exchanged_5 7 rfl rfl)
theorem dX3_exchanged_125 : decode cX3_exchanged 125 = .ok (.invokevirtual 286, 3) := dk_182 1 30 (dk_at dksX3_exchanged_5 8 rfl rfl)
theorem dX3_exchanged_128 : decode cX3_exchanged 128 = .ok (.aload_n 0, 1) := dk_42 (dk_at dksX3_exchanged_5 11 rfl rfl)
theorem dX3_exchanged_129 : decode cX3_exchanged 129 = .ok (.iload_n 3, 1) := dk_29 (dk_at dksX3_exchanged_5 12 rfl rfl)
theorem dX3_exchanged_130 : decode cX3_exchanged 130 = .ok (.i2l, 1) := dk_133 (dk_at dksX3_exchanged_5 13 rfl rfl)
theorem dX3_exchanged_131 : decode cX3_exchanged 131 = .ok (.invokevirtual 286, 3) := dk_182 1 30 (dk_at dksX3_exchanged_5 14 rfl rfl)
theorem dX3_exchanged_134 : decode cX3_exchanged 134 = .ok (.aload_n 0, 1) := dk_42 (dk_at dksX3_exchanged_5 17 rfl rfl)
theorem dX3_exchanged_135 : decode cX3_exchanged 135 = .ok (.aload_n 0, 1) := dk_42 (dk_at dksX3_exchanged_5 18 rfl rfl)
theorem dX3_exchanged_136 : decode cX3_exchanged 136 = .ok (.aload_n 0, 1) := dk_42 (dk_at dksX3_exchanged_5 19 rfl rfl)
theorem dX3_exchanged_137 : decode cX3_exchanged 137 = .ok (.getfield 9, 3) := dk_180 0 9 (dk_at dksX3_exchanged_5 20 rfl rfl)
theorem dX3_exchanged_140 : decode cX3_exchanged 140 = .ok (.invokevirtual 274, 3) := dk_182 1 18 (dk_at dksX3_exchanged_6 0 rfl rfl)
theorem dX3_exchanged_143 : decode cX3_exchanged 143 = .ok (.invokestatic 206, 3) := dk_184 0 206 (dk_at dksX3_exchanged_6 3 rfl rfl)
theorem dX3_exchanged_146 : decode cX3_exchanged 146 = .ok (.i2l, 1) := dk_133 (dk_at dksX3_exchanged_6 6 rfl rfl)
theorem dX3_exchanged_147 : decode cX3_exchanged 147 = .ok (.invokevirtual 286, 3) := dk_182 1 30 (dk_at dksX3_exchanged_6 7 rfl rfl)
theorem dX3_exchanged_150 : decode cX3_exchanged 150 = .ok (.iload_n 1, 1) := dk_27 (dk_at dksX3_exchanged_6 10 rfl rfl)
theorem dX3_exchanged_151 : decode cX3_exchanged 151 = .ok (.ireturn, 1) := dk_172 (dk_at dksX3_exchanged_6 11 rfl rfl)
abbrev cX3_eldest : ByteArray := prog_9_method_80_code
def yX3_eldest : MethodName := ⟨RX3, "eldest", "()I"⟩
def dkwX3_eldest_5 : List UInt8 := [28, 156, 0, 9, 20, 1, 63, 167, 0, 5, 28, 133, 182, 1, 30, 27, 172]
abbrev dktX3_eldest_5 : List UInt8 := dkwX3_eldest_5 ++ []
def dkwX3_eldest_4 : List UInt8 := [182, 1, 46, 61, 42, 3, 181, 0, 86, 42, 42, 180, 0, 9, 16, 64, 27, 96, 46, 133, 182, 1, 30, 42]
abbrev dktX3_eldest_4 : List UInt8 := dkwX3_eldest_4 ++ dktX3_eldest_5
def dkwX3_eldest_3 : List UInt8 := [160, 0, 6, 16, 254, 172, 42, 180, 0, 9, 42, 180, 0, 43, 3, 184, 0, 229, 42, 42, 180, 0, 43, 27]
abbrev dktX3_eldest_3 : List UInt8 := dkwX3_eldest_3 ++ dktX3_eldest_4
def dkwX3_eldest_2 : List UInt8 := [180, 0, 9, 16, 64, 27, 96, 46, 164, 0, 5, 28, 60, 132, 2, 1, 167, 255, 204, 27, 16, 254]
abbrev dktX3_eldest_2 : List UInt8 := dkwX3_eldest_2 ++ dktX3_eldest_3
def dkwX3_eldest_1 : List UInt8 := [28, 96, 46, 153, 0, 32, 27, 16, 254, 159, 0, 24, 42, 180, 0, 9, 16, 64, 28, 96, 46, 42]
abbrev dktX3_eldest_1 : List UInt8 := dkwX3_eldest_1 ++ dktX3_eldest_2
def dkwX3_eldest_0 : List UInt8 := [42, 3, 181, 0, 83, 16, 254, 60, 3, 61, 28, 42, 180, 0, 89, 162, 0, 50, 42, 180, 0, 9, 16, 48]
abbrev dktX3_eldest_0 : List UInt8 := dkwX3_eldest_0 ++ dktX3_eldest_1
theorem dksX3_eldest_0 : cX3_eldest.data.toList.drop 0 = dktX3_eldest_0 := by decide +kernel
theorem dksX3_eldest_1 : cX3_eldest.data.toList.drop 24 = dktX3_eldest_1 := dk_seg dksX3_eldest_0 24 rfl rfl
theorem dksX3_eldest_2 : cX3_eldest.data.toList.drop 46 = dktX3_eldest_2 := dk_seg dksX3_eldest_1 22 rfl rfl
theorem dksX3_eldest_3 : cX3_eldest.data.toList.drop 68 = dktX3_eldest_3 := dk_seg dksX3_eldest_2 22 rfl rfl
theorem dksX3_eldest_4 : cX3_eldest.data.toList.drop 92 = dktX3_eldest_4 := dk_seg dksX3_eldest_3 24 rfl rfl
theorem dksX3_eldest_5 : cX3_eldest.data.toList.drop 116 = dktX3_eldest_5 := dk_seg dksX3_eldest_4 24 rfl rfl
theorem dX3_eldest_0 : decode cX3_eldest 0 = .ok (.aload_n 0, 1) := dk_42 (dk_at dksX3_eldest_0 0 rfl rfl)
theorem dX3_eldest_1 : decode cX3_eldest 1 = .ok (.iconst 0, 1) := dk_3 (dk_at dksX3_eldest_0 1 rfl rfl)
theorem dX3_eldest_2 : decode cX3_eldest 2 = .ok (.putfield 83, 3) := dk_181 0 83 (dk_at dksX3_eldest_0 2 rfl rfl)
theorem dX3_eldest_5 : decode cX3_eldest 5 = .ok (.bipush (-2), 2) := dk_16 254 (dk_at dksX3_eldest_0 5 rfl rfl)
theorem dX3_eldest_7 : decode cX3_eldest 7 = .ok (.istore_n 1, 1) := dk_60 (dk_at dksX3_eldest_0 7 rfl rfl)
theorem dX3_eldest_8 : decode cX3_eldest 8 = .ok (.iconst 0, 1) := dk_3 (dk_at dksX3_eldest_0 8 rfl rfl)
theorem dX3_eldest_9 : decode cX3_eldest 9 = .ok (.istore_n 2, 1) := dk_61 (dk_at dksX3_eldest_0 9 rfl rfl)
theorem dX3_eldest_10 : decode cX3_eldest 10 = .ok (.iload_n 2, 1) := dk_28 (dk_at dksX3_eldest_0 10 rfl rfl)
theorem dX3_eldest_11 : decode cX3_eldest 11 = .ok (.aload_n 0, 1) := dk_42 (dk_at dksX3_eldest_0 11 rfl rfl)
theorem dX3_eldest_12 : decode cX3_eldest 12 = .ok (.getfield 89, 3) := dk_180 0 89 (dk_at dksX3_eldest_0 12 rfl rfl)
theorem dX3_eldest_15 : decode cX3_eldest 15 = .ok (.if_icmp .ge 50, 3) := dk_162 0 50 (dk_at dksX3_eldest_0 15 rfl rfl)
theorem dX3_eldest_18 : decode cX3_eldest 18 = .ok (.aload_n 0, 1) := dk_42 (dk_at dksX3_eldest_0 18 rfl rfl)
theorem dX3_eldest_19 : decode cX3_eldest 19 = .ok (.getfield 9, 3) := dk_180 0 9 (dk_at dksX3_eldest_0 19 rfl rfl)
theorem dX3_eldest_22 : decode cX3_eldest 22 = .ok (.bipush 48, 2) := dk_16 48 (dk_at dksX3_eldest_0 22 rfl rfl)
theorem dX3_eldest_24 : decode cX3_eldest 24 = .ok (.iload_n 2, 1) := dk_28 (dk_at dksX3_eldest_1 0 rfl rfl)
theorem dX3_eldest_25 : decode cX3_eldest 25 = .ok (.iadd, 1) := dk_96 (dk_at dksX3_eldest_1 1 rfl rfl)
theorem dX3_eldest_26 : decode cX3_eldest 26 = .ok (.iaload, 1) := dk_46 (dk_at dksX3_eldest_1 2 rfl rfl)
theorem dX3_eldest_27 : decode cX3_eldest 27 = .ok (.ifCond .eq 32, 3) := dk_153 0 32 (dk_at dksX3_eldest_1 3 rfl rfl)
theorem dX3_eldest_30 : decode cX3_eldest 30 = .ok (.iload_n 1, 1) := dk_27 (dk_at dksX3_eldest_1 6 rfl rfl)
theorem dX3_eldest_31 : decode cX3_eldest 31 = .ok (.bipush (-2), 2) := dk_16 254 (dk_at dksX3_eldest_1 7 rfl rfl)
theorem dX3_eldest_33 : decode cX3_eldest 33 = .ok (.if_icmp .eq 24, 3) := dk_159 0 24 (dk_at dksX3_eldest_1 9 rfl rfl)
theorem dX3_eldest_36 : decode cX3_eldest 36 = .ok (.aload_n 0, 1) := dk_42 (dk_at dksX3_eldest_1 12 rfl rfl)
theorem dX3_eldest_37 : decode cX3_eldest 37 = .ok (.getfield 9, 3) := dk_180 0 9 (dk_at dksX3_eldest_1 13 rfl rfl)
theorem dX3_eldest_40 : decode cX3_eldest 40 = .ok (.bipush 64, 2) := dk_16 64 (dk_at dksX3_eldest_1 16 rfl rfl)
theorem dX3_eldest_42 : decode cX3_eldest 42 = .ok (.iload_n 2, 1) := dk_28 (dk_at dksX3_eldest_1 18 rfl rfl)
theorem dX3_eldest_43 : decode cX3_eldest 43 = .ok (.iadd, 1) := dk_96 (dk_at dksX3_eldest_1 19 rfl rfl)
theorem dX3_eldest_44 : decode cX3_eldest 44 = .ok (.iaload, 1) := dk_46 (dk_at dksX3_eldest_1 20 rfl rfl)
theorem dX3_eldest_45 : decode cX3_eldest 45 = .ok (.aload_n 0, 1) := dk_42 (dk_at dksX3_eldest_1 21 rfl rfl)
theorem dX3_eldest_46 : decode cX3_eldest 46 = .ok (.getfield 9, 3) := dk_180 0 9 (dk_at dksX3_eldest_2 0 rfl rfl)
theorem dX3_eldest_49 : decode cX3_eldest 49 = .ok (.bipush 64, 2) := dk_16 64 (dk_at dksX3_eldest_2 3 rfl rfl)
theorem dX3_eldest_51 : decode cX3_eldest 51 = .ok (.iload_n 1, 1) := dk_27 (dk_at dksX3_eldest_2 5 rfl rfl)
theorem dX3_eldest_52 : decode cX3_eldest 52 = .ok (.iadd, 1) := dk_96 (dk_at dksX3_eldest_2 6 rfl rfl)
theorem dX3_eldest_53 : decode cX3_eldest 53 = .ok (.iaload, 1) := dk_46 (dk_at dksX3_eldest_2 7 rfl rfl)
theorem dX3_eldest_54 : decode cX3_eldest 54 = .ok (.if_icmp .le 5, 3) := dk_164 0 5 (dk_at dksX3_eldest_2 8 rfl rfl)
theorem dX3_eldest_57 : decode cX3_eldest 57 = .ok (.iload_n 2, 1) := dk_28 (dk_at dksX3_eldest_2 11 rfl rfl)
theorem dX3_eldest_58 : decode cX3_eldest 58 = .ok (.istore_n 1, 1) := dk_60 (dk_at dksX3_eldest_2 12 rfl rfl)
theorem dX3_eldest_59 : decode cX3_eldest 59 = .ok (.iinc 2 1, 3) := dk_132 2 1 (dk_at dksX3_eldest_2 13 rfl rfl)
theorem dX3_eldest_62 : decode cX3_eldest 62 = .ok (.goto (-52), 3) := dk_167 255 204 (dk_at dksX3_eldest_2 16 rfl rfl)
theorem dX3_eldest_65 : decode cX3_eldest 65 = .ok (.iload_n 1, 1) := dk_27 (dk_at dksX3_eldest_2 19 rfl rfl)
theorem dX3_eldest_66 : decode cX3_eldest 66 = .ok (.bipush (-2), 2) := dk_16 254 (dk_at dksX3_eldest_2 20 rfl rfl)
theorem dX3_eldest_68 : decode cX3_eldest 68 = .ok (.if_icmp .ne 6, 3) := dk_160 0 6 (dk_at dksX3_eldest_3 0 rfl rfl)
theorem dX3_eldest_71 : decode cX3_eldest 71 = .ok (.bipush (-2), 2) := dk_16 254 (dk_at dksX3_eldest_3 3 rfl rfl)
theorem dX3_eldest_73 : decode cX3_eldest 73 = .ok (.ireturn, 1) := dk_172 (dk_at dksX3_eldest_3 5 rfl rfl)
theorem dX3_eldest_74 : decode cX3_eldest 74 = .ok (.aload_n 0, 1) := dk_42 (dk_at dksX3_eldest_3 6 rfl rfl)
theorem dX3_eldest_75 : decode cX3_eldest 75 = .ok (.getfield 9, 3) := dk_180 0 9 (dk_at dksX3_eldest_3 7 rfl rfl)
theorem dX3_eldest_78 : decode cX3_eldest 78 = .ok (.aload_n 0, 1) := dk_42 (dk_at dksX3_eldest_3 10 rfl rfl)
theorem dX3_eldest_79 : decode cX3_eldest 79 = .ok (.getfield 43, 3) := dk_180 0 43 (dk_at dksX3_eldest_3 11 rfl rfl)
theorem dX3_eldest_82 : decode cX3_eldest 82 = .ok (.iconst 0, 1) := dk_3 (dk_at dksX3_eldest_3 14 rfl rfl)
theorem dX3_eldest_83 : decode cX3_eldest 83 = .ok (.invokestatic 229, 3) := dk_184 0 229 (dk_at dksX3_eldest_3 15 rfl rfl)
theorem dX3_eldest_86 : decode cX3_eldest 86 = .ok (.aload_n 0, 1) := dk_42 (dk_at dksX3_eldest_3 18 rfl rfl)
theorem dX3_eldest_87 : decode cX3_eldest 87 = .ok (.aload_n 0, 1) := dk_42 (dk_at dksX3_eldest_3 19 rfl rfl)
theorem dX3_eldest_88 : decode cX3_eldest 88 = .ok (.getfield 43, 3) := dk_180 0 43 (dk_at dksX3_eldest_3 20 rfl rfl)
theorem dX3_eldest_91 : decode cX3_eldest 91 = .ok (.iload_n 1, 1) := dk_27 (dk_at dksX3_eldest_3 23 rfl rfl)
theorem dX3_eldest_92 : decode cX3_eldest 92 = .ok (.invokevirtual 302, 3) := dk_182 1 46 (dk_at dksX3_eldest_4 0 rfl rfl)
theorem dX3_eldest_95 : decode cX3_eldest 95 = .ok (.istore_n 2, 1) := dk_61 (dk_at dksX3_eldest_4 3 rfl rfl)
theorem dX3_eldest_96 : decode cX3_eldest 96 = .ok (.aload_n 0, 1) := dk_42 (dk_at dksX3_eldest_4 4 rfl rfl)
theorem dX3_eldest_97 : decode cX3_eldest 97 = .ok (.iconst 0, 1) := dk_3 (dk_at dksX3_eldest_4 5 rfl rfl)
theorem dX3_eldest_98 : decode cX3_eldest 98 = .ok (.putfield 86, 3) := dk_181 0 86 (dk_at dksX3_eldest_4 6 rfl rfl)
theorem dX3_eldest_101 : decode cX3_eldest 101 = .ok (.aload_n 0, 1) := dk_42 (dk_at dksX3_eldest_4 9 rfl rfl)
theorem dX3_eldest_102 : decode cX3_eldest 102 = .ok (.aload_n 0, 1) := dk_42 (dk_at dksX3_eldest_4 10 rfl rfl)
theorem dX3_eldest_103 : decode cX3_eldest 103 = .ok (.getfield 9, 3) := dk_180 0 9 (dk_at dksX3_eldest_4 11 rfl rfl)
theorem dX3_eldest_106 : decode cX3_eldest 106 = .ok (.bipush 64, 2) := dk_16 64 (dk_at dksX3_eldest_4 14 rfl rfl)
theorem dX3_eldest_108 : decode cX3_eldest 108 = .ok (.iload_n 1, 1) := dk_27 (dk_at dksX3_eldest_4 16 rfl rfl)
theorem dX3_eldest_109 : decode cX3_eldest 109 = .ok (.iadd, 1) := dk_96 (dk_at dksX3_eldest_4 17 rfl rfl)
theorem dX3_eldest_110 : decode cX3_eldest 110 = .ok (.iaload, 1) := dk_46 (dk_at dksX3_eldest_4 18 rfl rfl)
theorem dX3_eldest_111 : decode cX3_eldest 111 = .ok (.i2l, 1) := dk_133 (dk_at dksX3_eldest_4 19 rfl rfl)
theorem dX3_eldest_112 : decode cX3_eldest 112 = .ok (.invokevirtual 286, 3) := dk_182 1 30 (dk_at dksX3_eldest_4 20 rfl rfl)
theorem dX3_eldest_115 : decode cX3_eldest 115 = .ok (.aload_n 0, 1) := dk_42 (dk_at dksX3_eldest_4 23 rfl rfl)
theorem dX3_eldest_116 : decode cX3_eldest 116 = .ok (.iload_n 2, 1) := dk_28 (dk_at dksX3_eldest_5 0 rfl rfl)
theorem dX3_eldest_117 : decode cX3_eldest 117 = .ok (.ifCond .ge 9, 3) := dk_156 0 9 (dk_at dksX3_eldest_5 1 rfl rfl)
theorem dX3_eldest_120 : decode cX3_eldest 120 = .ok (.ldc2_w 319, 3) := dk_20 1 63 (dk_at dksX3_eldest_5 4 rfl rfl)
theorem dX3_eldest_123 : decode cX3_eldest 123 = .ok (.goto 5, 3) := dk_167 0 5 (dk_at dksX3_eldest_5 7 rfl rfl)
theorem dX3_eldest_126 : decode cX3_eldest 126 = .ok (.iload_n 2, 1) := dk_28 (dk_at dksX3_eldest_5 10 rfl rfl)
theorem dX3_eldest_127 : decode cX3_eldest 127 = .ok (.i2l, 1) := dk_133 (dk_at dksX3_eldest_5 11 rfl rfl)
theorem dX3_eldest_128 : decode cX3_eldest 128 = .ok (.invokevirtual 286, 3) := dk_182 1 30 (dk_at dksX3_eldest_5 12 rfl rfl)
theorem dX3_eldest_131 : decode cX3_eldest 131 = .ok (.iload_n 1, 1) := dk_27 (dk_at dksX3_eldest_5 15 rfl rfl)
theorem dX3_eldest_132 : decode cX3_eldest 132 = .ok (.ireturn, 1) := dk_172 (dk_at dksX3_eldest_5 16 rfl rfl)
abbrev cX3_waits : ByteArray := prog_9_method_82_code
def yX3_waits : MethodName := ⟨RX3, "waits", "(II)I"⟩
def dkwX3_waits_2 : List UInt8 := [27, 28, 182, 1, 65, 100, 184, 0, 198, 172]
abbrev dktX3_waits_2 : List UInt8 := dkwX3_waits_2 ++ []
def dkwX3_waits_1 : List UInt8 := [42, 180, 0, 9, 16, 32, 27, 96, 46, 2, 160, 0, 8, 16, 254, 167, 0, 18, 3, 42, 180, 0, 13, 42]
abbrev dktX3_waits_1 : List UInt8 := dkwX3_waits_1 ++ dktX3_waits_2
def dkwX3_waits_0 : List UInt8 := [42, 3, 181, 0, 83, 42, 27, 182, 0, 96, 153, 0, 12, 28, 3, 6, 184, 0, 92, 154, 0, 5, 2, 172]
abbrev dktX3_waits_0 : List UInt8 := dkwX3_waits_0 ++ dktX3_waits_1
theorem dksX3_waits_0 : cX3_waits.data.toList.drop 0 = dktX3_waits_0 := by decide +kernel
theorem dksX3_waits_1 : cX3_waits.data.toList.drop 24 = dktX3_waits_1 := dk_seg dksX3_waits_0 24 rfl rfl
theorem dksX3_waits_2 : cX3_waits.data.toList.drop 48 = dktX3_waits_2 := dk_seg dksX3_waits_1 24 rfl rfl
theorem dX3_waits_0 : decode cX3_waits 0 = .ok (.aload_n 0, 1) := dk_42 (dk_at dksX3_waits_0 0 rfl rfl)
theorem dX3_waits_1 : decode cX3_waits 1 = .ok (.iconst 0, 1) := dk_3 (dk_at dksX3_waits_0 1 rfl rfl)
theorem dX3_waits_2 : decode cX3_waits 2 = .ok (.putfield 83, 3) := dk_181 0 83 (dk_at dksX3_waits_0 2 rfl rfl)
theorem dX3_waits_5 : decode cX3_waits 5 = .ok (.aload_n 0, 1) := dk_42 (dk_at dksX3_waits_0 5 rfl rfl)
theorem dX3_waits_6 : decode cX3_waits 6 = .ok (.iload_n 1, 1) := dk_27 (dk_at dksX3_waits_0 6 rfl rfl)
theorem dX3_waits_7 : decode cX3_waits 7 = .ok (.invokevirtual 96, 3) := dk_182 0 96 (dk_at dksX3_waits_0 7 rfl rfl)
theorem dX3_waits_10 : decode cX3_waits 10 = .ok (.ifCond .eq 12, 3) := dk_153 0 12 (dk_at dksX3_waits_0 10 rfl rfl)
theorem dX3_waits_13 : decode cX3_waits 13 = .ok (.iload_n 2, 1) := dk_28 (dk_at dksX3_waits_0 13 rfl rfl)
theorem dX3_waits_14 : decode cX3_waits 14 = .ok (.iconst 0, 1) := dk_3 (dk_at dksX3_waits_0 14 rfl rfl)
theorem dX3_waits_15 : decode cX3_waits 15 = .ok (.iconst 3, 1) := dk_6 (dk_at dksX3_waits_0 15 rfl rfl)
theorem dX3_waits_16 : decode cX3_waits 16 = .ok (.invokestatic 92, 3) := dk_184 0 92 (dk_at dksX3_waits_0 16 rfl rfl)
theorem dX3_waits_19 : decode cX3_waits 19 = .ok (.ifCond .ne 5, 3) := dk_154 0 5 (dk_at dksX3_waits_0 19 rfl rfl)
theorem dX3_waits_22 : decode cX3_waits 22 = .ok (.iconst (-1), 1) := dk_2 (dk_at dksX3_waits_0 22 rfl rfl)
theorem dX3_waits_23 : decode cX3_waits 23 = .ok (.ireturn, 1) := dk_172 (dk_at dksX3_waits_0 23 rfl rfl)
theorem dX3_waits_24 : decode cX3_waits 24 = .ok (.aload_n 0, 1) := dk_42 (dk_at dksX3_waits_1 0 rfl rfl)
theorem dX3_waits_25 : decode cX3_waits 25 = .ok (.getfield 9, 3) := dk_180 0 9 (dk_at dksX3_waits_1 1 rfl rfl)
theorem dX3_waits_28 : decode cX3_waits 28 = .ok (.bipush 32, 2) := dk_16 32 (dk_at dksX3_waits_1 4 rfl rfl)
theorem dX3_waits_30 : decode cX3_waits 30 = .ok (.iload_n 1, 1) := dk_27 (dk_at dksX3_waits_1 6 rfl rfl)
theorem dX3_waits_31 : decode cX3_waits 31 = .ok (.iadd, 1) := dk_96 (dk_at dksX3_waits_1 7 rfl rfl)
theorem dX3_waits_32 : decode cX3_waits 32 = .ok (.iaload, 1) := dk_46 (dk_at dksX3_waits_1 8 rfl rfl)
theorem dX3_waits_33 : decode cX3_waits 33 = .ok (.iconst (-1), 1) := dk_2 (dk_at dksX3_waits_1 9 rfl rfl)
theorem dX3_waits_34 : decode cX3_waits 34 = .ok (.if_icmp .ne 8, 3) := dk_160 0 8 (dk_at dksX3_waits_1 10 rfl rfl)
theorem dX3_waits_37 : decode cX3_waits 37 = .ok (.bipush (-2), 2) := dk_16 254 (dk_at dksX3_waits_1 13 rfl rfl)
theorem dX3_waits_39 : decode cX3_waits 39 = .ok (.goto 18, 3) := dk_167 0 18 (dk_at dksX3_waits_1 15 rfl rfl)
theorem dX3_waits_42 : decode cX3_waits 42 = .ok (.iconst 0, 1) := dk_3 (dk_at dksX3_waits_1 18 rfl rfl)
theorem dX3_waits_43 : decode cX3_waits 43 = .ok (.aload_n 0, 1) := dk_42 (dk_at dksX3_waits_1 19 rfl rfl)
theorem dX3_waits_44 : decode cX3_waits 44 = .ok (.getfield 13, 3) := dk_180 0 13 (dk_at dksX3_waits_1 20 rfl rfl)
theorem dX3_waits_47 : decode cX3_waits 47 = .ok (.aload_n 0, 1) := dk_42 (dk_at dksX3_waits_1 23 rfl rfl)
theorem dX3_waits_48 : decode cX3_waits 48 = .ok (.iload_n 1, 1) := dk_27 (dk_at dksX3_waits_2 0 rfl rfl)
theorem dX3_waits_49 : decode cX3_waits 49 = .ok (.iload_n 2, 1) := dk_28 (dk_at dksX3_waits_2 1 rfl rfl)
theorem dX3_waits_50 : decode cX3_waits 50 = .ok (.invokevirtual 321, 3) := dk_182 1 65 (dk_at dksX3_waits_2 2 rfl rfl)
theorem dX3_waits_53 : decode cX3_waits 53 = .ok (.isub, 1) := dk_100 (dk_at dksX3_waits_2 5 rfl rfl)
theorem dX3_waits_54 : decode cX3_waits 54 = .ok (.invokestatic 198, 3) := dk_184 0 198 (dk_at dksX3_waits_2 6 rfl rfl)
theorem dX3_waits_57 : decode cX3_waits 57 = .ok (.ireturn, 1) := dk_172 (dk_at dksX3_waits_2 9 rfl rfl)
abbrev cX3_daysBy : ByteArray := prog_9_method_81_code
def yX3_daysBy : MethodName := ⟨RX3, "daysBy", "(II)I"⟩
def dkwX3_daysBy_2 : List UInt8 := [167, 255, 223, 29, 172]
abbrev dktX3_daysBy_2 : List UInt8 := dkwX3_daysBy_2 ++ []
def dkwX3_daysBy_1 : List UInt8 := [16, 40, 27, 96, 46, 21, 4, 96, 6, 162, 0, 17, 3, 29, 5, 100, 184, 0, 198, 62, 132, 4, 1]
abbrev dktX3_daysBy_1 : List UInt8 := dkwX3_daysBy_1 ++ dktX3_daysBy_2
def dkwX3_daysBy_0 : List UInt8 := [42, 180, 0, 9, 16, 32, 27, 96, 46, 62, 3, 54, 4, 21, 4, 28, 162, 0, 33, 42, 180, 0, 9]
abbrev dktX3_daysBy_0 : List UInt8 := dkwX3_daysBy_0 ++ dktX3_daysBy_1
theorem dksX3_daysBy_0 : cX3_daysBy.data.toList.drop 0 = dktX3_daysBy_0 := by decide +kernel
theorem dksX3_daysBy_1 : cX3_daysBy.data.toList.drop 23 = dktX3_daysBy_1 := dk_seg dksX3_daysBy_0 23 rfl rfl
theorem dksX3_daysBy_2 : cX3_daysBy.data.toList.drop 46 = dktX3_daysBy_2 := dk_seg dksX3_daysBy_1 23 rfl rfl
theorem dX3_daysBy_0 : decode cX3_daysBy 0 = .ok (.aload_n 0, 1) := dk_42 (dk_at dksX3_daysBy_0 0 rfl rfl)
theorem dX3_daysBy_1 : decode cX3_daysBy 1 = .ok (.getfield 9, 3) := dk_180 0 9 (dk_at dksX3_daysBy_0 1 rfl rfl)
theorem dX3_daysBy_4 : decode cX3_daysBy 4 = .ok (.bipush 32, 2) := dk_16 32 (dk_at dksX3_daysBy_0 4 rfl rfl)
theorem dX3_daysBy_6 : decode cX3_daysBy 6 = .ok (.iload_n 1, 1) := dk_27 (dk_at dksX3_daysBy_0 6 rfl rfl)
theorem dX3_daysBy_7 : decode cX3_daysBy 7 = .ok (.iadd, 1) := dk_96 (dk_at dksX3_daysBy_0 7 rfl rfl)
theorem dX3_daysBy_8 : decode cX3_daysBy 8 = .ok (.iaload, 1) := dk_46 (dk_at dksX3_daysBy_0 8 rfl rfl)
theorem dX3_daysBy_9 : decode cX3_daysBy 9 = .ok (.istore_n 3, 1) := dk_62 (dk_at dksX3_daysBy_0 9 rfl rfl)
theorem dX3_daysBy_10 : decode cX3_daysBy 10 = .ok (.iconst 0, 1) := dk_3 (dk_at dksX3_daysBy_0 10 rfl rfl)
theorem dX3_daysBy_11 : decode cX3_daysBy 11 = .ok (.istore 4, 2) := dk_54 4 (dk_at dksX3_daysBy_0 11 rfl rfl)
theorem dX3_daysBy_13 : decode cX3_daysBy 13 = .ok (.iload 4, 2) := dk_21 4 (dk_at dksX3_daysBy_0 13 rfl rfl)
theorem dX3_daysBy_15 : decode cX3_daysBy 15 = .ok (.iload_n 2, 1) := dk_28 (dk_at dksX3_daysBy_0 15 rfl rfl)
theorem dX3_daysBy_16 : decode cX3_daysBy 16 = .ok (.if_icmp .ge 33, 3) := dk_162 0 33 (dk_at dksX3_daysBy_0 16 rfl rfl)
theorem dX3_daysBy_19 : decode cX3_daysBy 19 = .ok (.aload_n 0, 1) := dk_42 (dk_at dksX3_daysBy_0 19 rfl rfl)
theorem dX3_daysBy_20 : decode cX3_daysBy 20 = .ok (.getfield 9, 3) := dk_180 0 9 (dk_at dksX3_daysBy_0 20 rfl rfl)
theorem dX3_daysBy_23 : decode cX3_daysBy 23 = .ok (.bipush 40, 2) := dk_16 40 (dk_at dksX3_daysBy_1 0 rfl rfl)
theorem dX3_daysBy_25 : decode cX3_daysBy 25 = .ok (.iload_n 1, 1) := dk_27 (dk_at dksX3_daysBy_1 2 rfl rfl)
theorem dX3_daysBy_26 : decode cX3_daysBy 26 = .ok (.iadd, 1) := dk_96 (dk_at dksX3_daysBy_1 3 rfl rfl)
theorem dX3_daysBy_27 : decode cX3_daysBy 27 = .ok (.iaload, 1) := dk_46 (dk_at dksX3_daysBy_1 4 rfl rfl)
theorem dX3_daysBy_28 : decode cX3_daysBy 28 = .ok (.iload 4, 2) := dk_21 4 (dk_at dksX3_daysBy_1 5 rfl rfl)
theorem dX3_daysBy_30 : decode cX3_daysBy 30 = .ok (.iadd, 1) := dk_96 (dk_at dksX3_daysBy_1 7 rfl rfl)
theorem dX3_daysBy_31 : decode cX3_daysBy 31 = .ok (.iconst 3, 1) := dk_6 (dk_at dksX3_daysBy_1 8 rfl rfl)
theorem dX3_daysBy_32 : decode cX3_daysBy 32 = .ok (.if_icmp .ge 17, 3) := dk_162 0 17 (dk_at dksX3_daysBy_1 9 rfl rfl)
theorem dX3_daysBy_35 : decode cX3_daysBy 35 = .ok (.iconst 0, 1) := dk_3 (dk_at dksX3_daysBy_1 12 rfl rfl)
theorem dX3_daysBy_36 : decode cX3_daysBy 36 = .ok (.iload_n 3, 1) := dk_29 (dk_at dksX3_daysBy_1 13 rfl rfl)
theorem dX3_daysBy_37 : decode cX3_daysBy 37 = .ok (.iconst 2, 1) := dk_5 (dk_at dksX3_daysBy_1 14 rfl rfl)
theorem dX3_daysBy_38 : decode cX3_daysBy 38 = .ok (.isub, 1) := dk_100 (dk_at dksX3_daysBy_1 15 rfl rfl)
theorem dX3_daysBy_39 : decode cX3_daysBy 39 = .ok (.invokestatic 198, 3) := dk_184 0 198 (dk_at dksX3_daysBy_1 16 rfl rfl)
theorem dX3_daysBy_42 : decode cX3_daysBy 42 = .ok (.istore_n 3, 1) := dk_62 (dk_at dksX3_daysBy_1 19 rfl rfl)
theorem dX3_daysBy_43 : decode cX3_daysBy 43 = .ok (.iinc 4 1, 3) := dk_132 4 1 (dk_at dksX3_daysBy_1 20 rfl rfl)
theorem dX3_daysBy_46 : decode cX3_daysBy 46 = .ok (.goto (-33), 3) := dk_167 255 223 (dk_at dksX3_daysBy_2 0 rfl rfl)
theorem dX3_daysBy_49 : decode cX3_daysBy 49 = .ok (.iload_n 3, 1) := dk_29 (dk_at dksX3_daysBy_2 3 rfl rfl)
theorem dX3_daysBy_50 : decode cX3_daysBy 50 = .ok (.ireturn, 1) := dk_172 (dk_at dksX3_daysBy_2 4 rfl rfl)
abbrev cX3_spares : ByteArray := prog_9_method_83_code
def yX3_spares : MethodName := ⟨RX3, "spares", "(II)I"⟩
def dkwX3_spares_3 : List UInt8 := [184, 0, 215, 42, 180, 0, 13, 162, 0, 5, 29, 172, 132, 3, 1, 167, 255, 214, 16, 254, 172]
abbrev dktX3_spares_3 : List UInt8 := dkwX3_spares_3 ++ []
def dkwX3_spares_2 : List UInt8 := [16, 40, 27, 96, 46, 29, 96, 6, 163, 0, 33, 16, 99, 42, 27, 29, 182, 1, 65, 28, 96, 4, 100]
abbrev dktX3_spares_2 : List UInt8 := dkwX3_spares_2 ++ dktX3_spares_3
def dkwX3_spares_1 : List UInt8 := [172, 42, 180, 0, 9, 16, 32, 27, 96, 46, 2, 160, 0, 6, 16, 253, 172, 3, 62, 42, 180, 0, 9]
abbrev dktX3_spares_1 : List UInt8 := dkwX3_spares_1 ++ dktX3_spares_2
def dkwX3_spares_0 : List UInt8 := [42, 3, 181, 0, 83, 42, 27, 182, 0, 96, 153, 0, 13, 28, 4, 16, 20, 184, 0, 92, 154, 0, 5, 2]
abbrev dktX3_spares_0 : List UInt8 := dkwX3_spares_0 ++ dktX3_spares_1
theorem dksX3_spares_0 : cX3_spares.data.toList.drop 0 = dktX3_spares_0 := by decide +kernel
theorem dksX3_spares_1 : cX3_spares.data.toList.drop 24 = dktX3_spares_1 := dk_seg dksX3_spares_0 24 rfl rfl
theorem dksX3_spares_2 : cX3_spares.data.toList.drop 47 = dktX3_spares_2 := dk_seg dksX3_spares_1 23 rfl rfl
theorem dksX3_spares_3 : cX3_spares.data.toList.drop 70 = dktX3_spares_3 := dk_seg dksX3_spares_2 23 rfl rfl
theorem dX3_spares_0 : decode cX3_spares 0 = .ok (.aload_n 0, 1) := dk_42 (dk_at dksX3_spares_0 0 rfl rfl)
theorem dX3_spares_1 : decode cX3_spares 1 = .ok (.iconst 0, 1) := dk_3 (dk_at dksX3_spares_0 1 rfl rfl)
theorem dX3_spares_2 : decode cX3_spares 2 = .ok (.putfield 83, 3) := dk_181 0 83 (dk_at dksX3_spares_0 2 rfl rfl)
theorem dX3_spares_5 : decode cX3_spares 5 = .ok (.aload_n 0, 1) := dk_42 (dk_at dksX3_spares_0 5 rfl rfl)
theorem dX3_spares_6 : decode cX3_spares 6 = .ok (.iload_n 1, 1) := dk_27 (dk_at dksX3_spares_0 6 rfl rfl)
theorem dX3_spares_7 : decode cX3_spares 7 = .ok (.invokevirtual 96, 3) := dk_182 0 96 (dk_at dksX3_spares_0 7 rfl rfl)
theorem dX3_spares_10 : decode cX3_spares 10 = .ok (.ifCond .eq 13, 3) := dk_153 0 13 (dk_at dksX3_spares_0 10 rfl rfl)
theorem dX3_spares_13 : decode cX3_spares 13 = .ok (.iload_n 2, 1) := dk_28 (dk_at dksX3_spares_0 13 rfl rfl)
theorem dX3_spares_14 : decode cX3_spares 14 = .ok (.iconst 1, 1) := dk_4 (dk_at dksX3_spares_0 14 rfl rfl)
theorem dX3_spares_15 : decode cX3_spares 15 = .ok (.bipush 20, 2) := dk_16 20 (dk_at dksX3_spares_0 15 rfl rfl)
theorem dX3_spares_17 : decode cX3_spares 17 = .ok (.invokestatic 92, 3) := dk_184 0 92 (dk_at dksX3_spares_0 17 rfl rfl)
theorem dX3_spares_20 : decode cX3_spares 20 = .ok (.ifCond .ne 5, 3) := dk_154 0 5 (dk_at dksX3_spares_0 20 rfl rfl)
theorem dX3_spares_23 : decode cX3_spares 23 = .ok (.iconst (-1), 1) := dk_2 (dk_at dksX3_spares_0 23 rfl rfl)
theorem dX3_spares_24 : decode cX3_spares 24 = .ok (.ireturn, 1) := dk_172 (dk_at dksX3_spares_1 0 rfl rfl)
theorem dX3_spares_25 : decode cX3_spares 25 = .ok (.aload_n 0, 1) := dk_42 (dk_at dksX3_spares_1 1 rfl rfl)
theorem dX3_spares_26 : decode cX3_spares 26 = .ok (.getfield 9, 3) := dk_180 0 9 (dk_at dksX3_spares_1 2 rfl rfl)
theorem dX3_spares_29 : decode cX3_spares 29 = .ok (.bipush 32, 2) := dk_16 32 (dk_at dksX3_spares_1 5 rfl rfl)
theorem dX3_spares_31 : decode cX3_spares 31 = .ok (.iload_n 1, 1) := dk_27 (dk_at dksX3_spares_1 7 rfl rfl)
theorem dX3_spares_32 : decode cX3_spares 32 = .ok (.iadd, 1) := dk_96 (dk_at dksX3_spares_1 8 rfl rfl)
theorem dX3_spares_33 : decode cX3_spares 33 = .ok (.iaload, 1) := dk_46 (dk_at dksX3_spares_1 9 rfl rfl)
theorem dX3_spares_34 : decode cX3_spares 34 = .ok (.iconst (-1), 1) := dk_2 (dk_at dksX3_spares_1 10 rfl rfl)
theorem dX3_spares_35 : decode cX3_spares 35 = .ok (.if_icmp .ne 6, 3) := dk_160 0 6 (dk_at dksX3_spares_1 11 rfl rfl)
theorem dX3_spares_38 : decode cX3_spares 38 = .ok (.bipush (-3), 2) := dk_16 253 (dk_at dksX3_spares_1 14 rfl rfl)
theorem dX3_spares_40 : decode cX3_spares 40 = .ok (.ireturn, 1) := dk_172 (dk_at dksX3_spares_1 16 rfl rfl)
theorem dX3_spares_41 : decode cX3_spares 41 = .ok (.iconst 0, 1) := dk_3 (dk_at dksX3_spares_1 17 rfl rfl)
theorem dX3_spares_42 : decode cX3_spares 42 = .ok (.istore_n 3, 1) := dk_62 (dk_at dksX3_spares_1 18 rfl rfl)
theorem dX3_spares_43 : decode cX3_spares 43 = .ok (.aload_n 0, 1) := dk_42 (dk_at dksX3_spares_1 19 rfl rfl)
theorem dX3_spares_44 : decode cX3_spares 44 = .ok (.getfield 9, 3) := dk_180 0 9 (dk_at dksX3_spares_1 20 rfl rfl)
theorem dX3_spares_47 : decode cX3_spares 47 = .ok (.bipush 40, 2) := dk_16 40 (dk_at dksX3_spares_2 0 rfl rfl)
theorem dX3_spares_49 : decode cX3_spares 49 = .ok (.iload_n 1, 1) := dk_27 (dk_at dksX3_spares_2 2 rfl rfl)
theorem dX3_spares_50 : decode cX3_spares 50 = .ok (.iadd, 1) := dk_96 (dk_at dksX3_spares_2 3 rfl rfl)
theorem dX3_spares_51 : decode cX3_spares 51 = .ok (.iaload, 1) := dk_46 (dk_at dksX3_spares_2 4 rfl rfl)
theorem dX3_spares_52 : decode cX3_spares 52 = .ok (.iload_n 3, 1) := dk_29 (dk_at dksX3_spares_2 5 rfl rfl)
theorem dX3_spares_53 : decode cX3_spares 53 = .ok (.iadd, 1) := dk_96 (dk_at dksX3_spares_2 6 rfl rfl)
theorem dX3_spares_54 : decode cX3_spares 54 = .ok (.iconst 3, 1) := dk_6 (dk_at dksX3_spares_2 7 rfl rfl)
theorem dX3_spares_55 : decode cX3_spares 55 = .ok (.if_icmp .gt 33, 3) := dk_163 0 33 (dk_at dksX3_spares_2 8 rfl rfl)
theorem dX3_spares_58 : decode cX3_spares 58 = .ok (.bipush 99, 2) := dk_16 99 (dk_at dksX3_spares_2 11 rfl rfl)
theorem dX3_spares_60 : decode cX3_spares 60 = .ok (.aload_n 0, 1) := dk_42 (dk_at dksX3_spares_2 13 rfl rfl)
theorem dX3_spares_61 : decode cX3_spares 61 = .ok (.iload_n 1, 1) := dk_27 (dk_at dksX3_spares_2 14 rfl rfl)
theorem dX3_spares_62 : decode cX3_spares 62 = .ok (.iload_n 3, 1) := dk_29 (dk_at dksX3_spares_2 15 rfl rfl)
theorem dX3_spares_63 : decode cX3_spares 63 = .ok (.invokevirtual 321, 3) := dk_182 1 65 (dk_at dksX3_spares_2 16 rfl rfl)
theorem dX3_spares_66 : decode cX3_spares 66 = .ok (.iload_n 2, 1) := dk_28 (dk_at dksX3_spares_2 19 rfl rfl)
theorem dX3_spares_67 : decode cX3_spares 67 = .ok (.iadd, 1) := dk_96 (dk_at dksX3_spares_2 20 rfl rfl)
theorem dX3_spares_68 : decode cX3_spares 68 = .ok (.iconst 1, 1) := dk_4 (dk_at dksX3_spares_2 21 rfl rfl)
theorem dX3_spares_69 : decode cX3_spares 69 = .ok (.isub, 1) := dk_100 (dk_at dksX3_spares_2 22 rfl rfl)
theorem dX3_spares_70 : decode cX3_spares 70 = .ok (.invokestatic 215, 3) := dk_184 0 215 (dk_at dksX3_spares_3 0 rfl rfl)
theorem dX3_spares_73 : decode cX3_spares 73 = .ok (.aload_n 0, 1) := dk_42 (dk_at dksX3_spares_3 3 rfl rfl)
theorem dX3_spares_74 : decode cX3_spares 74 = .ok (.getfield 13, 3) := dk_180 0 13 (dk_at dksX3_spares_3 4 rfl rfl)
theorem dX3_spares_77 : decode cX3_spares 77 = .ok (.if_icmp .ge 5, 3) := dk_162 0 5 (dk_at dksX3_spares_3 7 rfl rfl)
theorem dX3_spares_80 : decode cX3_spares 80 = .ok (.iload_n 3, 1) := dk_29 (dk_at dksX3_spares_3 10 rfl rfl)
theorem dX3_spares_81 : decode cX3_spares 81 = .ok (.ireturn, 1) := dk_172 (dk_at dksX3_spares_3 11 rfl rfl)
theorem dX3_spares_82 : decode cX3_spares 82 = .ok (.iinc 3 1, 3) := dk_132 3 1 (dk_at dksX3_spares_3 12 rfl rfl)
theorem dX3_spares_85 : decode cX3_spares 85 = .ok (.goto (-42), 3) := dk_167 255 214 (dk_at dksX3_spares_3 15 rfl rfl)
theorem dX3_spares_88 : decode cX3_spares 88 = .ok (.bipush (-2), 2) := dk_16 254 (dk_at dksX3_spares_3 18 rfl rfl)
theorem dX3_spares_90 : decode cX3_spares 90 = .ok (.ireturn, 1) := dk_172 (dk_at dksX3_spares_3 20 rfl rfl)
abbrev cX3_open : ByteArray := prog_9_method_84_code
def yX3_open : MethodName := ⟨RX3, "open", "()I"⟩
def dkwX3_open_3 : List UInt8 := [182, 1, 30, 27, 172]
abbrev dktX3_open_3 : List UInt8 := dkwX3_open_3 ++ []
def dkwX3_open_2 : List UInt8 := [181, 0, 86, 42, 42, 42, 180, 0, 9, 182, 0, 244, 133, 182, 1, 30, 42, 42, 182, 1, 56, 133]
abbrev dktX3_open_2 : List UInt8 := dkwX3_open_2 ++ dktX3_open_3
def dkwX3_open_1 : List UInt8 := [182, 0, 221, 153, 0, 9, 4, 28, 120, 167, 0, 4, 3, 128, 60, 132, 2, 1, 167, 255, 223, 42, 3]
abbrev dktX3_open_1 : List UInt8 := dkwX3_open_1 ++ dktX3_open_2
def dkwX3_open_0 : List UInt8 := [42, 3, 181, 0, 83, 3, 60, 3, 61, 28, 42, 180, 0, 89, 162, 0, 31, 27, 42, 42, 180, 0, 9, 28]
abbrev dktX3_open_0 : List UInt8 := dkwX3_open_0 ++ dktX3_open_1
theorem dksX3_open_0 : cX3_open.data.toList.drop 0 = dktX3_open_0 := by decide +kernel
theorem dksX3_open_1 : cX3_open.data.toList.drop 24 = dktX3_open_1 := dk_seg dksX3_open_0 24 rfl rfl
theorem dksX3_open_2 : cX3_open.data.toList.drop 47 = dktX3_open_2 := dk_seg dksX3_open_1 23 rfl rfl
theorem dksX3_open_3 : cX3_open.data.toList.drop 69 = dktX3_open_3 := dk_seg dksX3_open_2 22 rfl rfl
theorem dX3_open_0 : decode cX3_open 0 = .ok (.aload_n 0, 1) := dk_42 (dk_at dksX3_open_0 0 rfl rfl)
theorem dX3_open_1 : decode cX3_open 1 = .ok (.iconst 0, 1) := dk_3 (dk_at dksX3_open_0 1 rfl rfl)
theorem dX3_open_2 : decode cX3_open 2 = .ok (.putfield 83, 3) := dk_181 0 83 (dk_at dksX3_open_0 2 rfl rfl)
theorem dX3_open_5 : decode cX3_open 5 = .ok (.iconst 0, 1) := dk_3 (dk_at dksX3_open_0 5 rfl rfl)
theorem dX3_open_6 : decode cX3_open 6 = .ok (.istore_n 1, 1) := dk_60 (dk_at dksX3_open_0 6 rfl rfl)
theorem dX3_open_7 : decode cX3_open 7 = .ok (.iconst 0, 1) := dk_3 (dk_at dksX3_open_0 7 rfl rfl)
theorem dX3_open_8 : decode cX3_open 8 = .ok (.istore_n 2, 1) := dk_61 (dk_at dksX3_open_0 8 rfl rfl)
theorem dX3_open_9 : decode cX3_open 9 = .ok (.iload_n 2, 1) := dk_28 (dk_at dksX3_open_0 9 rfl rfl)
theorem dX3_open_10 : decode cX3_open 10 = .ok (.aload_n 0, 1) := dk_42 (dk_at dksX3_open_0 10 rfl rfl)
theorem dX3_open_11 : decode cX3_open 11 = .ok (.getfield 89, 3) := dk_180 0 89 (dk_at dksX3_open_0 11 rfl rfl)
theorem dX3_open_14 : decode cX3_open 14 = .ok (.if_icmp .ge 31, 3) := dk_162 0 31 (dk_at dksX3_open_0 14 rfl rfl)
theorem dX3_open_17 : decode cX3_open 17 = .ok (.iload_n 1, 1) := dk_27 (dk_at dksX3_open_0 17 rfl rfl)
theorem dX3_open_18 : decode cX3_open 18 = .ok (.aload_n 0, 1) := dk_42 (dk_at dksX3_open_0 18 rfl rfl)
theorem dX3_open_19 : decode cX3_open 19 = .ok (.aload_n 0, 1) := dk_42 (dk_at dksX3_open_0 19 rfl rfl)
theorem dX3_open_20 : decode cX3_open 20 = .ok (.getfield 9, 3) := dk_180 0 9 (dk_at dksX3_open_0 20 rfl rfl)
theorem dX3_open_23 : decode cX3_open 23 = .ok (.iload_n 2, 1) := dk_28 (dk_at dksX3_open_0 23 rfl rfl)
theorem dX3_open_24 : decode cX3_open 24 = .ok (.invokevirtual 221, 3) := dk_182 0 221 (dk_at dksX3_open_1 0 rfl rfl)
theorem dX3_open_27 : decode cX3_open 27 = .ok (.ifCond .eq 9, 3) := dk_153 0 9 (dk_at dksX3_open_1 3 rfl rfl)
theorem dX3_open_30 : decode cX3_open 30 = .ok (.iconst 1, 1) := dk_4 (dk_at dksX3_open_1 6 rfl rfl)
theorem dX3_open_31 : decode cX3_open 31 = .ok (.iload_n 2, 1) := dk_28 (dk_at dksX3_open_1 7 rfl rfl)
theorem dX3_open_32 : decode cX3_open 32 = .ok (.ishl, 1) := dk_120 (dk_at dksX3_open_1 8 rfl rfl)
theorem dX3_open_33 : decode cX3_open 33 = .ok (.goto 4, 3) := dk_167 0 4 (dk_at dksX3_open_1 9 rfl rfl)
theorem dX3_open_36 : decode cX3_open 36 = .ok (.iconst 0, 1) := dk_3 (dk_at dksX3_open_1 12 rfl rfl)
theorem dX3_open_37 : decode cX3_open 37 = .ok (.ior, 1) := dk_128 (dk_at dksX3_open_1 13 rfl rfl)
theorem dX3_open_38 : decode cX3_open 38 = .ok (.istore_n 1, 1) := dk_60 (dk_at dksX3_open_1 14 rfl rfl)
theorem dX3_open_39 : decode cX3_open 39 = .ok (.iinc 2 1, 3) := dk_132 2 1 (dk_at dksX3_open_1 15 rfl rfl)
theorem dX3_open_42 : decode cX3_open 42 = .ok (.goto (-33), 3) := dk_167 255 223 (dk_at dksX3_open_1 18 rfl rfl)
theorem dX3_open_45 : decode cX3_open 45 = .ok (.aload_n 0, 1) := dk_42 (dk_at dksX3_open_1 21 rfl rfl)
theorem dX3_open_46 : decode cX3_open 46 = .ok (.iconst 0, 1) := dk_3 (dk_at dksX3_open_1 22 rfl rfl)
theorem dX3_open_47 : decode cX3_open 47 = .ok (.putfield 86, 3) := dk_181 0 86 (dk_at dksX3_open_2 0 rfl rfl)
theorem dX3_open_50 : decode cX3_open 50 = .ok (.aload_n 0, 1) := dk_42 (dk_at dksX3_open_2 3 rfl rfl)
theorem dX3_open_51 : decode cX3_open 51 = .ok (.aload_n 0, 1) := dk_42 (dk_at dksX3_open_2 4 rfl rfl)
theorem dX3_open_52 : decode cX3_open 52 = .ok (.aload_n 0, 1) := dk_42 (dk_at dksX3_open_2 5 rfl rfl)
theorem dX3_open_53 : decode cX3_open 53 = .ok (.getfield 9, 3) := dk_180 0 9 (dk_at dksX3_open_2 6 rfl rfl)
theorem dX3_open_56 : decode cX3_open 56 = .ok (.invokevirtual 244, 3) := dk_182 0 244 (dk_at dksX3_open_2 9 rfl rfl)
theorem dX3_open_59 : decode cX3_open 59 = .ok (.i2l, 1) := dk_133 (dk_at dksX3_open_2 12 rfl rfl)
theorem dX3_open_60 : decode cX3_open 60 = .ok (.invokevirtual 286, 3) := dk_182 1 30 (dk_at dksX3_open_2 13 rfl rfl)
theorem dX3_open_63 : decode cX3_open 63 = .ok (.aload_n 0, 1) := dk_42 (dk_at dksX3_open_2 16 rfl rfl)
theorem dX3_open_64 : decode cX3_open 64 = .ok (.aload_n 0, 1) := dk_42 (dk_at dksX3_open_2 17 rfl rfl)
theorem dX3_open_65 : decode cX3_open 65 = .ok (.invokevirtual 312, 3) := dk_182 1 56 (dk_at dksX3_open_2 18 rfl rfl)
theorem dX3_open_68 : decode cX3_open 68 = .ok (.i2l, 1) := dk_133 (dk_at dksX3_open_2 21 rfl rfl)
theorem dX3_open_69 : decode cX3_open 69 = .ok (.invokevirtual 286, 3) := dk_182 1 30 (dk_at dksX3_open_3 0 rfl rfl)
theorem dX3_open_72 : decode cX3_open 72 = .ok (.iload_n 1, 1) := dk_27 (dk_at dksX3_open_3 3 rfl rfl)
theorem dX3_open_73 : decode cX3_open 73 = .ok (.ireturn, 1) := dk_172 (dk_at dksX3_open_3 4 rfl rfl)
abbrev cX3_kinds : ByteArray := prog_9_method_85_code
def yX3_kinds : MethodName := ⟨RX3, "kinds", "(I)I"⟩
def dkwX3_kinds_4 : List UInt8 := [28, 42, 42, 180, 0, 9, 182, 0, 202, 126, 184, 0, 206, 133, 182, 1, 30, 28, 172]
abbrev dktX3_kinds_4 : List UInt8 := dkwX3_kinds_4 ++ []
def dkwX3_kinds_3 : List UInt8 := [167, 255, 210, 42, 3, 181, 0, 86, 42, 28, 184, 0, 206, 133, 182, 1, 30, 42, 29, 133, 182, 1, 30, 42]
abbrev dktX3_kinds_3 : List UInt8 := dkwX3_kinds_3 ++ dktX3_kinds_4
def dkwX3_kinds_2 : List UInt8 := [4, 21, 4, 120, 128, 61, 29, 42, 180, 0, 9, 16, 24, 21, 4, 96, 46, 96, 62, 132, 4, 1]
abbrev dktX3_kinds_2 : List UInt8 := dkwX3_kinds_2 ++ dktX3_kinds_3
def dkwX3_kinds_1 : List UInt8 := [21, 4, 42, 180, 0, 89, 162, 0, 43, 42, 180, 0, 9, 21, 4, 46, 27, 159, 0, 6, 167, 0, 23, 28]
abbrev dktX3_kinds_1 : List UInt8 := dkwX3_kinds_1 ++ dktX3_kinds_2
def dkwX3_kinds_0 : List UInt8 := [42, 3, 181, 0, 83, 27, 3, 6, 184, 0, 92, 154, 0, 5, 2, 172, 3, 61, 3, 62, 3, 54, 4]
abbrev dktX3_kinds_0 : List UInt8 := dkwX3_kinds_0 ++ dktX3_kinds_1
theorem dksX3_kinds_0 : cX3_kinds.data.toList.drop 0 = dktX3_kinds_0 := by decide +kernel
theorem dksX3_kinds_1 : cX3_kinds.data.toList.drop 23 = dktX3_kinds_1 := dk_seg dksX3_kinds_0 23 rfl rfl
theorem dksX3_kinds_2 : cX3_kinds.data.toList.drop 47 = dktX3_kinds_2 := dk_seg dksX3_kinds_1 24 rfl rfl
theorem dksX3_kinds_3 : cX3_kinds.data.toList.drop 69 = dktX3_kinds_3 := dk_seg dksX3_kinds_2 22 rfl rfl
theorem dksX3_kinds_4 : cX3_kinds.data.toList.drop 93 = dktX3_kinds_4 := dk_seg dksX3_kinds_3 24 rfl rfl
theorem dX3_kinds_0 : decode cX3_kinds 0 = .ok (.aload_n 0, 1) := dk_42 (dk_at dksX3_kinds_0 0 rfl rfl)
theorem dX3_kinds_1 : decode cX3_kinds 1 = .ok (.iconst 0, 1) := dk_3 (dk_at dksX3_kinds_0 1 rfl rfl)
theorem dX3_kinds_2 : decode cX3_kinds 2 = .ok (.putfield 83, 3) := dk_181 0 83 (dk_at dksX3_kinds_0 2 rfl rfl)
theorem dX3_kinds_5 : decode cX3_kinds 5 = .ok (.iload_n 1, 1) := dk_27 (dk_at dksX3_kinds_0 5 rfl rfl)
theorem dX3_kinds_6 : decode cX3_kinds 6 = .ok (.iconst 0, 1) := dk_3 (dk_at dksX3_kinds_0 6 rfl rfl)
theorem dX3_kinds_7 : decode cX3_kinds 7 = .ok (.iconst 3, 1) := dk_6 (dk_at dksX3_kinds_0 7 rfl rfl)
theorem dX3_kinds_8 : decode cX3_kinds 8 = .ok (.invokestatic 92, 3) := dk_184 0 92 (dk_at dksX3_kinds_0 8 rfl rfl)
theorem dX3_kinds_11 : decode cX3_kinds 11 = .ok (.ifCond .ne 5, 3) := dk_154 0 5 (dk_at dksX3_kinds_0 11 rfl rfl)
theorem dX3_kinds_14 : decode cX3_kinds 14 = .ok (.iconst (-1), 1) := dk_2 (dk_at dksX3_kinds_0 14 rfl rfl)
theorem dX3_kinds_15 : decode cX3_kinds 15 = .ok (.ireturn, 1) := dk_172 (dk_at dksX3_kinds_0 15 rfl rfl)
theorem dX3_kinds_16 : decode cX3_kinds 16 = .ok (.iconst 0, 1) := dk_3 (dk_at dksX3_kinds_0 16 rfl rfl)
theorem dX3_kinds_17 : decode cX3_kinds 17 = .ok (.istore_n 2, 1) := dk_61 (dk_at dksX3_kinds_0 17 rfl rfl)
theorem dX3_kinds_18 : decode cX3_kinds 18 = .ok (.iconst 0, 1) := dk_3 (dk_at dksX3_kinds_0 18 rfl rfl)
theorem dX3_kinds_19 : decode cX3_kinds 19 = .ok (.istore_n 3, 1) := dk_62 (dk_at dksX3_kinds_0 19 rfl rfl)
theorem dX3_kinds_20 : decode cX3_kinds 20 = .ok (.iconst 0, 1) := dk_3 (dk_at dksX3_kinds_0 20 rfl rfl)
theorem dX3_kinds_21 : decode cX3_kinds 21 = .ok (.istore 4, 2) := dk_54 4 (dk_at dksX3_kinds_0 21 rfl rfl)
theorem dX3_kinds_23 : decode cX3_kinds 23 = .ok (.iload 4, 2) := dk_21 4 (dk_at dksX3_kinds_1 0 rfl rfl)
theorem dX3_kinds_25 : decode cX3_kinds 25 = .ok (.aload_n 0, 1) := dk_42 (dk_at dksX3_kinds_1 2 rfl rfl)
theorem dX3_kinds_26 : decode cX3_kinds 26 = .ok (.getfield 89, 3) := dk_180 0 89 (dk_at dksX3_kinds_1 3 rfl rfl)
theorem dX3_kinds_29 : decode cX3_kinds 29 = .ok (.if_icmp .ge 43, 3) := dk_162 0 43 (dk_at dksX3_kinds_1 6 rfl rfl)
theorem dX3_kinds_32 : decode cX3_kinds 32 = .ok (.aload_n 0, 1) := dk_42 (dk_at dksX3_kinds_1 9 rfl rfl)
theorem dX3_kinds_33 : decode cX3_kinds 33 = .ok (.getfield 9, 3) := dk_180 0 9 (dk_at dksX3_kinds_1 10 rfl rfl)
theorem dX3_kinds_36 : decode cX3_kinds 36 = .ok (.iload 4, 2) := dk_21 4 (dk_at dksX3_kinds_1 13 rfl rfl)
theorem dX3_kinds_38 : decode cX3_kinds 38 = .ok (.iaload, 1) := dk_46 (dk_at dksX3_kinds_1 15 rfl rfl)
theorem dX3_kinds_39 : decode cX3_kinds 39 = .ok (.iload_n 1, 1) := dk_27 (dk_at dksX3_kinds_1 16 rfl rfl)
theorem dX3_kinds_40 : decode cX3_kinds 40 = .ok (.if_icmp .eq 6, 3) := dk_159 0 6 (dk_at dksX3_kinds_1 17 rfl rfl)
theorem dX3_kinds_43 : decode cX3_kinds 43 = .ok (.goto 23, 3) := dk_167 0 23 (dk_at dksX3_kinds_1 20 rfl rfl)
theorem dX3_kinds_46 : decode cX3_kinds 46 = .ok (.iload_n 2, 1) := dk_28 (dk_at dksX3_kinds_1 23 rfl rfl)
theorem dX3_kinds_47 : decode cX3_kinds 47 = .ok (.iconst 1, 1) := dk_4 (dk_at dksX3_kinds_2 0 rfl rfl)
theorem dX3_kinds_48 : decode cX3_kinds 48 = .ok (.iload 4, 2) := dk_21 4 (dk_at dksX3_kinds_2 1 rfl rfl)
theorem dX3_kinds_50 : decode cX3_kinds 50 = .ok (.ishl, 1) := dk_120 (dk_at dksX3_kinds_2 3 rfl rfl)
theorem dX3_kinds_51 : decode cX3_kinds 51 = .ok (.ior, 1) := dk_128 (dk_at dksX3_kinds_2 4 rfl rfl)
theorem dX3_kinds_52 : decode cX3_kinds 52 = .ok (.istore_n 2, 1) := dk_61 (dk_at dksX3_kinds_2 5 rfl rfl)
theorem dX3_kinds_53 : decode cX3_kinds 53 = .ok (.iload_n 3, 1) := dk_29 (dk_at dksX3_kinds_2 6 rfl rfl)
theorem dX3_kinds_54 : decode cX3_kinds 54 = .ok (.aload_n 0, 1) := dk_42 (dk_at dksX3_kinds_2 7 rfl rfl)
theorem dX3_kinds_55 : decode cX3_kinds 55 = .ok (.getfield 9, 3) := dk_180 0 9 (dk_at dksX3_kinds_2 8 rfl rfl)
theorem dX3_kinds_58 : decode cX3_kinds 58 = .ok (.bipush 24, 2) := dk_16 24 (dk_at dksX3_kinds_2 11 rfl rfl)
theorem dX3_kinds_60 : decode cX3_kinds 60 = .ok (.iload 4, 2) := dk_21 4 (dk_at dksX3_kinds_2 13 rfl rfl)
theorem dX3_kinds_62 : decode cX3_kinds 62 = .ok (.iadd, 1) := dk_96 (dk_at dksX3_kinds_2 15 rfl rfl)
theorem dX3_kinds_63 : decode cX3_kinds 63 = .ok (.iaload, 1) := dk_46 (dk_at dksX3_kinds_2 16 rfl rfl)
theorem dX3_kinds_64 : decode cX3_kinds 64 = .ok (.iadd, 1) := dk_96 (dk_at dksX3_kinds_2 17 rfl rfl)
theorem dX3_kinds_65 : decode cX3_kinds 65 = .ok (.istore_n 3, 1) := dk_62 (dk_at dksX3_kinds_2 18 rfl rfl)
theorem dX3_kinds_66 : decode cX3_kinds 66 = .ok (.iinc 4 1, 3) := dk_132 4 1 (dk_at dksX3_kinds_2 19 rfl rfl)
theorem dX3_kinds_69 : decode cX3_kinds 69 = .ok (.goto (-46), 3) := dk_167 255 210 (dk_at dksX3_kinds_3 0 rfl rfl)
theorem dX3_kinds_72 : decode cX3_kinds 72 = .ok (.aload_n 0, 1) := dk_42 (dk_at dksX3_kinds_3 3 rfl rfl)
theorem dX3_kinds_73 : decode cX3_kinds 73 = .ok (.iconst 0, 1) := dk_3 (dk_at dksX3_kinds_3 4 rfl rfl)
theorem dX3_kinds_74 : decode cX3_kinds 74 = .ok (.putfield 86, 3) := dk_181 0 86 (dk_at dksX3_kinds_3 5 rfl rfl)
theorem dX3_kinds_77 : decode cX3_kinds 77 = .ok (.aload_n 0, 1) := dk_42 (dk_at dksX3_kinds_3 8 rfl rfl)
theorem dX3_kinds_78 : decode cX3_kinds 78 = .ok (.iload_n 2, 1) := dk_28 (dk_at dksX3_kinds_3 9 rfl rfl)
theorem dX3_kinds_79 : decode cX3_kinds 79 = .ok (.invokestatic 206, 3) := dk_184 0 206 (dk_at dksX3_kinds_3 10 rfl rfl)
theorem dX3_kinds_82 : decode cX3_kinds 82 = .ok (.i2l, 1) := dk_133 (dk_at dksX3_kinds_3 13 rfl rfl)
theorem dX3_kinds_83 : decode cX3_kinds 83 = .ok (.invokevirtual 286, 3) := dk_182 1 30 (dk_at dksX3_kinds_3 14 rfl rfl)
theorem dX3_kinds_86 : decode cX3_kinds 86 = .ok (.aload_n 0, 1) := dk_42 (dk_at dksX3_kinds_3 17 rfl rfl)
theorem dX3_kinds_87 : decode cX3_kinds 87 = .ok (.iload_n 3, 1) := dk_29 (dk_at dksX3_kinds_3 18 rfl rfl)
theorem dX3_kinds_88 : decode cX3_kinds 88 = .ok (.i2l, 1) := dk_133 (dk_at dksX3_kinds_3 19 rfl rfl)
theorem dX3_kinds_89 : decode cX3_kinds 89 = .ok (.invokevirtual 286, 3) := dk_182 1 30 (dk_at dksX3_kinds_3 20 rfl rfl)
theorem dX3_kinds_92 : decode cX3_kinds 92 = .ok (.aload_n 0, 1) := dk_42 (dk_at dksX3_kinds_3 23 rfl rfl)
theorem dX3_kinds_93 : decode cX3_kinds 93 = .ok (.iload_n 2, 1) := dk_28 (dk_at dksX3_kinds_4 0 rfl rfl)
theorem dX3_kinds_94 : decode cX3_kinds 94 = .ok (.aload_n 0, 1) := dk_42 (dk_at dksX3_kinds_4 1 rfl rfl)
theorem dX3_kinds_95 : decode cX3_kinds 95 = .ok (.aload_n 0, 1) := dk_42 (dk_at dksX3_kinds_4 2 rfl rfl)
theorem dX3_kinds_96 : decode cX3_kinds 96 = .ok (.getfield 9, 3) := dk_180 0 9 (dk_at dksX3_kinds_4 3 rfl rfl)
theorem dX3_kinds_99 : decode cX3_kinds 99 = .ok (.invokevirtual 202, 3) := dk_182 0 202 (dk_at dksX3_kinds_4 6 rfl rfl)
theorem dX3_kinds_102 : decode cX3_kinds 102 = .ok (.iand, 1) := dk_126 (dk_at dksX3_kinds_4 9 rfl rfl)
theorem dX3_kinds_103 : decode cX3_kinds 103 = .ok (.invokestatic 206, 3) := dk_184 0 206 (dk_at dksX3_kinds_4 10 rfl rfl)
theorem dX3_kinds_106 : decode cX3_kinds 106 = .ok (.i2l, 1) := dk_133 (dk_at dksX3_kinds_4 13 rfl rfl)
theorem dX3_kinds_107 : decode cX3_kinds 107 = .ok (.invokevirtual 286, 3) := dk_182 1 30 (dk_at dksX3_kinds_4 14 rfl rfl)
theorem dX3_kinds_110 : decode cX3_kinds 110 = .ok (.iload_n 2, 1) := dk_28 (dk_at dksX3_kinds_4 17 rfl rfl)
theorem dX3_kinds_111 : decode cX3_kinds 111 = .ok (.ireturn, 1) := dk_172 (dk_at dksX3_kinds_4 18 rfl rfl)
abbrev cX3_feeds : ByteArray := prog_9_method_88_code
def yX3_feeds : MethodName := ⟨RX3, "feeds", "(I)I"⟩
def dkwX3_feeds_1 : List UInt8 := [42, 182, 1, 68, 184, 0, 206, 104, 133, 182, 1, 30, 42, 27, 2, 182, 1, 71, 172]
abbrev dktX3_feeds_1 : List UInt8 := dkwX3_feeds_1 ++ []
def dkwX3_feeds_0 : List UInt8 := [42, 3, 181, 0, 83, 27, 3, 16, 30, 184, 0, 92, 154, 0, 5, 2, 172, 42, 3, 181, 0, 86, 42, 27]
abbrev dktX3_feeds_0 : List UInt8 := dkwX3_feeds_0 ++ dktX3_feeds_1
theorem dksX3_feeds_0 : cX3_feeds.data.toList.drop 0 = dktX3_feeds_0 := by decide +kernel
theorem dksX3_feeds_1 : cX3_feeds.data.toList.drop 24 = dktX3_feeds_1 := dk_seg dksX3_feeds_0 24 rfl rfl
theorem dX3_feeds_0 : decode cX3_feeds 0 = .ok (.aload_n 0, 1) := dk_42 (dk_at dksX3_feeds_0 0 rfl rfl)
theorem dX3_feeds_1 : decode cX3_feeds 1 = .ok (.iconst 0, 1) := dk_3 (dk_at dksX3_feeds_0 1 rfl rfl)
theorem dX3_feeds_2 : decode cX3_feeds 2 = .ok (.putfield 83, 3) := dk_181 0 83 (dk_at dksX3_feeds_0 2 rfl rfl)
theorem dX3_feeds_5 : decode cX3_feeds 5 = .ok (.iload_n 1, 1) := dk_27 (dk_at dksX3_feeds_0 5 rfl rfl)
theorem dX3_feeds_6 : decode cX3_feeds 6 = .ok (.iconst 0, 1) := dk_3 (dk_at dksX3_feeds_0 6 rfl rfl)
theorem dX3_feeds_7 : decode cX3_feeds 7 = .ok (.bipush 30, 2) := dk_16 30 (dk_at dksX3_feeds_0 7 rfl rfl)
theorem dX3_feeds_9 : decode cX3_feeds 9 = .ok (.invokestatic 92, 3) := dk_184 0 92 (dk_at dksX3_feeds_0 9 rfl rfl)
theorem dX3_feeds_12 : decode cX3_feeds 12 = .ok (.ifCond .ne 5, 3) := dk_154 0 5 (dk_at dksX3_feeds_0 12 rfl rfl)
theorem dX3_feeds_15 : decode cX3_feeds 15 = .ok (.iconst (-1), 1) := dk_2 (dk_at dksX3_feeds_0 15 rfl rfl)
theorem dX3_feeds_16 : decode cX3_feeds 16 = .ok (.ireturn, 1) := dk_172 (dk_at dksX3_feeds_0 16 rfl rfl)
theorem dX3_feeds_17 : decode cX3_feeds 17 = .ok (.aload_n 0, 1) := dk_42 (dk_at dksX3_feeds_0 17 rfl rfl)
theorem dX3_feeds_18 : decode cX3_feeds 18 = .ok (.iconst 0, 1) := dk_3 (dk_at dksX3_feeds_0 18 rfl rfl)
theorem dX3_feeds_19 : decode cX3_feeds 19 = .ok (.putfield 86, 3) := dk_181 0 86 (dk_at dksX3_feeds_0 19 rfl rfl)
theorem dX3_feeds_22 : decode cX3_feeds 22 = .ok (.aload_n 0, 1) := dk_42 (dk_at dksX3_feeds_0 22 rfl rfl)
theorem dX3_feeds_23 : decode cX3_feeds 23 = .ok (.iload_n 1, 1) := dk_27 (dk_at dksX3_feeds_0 23 rfl rfl)
theorem dX3_feeds_24 : decode cX3_feeds 24 = .ok (.aload_n 0, 1) := dk_42 (dk_at dksX3_feeds_1 0 rfl rfl)
theorem dX3_feeds_25 : decode cX3_feeds 25 = .ok (.invokevirtual 324, 3) := dk_182 1 68 (dk_at dksX3_feeds_1 1 rfl rfl)
theorem dX3_feeds_28 : decode cX3_feeds 28 = .ok (.invokestatic 206, 3) := dk_184 0 206 (dk_at dksX3_feeds_1 4 rfl rfl)
theorem dX3_feeds_31 : decode cX3_feeds 31 = .ok (.imul, 1) := dk_104 (dk_at dksX3_feeds_1 7 rfl rfl)
theorem dX3_feeds_32 : decode cX3_feeds 32 = .ok (.i2l, 1) := dk_133 (dk_at dksX3_feeds_1 8 rfl rfl)
theorem dX3_feeds_33 : decode cX3_feeds 33 = .ok (.invokevirtual 286, 3) := dk_182 1 30 (dk_at dksX3_feeds_1 9 rfl rfl)
theorem dX3_feeds_36 : decode cX3_feeds 36 = .ok (.aload_n 0, 1) := dk_42 (dk_at dksX3_feeds_1 12 rfl rfl)
theorem dX3_feeds_37 : decode cX3_feeds 37 = .ok (.iload_n 1, 1) := dk_27 (dk_at dksX3_feeds_1 13 rfl rfl)
theorem dX3_feeds_38 : decode cX3_feeds 38 = .ok (.iconst (-1), 1) := dk_2 (dk_at dksX3_feeds_1 14 rfl rfl)
theorem dX3_feeds_39 : decode cX3_feeds 39 = .ok (.invokevirtual 327, 3) := dk_182 1 71 (dk_at dksX3_feeds_1 15 rfl rfl)
theorem dX3_feeds_42 : decode cX3_feeds 42 = .ok (.ireturn, 1) := dk_172 (dk_at dksX3_feeds_1 18 rfl rfl)
abbrev cX3_young : ByteArray := prog_9_method_86_code
def yX3_young : MethodName := ⟨RX3, "young", "()I"⟩
def dkwX3_young_1 : List UInt8 := [160, 0, 9, 4, 28, 120, 167, 0, 4, 3, 128, 60, 132, 2, 1, 167, 255, 222, 27, 172]
abbrev dktX3_young_1 : List UInt8 := dkwX3_young_1 ++ []
def dkwX3_young_0 : List UInt8 := [3, 60, 3, 61, 28, 42, 180, 0, 89, 162, 0, 32, 27, 42, 180, 0, 9, 16, 48, 28, 96, 46, 5]
abbrev dktX3_young_0 : List UInt8 := dkwX3_young_0 ++ dktX3_young_1
theorem dksX3_young_0 : cX3_young.data.toList.drop 0 = dktX3_young_0 := by decide +kernel
theorem dksX3_young_1 : cX3_young.data.toList.drop 23 = dktX3_young_1 := dk_seg dksX3_young_0 23 rfl rfl
theorem dX3_young_0 : decode cX3_young 0 = .ok (.iconst 0, 1) := dk_3 (dk_at dksX3_young_0 0 rfl rfl)
theorem dX3_young_1 : decode cX3_young 1 = .ok (.istore_n 1, 1) := dk_60 (dk_at dksX3_young_0 1 rfl rfl)
theorem dX3_young_2 : decode cX3_young 2 = .ok (.iconst 0, 1) := dk_3 (dk_at dksX3_young_0 2 rfl rfl)
theorem dX3_young_3 : decode cX3_young 3 = .ok (.istore_n 2, 1) := dk_61 (dk_at dksX3_young_0 3 rfl rfl)
theorem dX3_young_4 : decode cX3_young 4 = .ok (.iload_n 2, 1) := dk_28 (dk_at dksX3_young_0 4 rfl rfl)
theorem dX3_young_5 : decode cX3_young 5 = .ok (.aload_n 0, 1) := dk_42 (dk_at dksX3_young_0 5 rfl rfl)
theorem dX3_young_6 : decode cX3_young 6 = .ok (.getfield 89, 3) := dk_180 0 89 (dk_at dksX3_young_0 6 rfl rfl)
theorem dX3_young_9 : decode cX3_young 9 = .ok (.if_icmp .ge 32, 3) := dk_162 0 32 (dk_at dksX3_young_0 9 rfl rfl)
theorem dX3_young_12 : decode cX3_young 12 = .ok (.iload_n 1, 1) := dk_27 (dk_at dksX3_young_0 12 rfl rfl)
theorem dX3_young_13 : decode cX3_young 13 = .ok (.aload_n 0, 1) := dk_42 (dk_at dksX3_young_0 13 rfl rfl)
theorem dX3_young_14 : decode cX3_young 14 = .ok (.getfield 9, 3) := dk_180 0 9 (dk_at dksX3_young_0 14 rfl rfl)
theorem dX3_young_17 : decode cX3_young 17 = .ok (.bipush 48, 2) := dk_16 48 (dk_at dksX3_young_0 17 rfl rfl)
theorem dX3_young_19 : decode cX3_young 19 = .ok (.iload_n 2, 1) := dk_28 (dk_at dksX3_young_0 19 rfl rfl)
theorem dX3_young_20 : decode cX3_young 20 = .ok (.iadd, 1) := dk_96 (dk_at dksX3_young_0 20 rfl rfl)
theorem dX3_young_21 : decode cX3_young 21 = .ok (.iaload, 1) := dk_46 (dk_at dksX3_young_0 21 rfl rfl)
theorem dX3_young_22 : decode cX3_young 22 = .ok (.iconst 2, 1) := dk_5 (dk_at dksX3_young_0 22 rfl rfl)
theorem dX3_young_23 : decode cX3_young 23 = .ok (.if_icmp .ne 9, 3) := dk_160 0 9 (dk_at dksX3_young_1 0 rfl rfl)
theorem dX3_young_26 : decode cX3_young 26 = .ok (.iconst 1, 1) := dk_4 (dk_at dksX3_young_1 3 rfl rfl)
theorem dX3_young_27 : decode cX3_young 27 = .ok (.iload_n 2, 1) := dk_28 (dk_at dksX3_young_1 4 rfl rfl)
theorem dX3_young_28 : decode cX3_young 28 = .ok (.ishl, 1) := dk_120 (dk_at dksX3_young_1 5 rfl rfl)
theorem dX3_young_29 : decode cX3_young 29 = .ok (.goto 4, 3) := dk_167 0 4 (dk_at dksX3_young_1 6 rfl rfl)
theorem dX3_young_32 : decode cX3_young 32 = .ok (.iconst 0, 1) := dk_3 (dk_at dksX3_young_1 9 rfl rfl)
theorem dX3_young_33 : decode cX3_young 33 = .ok (.ior, 1) := dk_128 (dk_at dksX3_young_1 10 rfl rfl)
theorem dX3_young_34 : decode cX3_young 34 = .ok (.istore_n 1, 1) := dk_60 (dk_at dksX3_young_1 11 rfl rfl)
theorem dX3_young_35 : decode cX3_young 35 = .ok (.iinc 2 1, 3) := dk_132 2 1 (dk_at dksX3_young_1 12 rfl rfl)
theorem dX3_young_38 : decode cX3_young 38 = .ok (.goto (-34), 3) := dk_167 255 222 (dk_at dksX3_young_1 15 rfl rfl)
theorem dX3_young_41 : decode cX3_young 41 = .ok (.iload_n 1, 1) := dk_27 (dk_at dksX3_young_1 18 rfl rfl)
theorem dX3_young_42 : decode cX3_young 42 = .ok (.ireturn, 1) := dk_172 (dk_at dksX3_young_1 19 rfl rfl)
abbrev cX3_givenBy : ByteArray := prog_9_method_87_code
def yX3_givenBy : MethodName := ⟨RX3, "givenBy", "(II)I"⟩
def dkwX3_givenBy_6 : List UInt8 := [167, 255, 197, 132, 4, 1, 167, 255, 153, 29, 172]
abbrev dktX3_givenBy_6 : List UInt8 := dkwX3_givenBy_6 ++ []
def dkwX3_givenBy_5 : List UInt8 := [21, 6, 92, 46, 21, 7, 100, 79, 21, 5, 21, 7, 100, 54, 5, 29, 21, 7, 96, 62, 132, 6, 1]
abbrev dktX3_givenBy_5 : List UInt8 := dkwX3_givenBy_5 ++ dktX3_givenBy_6
def dkwX3_givenBy_4 : List UInt8 := [184, 0, 215, 163, 0, 47, 21, 5, 42, 180, 0, 61, 21, 6, 46, 184, 0, 215, 54, 7, 42, 180, 0, 61]
abbrev dktX3_givenBy_4 : List UInt8 := dkwX3_givenBy_4 ++ dktX3_givenBy_5
def dkwX3_givenBy_3 : List UInt8 := [54, 5, 3, 21, 4, 4, 100, 184, 0, 198, 54, 6, 21, 6, 42, 180, 0, 89, 4, 100, 21, 4, 4, 96]
abbrev dktX3_givenBy_3 : List UInt8 := dkwX3_givenBy_3 ++ dktX3_givenBy_4
def dkwX3_givenBy_2 : List UInt8 := [180, 0, 89, 162, 0, 100, 42, 182, 1, 68, 21, 4, 184, 1, 21, 153, 0, 7, 27, 167, 0, 4, 3]
abbrev dktX3_givenBy_2 : List UInt8 := dkwX3_givenBy_2 ++ dktX3_givenBy_3
def dkwX3_givenBy_1 : List UInt8 := [42, 180, 0, 9, 16, 8, 29, 96, 46, 79, 132, 3, 1, 167, 255, 221, 3, 62, 3, 54, 4, 21, 4, 42]
abbrev dktX3_givenBy_1 : List UInt8 := dkwX3_givenBy_1 ++ dktX3_givenBy_2
def dkwX3_givenBy_0 : List UInt8 := [3, 62, 29, 42, 180, 0, 89, 162, 0, 33, 42, 180, 0, 61, 29, 29, 28, 160, 0, 7, 3, 167, 0, 12]
abbrev dktX3_givenBy_0 : List UInt8 := dkwX3_givenBy_0 ++ dktX3_givenBy_1
theorem dksX3_givenBy_0 : cX3_givenBy.data.toList.drop 0 = dktX3_givenBy_0 := by decide +kernel
theorem dksX3_givenBy_1 : cX3_givenBy.data.toList.drop 24 = dktX3_givenBy_1 := dk_seg dksX3_givenBy_0 24 rfl rfl
theorem dksX3_givenBy_2 : cX3_givenBy.data.toList.drop 48 = dktX3_givenBy_2 := dk_seg dksX3_givenBy_1 24 rfl rfl
theorem dksX3_givenBy_3 : cX3_givenBy.data.toList.drop 71 = dktX3_givenBy_3 := dk_seg dksX3_givenBy_2 23 rfl rfl
theorem dksX3_givenBy_4 : cX3_givenBy.data.toList.drop 95 = dktX3_givenBy_4 := dk_seg dksX3_givenBy_3 24 rfl rfl
theorem dksX3_givenBy_5 : cX3_givenBy.data.toList.drop 119 = dktX3_givenBy_5 := dk_seg dksX3_givenBy_4 24 rfl rfl
theorem dksX3_givenBy_6 : cX3_givenBy.data.toList.drop 142 = dktX3_givenBy_6 := dk_seg dksX3_givenBy_5 23 rfl rfl
theorem dX3_givenBy_0 : decode cX3_givenBy 0 = .ok (.iconst 0, 1) := dk_3 (dk_at dksX3_givenBy_0 0 rfl rfl)
theorem dX3_givenBy_1 : decode cX3_givenBy 1 = .ok (.istore_n 3, 1) := dk_62 (dk_at dksX3_givenBy_0 1 rfl rfl)
theorem dX3_givenBy_2 : decode cX3_givenBy 2 = .ok (.iload_n 3, 1) := dk_29 (dk_at dksX3_givenBy_0 2 rfl rfl)
theorem dX3_givenBy_3 : decode cX3_givenBy 3 = .ok (.aload_n 0, 1) := dk_42 (dk_at dksX3_givenBy_0 3 rfl rfl)
theorem dX3_givenBy_4 : decode cX3_givenBy 4 = .ok (.getfield 89, 3) := dk_180 0 89 (dk_at dksX3_givenBy_0 4 rfl rfl)
theorem dX3_givenBy_7 : decode cX3_givenBy 7 = .ok (.if_icmp .ge 33, 3) := dk_162 0 33 (dk_at dksX3_givenBy_0 7 rfl rfl)
theorem dX3_givenBy_10 : decode cX3_givenBy 10 = .ok (.aload_n 0, 1) := dk_42 (dk_at dksX3_givenBy_0 10 rfl rfl)
theorem dX3_givenBy_11 : decode cX3_givenBy 11 = .ok (.getfield 61, 3) := dk_180 0 61 (dk_at dksX3_givenBy_0 11 rfl rfl)
theorem dX3_givenBy_14 : decode cX3_givenBy 14 = .ok (.iload_n 3, 1) := dk_29 (dk_at dksX3_givenBy_0 14 rfl rfl)
theorem dX3_givenBy_15 : decode cX3_givenBy 15 = .ok (.iload_n 3, 1) := dk_29 (dk_at dksX3_givenBy_0 15 rfl rfl)
theorem dX3_givenBy_16 : decode cX3_givenBy 16 = .ok (.iload_n 2, 1) := dk_28 (dk_at dksX3_givenBy_0 16 rfl rfl)
theorem dX3_givenBy_17 : decode cX3_givenBy 17 = .ok (.if_icmp .ne 7, 3) := dk_160 0 7 (dk_at dksX3_givenBy_0 17 rfl rfl)
theorem dX3_givenBy_20 : decode cX3_givenBy 20 = .ok (.iconst 0, 1) := dk_3 (dk_at dksX3_givenBy_0 20 rfl rfl)
theorem dX3_givenBy_21 : decode cX3_givenBy 21 = .ok (.goto 12, 3) := dk_167 0 12 (dk_at dksX3_givenBy_0 21 rfl rfl)
theorem dX3_givenBy_24 : decode cX3_givenBy 24 = .ok (.aload_n 0, 1) := dk_42 (dk_at dksX3_givenBy_1 0 rfl rfl)
theorem dX3_givenBy_25 : decode cX3_givenBy 25 = .ok (.getfield 9, 3) := dk_180 0 9 (dk_at dksX3_givenBy_1 1 rfl rfl)
theorem dX3_givenBy_28 : decode cX3_givenBy 28 = .ok (.bipush 8, 2) := dk_16 8 (dk_at dksX3_givenBy_1 4 rfl rfl)
theorem dX3_givenBy_30 : decode cX3_givenBy 30 = .ok (.iload_n 3, 1) := dk_29 (dk_at dksX3_givenBy_1 6 rfl rfl)
theorem dX3_givenBy_31 : decode cX3_givenBy 31 = .ok (.iadd, 1) := dk_96 (dk_at dksX3_givenBy_1 7 rfl rfl)
theorem dX3_givenBy_32 : decode cX3_givenBy 32 = .ok (.iaload, 1) := dk_46 (dk_at dksX3_givenBy_1 8 rfl rfl)
theorem dX3_givenBy_33 : decode cX3_givenBy 33 = .ok (.iastore, 1) := dk_79 (dk_at dksX3_givenBy_1 9 rfl rfl)
theorem dX3_givenBy_34 : decode cX3_givenBy 34 = .ok (.iinc 3 1, 3) := dk_132 3 1 (dk_at dksX3_givenBy_1 10 rfl rfl)
theorem dX3_givenBy_37 : decode cX3_givenBy 37 = .ok (.goto (-35), 3) := dk_167 255 221 (dk_at dksX3_givenBy_1 13 rfl rfl)
theorem dX3_givenBy_40 : decode cX3_givenBy 40 = .ok (.iconst 0, 1) := dk_3 (dk_at dksX3_givenBy_1 16 rfl rfl)
theorem dX3_givenBy_41 : decode cX3_givenBy 41 = .ok (.istore_n 3, 1) := dk_62 (dk_at dksX3_givenBy_1 17 rfl rfl)
theorem dX3_givenBy_42 : decode cX3_givenBy 42 = .ok (.iconst 0, 1) := dk_3 (dk_at dksX3_givenBy_1 18 rfl rfl)
theorem dX3_givenBy_43 : decode cX3_givenBy 43 = .ok (.istore 4, 2) := dk_54 4 (dk_at dksX3_givenBy_1 19 rfl rfl)
theorem dX3_givenBy_45 : decode cX3_givenBy 45 = .ok (.iload 4, 2) := dk_21 4 (dk_at dksX3_givenBy_1 21 rfl rfl)
theorem dX3_givenBy_47 : decode cX3_givenBy 47 = .ok (.aload_n 0, 1) := dk_42 (dk_at dksX3_givenBy_1 23 rfl rfl)
theorem dX3_givenBy_48 : decode cX3_givenBy 48 = .ok (.getfield 89, 3) := dk_180 0 89 (dk_at dksX3_givenBy_2 0 rfl rfl)
theorem dX3_givenBy_51 : decode cX3_givenBy 51 = .ok (.if_icmp .ge 100, 3) := dk_162 0 100 (dk_at dksX3_givenBy_2 3 rfl rfl)
theorem dX3_givenBy_54 : decode cX3_givenBy 54 = .ok (.aload_n 0, 1) := dk_42 (dk_at dksX3_givenBy_2 6 rfl rfl)
theorem dX3_givenBy_55 : decode cX3_givenBy 55 = .ok (.invokevirtual 324, 3) := dk_182 1 68 (dk_at dksX3_givenBy_2 7 rfl rfl)
theorem dX3_givenBy_58 : decode cX3_givenBy 58 = .ok (.iload 4, 2) := dk_21 4 (dk_at dksX3_givenBy_2 10 rfl rfl)
theorem dX3_givenBy_60 : decode cX3_givenBy 60 = .ok (.invokestatic 277, 3) := dk_184 1 21 (dk_at dksX3_givenBy_2 12 rfl rfl)
theorem dX3_givenBy_63 : decode cX3_givenBy 63 = .ok (.ifCond .eq 7, 3) := dk_153 0 7 (dk_at dksX3_givenBy_2 15 rfl rfl)
theorem dX3_givenBy_66 : decode cX3_givenBy 66 = .ok (.iload_n 1, 1) := dk_27 (dk_at dksX3_givenBy_2 18 rfl rfl)
theorem dX3_givenBy_67 : decode cX3_givenBy 67 = .ok (.goto 4, 3) := dk_167 0 4 (dk_at dksX3_givenBy_2 19 rfl rfl)
theorem dX3_givenBy_70 : decode cX3_givenBy 70 = .ok (.iconst 0, 1) := dk_3 (dk_at dksX3_givenBy_2 22 rfl rfl)
theorem dX3_givenBy_71 : decode cX3_givenBy 71 = .ok (.istore 5, 2) := dk_54 5 (dk_at dksX3_givenBy_3 0 rfl rfl)
theorem dX3_givenBy_73 : decode cX3_givenBy 73 = .ok (.iconst 0, 1) := dk_3 (dk_at dksX3_givenBy_3 2 rfl rfl)
theorem dX3_givenBy_74 : decode cX3_givenBy 74 = .ok (.iload 4, 2) := dk_21 4 (dk_at dksX3_givenBy_3 3 rfl rfl)
theorem dX3_givenBy_76 : decode cX3_givenBy 76 = .ok (.iconst 1, 1) := dk_4 (dk_at dksX3_givenBy_3 5 rfl rfl)
theorem dX3_givenBy_77 : decode cX3_givenBy 77 = .ok (.isub, 1) := dk_100 (dk_at dksX3_givenBy_3 6 rfl rfl)
theorem dX3_givenBy_78 : decode cX3_givenBy 78 = .ok (.invokestatic 198, 3) := dk_184 0 198 (dk_at dksX3_givenBy_3 7 rfl rfl)
theorem dX3_givenBy_81 : decode cX3_givenBy 81 = .ok (.istore 6, 2) := dk_54 6 (dk_at dksX3_givenBy_3 10 rfl rfl)
theorem dX3_givenBy_83 : decode cX3_givenBy 83 = .ok (.iload 6, 2) := dk_21 6 (dk_at dksX3_givenBy_3 12 rfl rfl)
theorem dX3_givenBy_85 : decode cX3_givenBy 85 = .ok (.aload_n 0, 1) := dk_42 (dk_at dksX3_givenBy_3 14 rfl rfl)
theorem dX3_givenBy_86 : decode cX3_givenBy 86 = .ok (.getfield 89, 3) := dk_180 0 89 (dk_at dksX3_givenBy_3 15 rfl rfl)
theorem dX3_givenBy_89 : decode cX3_givenBy 89 = .ok (.iconst 1, 1) := dk_4 (dk_at dksX3_givenBy_3 18 rfl rfl)
theorem dX3_givenBy_90 : decode cX3_givenBy 90 = .ok (.isub, 1) := dk_100 (dk_at dksX3_givenBy_3 19 rfl rfl)
theorem dX3_givenBy_91 : decode cX3_givenBy 91 = .ok (.iload 4, 2) := dk_21 4 (dk_at dksX3_givenBy_3 20 rfl rfl)
theorem dX3_givenBy_93 : decode cX3_givenBy 93 = .ok (.iconst 1, 1) := dk_4 (dk_at dksX3_givenBy_3 22 rfl rfl)
theorem dX3_givenBy_94 : decode cX3_givenBy 94 = .ok (.iadd, 1) := dk_96 (dk_at dksX3_givenBy_3 23 rfl rfl)
theorem dX3_givenBy_95 : decode cX3_givenBy 95 = .ok (.invokestatic 215, 3) := dk_184 0 215 (dk_at dksX3_givenBy_4 0 rfl rfl)
theorem dX3_givenBy_98 : decode cX3_givenBy 98 = .ok (.if_icmp .gt 47, 3) := dk_163 0 47 (dk_at dksX3_givenBy_4 3 rfl rfl)
theorem dX3_givenBy_101 : decode cX3_givenBy 101 = .ok (.iload 5, 2) := dk_21 5 (dk_at dksX3_givenBy_4 6 rfl rfl)
theorem dX3_givenBy_103 : decode cX3_givenBy 103 = .ok (.aload_n 0, 1) := dk_42 (dk_at dksX3_givenBy_4 8 rfl rfl)
theorem dX3_givenBy_104 : decode cX3_givenBy 104 = .ok (.getfield 61, 3) := dk_180 0 61 (dk_at dksX3_givenBy_4 9 rfl rfl)
theorem dX3_givenBy_107 : decode cX3_givenBy 107 = .ok (.iload 6, 2) := dk_21 6 (dk_at dksX3_givenBy_4 12 rfl rfl)
theorem dX3_givenBy_109 : decode cX3_givenBy 109 = .ok (.iaload, 1) := dk_46 (dk_at dksX3_givenBy_4 14 rfl rfl)
theorem dX3_givenBy_110 : decode cX3_givenBy 110 = .ok (.invokestatic 215, 3) := dk_184 0 215 (dk_at dksX3_givenBy_4 15 rfl rfl)
theorem dX3_givenBy_113 : decode cX3_givenBy 113 = .ok (.istore 7, 2) := dk_54 7 (dk_at dksX3_givenBy_4 18 rfl rfl)
theorem dX3_givenBy_115 : decode cX3_givenBy 115 = .ok (.aload_n 0, 1) := dk_42 (dk_at dksX3_givenBy_4 20 rfl rfl)
theorem dX3_givenBy_116 : decode cX3_givenBy 116 = .ok (.getfield 61, 3) := dk_180 0 61 (dk_at dksX3_givenBy_4 21 rfl rfl)
theorem dX3_givenBy_119 : decode cX3_givenBy 119 = .ok (.iload 6, 2) := dk_21 6 (dk_at dksX3_givenBy_5 0 rfl rfl)
theorem dX3_givenBy_121 : decode cX3_givenBy 121 = .ok (.dup2, 1) := dk_92 (dk_at dksX3_givenBy_5 2 rfl rfl)
theorem dX3_givenBy_122 : decode cX3_givenBy 122 = .ok (.iaload, 1) := dk_46 (dk_at dksX3_givenBy_5 3 rfl rfl)
theorem dX3_givenBy_123 : decode cX3_givenBy 123 = .ok (.iload 7, 2) := dk_21 7 (dk_at dksX3_givenBy_5 4 rfl rfl)
theorem dX3_givenBy_125 : decode cX3_givenBy 125 = .ok (.isub, 1) := dk_100 (dk_at dksX3_givenBy_5 6 rfl rfl)
theorem dX3_givenBy_126 : decode cX3_givenBy 126 = .ok (.iastore, 1) := dk_79 (dk_at dksX3_givenBy_5 7 rfl rfl)
theorem dX3_givenBy_127 : decode cX3_givenBy 127 = .ok (.iload 5, 2) := dk_21 5 (dk_at dksX3_givenBy_5 8 rfl rfl)
theorem dX3_givenBy_129 : decode cX3_givenBy 129 = .ok (.iload 7, 2) := dk_21 7 (dk_at dksX3_givenBy_5 10 rfl rfl)
theorem dX3_givenBy_131 : decode cX3_givenBy 131 = .ok (.isub, 1) := dk_100 (dk_at dksX3_givenBy_5 12 rfl rfl)
theorem dX3_givenBy_132 : decode cX3_givenBy 132 = .ok (.istore 5, 2) := dk_54 5 (dk_at dksX3_givenBy_5 13 rfl rfl)
theorem dX3_givenBy_134 : decode cX3_givenBy 134 = .ok (.iload_n 3, 1) := dk_29 (dk_at dksX3_givenBy_5 15 rfl rfl)
theorem dX3_givenBy_135 : decode cX3_givenBy 135 = .ok (.iload 7, 2) := dk_21 7 (dk_at dksX3_givenBy_5 16 rfl rfl)
theorem dX3_givenBy_137 : decode cX3_givenBy 137 = .ok (.iadd, 1) := dk_96 (dk_at dksX3_givenBy_5 18 rfl rfl)
theorem dX3_givenBy_138 : decode cX3_givenBy 138 = .ok (.istore_n 3, 1) := dk_62 (dk_at dksX3_givenBy_5 19 rfl rfl)
theorem dX3_givenBy_139 : decode cX3_givenBy 139 = .ok (.iinc 6 1, 3) := dk_132 6 1 (dk_at dksX3_givenBy_5 20 rfl rfl)
theorem dX3_givenBy_142 : decode cX3_givenBy 142 = .ok (.goto (-59), 3) := dk_167 255 197 (dk_at dksX3_givenBy_6 0 rfl rfl)
theorem dX3_givenBy_145 : decode cX3_givenBy 145 = .ok (.iinc 4 1, 3) := dk_132 4 1 (dk_at dksX3_givenBy_6 3 rfl rfl)
theorem dX3_givenBy_148 : decode cX3_givenBy 148 = .ok (.goto (-103), 3) := dk_167 255 153 (dk_at dksX3_givenBy_6 6 rfl rfl)
theorem dX3_givenBy_151 : decode cX3_givenBy 151 = .ok (.iload_n 3, 1) := dk_29 (dk_at dksX3_givenBy_6 9 rfl rfl)
theorem dX3_givenBy_152 : decode cX3_givenBy 152 = .ok (.ireturn, 1) := dk_172 (dk_at dksX3_givenBy_6 10 rfl rfl)
abbrev cX3_enough : ByteArray := prog_9_method_89_code
def yX3_enough : MethodName := ⟨RX3, "enough", "()I"⟩
def dkwX3_enough_1 : List UInt8 := [104, 162, 0, 9, 132, 2, 255, 167, 255, 241, 42, 3, 181, 0, 86, 42, 27, 133, 182, 1, 30, 28, 172]
abbrev dktX3_enough_1 : List UInt8 := dkwX3_enough_1 ++ []
def dkwX3_enough_0 : List UInt8 := [42, 3, 181, 0, 83, 42, 182, 1, 68, 184, 0, 206, 60, 16, 30, 61, 42, 28, 2, 182, 1, 71, 28, 27]
abbrev dktX3_enough_0 : List UInt8 := dkwX3_enough_0 ++ dktX3_enough_1
theorem dksX3_enough_0 : cX3_enough.data.toList.drop 0 = dktX3_enough_0 := by decide +kernel
theorem dksX3_enough_1 : cX3_enough.data.toList.drop 24 = dktX3_enough_1 := dk_seg dksX3_enough_0 24 rfl rfl
theorem dX3_enough_0 : decode cX3_enough 0 = .ok (.aload_n 0, 1) := dk_42 (dk_at dksX3_enough_0 0 rfl rfl)
theorem dX3_enough_1 : decode cX3_enough 1 = .ok (.iconst 0, 1) := dk_3 (dk_at dksX3_enough_0 1 rfl rfl)
theorem dX3_enough_2 : decode cX3_enough 2 = .ok (.putfield 83, 3) := dk_181 0 83 (dk_at dksX3_enough_0 2 rfl rfl)
theorem dX3_enough_5 : decode cX3_enough 5 = .ok (.aload_n 0, 1) := dk_42 (dk_at dksX3_enough_0 5 rfl rfl)
theorem dX3_enough_6 : decode cX3_enough 6 = .ok (.invokevirtual 324, 3) := dk_182 1 68 (dk_at dksX3_enough_0 6 rfl rfl)
theorem dX3_enough_9 : decode cX3_enough 9 = .ok (.invokestatic 206, 3) := dk_184 0 206 (dk_at dksX3_enough_0 9 rfl rfl)
theorem dX3_enough_12 : decode cX3_enough 12 = .ok (.istore_n 1, 1) := dk_60 (dk_at dksX3_enough_0 12 rfl rfl)
theorem dX3_enough_13 : decode cX3_enough 13 = .ok (.bipush 30, 2) := dk_16 30 (dk_at dksX3_enough_0 13 rfl rfl)
theorem dX3_enough_15 : decode cX3_enough 15 = .ok (.istore_n 2, 1) := dk_61 (dk_at dksX3_enough_0 15 rfl rfl)
theorem dX3_enough_16 : decode cX3_enough 16 = .ok (.aload_n 0, 1) := dk_42 (dk_at dksX3_enough_0 16 rfl rfl)
theorem dX3_enough_17 : decode cX3_enough 17 = .ok (.iload_n 2, 1) := dk_28 (dk_at dksX3_enough_0 17 rfl rfl)
theorem dX3_enough_18 : decode cX3_enough 18 = .ok (.iconst (-1), 1) := dk_2 (dk_at dksX3_enough_0 18 rfl rfl)
theorem dX3_enough_19 : decode cX3_enough 19 = .ok (.invokevirtual 327, 3) := dk_182 1 71 (dk_at dksX3_enough_0 19 rfl rfl)
theorem dX3_enough_22 : decode cX3_enough 22 = .ok (.iload_n 2, 1) := dk_28 (dk_at dksX3_enough_0 22 rfl rfl)
theorem dX3_enough_23 : decode cX3_enough 23 = .ok (.iload_n 1, 1) := dk_27 (dk_at dksX3_enough_0 23 rfl rfl)
theorem dX3_enough_24 : decode cX3_enough 24 = .ok (.imul, 1) := dk_104 (dk_at dksX3_enough_1 0 rfl rfl)
theorem dX3_enough_25 : decode cX3_enough 25 = .ok (.if_icmp .ge 9, 3) := dk_162 0 9 (dk_at dksX3_enough_1 1 rfl rfl)
theorem dX3_enough_28 : decode cX3_enough 28 = .ok (.iinc 2 (-1), 3) := dk_132 2 255 (dk_at dksX3_enough_1 4 rfl rfl)
theorem dX3_enough_31 : decode cX3_enough 31 = .ok (.goto (-15), 3) := dk_167 255 241 (dk_at dksX3_enough_1 7 rfl rfl)
theorem dX3_enough_34 : decode cX3_enough 34 = .ok (.aload_n 0, 1) := dk_42 (dk_at dksX3_enough_1 10 rfl rfl)
theorem dX3_enough_35 : decode cX3_enough 35 = .ok (.iconst 0, 1) := dk_3 (dk_at dksX3_enough_1 11 rfl rfl)
theorem dX3_enough_36 : decode cX3_enough 36 = .ok (.putfield 86, 3) := dk_181 0 86 (dk_at dksX3_enough_1 12 rfl rfl)
theorem dX3_enough_39 : decode cX3_enough 39 = .ok (.aload_n 0, 1) := dk_42 (dk_at dksX3_enough_1 15 rfl rfl)
theorem dX3_enough_40 : decode cX3_enough 40 = .ok (.iload_n 1, 1) := dk_27 (dk_at dksX3_enough_1 16 rfl rfl)
theorem dX3_enough_41 : decode cX3_enough 41 = .ok (.i2l, 1) := dk_133 (dk_at dksX3_enough_1 17 rfl rfl)
theorem dX3_enough_42 : decode cX3_enough 42 = .ok (.invokevirtual 286, 3) := dk_182 1 30 (dk_at dksX3_enough_1 18 rfl rfl)
theorem dX3_enough_45 : decode cX3_enough 45 = .ok (.iload_n 2, 1) := dk_28 (dk_at dksX3_enough_1 21 rfl rfl)
theorem dX3_enough_46 : decode cX3_enough 46 = .ok (.ireturn, 1) := dk_172 (dk_at dksX3_enough_1 22 rfl rfl)
abbrev cX3_needed : ByteArray := prog_9_method_90_code
def yX3_needed : MethodName := ⟨RX3, "needed", "(I)I"⟩
def dkwX3_needed_3 : List UInt8 := [182, 1, 71, 133, 182, 1, 30, 42, 42, 27, 2, 182, 1, 71, 133, 182, 1, 30, 28, 172]
abbrev dktX3_needed_3 : List UInt8 := dkwX3_needed_3 ++ []
def dkwX3_needed_2 : List UInt8 := [182, 1, 71, 162, 0, 5, 29, 61, 132, 3, 1, 167, 255, 228, 42, 3, 181, 0, 86, 42, 42, 27, 28]
abbrev dktX3_needed_2 : List UInt8 := dkwX3_needed_2 ++ dktX3_needed_3
def dkwX3_needed_1 : List UInt8 := [16, 254, 172, 3, 61, 4, 62, 29, 42, 180, 0, 89, 162, 0, 26, 42, 27, 29, 182, 1, 71, 42, 27, 28]
abbrev dktX3_needed_1 : List UInt8 := dkwX3_needed_1 ++ dktX3_needed_2
def dkwX3_needed_0 : List UInt8 := [42, 3, 181, 0, 83, 27, 3, 16, 30, 184, 0, 92, 154, 0, 5, 2, 172, 42, 180, 0, 89, 154, 0, 6]
abbrev dktX3_needed_0 : List UInt8 := dkwX3_needed_0 ++ dktX3_needed_1
theorem dksX3_needed_0 : cX3_needed.data.toList.drop 0 = dktX3_needed_0 := by decide +kernel
theorem dksX3_needed_1 : cX3_needed.data.toList.drop 24 = dktX3_needed_1 := dk_seg dksX3_needed_0 24 rfl rfl
theorem dksX3_needed_2 : cX3_needed.data.toList.drop 48 = dktX3_needed_2 := dk_seg dksX3_needed_1 24 rfl rfl
theorem dksX3_needed_3 : cX3_needed.data.toList.drop 71 = dktX3_needed_3 := dk_seg dksX3_needed_2 23 rfl rfl
theorem dX3_needed_0 : decode cX3_needed 0 = .ok (.aload_n 0, 1) := dk_42 (dk_at dksX3_needed_0 0 rfl rfl)
theorem dX3_needed_1 : decode cX3_needed 1 = .ok (.iconst 0, 1) := dk_3 (dk_at dksX3_needed_0 1 rfl rfl)
theorem dX3_needed_2 : decode cX3_needed 2 = .ok (.putfield 83, 3) := dk_181 0 83 (dk_at dksX3_needed_0 2 rfl rfl)
theorem dX3_needed_5 : decode cX3_needed 5 = .ok (.iload_n 1, 1) := dk_27 (dk_at dksX3_needed_0 5 rfl rfl)
theorem dX3_needed_6 : decode cX3_needed 6 = .ok (.iconst 0, 1) := dk_3 (dk_at dksX3_needed_0 6 rfl rfl)
theorem dX3_needed_7 : decode cX3_needed 7 = .ok (.bipush 30, 2) := dk_16 30 (dk_at dksX3_needed_0 7 rfl rfl)
theorem dX3_needed_9 : decode cX3_needed 9 = .ok (.invokestatic 92, 3) := dk_184 0 92 (dk_at dksX3_needed_0 9 rfl rfl)
theorem dX3_needed_12 : decode cX3_needed 12 = .ok (.ifCond .ne 5, 3) := dk_154 0 5 (dk_at dksX3_needed_0 12 rfl rfl)
theorem dX3_needed_15 : decode cX3_needed 15 = .ok (.iconst (-1), 1) := dk_2 (dk_at dksX3_needed_0 15 rfl rfl)
theorem dX3_needed_16 : decode cX3_needed 16 = .ok (.ireturn, 1) := dk_172 (dk_at dksX3_needed_0 16 rfl rfl)
theorem dX3_needed_17 : decode cX3_needed 17 = .ok (.aload_n 0, 1) := dk_42 (dk_at dksX3_needed_0 17 rfl rfl)
theorem dX3_needed_18 : decode cX3_needed 18 = .ok (.getfield 89, 3) := dk_180 0 89 (dk_at dksX3_needed_0 18 rfl rfl)
theorem dX3_needed_21 : decode cX3_needed 21 = .ok (.ifCond .ne 6, 3) := dk_154 0 6 (dk_at dksX3_needed_0 21 rfl rfl)
theorem dX3_needed_24 : decode cX3_needed 24 = .ok (.bipush (-2), 2) := dk_16 254 (dk_at dksX3_needed_1 0 rfl rfl)
theorem dX3_needed_26 : decode cX3_needed 26 = .ok (.ireturn, 1) := dk_172 (dk_at dksX3_needed_1 2 rfl rfl)
theorem dX3_needed_27 : decode cX3_needed 27 = .ok (.iconst 0, 1) := dk_3 (dk_at dksX3_needed_1 3 rfl rfl)
theorem dX3_needed_28 : decode cX3_needed 28 = .ok (.istore_n 2, 1) := dk_61 (dk_at dksX3_needed_1 4 rfl rfl)
theorem dX3_needed_29 : decode cX3_needed 29 = .ok (.iconst 1, 1) := dk_4 (dk_at dksX3_needed_1 5 rfl rfl)
theorem dX3_needed_30 : decode cX3_needed 30 = .ok (.istore_n 3, 1) := dk_62 (dk_at dksX3_needed_1 6 rfl rfl)
theorem dX3_needed_31 : decode cX3_needed 31 = .ok (.iload_n 3, 1) := dk_29 (dk_at dksX3_needed_1 7 rfl rfl)
theorem dX3_needed_32 : decode cX3_needed 32 = .ok (.aload_n 0, 1) := dk_42 (dk_at dksX3_needed_1 8 rfl rfl)
theorem dX3_needed_33 : decode cX3_needed 33 = .ok (.getfield 89, 3) := dk_180 0 89 (dk_at dksX3_needed_1 9 rfl rfl)
theorem dX3_needed_36 : decode cX3_needed 36 = .ok (.if_icmp .ge 26, 3) := dk_162 0 26 (dk_at dksX3_needed_1 12 rfl rfl)
theorem dX3_needed_39 : decode cX3_needed 39 = .ok (.aload_n 0, 1) := dk_42 (dk_at dksX3_needed_1 15 rfl rfl)
theorem dX3_needed_40 : decode cX3_needed 40 = .ok (.iload_n 1, 1) := dk_27 (dk_at dksX3_needed_1 16 rfl rfl)
theorem dX3_needed_41 : decode cX3_needed 41 = .ok (.iload_n 3, 1) := dk_29 (dk_at dksX3_needed_1 17 rfl rfl)
theorem dX3_needed_42 : decode cX3_needed 42 = .ok (.invokevirtual 327, 3) := dk_182 1 71 (dk_at dksX3_needed_1 18 rfl rfl)
theorem dX3_needed_45 : decode cX3_needed 45 = .ok (.aload_n 0, 1) := dk_42 (dk_at dksX3_needed_1 21 rfl rfl)
theorem dX3_needed_46 : decode cX3_needed 46 = .ok (.iload_n 1, 1) := dk_27 (dk_at dksX3_needed_1 22 rfl rfl)
theorem dX3_needed_47 : decode cX3_needed 47 = .ok (.iload_n 2, 1) := dk_28 (dk_at dksX3_needed_1 23 rfl rfl)
theorem dX3_needed_48 : decode cX3_needed 48 = .ok (.invokevirtual 327, 3) := dk_182 1 71 (dk_at dksX3_needed_2 0 rfl rfl)
theorem dX3_needed_51 : decode cX3_needed 51 = .ok (.if_icmp .ge 5, 3) := dk_162 0 5 (dk_at dksX3_needed_2 3 rfl rfl)
theorem dX3_needed_54 : decode cX3_needed 54 = .ok (.iload_n 3, 1) := dk_29 (dk_at dksX3_needed_2 6 rfl rfl)
theorem dX3_needed_55 : decode cX3_needed 55 = .ok (.istore_n 2, 1) := dk_61 (dk_at dksX3_needed_2 7 rfl rfl)
theorem dX3_needed_56 : decode cX3_needed 56 = .ok (.iinc 3 1, 3) := dk_132 3 1 (dk_at dksX3_needed_2 8 rfl rfl)
theorem dX3_needed_59 : decode cX3_needed 59 = .ok (.goto (-28), 3) := dk_167 255 228 (dk_at dksX3_needed_2 11 rfl rfl)
theorem dX3_needed_62 : decode cX3_needed 62 = .ok (.aload_n 0, 1) := dk_42 (dk_at dksX3_needed_2 14 rfl rfl)
theorem dX3_needed_63 : decode cX3_needed 63 = .ok (.iconst 0, 1) := dk_3 (dk_at dksX3_needed_2 15 rfl rfl)
theorem dX3_needed_64 : decode cX3_needed 64 = .ok (.putfield 86, 3) := dk_181 0 86 (dk_at dksX3_needed_2 16 rfl rfl)
theorem dX3_needed_67 : decode cX3_needed 67 = .ok (.aload_n 0, 1) := dk_42 (dk_at dksX3_needed_2 19 rfl rfl)
theorem dX3_needed_68 : decode cX3_needed 68 = .ok (.aload_n 0, 1) := dk_42 (dk_at dksX3_needed_2 20 rfl rfl)
theorem dX3_needed_69 : decode cX3_needed 69 = .ok (.iload_n 1, 1) := dk_27 (dk_at dksX3_needed_2 21 rfl rfl)
theorem dX3_needed_70 : decode cX3_needed 70 = .ok (.iload_n 2, 1) := dk_28 (dk_at dksX3_needed_2 22 rfl rfl)
theorem dX3_needed_71 : decode cX3_needed 71 = .ok (.invokevirtual 327, 3) := dk_182 1 71 (dk_at dksX3_needed_3 0 rfl rfl)
theorem dX3_needed_74 : decode cX3_needed 74 = .ok (.i2l, 1) := dk_133 (dk_at dksX3_needed_3 3 rfl rfl)
theorem dX3_needed_75 : decode cX3_needed 75 = .ok (.invokevirtual 286, 3) := dk_182 1 30 (dk_at dksX3_needed_3 4 rfl rfl)
theorem dX3_needed_78 : decode cX3_needed 78 = .ok (.aload_n 0, 1) := dk_42 (dk_at dksX3_needed_3 7 rfl rfl)
theorem dX3_needed_79 : decode cX3_needed 79 = .ok (.aload_n 0, 1) := dk_42 (dk_at dksX3_needed_3 8 rfl rfl)
theorem dX3_needed_80 : decode cX3_needed 80 = .ok (.iload_n 1, 1) := dk_27 (dk_at dksX3_needed_3 9 rfl rfl)
theorem dX3_needed_81 : decode cX3_needed 81 = .ok (.iconst (-1), 1) := dk_2 (dk_at dksX3_needed_3 10 rfl rfl)
theorem dX3_needed_82 : decode cX3_needed 82 = .ok (.invokevirtual 327, 3) := dk_182 1 71 (dk_at dksX3_needed_3 11 rfl rfl)
theorem dX3_needed_85 : decode cX3_needed 85 = .ok (.i2l, 1) := dk_133 (dk_at dksX3_needed_3 14 rfl rfl)
theorem dX3_needed_86 : decode cX3_needed 86 = .ok (.invokevirtual 286, 3) := dk_182 1 30 (dk_at dksX3_needed_3 15 rfl rfl)
theorem dX3_needed_89 : decode cX3_needed 89 = .ok (.iload_n 2, 1) := dk_28 (dk_at dksX3_needed_3 18 rfl rfl)
theorem dX3_needed_90 : decode cX3_needed 90 = .ok (.ireturn, 1) := dk_172 (dk_at dksX3_needed_3 19 rfl rfl)
abbrev cX3_lodgings : ByteArray := prog_9_method_94_code
def yX3_lodgings : MethodName := ⟨RX3, "lodgings", "()I"⟩
def dkwX3_lodgings_2 : List UInt8 := [2, 167, 0, 9, 42, 180, 0, 64, 3, 46, 172]
abbrev dktX3_lodgings_2 : List UInt8 := dkwX3_lodgings_2 ++ []
def dkwX3_lodgings_1 : List UInt8 := [42, 42, 180, 0, 64, 27, 46, 133, 182, 1, 30, 132, 1, 1, 167, 255, 234, 42, 180, 0, 89, 154, 0, 7]
abbrev dktX3_lodgings_1 : List UInt8 := dkwX3_lodgings_1 ++ dktX3_lodgings_2
def dkwX3_lodgings_0 : List UInt8 := [42, 3, 181, 0, 83, 42, 182, 1, 83, 42, 3, 181, 0, 86, 3, 60, 27, 42, 180, 0, 89, 162, 0, 20]
abbrev dktX3_lodgings_0 : List UInt8 := dkwX3_lodgings_0 ++ dktX3_lodgings_1
theorem dksX3_lodgings_0 : cX3_lodgings.data.toList.drop 0 = dktX3_lodgings_0 := by decide +kernel
theorem dksX3_lodgings_1 : cX3_lodgings.data.toList.drop 24 = dktX3_lodgings_1 := dk_seg dksX3_lodgings_0 24 rfl rfl
theorem dksX3_lodgings_2 : cX3_lodgings.data.toList.drop 48 = dktX3_lodgings_2 := dk_seg dksX3_lodgings_1 24 rfl rfl
theorem dX3_lodgings_0 : decode cX3_lodgings 0 = .ok (.aload_n 0, 1) := dk_42 (dk_at dksX3_lodgings_0 0 rfl rfl)
theorem dX3_lodgings_1 : decode cX3_lodgings 1 = .ok (.iconst 0, 1) := dk_3 (dk_at dksX3_lodgings_0 1 rfl rfl)
theorem dX3_lodgings_2 : decode cX3_lodgings 2 = .ok (.putfield 83, 3) := dk_181 0 83 (dk_at dksX3_lodgings_0 2 rfl rfl)
theorem dX3_lodgings_5 : decode cX3_lodgings 5 = .ok (.aload_n 0, 1) := dk_42 (dk_at dksX3_lodgings_0 5 rfl rfl)
theorem dX3_lodgings_6 : decode cX3_lodgings 6 = .ok (.invokevirtual 339, 3) := dk_182 1 83 (dk_at dksX3_lodgings_0 6 rfl rfl)
theorem dX3_lodgings_9 : decode cX3_lodgings 9 = .ok (.aload_n 0, 1) := dk_42 (dk_at dksX3_lodgings_0 9 rfl rfl)
theorem dX3_lodgings_10 : decode cX3_lodgings 10 = .ok (.iconst 0, 1) := dk_3 (dk_at dksX3_lodgings_0 10 rfl rfl)
theorem dX3_lodgings_11 : decode cX3_lodgings 11 = .ok (.putfield 86, 3) := dk_181 0 86 (dk_at dksX3_lodgings_0 11 rfl rfl)
theorem dX3_lodgings_14 : decode cX3_lodgings 14 = .ok (.iconst 0, 1) := dk_3 (dk_at dksX3_lodgings_0 14 rfl rfl)
theorem dX3_lodgings_15 : decode cX3_lodgings 15 = .ok (.istore_n 1, 1) := dk_60 (dk_at dksX3_lodgings_0 15 rfl rfl)
theorem dX3_lodgings_16 : decode cX3_lodgings 16 = .ok (.iload_n 1, 1) := dk_27 (dk_at dksX3_lodgings_0 16 rfl rfl)
theorem dX3_lodgings_17 : decode cX3_lodgings 17 = .ok (.aload_n 0, 1) := dk_42 (dk_at dksX3_lodgings_0 17 rfl rfl)
theorem dX3_lodgings_18 : decode cX3_lodgings 18 = .ok (.getfield 89, 3) := dk_180 0 89 (dk_at dksX3_lodgings_0 18 rfl rfl)
theorem dX3_lodgings_21 : decode cX3_lodgings 21 = .ok (.if_icmp .ge 20, 3) := dk_162 0 20 (dk_at dksX3_lodgings_0 21 rfl rfl)
theorem dX3_lodgings_24 : decode cX3_lodgings 24 = .ok (.aload_n 0, 1) := dk_42 (dk_at dksX3_lodgings_1 0 rfl rfl)
theorem dX3_lodgings_25 : decode cX3_lodgings 25 = .ok (.aload_n 0, 1) := dk_42 (dk_at dksX3_lodgings_1 1 rfl rfl)
theorem dX3_lodgings_26 : decode cX3_lodgings 26 = .ok (.getfield 64, 3) := dk_180 0 64 (dk_at dksX3_lodgings_1 2 rfl rfl)
theorem dX3_lodgings_29 : decode cX3_lodgings 29 = .ok (.iload_n 1, 1) := dk_27 (dk_at dksX3_lodgings_1 5 rfl rfl)
theorem dX3_lodgings_30 : decode cX3_lodgings 30 = .ok (.iaload, 1) := dk_46 (dk_at dksX3_lodgings_1 6 rfl rfl)
theorem dX3_lodgings_31 : decode cX3_lodgings 31 = .ok (.i2l, 1) := dk_133 (dk_at dksX3_lodgings_1 7 rfl rfl)
theorem dX3_lodgings_32 : decode cX3_lodgings 32 = .ok (.invokevirtual 286, 3) := dk_182 1 30 (dk_at dksX3_lodgings_1 8 rfl rfl)
theorem dX3_lodgings_35 : decode cX3_lodgings 35 = .ok (.iinc 1 1, 3) := dk_132 1 1 (dk_at dksX3_lodgings_1 11 rfl rfl)
theorem dX3_lodgings_38 : decode cX3_lodgings 38 = .ok (.goto (-22), 3) := dk_167 255 234 (dk_at dksX3_lodgings_1 14 rfl rfl)
theorem dX3_lodgings_41 : decode cX3_lodgings 41 = .ok (.aload_n 0, 1) := dk_42 (dk_at dksX3_lodgings_1 17 rfl rfl)
theorem dX3_lodgings_42 : decode cX3_lodgings 42 = .ok (.getfield 89, 3) := dk_180 0 89 (dk_at dksX3_lodgings_1 18 rfl rfl)
theorem dX3_lodgings_45 : decode cX3_lodgings 45 = .ok (.ifCond .ne 7, 3) := dk_154 0 7 (dk_at dksX3_lodgings_1 21 rfl rfl)
theorem dX3_lodgings_48 : decode cX3_lodgings 48 = .ok (.iconst (-1), 1) := dk_2 (dk_at dksX3_lodgings_2 0 rfl rfl)
theorem dX3_lodgings_49 : decode cX3_lodgings 49 = .ok (.goto 9, 3) := dk_167 0 9 (dk_at dksX3_lodgings_2 1 rfl rfl)
theorem dX3_lodgings_52 : decode cX3_lodgings 52 = .ok (.aload_n 0, 1) := dk_42 (dk_at dksX3_lodgings_2 4 rfl rfl)
theorem dX3_lodgings_53 : decode cX3_lodgings 53 = .ok (.getfield 64, 3) := dk_180 0 64 (dk_at dksX3_lodgings_2 5 rfl rfl)
theorem dX3_lodgings_56 : decode cX3_lodgings 56 = .ok (.iconst 0, 1) := dk_3 (dk_at dksX3_lodgings_2 8 rfl rfl)
theorem dX3_lodgings_57 : decode cX3_lodgings 57 = .ok (.iaload, 1) := dk_46 (dk_at dksX3_lodgings_2 9 rfl rfl)
theorem dX3_lodgings_58 : decode cX3_lodgings 58 = .ok (.ireturn, 1) := dk_172 (dk_at dksX3_lodgings_2 10 rfl rfl)
abbrev cX3_layLodgings : ByteArray := prog_9_method_93_code
def yX3_layLodgings : MethodName := ⟨RX3, "layLodgings", "()V"⟩
def dkwX3_layLodgings_3 : List UInt8 := [42, 180, 0, 64, 28, 46, 61, 167, 255, 223, 27, 29, 2, 130, 126, 60, 167, 255, 180, 177]
abbrev dktX3_layLodgings_3 : List UInt8 := dkwX3_layLodgings_3 ++ []
def dkwX3_layLodgings_2 : List UInt8 := [184, 1, 21, 154, 0, 31, 29, 4, 28, 120, 128, 62, 42, 180, 0, 64, 28, 42, 28, 27, 182, 1, 80, 79]
abbrev dktX3_layLodgings_2 : List UInt8 := dkwX3_layLodgings_2 ++ dktX3_layLodgings_3
def dkwX3_layLodgings_1 : List UInt8 := [180, 0, 89, 162, 0, 16, 42, 28, 27, 182, 1, 80, 61, 132, 3, 1, 167, 255, 238, 3, 62, 29, 28]
abbrev dktX3_layLodgings_1 : List UInt8 := dkwX3_layLodgings_1 ++ dktX3_layLodgings_2
def dkwX3_layLodgings_0 : List UInt8 := [4, 42, 180, 0, 89, 120, 4, 100, 60, 27, 153, 0, 78, 27, 184, 1, 77, 61, 3, 62, 29, 42]
abbrev dktX3_layLodgings_0 : List UInt8 := dkwX3_layLodgings_0 ++ dktX3_layLodgings_1
theorem dksX3_layLodgings_0 : cX3_layLodgings.data.toList.drop 0 = dktX3_layLodgings_0 := by decide +kernel
theorem dksX3_layLodgings_1 : cX3_layLodgings.data.toList.drop 22 = dktX3_layLodgings_1 := dk_seg dksX3_layLodgings_0 22 rfl rfl
theorem dksX3_layLodgings_2 : cX3_layLodgings.data.toList.drop 45 = dktX3_layLodgings_2 := dk_seg dksX3_layLodgings_1 23 rfl rfl
theorem dksX3_layLodgings_3 : cX3_layLodgings.data.toList.drop 69 = dktX3_layLodgings_3 := dk_seg dksX3_layLodgings_2 24 rfl rfl
theorem dX3_layLodgings_0 : decode cX3_layLodgings 0 = .ok (.iconst 1, 1) := dk_4 (dk_at dksX3_layLodgings_0 0 rfl rfl)
theorem dX3_layLodgings_1 : decode cX3_layLodgings 1 = .ok (.aload_n 0, 1) := dk_42 (dk_at dksX3_layLodgings_0 1 rfl rfl)
theorem dX3_layLodgings_2 : decode cX3_layLodgings 2 = .ok (.getfield 89, 3) := dk_180 0 89 (dk_at dksX3_layLodgings_0 2 rfl rfl)
theorem dX3_layLodgings_5 : decode cX3_layLodgings 5 = .ok (.ishl, 1) := dk_120 (dk_at dksX3_layLodgings_0 5 rfl rfl)
theorem dX3_layLodgings_6 : decode cX3_layLodgings 6 = .ok (.iconst 1, 1) := dk_4 (dk_at dksX3_layLodgings_0 6 rfl rfl)
theorem dX3_layLodgings_7 : decode cX3_layLodgings 7 = .ok (.isub, 1) := dk_100 (dk_at dksX3_layLodgings_0 7 rfl rfl)
theorem dX3_layLodgings_8 : decode cX3_layLodgings 8 = .ok (.istore_n 1, 1) := dk_60 (dk_at dksX3_layLodgings_0 8 rfl rfl)
theorem dX3_layLodgings_9 : decode cX3_layLodgings 9 = .ok (.iload_n 1, 1) := dk_27 (dk_at dksX3_layLodgings_0 9 rfl rfl)
theorem dX3_layLodgings_10 : decode cX3_layLodgings 10 = .ok (.ifCond .eq 78, 3) := dk_153 0 78 (dk_at dksX3_layLodgings_0 10 rfl rfl)
theorem dX3_layLodgings_13 : decode cX3_layLodgings 13 = .ok (.iload_n 1, 1) := dk_27 (dk_at dksX3_layLodgings_0 13 rfl rfl)
theorem dX3_layLodgings_14 : decode cX3_layLodgings 14 = .ok (.invokestatic 333, 3) := dk_184 1 77 (dk_at dksX3_layLodgings_0 14 rfl rfl)
theorem dX3_layLodgings_17 : decode cX3_layLodgings 17 = .ok (.istore_n 2, 1) := dk_61 (dk_at dksX3_layLodgings_0 17 rfl rfl)
theorem dX3_layLodgings_18 : decode cX3_layLodgings 18 = .ok (.iconst 0, 1) := dk_3 (dk_at dksX3_layLodgings_0 18 rfl rfl)
theorem dX3_layLodgings_19 : decode cX3_layLodgings 19 = .ok (.istore_n 3, 1) := dk_62 (dk_at dksX3_layLodgings_0 19 rfl rfl)
theorem dX3_layLodgings_20 : decode cX3_layLodgings 20 = .ok (.iload_n 3, 1) := dk_29 (dk_at dksX3_layLodgings_0 20 rfl rfl)
theorem dX3_layLodgings_21 : decode cX3_layLodgings 21 = .ok (.aload_n 0, 1) := dk_42 (dk_at dksX3_layLodgings_0 21 rfl rfl)
theorem dX3_layLodgings_22 : decode cX3_layLodgings 22 = .ok (.getfield 89, 3) := dk_180 0 89 (dk_at dksX3_layLodgings_1 0 rfl rfl)
theorem dX3_layLodgings_25 : decode cX3_layLodgings 25 = .ok (.if_icmp .ge 16, 3) := dk_162 0 16 (dk_at dksX3_layLodgings_1 3 rfl rfl)
theorem dX3_layLodgings_28 : decode cX3_layLodgings 28 = .ok (.aload_n 0, 1) := dk_42 (dk_at dksX3_layLodgings_1 6 rfl rfl)
theorem dX3_layLodgings_29 : decode cX3_layLodgings 29 = .ok (.iload_n 2, 1) := dk_28 (dk_at dksX3_layLodgings_1 7 rfl rfl)
theorem dX3_layLodgings_30 : decode cX3_layLodgings 30 = .ok (.iload_n 1, 1) := dk_27 (dk_at dksX3_layLodgings_1 8 rfl rfl)
theorem dX3_layLodgings_31 : decode cX3_layLodgings 31 = .ok (.invokevirtual 336, 3) := dk_182 1 80 (dk_at dksX3_layLodgings_1 9 rfl rfl)
theorem dX3_layLodgings_34 : decode cX3_layLodgings 34 = .ok (.istore_n 2, 1) := dk_61 (dk_at dksX3_layLodgings_1 12 rfl rfl)
theorem dX3_layLodgings_35 : decode cX3_layLodgings 35 = .ok (.iinc 3 1, 3) := dk_132 3 1 (dk_at dksX3_layLodgings_1 13 rfl rfl)
theorem dX3_layLodgings_38 : decode cX3_layLodgings 38 = .ok (.goto (-18), 3) := dk_167 255 238 (dk_at dksX3_layLodgings_1 16 rfl rfl)
theorem dX3_layLodgings_41 : decode cX3_layLodgings 41 = .ok (.iconst 0, 1) := dk_3 (dk_at dksX3_layLodgings_1 19 rfl rfl)
theorem dX3_layLodgings_42 : decode cX3_layLodgings 42 = .ok (.istore_n 3, 1) := dk_62 (dk_at dksX3_layLodgings_1 20 rfl rfl)
theorem dX3_layLodgings_43 : decode cX3_layLodgings 43 = .ok (.iload_n 3, 1) := dk_29 (dk_at dksX3_layLodgings_1 21 rfl rfl)
theorem dX3_layLodgings_44 : decode cX3_layLodgings 44 = .ok (.iload_n 2, 1) := dk_28 (dk_at dksX3_layLodgings_1 22 rfl rfl)
theorem dX3_layLodgings_45 : decode cX3_layLodgings 45 = .ok (.invokestatic 277, 3) := dk_184 1 21 (dk_at dksX3_layLodgings_2 0 rfl rfl)
theorem dX3_layLodgings_48 : decode cX3_layLodgings 48 = .ok (.ifCond .ne 31, 3) := dk_154 0 31 (dk_at dksX3_layLodgings_2 3 rfl rfl)
theorem dX3_layLodgings_51 : decode cX3_layLodgings 51 = .ok (.iload_n 3, 1) := dk_29 (dk_at dksX3_layLodgings_2 6 rfl rfl)
theorem dX3_layLodgings_52 : decode cX3_layLodgings 52 = .ok (.iconst 1, 1) := dk_4 (dk_at dksX3_layLodgings_2 7 rfl rfl)
theorem dX3_layLodgings_53 : decode cX3_layLodgings 53 = .ok (.iload_n 2, 1) := dk_28 (dk_at dksX3_layLodgings_2 8 rfl rfl)
theorem dX3_layLodgings_54 : decode cX3_layLodgings 54 = .ok (.ishl, 1) := dk_120 (dk_at dksX3_layLodgings_2 9 rfl rfl)
theorem dX3_layLodgings_55 : decode cX3_layLodgings 55 = .ok (.ior, 1) := dk_128 (dk_at dksX3_layLodgings_2 10 rfl rfl)
theorem dX3_layLodgings_56 : decode cX3_layLodgings 56 = .ok (.istore_n 3, 1) := dk_62 (dk_at dksX3_layLodgings_2 11 rfl rfl)
theorem dX3_layLodgings_57 : decode cX3_layLodgings 57 = .ok (.aload_n 0, 1) := dk_42 (dk_at dksX3_layLodgings_2 12 rfl rfl)
theorem dX3_layLodgings_58 : decode cX3_layLodgings 58 = .ok (.getfield 64, 3) := dk_180 0 64 (dk_at dksX3_layLodgings_2 13 rfl rfl)
theorem dX3_layLodgings_61 : decode cX3_layLodgings 61 = .ok (.iload_n 2, 1) := dk_28 (dk_at dksX3_layLodgings_2 16 rfl rfl)
theorem dX3_layLodgings_62 : decode cX3_layLodgings 62 = .ok (.aload_n 0, 1) := dk_42 (dk_at dksX3_layLodgings_2 17 rfl rfl)
theorem dX3_layLodgings_63 : decode cX3_layLodgings 63 = .ok (.iload_n 2, 1) := dk_28 (dk_at dksX3_layLodgings_2 18 rfl rfl)
theorem dX3_layLodgings_64 : decode cX3_layLodgings 64 = .ok (.iload_n 1, 1) := dk_27 (dk_at dksX3_layLodgings_2 19 rfl rfl)
theorem dX3_layLodgings_65 : decode cX3_layLodgings 65 = .ok (.invokevirtual 336, 3) := dk_182 1 80 (dk_at dksX3_layLodgings_2 20 rfl rfl)
theorem dX3_layLodgings_68 : decode cX3_layLodgings 68 = .ok (.iastore, 1) := dk_79 (dk_at dksX3_layLodgings_2 23 rfl rfl)
theorem dX3_layLodgings_69 : decode cX3_layLodgings 69 = .ok (.aload_n 0, 1) := dk_42 (dk_at dksX3_layLodgings_3 0 rfl rfl)
theorem dX3_layLodgings_70 : decode cX3_layLodgings 70 = .ok (.getfield 64, 3) := dk_180 0 64 (dk_at dksX3_layLodgings_3 1 rfl rfl)
theorem dX3_layLodgings_73 : decode cX3_layLodgings 73 = .ok (.iload_n 2, 1) := dk_28 (dk_at dksX3_layLodgings_3 4 rfl rfl)
theorem dX3_layLodgings_74 : decode cX3_layLodgings 74 = .ok (.iaload, 1) := dk_46 (dk_at dksX3_layLodgings_3 5 rfl rfl)
theorem dX3_layLodgings_75 : decode cX3_layLodgings 75 = .ok (.istore_n 2, 1) := dk_61 (dk_at dksX3_layLodgings_3 6 rfl rfl)
theorem dX3_layLodgings_76 : decode cX3_layLodgings 76 = .ok (.goto (-33), 3) := dk_167 255 223 (dk_at dksX3_layLodgings_3 7 rfl rfl)
theorem dX3_layLodgings_79 : decode cX3_layLodgings 79 = .ok (.iload_n 1, 1) := dk_27 (dk_at dksX3_layLodgings_3 10 rfl rfl)
theorem dX3_layLodgings_80 : decode cX3_layLodgings 80 = .ok (.iload_n 3, 1) := dk_29 (dk_at dksX3_layLodgings_3 11 rfl rfl)
theorem dX3_layLodgings_81 : decode cX3_layLodgings 81 = .ok (.iconst (-1), 1) := dk_2 (dk_at dksX3_layLodgings_3 12 rfl rfl)
theorem dX3_layLodgings_82 : decode cX3_layLodgings 82 = .ok (.ixor, 1) := dk_130 (dk_at dksX3_layLodgings_3 13 rfl rfl)
theorem dX3_layLodgings_83 : decode cX3_layLodgings 83 = .ok (.iand, 1) := dk_126 (dk_at dksX3_layLodgings_3 14 rfl rfl)
theorem dX3_layLodgings_84 : decode cX3_layLodgings 84 = .ok (.istore_n 1, 1) := dk_60 (dk_at dksX3_layLodgings_3 15 rfl rfl)
theorem dX3_layLodgings_85 : decode cX3_layLodgings 85 = .ok (.goto (-76), 3) := dk_167 255 180 (dk_at dksX3_layLodgings_3 16 rfl rfl)
theorem dX3_layLodgings_88 : decode cX3_layLodgings 88 = .ok (.return_, 1) := dk_177 (dk_at dksX3_layLodgings_3 19 rfl rfl)
abbrev cX3_wish : ByteArray := prog_9_method_92_code
def yX3_wish : MethodName := ⟨RX3, "wish", "(II)I"⟩
def dkwX3_wish_2 : List UInt8 := [132, 4, 1, 167, 255, 211, 29, 172]
abbrev dktX3_wish_2 : List UInt8 := dkwX3_wish_2 ++ []
def dkwX3_wish_1 : List UInt8 := [2, 159, 0, 19, 42, 27, 21, 4, 182, 1, 74, 42, 27, 29, 182, 1, 74, 162, 0, 6, 21, 4, 62]
abbrev dktX3_wish_1 : List UInt8 := dkwX3_wish_1 ++ dktX3_wish_2
def dkwX3_wish_0 : List UInt8 := [2, 62, 3, 54, 4, 21, 4, 42, 180, 0, 89, 162, 0, 42, 28, 21, 4, 184, 1, 21, 153, 0, 27, 29]
abbrev dktX3_wish_0 : List UInt8 := dkwX3_wish_0 ++ dktX3_wish_1
theorem dksX3_wish_0 : cX3_wish.data.toList.drop 0 = dktX3_wish_0 := by decide +kernel
theorem dksX3_wish_1 : cX3_wish.data.toList.drop 24 = dktX3_wish_1 := dk_seg dksX3_wish_0 24 rfl rfl
theorem dksX3_wish_2 : cX3_wish.data.toList.drop 47 = dktX3_wish_2 := dk_seg dksX3_wish_1 23 rfl rfl
theorem dX3_wish_0 : decode cX3_wish 0 = .ok (.iconst (-1), 1) := dk_2 (dk_at dksX3_wish_0 0 rfl rfl)
theorem dX3_wish_1 : decode cX3_wish 1 = .ok (.istore_n 3, 1) := dk_62 (dk_at dksX3_wish_0 1 rfl rfl)
theorem dX3_wish_2 : decode cX3_wish 2 = .ok (.iconst 0, 1) := dk_3 (dk_at dksX3_wish_0 2 rfl rfl)
theorem dX3_wish_3 : decode cX3_wish 3 = .ok (.istore 4, 2) := dk_54 4 (dk_at dksX3_wish_0 3 rfl rfl)
theorem dX3_wish_5 : decode cX3_wish 5 = .ok (.iload 4, 2) := dk_21 4 (dk_at dksX3_wish_0 5 rfl rfl)
theorem dX3_wish_7 : decode cX3_wish 7 = .ok (.aload_n 0, 1) := dk_42 (dk_at dksX3_wish_0 7 rfl rfl)
theorem dX3_wish_8 : decode cX3_wish 8 = .ok (.getfield 89, 3) := dk_180 0 89 (dk_at dksX3_wish_0 8 rfl rfl)
theorem dX3_wish_11 : decode cX3_wish 11 = .ok (.if_icmp .ge 42, 3) := dk_162 0 42 (dk_at dksX3_wish_0 11 rfl rfl)
theorem dX3_wish_14 : decode cX3_wish 14 = .ok (.iload_n 2, 1) := dk_28 (dk_at dksX3_wish_0 14 rfl rfl)
theorem dX3_wish_15 : decode cX3_wish 15 = .ok (.iload 4, 2) := dk_21 4 (dk_at dksX3_wish_0 15 rfl rfl)
theorem dX3_wish_17 : decode cX3_wish 17 = .ok (.invokestatic 277, 3) := dk_184 1 21 (dk_at dksX3_wish_0 17 rfl rfl)
theorem dX3_wish_20 : decode cX3_wish 20 = .ok (.ifCond .eq 27, 3) := dk_153 0 27 (dk_at dksX3_wish_0 20 rfl rfl)
theorem dX3_wish_23 : decode cX3_wish 23 = .ok (.iload_n 3, 1) := dk_29 (dk_at dksX3_wish_0 23 rfl rfl)
theorem dX3_wish_24 : decode cX3_wish 24 = .ok (.iconst (-1), 1) := dk_2 (dk_at dksX3_wish_1 0 rfl rfl)
theorem dX3_wish_25 : decode cX3_wish 25 = .ok (.if_icmp .eq 19, 3) := dk_159 0 19 (dk_at dksX3_wish_1 1 rfl rfl)
theorem dX3_wish_28 : decode cX3_wish 28 = .ok (.aload_n 0, 1) := dk_42 (dk_at dksX3_wish_1 4 rfl rfl)
theorem dX3_wish_29 : decode cX3_wish 29 = .ok (.iload_n 1, 1) := dk_27 (dk_at dksX3_wish_1 5 rfl rfl)
theorem dX3_wish_30 : decode cX3_wish 30 = .ok (.iload 4, 2) := dk_21 4 (dk_at dksX3_wish_1 6 rfl rfl)
theorem dX3_wish_32 : decode cX3_wish 32 = .ok (.invokevirtual 330, 3) := dk_182 1 74 (dk_at dksX3_wish_1 8 rfl rfl)
theorem dX3_wish_35 : decode cX3_wish 35 = .ok (.aload_n 0, 1) := dk_42 (dk_at dksX3_wish_1 11 rfl rfl)
theorem dX3_wish_36 : decode cX3_wish 36 = .ok (.iload_n 1, 1) := dk_27 (dk_at dksX3_wish_1 12 rfl rfl)
theorem dX3_wish_37 : decode cX3_wish 37 = .ok (.iload_n 3, 1) := dk_29 (dk_at dksX3_wish_1 13 rfl rfl)
theorem dX3_wish_38 : decode cX3_wish 38 = .ok (.invokevirtual 330, 3) := dk_182 1 74 (dk_at dksX3_wish_1 14 rfl rfl)
theorem dX3_wish_41 : decode cX3_wish 41 = .ok (.if_icmp .ge 6, 3) := dk_162 0 6 (dk_at dksX3_wish_1 17 rfl rfl)
theorem dX3_wish_44 : decode cX3_wish 44 = .ok (.iload 4, 2) := dk_21 4 (dk_at dksX3_wish_1 20 rfl rfl)
theorem dX3_wish_46 : decode cX3_wish 46 = .ok (.istore_n 3, 1) := dk_62 (dk_at dksX3_wish_1 22 rfl rfl)
theorem dX3_wish_47 : decode cX3_wish 47 = .ok (.iinc 4 1, 3) := dk_132 4 1 (dk_at dksX3_wish_2 0 rfl rfl)
theorem dX3_wish_50 : decode cX3_wish 50 = .ok (.goto (-45), 3) := dk_167 255 211 (dk_at dksX3_wish_2 3 rfl rfl)
theorem dX3_wish_53 : decode cX3_wish 53 = .ok (.iload_n 3, 1) := dk_29 (dk_at dksX3_wish_2 6 rfl rfl)
theorem dX3_wish_54 : decode cX3_wish 54 = .ok (.ireturn, 1) := dk_172 (dk_at dksX3_wish_2 7 rfl rfl)
abbrev cX3_worse : ByteArray := prog_9_method_91_code
def yX3_worse : MethodName := ⟨RX3, "worse", "(II)I"⟩
def dkwX3_worse_1 : List UInt8 := [172]
abbrev dktX3_worse_1 : List UInt8 := dkwX3_worse_1 ++ []
def dkwX3_worse_0 : List UInt8 := [16, 8, 6, 28, 104, 16, 10, 112, 42, 180, 0, 9, 16, 16, 27, 96, 46, 100, 184, 0, 193, 104, 28, 96]
abbrev dktX3_worse_0 : List UInt8 := dkwX3_worse_0 ++ dktX3_worse_1
theorem dksX3_worse_0 : cX3_worse.data.toList.drop 0 = dktX3_worse_0 := by decide +kernel
theorem dksX3_worse_1 : cX3_worse.data.toList.drop 24 = dktX3_worse_1 := dk_seg dksX3_worse_0 24 rfl rfl
theorem dX3_worse_0 : decode cX3_worse 0 = .ok (.bipush 8, 2) := dk_16 8 (dk_at dksX3_worse_0 0 rfl rfl)
theorem dX3_worse_2 : decode cX3_worse 2 = .ok (.iconst 3, 1) := dk_6 (dk_at dksX3_worse_0 2 rfl rfl)
theorem dX3_worse_3 : decode cX3_worse 3 = .ok (.iload_n 2, 1) := dk_28 (dk_at dksX3_worse_0 3 rfl rfl)
theorem dX3_worse_4 : decode cX3_worse 4 = .ok (.imul, 1) := dk_104 (dk_at dksX3_worse_0 4 rfl rfl)
theorem dX3_worse_5 : decode cX3_worse 5 = .ok (.bipush 10, 2) := dk_16 10 (dk_at dksX3_worse_0 5 rfl rfl)
theorem dX3_worse_7 : decode cX3_worse 7 = .ok (.irem, 1) := dk_112 (dk_at dksX3_worse_0 7 rfl rfl)
theorem dX3_worse_8 : decode cX3_worse 8 = .ok (.aload_n 0, 1) := dk_42 (dk_at dksX3_worse_0 8 rfl rfl)
theorem dX3_worse_9 : decode cX3_worse 9 = .ok (.getfield 9, 3) := dk_180 0 9 (dk_at dksX3_worse_0 9 rfl rfl)
theorem dX3_worse_12 : decode cX3_worse 12 = .ok (.bipush 16, 2) := dk_16 16 (dk_at dksX3_worse_0 12 rfl rfl)
theorem dX3_worse_14 : decode cX3_worse 14 = .ok (.iload_n 1, 1) := dk_27 (dk_at dksX3_worse_0 14 rfl rfl)
theorem dX3_worse_15 : decode cX3_worse 15 = .ok (.iadd, 1) := dk_96 (dk_at dksX3_worse_0 15 rfl rfl)
theorem dX3_worse_16 : decode cX3_worse 16 = .ok (.iaload, 1) := dk_46 (dk_at dksX3_worse_0 16 rfl rfl)
theorem dX3_worse_17 : decode cX3_worse 17 = .ok (.isub, 1) := dk_100 (dk_at dksX3_worse_0 17 rfl rfl)
theorem dX3_worse_18 : decode cX3_worse 18 = .ok (.invokestatic 193, 3) := dk_184 0 193 (dk_at dksX3_worse_0 18 rfl rfl)
theorem dX3_worse_21 : decode cX3_worse 21 = .ok (.imul, 1) := dk_104 (dk_at dksX3_worse_0 21 rfl rfl)
theorem dX3_worse_22 : decode cX3_worse 22 = .ok (.iload_n 2, 1) := dk_28 (dk_at dksX3_worse_0 22 rfl rfl)
theorem dX3_worse_23 : decode cX3_worse 23 = .ok (.iadd, 1) := dk_96 (dk_at dksX3_worse_0 23 rfl rfl)
theorem dX3_worse_24 : decode cX3_worse 24 = .ok (.ireturn, 1) := dk_172 (dk_at dksX3_worse_1 0 rfl rfl)
abbrev cX3_movers : ByteArray := prog_9_method_95_code
def yX3_movers : MethodName := ⟨RX3, "movers", "()I"⟩
def dkwX3_movers_2 : List UInt8 := [42, 3, 181, 0, 86, 42, 27, 133, 182, 1, 30, 27, 184, 0, 206, 172]
abbrev dktX3_movers_2 : List UInt8 := dkwX3_movers_2 ++ []
def dkwX3_movers_1 : List UInt8 := [180, 0, 64, 28, 46, 28, 160, 0, 7, 3, 167, 0, 6, 4, 28, 120, 128, 60, 132, 2, 1, 167, 255, 225]
abbrev dktX3_movers_1 : List UInt8 := dkwX3_movers_1 ++ dktX3_movers_2
def dkwX3_movers_0 : List UInt8 := [42, 3, 181, 0, 83, 42, 182, 1, 83, 3, 60, 3, 61, 28, 42, 180, 0, 89, 162, 0, 29, 27, 42]
abbrev dktX3_movers_0 : List UInt8 := dkwX3_movers_0 ++ dktX3_movers_1
theorem dksX3_movers_0 : cX3_movers.data.toList.drop 0 = dktX3_movers_0 := by decide +kernel
theorem dksX3_movers_1 : cX3_movers.data.toList.drop 23 = dktX3_movers_1 := dk_seg dksX3_movers_0 23 rfl rfl
theorem dksX3_movers_2 : cX3_movers.data.toList.drop 47 = dktX3_movers_2 := dk_seg dksX3_movers_1 24 rfl rfl
theorem dX3_movers_0 : decode cX3_movers 0 = .ok (.aload_n 0, 1) := dk_42 (dk_at dksX3_movers_0 0 rfl rfl)
theorem dX3_movers_1 : decode cX3_movers 1 = .ok (.iconst 0, 1) := dk_3 (dk_at dksX3_movers_0 1 rfl rfl)
theorem dX3_movers_2 : decode cX3_movers 2 = .ok (.putfield 83, 3) := dk_181 0 83 (dk_at dksX3_movers_0 2 rfl rfl)
theorem dX3_movers_5 : decode cX3_movers 5 = .ok (.aload_n 0, 1) := dk_42 (dk_at dksX3_movers_0 5 rfl rfl)
theorem dX3_movers_6 : decode cX3_movers 6 = .ok (.invokevirtual 339, 3) := dk_182 1 83 (dk_at dksX3_movers_0 6 rfl rfl)
theorem dX3_movers_9 : decode cX3_movers 9 = .ok (.iconst 0, 1) := dk_3 (dk_at dksX3_movers_0 9 rfl rfl)
theorem dX3_movers_10 : decode cX3_movers 10 = .ok (.istore_n 1, 1) := dk_60 (dk_at dksX3_movers_0 10 rfl rfl)
theorem dX3_movers_11 : decode cX3_movers 11 = .ok (.iconst 0, 1) := dk_3 (dk_at dksX3_movers_0 11 rfl rfl)
theorem dX3_movers_12 : decode cX3_movers 12 = .ok (.istore_n 2, 1) := dk_61 (dk_at dksX3_movers_0 12 rfl rfl)
theorem dX3_movers_13 : decode cX3_movers 13 = .ok (.iload_n 2, 1) := dk_28 (dk_at dksX3_movers_0 13 rfl rfl)
theorem dX3_movers_14 : decode cX3_movers 14 = .ok (.aload_n 0, 1) := dk_42 (dk_at dksX3_movers_0 14 rfl rfl)
theorem dX3_movers_15 : decode cX3_movers 15 = .ok (.getfield 89, 3) := dk_180 0 89 (dk_at dksX3_movers_0 15 rfl rfl)
theorem dX3_movers_18 : decode cX3_movers 18 = .ok (.if_icmp .ge 29, 3) := dk_162 0 29 (dk_at dksX3_movers_0 18 rfl rfl)
theorem dX3_movers_21 : decode cX3_movers 21 = .ok (.iload_n 1, 1) := dk_27 (dk_at dksX3_movers_0 21 rfl rfl)
theorem dX3_movers_22 : decode cX3_movers 22 = .ok (.aload_n 0, 1) := dk_42 (dk_at dksX3_movers_0 22 rfl rfl)
theorem dX3_movers_23 : decode cX3_movers 23 = .ok (.getfield 64, 3) := dk_180 0 64 (dk_at dksX3_movers_1 0 rfl rfl)
theorem dX3_movers_26 : decode cX3_movers 26 = .ok (.iload_n 2, 1) := dk_28 (dk_at dksX3_movers_1 3 rfl rfl)
theorem dX3_movers_27 : decode cX3_movers 27 = .ok (.iaload, 1) := dk_46 (dk_at dksX3_movers_1 4 rfl rfl)
theorem dX3_movers_28 : decode cX3_movers 28 = .ok (.iload_n 2, 1) := dk_28 (dk_at dksX3_movers_1 5 rfl rfl)
theorem dX3_movers_29 : decode cX3_movers 29 = .ok (.if_icmp .ne 7, 3) := dk_160 0 7 (dk_at dksX3_movers_1 6 rfl rfl)
theorem dX3_movers_32 : decode cX3_movers 32 = .ok (.iconst 0, 1) := dk_3 (dk_at dksX3_movers_1 9 rfl rfl)
theorem dX3_movers_33 : decode cX3_movers 33 = .ok (.goto 6, 3) := dk_167 0 6 (dk_at dksX3_movers_1 10 rfl rfl)
theorem dX3_movers_36 : decode cX3_movers 36 = .ok (.iconst 1, 1) := dk_4 (dk_at dksX3_movers_1 13 rfl rfl)
theorem dX3_movers_37 : decode cX3_movers 37 = .ok (.iload_n 2, 1) := dk_28 (dk_at dksX3_movers_1 14 rfl rfl)
theorem dX3_movers_38 : decode cX3_movers 38 = .ok (.ishl, 1) := dk_120 (dk_at dksX3_movers_1 15 rfl rfl)
theorem dX3_movers_39 : decode cX3_movers 39 = .ok (.ior, 1) := dk_128 (dk_at dksX3_movers_1 16 rfl rfl)
theorem dX3_movers_40 : decode cX3_movers 40 = .ok (.istore_n 1, 1) := dk_60 (dk_at dksX3_movers_1 17 rfl rfl)
theorem dX3_movers_41 : decode cX3_movers 41 = .ok (.iinc 2 1, 3) := dk_132 2 1 (dk_at dksX3_movers_1 18 rfl rfl)
theorem dX3_movers_44 : decode cX3_movers 44 = .ok (.goto (-31), 3) := dk_167 255 225 (dk_at dksX3_movers_1 21 rfl rfl)
theorem dX3_movers_47 : decode cX3_movers 47 = .ok (.aload_n 0, 1) := dk_42 (dk_at dksX3_movers_2 0 rfl rfl)
theorem dX3_movers_48 : decode cX3_movers 48 = .ok (.iconst 0, 1) := dk_3 (dk_at dksX3_movers_2 1 rfl rfl)
theorem dX3_movers_49 : decode cX3_movers 49 = .ok (.putfield 86, 3) := dk_181 0 86 (dk_at dksX3_movers_2 2 rfl rfl)
theorem dX3_movers_52 : decode cX3_movers 52 = .ok (.aload_n 0, 1) := dk_42 (dk_at dksX3_movers_2 5 rfl rfl)
theorem dX3_movers_53 : decode cX3_movers 53 = .ok (.iload_n 1, 1) := dk_27 (dk_at dksX3_movers_2 6 rfl rfl)
theorem dX3_movers_54 : decode cX3_movers 54 = .ok (.i2l, 1) := dk_133 (dk_at dksX3_movers_2 7 rfl rfl)
theorem dX3_movers_55 : decode cX3_movers 55 = .ok (.invokevirtual 286, 3) := dk_182 1 30 (dk_at dksX3_movers_2 8 rfl rfl)
theorem dX3_movers_58 : decode cX3_movers 58 = .ok (.iload_n 1, 1) := dk_27 (dk_at dksX3_movers_2 11 rfl rfl)
theorem dX3_movers_59 : decode cX3_movers 59 = .ok (.invokestatic 206, 3) := dk_184 0 206 (dk_at dksX3_movers_2 12 rfl rfl)
theorem dX3_movers_62 : decode cX3_movers 62 = .ok (.ireturn, 1) := dk_172 (dk_at dksX3_movers_2 15 rfl rfl)
abbrev cX3_leavers : ByteArray := prog_9_method_96_code
def yX3_leavers : MethodName := ⟨RX3, "leavers", "()I"⟩
def dkwX3_leavers_10 : List UInt8 := [132, 3, 1, 167, 255, 133, 42, 3, 181, 0, 86, 42, 28, 184, 0, 206, 133, 182, 1, 30, 28, 172]
abbrev dktX3_leavers_10 : List UInt8 := dkwX3_leavers_10 ++ []
def dkwX3_leavers_9 : List UInt8 := [46, 182, 1, 74, 162, 0, 9, 4, 29, 120, 167, 0, 4, 3, 128, 61, 132, 4, 1, 167, 255, 180]
abbrev dktX3_leavers_9 : List UInt8 := dkwX3_leavers_9 ++ dktX3_leavers_10
def dkwX3_leavers_8 : List UInt8 := [162, 0, 37, 42, 21, 4, 42, 180, 0, 64, 29, 46, 182, 1, 74, 42, 21, 4, 42, 180, 0, 64, 21, 4]
abbrev dktX3_leavers_8 : List UInt8 := dkwX3_leavers_8 ++ dktX3_leavers_9
def dkwX3_leavers_7 : List UInt8 := [28, 42, 29, 42, 180, 0, 64, 21, 4, 46, 182, 1, 74, 42, 29, 42, 180, 0, 64, 29, 46, 182, 1, 74]
abbrev dktX3_leavers_7 : List UInt8 := dkwX3_leavers_7 ++ dktX3_leavers_8
def dkwX3_leavers_6 : List UInt8 := [162, 0, 9, 4, 29, 120, 167, 0, 4, 3, 128, 61, 3, 54, 4, 21, 4, 42, 180, 0, 89, 162, 0, 73]
abbrev dktX3_leavers_6 : List UInt8 := dkwX3_leavers_6 ++ dktX3_leavers_7
def dkwX3_leavers_5 : List UInt8 := [180, 0, 89, 162, 0, 121, 28, 42, 29, 29, 182, 1, 74, 42, 29, 42, 180, 0, 64, 29, 46, 182, 1, 74]
abbrev dktX3_leavers_5 : List UInt8 := dkwX3_leavers_5 ++ dktX3_leavers_6
def dkwX3_leavers_4 : List UInt8 := [167, 255, 180, 42, 182, 0, 152, 154, 0, 10, 2, 42, 180, 0, 115, 100, 172, 3, 61, 3, 62, 29, 42]
abbrev dktX3_leavers_4 : List UInt8 := dkwX3_leavers_4 ++ dktX3_leavers_5
def dkwX3_leavers_3 : List UInt8 := [180, 0, 112, 4, 96, 181, 0, 112, 42, 180, 0, 64, 28, 29, 79, 27, 4, 29, 120, 128, 60, 132, 2, 1]
abbrev dktX3_leavers_3 : List UInt8 := dkwX3_leavers_3 ++ dktX3_leavers_4
def dkwX3_leavers_2 : List UInt8 := [153, 0, 11, 27, 29, 184, 1, 21, 153, 0, 14, 42, 42, 180, 0, 112, 182, 0, 134, 167, 0, 26, 42, 89]
abbrev dktX3_leavers_2 : List UInt8 := dkwX3_leavers_2 ++ dktX3_leavers_3
def dkwX3_leavers_1 : List UInt8 := [162, 0, 74, 42, 182, 0, 122, 153, 0, 67, 42, 182, 0, 126, 16, 48, 100, 62, 42, 29, 182, 0, 96]
abbrev dktX3_leavers_1 : List UInt8 := dkwX3_leavers_1 ++ dktX3_leavers_2
def dkwX3_leavers_0 : List UInt8 := [42, 3, 181, 0, 83, 42, 42, 180, 0, 89, 182, 0, 146, 3, 60, 3, 61, 28, 42, 180, 0, 89]
abbrev dktX3_leavers_0 : List UInt8 := dkwX3_leavers_0 ++ dktX3_leavers_1
theorem dksX3_leavers_0 : cX3_leavers.data.toList.drop 0 = dktX3_leavers_0 := by decide +kernel
theorem dksX3_leavers_1 : cX3_leavers.data.toList.drop 22 = dktX3_leavers_1 := dk_seg dksX3_leavers_0 22 rfl rfl
theorem dksX3_leavers_2 : cX3_leavers.data.toList.drop 45 = dktX3_leavers_2 := dk_seg dksX3_leavers_1 23 rfl rfl
theorem dksX3_leavers_3 : cX3_leavers.data.toList.drop 69 = dktX3_leavers_3 := dk_seg dksX3_leavers_2 24 rfl rfl
theorem dksX3_leavers_4 : cX3_leavers.data.toList.drop 93 = dktX3_leavers_4 := dk_seg dksX3_leavers_3 24 rfl rfl
theorem dksX3_leavers_5 : cX3_leavers.data.toList.drop 116 = dktX3_leavers_5 := dk_seg dksX3_leavers_4 23 rfl rfl
theorem dksX3_leavers_6 : cX3_leavers.data.toList.drop 140 = dktX3_leavers_6 := dk_seg dksX3_leavers_5 24 rfl rfl
theorem dksX3_leavers_7 : cX3_leavers.data.toList.drop 164 = dktX3_leavers_7 := dk_seg dksX3_leavers_6 24 rfl rfl
theorem dksX3_leavers_8 : cX3_leavers.data.toList.drop 188 = dktX3_leavers_8 := dk_seg dksX3_leavers_7 24 rfl rfl
theorem dksX3_leavers_9 : cX3_leavers.data.toList.drop 212 = dktX3_leavers_9 := dk_seg dksX3_leavers_8 24 rfl rfl
theorem dksX3_leavers_10 : cX3_leavers.data.toList.drop 234 = dktX3_leavers_10 := dk_seg dksX3_leavers_9 22 rfl rfl
theorem dX3_leavers_0 : decode cX3_leavers 0 = .ok (.aload_n 0, 1) := dk_42 (dk_at dksX3_leavers_0 0 rfl rfl)
theorem dX3_leavers_1 : decode cX3_leavers 1 = .ok (.iconst 0, 1) := dk_3 (dk_at dksX3_leavers_0 1 rfl rfl)
theorem dX3_leavers_2 : decode cX3_leavers 2 = .ok (.putfield 83, 3) := dk_181 0 83 (dk_at dksX3_leavers_0 2 rfl rfl)
theorem dX3_leavers_5 : decode cX3_leavers 5 = .ok (.aload_n 0, 1) := dk_42 (dk_at dksX3_leavers_0 5 rfl rfl)
theorem dX3_leavers_6 : decode cX3_leavers 6 = .ok (.aload_n 0, 1) := dk_42 (dk_at dksX3_leavers_0 6 rfl rfl)
theorem dX3_leavers_7 : decode cX3_leavers 7 = .ok (.getfield 89, 3) := dk_180 0 89 (dk_at dksX3_leavers_0 7 rfl rfl)
theorem dX3_leavers_10 : decode cX3_leavers 10 = .ok (.invokevirtual 146, 3) := dk_182 0 146 (dk_at dksX3_leavers_0 10 rfl rfl)
theorem dX3_leavers_13 : decode cX3_leavers 13 = .ok (.iconst 0, 1) := dk_3 (dk_at dksX3_leavers_0 13 rfl rfl)
theorem dX3_leavers_14 : decode cX3_leavers 14 = .ok (.istore_n 1, 1) := dk_60 (dk_at dksX3_leavers_0 14 rfl rfl)
theorem dX3_leavers_15 : decode cX3_leavers 15 = .ok (.iconst 0, 1) := dk_3 (dk_at dksX3_leavers_0 15 rfl rfl)
theorem dX3_leavers_16 : decode cX3_leavers 16 = .ok (.istore_n 2, 1) := dk_61 (dk_at dksX3_leavers_0 16 rfl rfl)
theorem dX3_leavers_17 : decode cX3_leavers 17 = .ok (.iload_n 2, 1) := dk_28 (dk_at dksX3_leavers_0 17 rfl rfl)
theorem dX3_leavers_18 : decode cX3_leavers 18 = .ok (.aload_n 0, 1) := dk_42 (dk_at dksX3_leavers_0 18 rfl rfl)
theorem dX3_leavers_19 : decode cX3_leavers 19 = .ok (.getfield 89, 3) := dk_180 0 89 (dk_at dksX3_leavers_0 19 rfl rfl)
theorem dX3_leavers_22 : decode cX3_leavers 22 = .ok (.if_icmp .ge 74, 3) := dk_162 0 74 (dk_at dksX3_leavers_1 0 rfl rfl)
theorem dX3_leavers_25 : decode cX3_leavers 25 = .ok (.aload_n 0, 1) := dk_42 (dk_at dksX3_leavers_1 3 rfl rfl)
theorem dX3_leavers_26 : decode cX3_leavers 26 = .ok (.invokevirtual 122, 3) := dk_182 0 122 (dk_at dksX3_leavers_1 4 rfl rfl)
theorem dX3_leavers_29 : decode cX3_leavers 29 = .ok (.ifCond .eq 67, 3) := dk_153 0 67 (dk_at dksX3_leavers_1 7 rfl rfl)
theorem dX3_leavers_32 : decode cX3_leavers 32 = .ok (.aload_n 0, 1) := dk_42 (dk_at dksX3_leavers_1 10 rfl rfl)
theorem dX3_leavers_33 : decode cX3_leavers 33 = .ok (.invokevirtual 126, 3) := dk_182 0 126 (dk_at dksX3_leavers_1 11 rfl rfl)
theorem dX3_leavers_36 : decode cX3_leavers 36 = .ok (.bipush 48, 2) := dk_16 48 (dk_at dksX3_leavers_1 14 rfl rfl)
theorem dX3_leavers_38 : decode cX3_leavers 38 = .ok (.isub, 1) := dk_100 (dk_at dksX3_leavers_1 16 rfl rfl)
theorem dX3_leavers_39 : decode cX3_leavers 39 = .ok (.istore_n 3, 1) := dk_62 (dk_at dksX3_leavers_1 17 rfl rfl)
theorem dX3_leavers_40 : decode cX3_leavers 40 = .ok (.aload_n 0, 1) := dk_42 (dk_at dksX3_leavers_1 18 rfl rfl)
theorem dX3_leavers_41 : decode cX3_leavers 41 = .ok (.iload_n 3, 1) := dk_29 (dk_at dksX3_leavers_1 19 rfl rfl)
theorem dX3_leavers_42 : decode cX3_leavers 42 = .ok (.invokevirtual 96, 3) := dk_182 0 96 (dk_at dksX3_leavers_1 20 rfl rfl)
theorem dX3_leavers_45 : decode cX3_leavers 45 = .ok (.ifCond .eq 11, 3) := dk_153 0 11 (dk_at dksX3_leavers_2 0 rfl rfl)
theorem dX3_leavers_48 : decode cX3_leavers 48 = .ok (.iload_n 1, 1) := dk_27 (dk_at dksX3_leavers_2 3 rfl rfl)
theorem dX3_leavers_49 : decode cX3_leavers 49 = .ok (.iload_n 3, 1) := dk_29 (dk_at dksX3_leavers_2 4 rfl rfl)
theorem dX3_leavers_50 : decode cX3_leavers 50 = .ok (.invokestatic 277, 3) := dk_184 1 21 (dk_at dksX3_leavers_2 5 rfl rfl)
theorem dX3_leavers_53 : decode cX3_leavers 53 = .ok (.ifCond .eq 14, 3) := dk_153 0 14 (dk_at dksX3_leavers_2 8 rfl rfl)
theorem dX3_leavers_56 : decode cX3_leavers 56 = .ok (.aload_n 0, 1) := dk_42 (dk_at dksX3_leavers_2 11 rfl rfl)
theorem dX3_leavers_57 : decode cX3_leavers 57 = .ok (.aload_n 0, 1) := dk_42 (dk_at dksX3_leavers_2 12 rfl rfl)
theorem dX3_leavers_58 : decode cX3_leavers 58 = .ok (.getfield 112, 3) := dk_180 0 112 (dk_at dksX3_leavers_2 13 rfl rfl)
theorem dX3_leavers_61 : decode cX3_leavers 61 = .ok (.invokevirtual 134, 3) := dk_182 0 134 (dk_at dksX3_leavers_2 16 rfl rfl)
theorem dX3_leavers_64 : decode cX3_leavers 64 = .ok (.goto 26, 3) := dk_167 0 26 (dk_at dksX3_leavers_2 19 rfl rfl)
theorem dX3_leavers_67 : decode cX3_leavers 67 = .ok (.aload_n 0, 1) := dk_42 (dk_at dksX3_leavers_2 22 rfl rfl)
theorem dX3_leavers_68 : decode cX3_leavers 68 = .ok (.dup, 1) := dk_89 (dk_at dksX3_leavers_2 23 rfl rfl)
theorem dX3_leavers_69 : decode cX3_leavers 69 = .ok (.getfield 112, 3) := dk_180 0 112 (dk_at dksX3_leavers_3 0 rfl rfl)
theorem dX3_leavers_72 : decode cX3_leavers 72 = .ok (.iconst 1, 1) := dk_4 (dk_at dksX3_leavers_3 3 rfl rfl)
theorem dX3_leavers_73 : decode cX3_leavers 73 = .ok (.iadd, 1) := dk_96 (dk_at dksX3_leavers_3 4 rfl rfl)
theorem dX3_leavers_74 : decode cX3_leavers 74 = .ok (.putfield 112, 3) := dk_181 0 112 (dk_at dksX3_leavers_3 5 rfl rfl)
theorem dX3_leavers_77 : decode cX3_leavers 77 = .ok (.aload_n 0, 1) := dk_42 (dk_at dksX3_leavers_3 8 rfl rfl)
theorem dX3_leavers_78 : decode cX3_leavers 78 = .ok (.getfield 64, 3) := dk_180 0 64 (dk_at dksX3_leavers_3 9 rfl rfl)
theorem dX3_leavers_81 : decode cX3_leavers 81 = .ok (.iload_n 2, 1) := dk_28 (dk_at dksX3_leavers_3 12 rfl rfl)
theorem dX3_leavers_82 : decode cX3_leavers 82 = .ok (.iload_n 3, 1) := dk_29 (dk_at dksX3_leavers_3 13 rfl rfl)
theorem dX3_leavers_83 : decode cX3_leavers 83 = .ok (.iastore, 1) := dk_79 (dk_at dksX3_leavers_3 14 rfl rfl)
theorem dX3_leavers_84 : decode cX3_leavers 84 = .ok (.iload_n 1, 1) := dk_27 (dk_at dksX3_leavers_3 15 rfl rfl)
theorem dX3_leavers_85 : decode cX3_leavers 85 = .ok (.iconst 1, 1) := dk_4 (dk_at dksX3_leavers_3 16 rfl rfl)
theorem dX3_leavers_86 : decode cX3_leavers 86 = .ok (.iload_n 3, 1) := dk_29 (dk_at dksX3_leavers_3 17 rfl rfl)
theorem dX3_leavers_87 : decode cX3_leavers 87 = .ok (.ishl, 1) := dk_120 (dk_at dksX3_leavers_3 18 rfl rfl)
theorem dX3_leavers_88 : decode cX3_leavers 88 = .ok (.ior, 1) := dk_128 (dk_at dksX3_leavers_3 19 rfl rfl)
theorem dX3_leavers_89 : decode cX3_leavers 89 = .ok (.istore_n 1, 1) := dk_60 (dk_at dksX3_leavers_3 20 rfl rfl)
theorem dX3_leavers_90 : decode cX3_leavers 90 = .ok (.iinc 2 1, 3) := dk_132 2 1 (dk_at dksX3_leavers_3 21 rfl rfl)
theorem dX3_leavers_93 : decode cX3_leavers 93 = .ok (.goto (-76), 3) := dk_167 255 180 (dk_at dksX3_leavers_4 0 rfl rfl)
theorem dX3_leavers_96 : decode cX3_leavers 96 = .ok (.aload_n 0, 1) := dk_42 (dk_at dksX3_leavers_4 3 rfl rfl)
theorem dX3_leavers_97 : decode cX3_leavers 97 = .ok (.invokevirtual 152, 3) := dk_182 0 152 (dk_at dksX3_leavers_4 4 rfl rfl)
theorem dX3_leavers_100 : decode cX3_leavers 100 = .ok (.ifCond .ne 10, 3) := dk_154 0 10 (dk_at dksX3_leavers_4 7 rfl rfl)
theorem dX3_leavers_103 : decode cX3_leavers 103 = .ok (.iconst (-1), 1) := dk_2 (dk_at dksX3_leavers_4 10 rfl rfl)
theorem dX3_leavers_104 : decode cX3_leavers 104 = .ok (.aload_n 0, 1) := dk_42 (dk_at dksX3_leavers_4 11 rfl rfl)
theorem dX3_leavers_105 : decode cX3_leavers 105 = .ok (.getfield 115, 3) := dk_180 0 115 (dk_at dksX3_leavers_4 12 rfl rfl)
theorem dX3_leavers_108 : decode cX3_leavers 108 = .ok (.isub, 1) := dk_100 (dk_at dksX3_leavers_4 15 rfl rfl)
theorem dX3_leavers_109 : decode cX3_leavers 109 = .ok (.ireturn, 1) := dk_172 (dk_at dksX3_leavers_4 16 rfl rfl)
theorem dX3_leavers_110 : decode cX3_leavers 110 = .ok (.iconst 0, 1) := dk_3 (dk_at dksX3_leavers_4 17 rfl rfl)
theorem dX3_leavers_111 : decode cX3_leavers 111 = .ok (.istore_n 2, 1) := dk_61 (dk_at dksX3_leavers_4 18 rfl rfl)
theorem dX3_leavers_112 : decode cX3_leavers 112 = .ok (.iconst 0, 1) := dk_3 (dk_at dksX3_leavers_4 19 rfl rfl)
theorem dX3_leavers_113 : decode cX3_leavers 113 = .ok (.istore_n 3, 1) := dk_62 (dk_at dksX3_leavers_4 20 rfl rfl)
theorem dX3_leavers_114 : decode cX3_leavers 114 = .ok (.iload_n 3, 1) := dk_29 (dk_at dksX3_leavers_4 21 rfl rfl)
theorem dX3_leavers_115 : decode cX3_leavers 115 = .ok (.aload_n 0, 1) := dk_42 (dk_at dksX3_leavers_4 22 rfl rfl)
theorem dX3_leavers_116 : decode cX3_leavers 116 = .ok (.getfield 89, 3) := dk_180 0 89 (dk_at dksX3_leavers_5 0 rfl rfl)
theorem dX3_leavers_119 : decode cX3_leavers 119 = .ok (.if_icmp .ge 121, 3) := dk_162 0 121 (dk_at dksX3_leavers_5 3 rfl rfl)
theorem dX3_leavers_122 : decode cX3_leavers 122 = .ok (.iload_n 2, 1) := dk_28 (dk_at dksX3_leavers_5 6 rfl rfl)
theorem dX3_leavers_123 : decode cX3_leavers 123 = .ok (.aload_n 0, 1) := dk_42 (dk_at dksX3_leavers_5 7 rfl rfl)
theorem dX3_leavers_124 : decode cX3_leavers 124 = .ok (.iload_n 3, 1) := dk_29 (dk_at dksX3_leavers_5 8 rfl rfl)
theorem dX3_leavers_125 : decode cX3_leavers 125 = .ok (.iload_n 3, 1) := dk_29 (dk_at dksX3_leavers_5 9 rfl rfl)
theorem dX3_leavers_126 : decode cX3_leavers 126 = .ok (.invokevirtual 330, 3) := dk_182 1 74 (dk_at dksX3_leavers_5 10 rfl rfl)
theorem dX3_leavers_129 : decode cX3_leavers 129 = .ok (.aload_n 0, 1) := dk_42 (dk_at dksX3_leavers_5 13 rfl rfl)
theorem dX3_leavers_130 : decode cX3_leavers 130 = .ok (.iload_n 3, 1) := dk_29 (dk_at dksX3_leavers_5 14 rfl rfl)
theorem dX3_leavers_131 : decode cX3_leavers 131 = .ok (.aload_n 0, 1) := dk_42 (dk_at dksX3_leavers_5 15 rfl rfl)
theorem dX3_leavers_132 : decode cX3_leavers 132 = .ok (.getfield 64, 3) := dk_180 0 64 (dk_at dksX3_leavers_5 16 rfl rfl)
theorem dX3_leavers_135 : decode cX3_leavers 135 = .ok (.iload_n 3, 1) := dk_29 (dk_at dksX3_leavers_5 19 rfl rfl)
theorem dX3_leavers_136 : decode cX3_leavers 136 = .ok (.iaload, 1) := dk_46 (dk_at dksX3_leavers_5 20 rfl rfl)
theorem dX3_leavers_137 : decode cX3_leavers 137 = .ok (.invokevirtual 330, 3) := dk_182 1 74 (dk_at dksX3_leavers_5 21 rfl rfl)
theorem dX3_leavers_140 : decode cX3_leavers 140 = .ok (.if_icmp .ge 9, 3) := dk_162 0 9 (dk_at dksX3_leavers_6 0 rfl rfl)
theorem dX3_leavers_143 : decode cX3_leavers 143 = .ok (.iconst 1, 1) := dk_4 (dk_at dksX3_leavers_6 3 rfl rfl)
theorem dX3_leavers_144 : decode cX3_leavers 144 = .ok (.iload_n 3, 1) := dk_29 (dk_at dksX3_leavers_6 4 rfl rfl)
theorem dX3_leavers_145 : decode cX3_leavers 145 = .ok (.ishl, 1) := dk_120 (dk_at dksX3_leavers_6 5 rfl rfl)
theorem dX3_leavers_146 : decode cX3_leavers 146 = .ok (.goto 4, 3) := dk_167 0 4 (dk_at dksX3_leavers_6 6 rfl rfl)
theorem dX3_leavers_149 : decode cX3_leavers 149 = .ok (.iconst 0, 1) := dk_3 (dk_at dksX3_leavers_6 9 rfl rfl)
theorem dX3_leavers_150 : decode cX3_leavers 150 = .ok (.ior, 1) := dk_128 (dk_at dksX3_leavers_6 10 rfl rfl)
theorem dX3_leavers_151 : decode cX3_leavers 151 = .ok (.istore_n 2, 1) := dk_61 (dk_at dksX3_leavers_6 11 rfl rfl)
theorem dX3_leavers_152 : decode cX3_leavers 152 = .ok (.iconst 0, 1) := dk_3 (dk_at dksX3_leavers_6 12 rfl rfl)
theorem dX3_leavers_153 : decode cX3_leavers 153 = .ok (.istore 4, 2) := dk_54 4 (dk_at dksX3_leavers_6 13 rfl rfl)
theorem dX3_leavers_155 : decode cX3_leavers 155 = .ok (.iload 4, 2) := dk_21 4 (dk_at dksX3_leavers_6 15 rfl rfl)
theorem dX3_leavers_157 : decode cX3_leavers 157 = .ok (.aload_n 0, 1) := dk_42 (dk_at dksX3_leavers_6 17 rfl rfl)
theorem dX3_leavers_158 : decode cX3_leavers 158 = .ok (.getfield 89, 3) := dk_180 0 89 (dk_at dksX3_leavers_6 18 rfl rfl)
theorem dX3_leavers_161 : decode cX3_leavers 161 = .ok (.if_icmp .ge 73, 3) := dk_162 0 73 (dk_at dksX3_leavers_6 21 rfl rfl)
theorem dX3_leavers_164 : decode cX3_leavers 164 = .ok (.iload_n 2, 1) := dk_28 (dk_at dksX3_leavers_7 0 rfl rfl)
theorem dX3_leavers_165 : decode cX3_leavers 165 = .ok (.aload_n 0, 1) := dk_42 (dk_at dksX3_leavers_7 1 rfl rfl)
theorem dX3_leavers_166 : decode cX3_leavers 166 = .ok (.iload_n 3, 1) := dk_29 (dk_at dksX3_leavers_7 2 rfl rfl)
theorem dX3_leavers_167 : decode cX3_leavers 167 = .ok (.aload_n 0, 1) := dk_42 (dk_at dksX3_leavers_7 3 rfl rfl)
theorem dX3_leavers_168 : decode cX3_leavers 168 = .ok (.getfield 64, 3) := dk_180 0 64 (dk_at dksX3_leavers_7 4 rfl rfl)
theorem dX3_leavers_171 : decode cX3_leavers 171 = .ok (.iload 4, 2) := dk_21 4 (dk_at dksX3_leavers_7 7 rfl rfl)
theorem dX3_leavers_173 : decode cX3_leavers 173 = .ok (.iaload, 1) := dk_46 (dk_at dksX3_leavers_7 9 rfl rfl)
theorem dX3_leavers_174 : decode cX3_leavers 174 = .ok (.invokevirtual 330, 3) := dk_182 1 74 (dk_at dksX3_leavers_7 10 rfl rfl)
theorem dX3_leavers_177 : decode cX3_leavers 177 = .ok (.aload_n 0, 1) := dk_42 (dk_at dksX3_leavers_7 13 rfl rfl)
theorem dX3_leavers_178 : decode cX3_leavers 178 = .ok (.iload_n 3, 1) := dk_29 (dk_at dksX3_leavers_7 14 rfl rfl)
theorem dX3_leavers_179 : decode cX3_leavers 179 = .ok (.aload_n 0, 1) := dk_42 (dk_at dksX3_leavers_7 15 rfl rfl)
theorem dX3_leavers_180 : decode cX3_leavers 180 = .ok (.getfield 64, 3) := dk_180 0 64 (dk_at dksX3_leavers_7 16 rfl rfl)
theorem dX3_leavers_183 : decode cX3_leavers 183 = .ok (.iload_n 3, 1) := dk_29 (dk_at dksX3_leavers_7 19 rfl rfl)
theorem dX3_leavers_184 : decode cX3_leavers 184 = .ok (.iaload, 1) := dk_46 (dk_at dksX3_leavers_7 20 rfl rfl)
theorem dX3_leavers_185 : decode cX3_leavers 185 = .ok (.invokevirtual 330, 3) := dk_182 1 74 (dk_at dksX3_leavers_7 21 rfl rfl)
theorem dX3_leavers_188 : decode cX3_leavers 188 = .ok (.if_icmp .ge 37, 3) := dk_162 0 37 (dk_at dksX3_leavers_8 0 rfl rfl)
theorem dX3_leavers_191 : decode cX3_leavers 191 = .ok (.aload_n 0, 1) := dk_42 (dk_at dksX3_leavers_8 3 rfl rfl)
theorem dX3_leavers_192 : decode cX3_leavers 192 = .ok (.iload 4, 2) := dk_21 4 (dk_at dksX3_leavers_8 4 rfl rfl)
theorem dX3_leavers_194 : decode cX3_leavers 194 = .ok (.aload_n 0, 1) := dk_42 (dk_at dksX3_leavers_8 6 rfl rfl)
theorem dX3_leavers_195 : decode cX3_leavers 195 = .ok (.getfield 64, 3) := dk_180 0 64 (dk_at dksX3_leavers_8 7 rfl rfl)
theorem dX3_leavers_198 : decode cX3_leavers 198 = .ok (.iload_n 3, 1) := dk_29 (dk_at dksX3_leavers_8 10 rfl rfl)
theorem dX3_leavers_199 : decode cX3_leavers 199 = .ok (.iaload, 1) := dk_46 (dk_at dksX3_leavers_8 11 rfl rfl)
theorem dX3_leavers_200 : decode cX3_leavers 200 = .ok (.invokevirtual 330, 3) := dk_182 1 74 (dk_at dksX3_leavers_8 12 rfl rfl)
theorem dX3_leavers_203 : decode cX3_leavers 203 = .ok (.aload_n 0, 1) := dk_42 (dk_at dksX3_leavers_8 15 rfl rfl)
theorem dX3_leavers_204 : decode cX3_leavers 204 = .ok (.iload 4, 2) := dk_21 4 (dk_at dksX3_leavers_8 16 rfl rfl)
theorem dX3_leavers_206 : decode cX3_leavers 206 = .ok (.aload_n 0, 1) := dk_42 (dk_at dksX3_leavers_8 18 rfl rfl)
theorem dX3_leavers_207 : decode cX3_leavers 207 = .ok (.getfield 64, 3) := dk_180 0 64 (dk_at dksX3_leavers_8 19 rfl rfl)
theorem dX3_leavers_210 : decode cX3_leavers 210 = .ok (.iload 4, 2) := dk_21 4 (dk_at dksX3_leavers_8 22 rfl rfl)
theorem dX3_leavers_212 : decode cX3_leavers 212 = .ok (.iaload, 1) := dk_46 (dk_at dksX3_leavers_9 0 rfl rfl)
theorem dX3_leavers_213 : decode cX3_leavers 213 = .ok (.invokevirtual 330, 3) := dk_182 1 74 (dk_at dksX3_leavers_9 1 rfl rfl)
theorem dX3_leavers_216 : decode cX3_leavers 216 = .ok (.if_icmp .ge 9, 3) := dk_162 0 9 (dk_at dksX3_leavers_9 4 rfl rfl)
theorem dX3_leavers_219 : decode cX3_leavers 219 = .ok (.iconst 1, 1) := dk_4 (dk_at dksX3_leavers_9 7 rfl rfl)
theorem dX3_leavers_220 : decode cX3_leavers 220 = .ok (.iload_n 3, 1) := dk_29 (dk_at dksX3_leavers_9 8 rfl rfl)
theorem dX3_leavers_221 : decode cX3_leavers 221 = .ok (.ishl, 1) := dk_120 (dk_at dksX3_leavers_9 9 rfl rfl)
theorem dX3_leavers_222 : decode cX3_leavers 222 = .ok (.goto 4, 3) := dk_167 0 4 (dk_at dksX3_leavers_9 10 rfl rfl)
theorem dX3_leavers_225 : decode cX3_leavers 225 = .ok (.iconst 0, 1) := dk_3 (dk_at dksX3_leavers_9 13 rfl rfl)
theorem dX3_leavers_226 : decode cX3_leavers 226 = .ok (.ior, 1) := dk_128 (dk_at dksX3_leavers_9 14 rfl rfl)
theorem dX3_leavers_227 : decode cX3_leavers 227 = .ok (.istore_n 2, 1) := dk_61 (dk_at dksX3_leavers_9 15 rfl rfl)
theorem dX3_leavers_228 : decode cX3_leavers 228 = .ok (.iinc 4 1, 3) := dk_132 4 1 (dk_at dksX3_leavers_9 16 rfl rfl)
theorem dX3_leavers_231 : decode cX3_leavers 231 = .ok (.goto (-76), 3) := dk_167 255 180 (dk_at dksX3_leavers_9 19 rfl rfl)
theorem dX3_leavers_234 : decode cX3_leavers 234 = .ok (.iinc 3 1, 3) := dk_132 3 1 (dk_at dksX3_leavers_10 0 rfl rfl)
theorem dX3_leavers_237 : decode cX3_leavers 237 = .ok (.goto (-123), 3) := dk_167 255 133 (dk_at dksX3_leavers_10 3 rfl rfl)
theorem dX3_leavers_240 : decode cX3_leavers 240 = .ok (.aload_n 0, 1) := dk_42 (dk_at dksX3_leavers_10 6 rfl rfl)
theorem dX3_leavers_241 : decode cX3_leavers 241 = .ok (.iconst 0, 1) := dk_3 (dk_at dksX3_leavers_10 7 rfl rfl)
theorem dX3_leavers_242 : decode cX3_leavers 242 = .ok (.putfield 86, 3) := dk_181 0 86 (dk_at dksX3_leavers_10 8 rfl rfl)
theorem dX3_leavers_245 : decode cX3_leavers 245 = .ok (.aload_n 0, 1) := dk_42 (dk_at dksX3_leavers_10 11 rfl rfl)
theorem dX3_leavers_246 : decode cX3_leavers 246 = .ok (.iload_n 2, 1) := dk_28 (dk_at dksX3_leavers_10 12 rfl rfl)
theorem dX3_leavers_247 : decode cX3_leavers 247 = .ok (.invokestatic 206, 3) := dk_184 0 206 (dk_at dksX3_leavers_10 13 rfl rfl)
theorem dX3_leavers_250 : decode cX3_leavers 250 = .ok (.i2l, 1) := dk_133 (dk_at dksX3_leavers_10 16 rfl rfl)
theorem dX3_leavers_251 : decode cX3_leavers 251 = .ok (.invokevirtual 286, 3) := dk_182 1 30 (dk_at dksX3_leavers_10 17 rfl rfl)
theorem dX3_leavers_254 : decode cX3_leavers 254 = .ok (.iload_n 2, 1) := dk_28 (dk_at dksX3_leavers_10 20 rfl rfl)
theorem dX3_leavers_255 : decode cX3_leavers 255 = .ok (.ireturn, 1) := dk_172 (dk_at dksX3_leavers_10 21 rfl rfl)
abbrev cX3_whose : ByteArray := prog_9_method_100_code
def yX3_whose : MethodName := ⟨RX3, "whose", "(IIIII)I"⟩
def dkwX3_whose_5 : List UInt8 := [22, 10, 109, 182, 1, 30, 42, 22, 8, 22, 10, 109, 182, 1, 30, 3, 172]
abbrev dktX3_whose_5 : List UInt8 := dkwX3_whose_5 ++ []
def dkwX3_whose_4 : List UInt8 := [148, 154, 0, 6, 16, 254, 172, 22, 6, 22, 8, 184, 1, 86, 55, 10, 42, 3, 181, 0, 86, 42, 22, 6]
abbrev dktX3_whose_4 : List UInt8 := dkwX3_whose_4 ++ dktX3_whose_5
def dkwX3_whose_3 : List UInt8 := [55, 6, 22, 6, 16, 10, 27, 100, 133, 29, 21, 4, 21, 5, 184, 1, 94, 105, 97, 55, 8, 22, 8, 9]
abbrev dktX3_whose_3 : List UInt8 := dkwX3_whose_3 ++ dktX3_whose_4
def dkwX3_whose_2 : List UInt8 := [21, 5, 3, 21, 4, 184, 0, 92, 154, 0, 5, 2, 172, 27, 133, 28, 21, 4, 21, 5, 184, 1, 94, 105]
abbrev dktX3_whose_2 : List UInt8 := dkwX3_whose_2 ++ dktX3_whose_3
def dkwX3_whose_1 : List UInt8 := [153, 0, 35, 29, 3, 16, 10, 184, 0, 92, 153, 0, 25, 21, 4, 3, 16, 8, 184, 0, 92, 153, 0, 14]
abbrev dktX3_whose_1 : List UInt8 := dkwX3_whose_1 ++ dktX3_whose_2
def dkwX3_whose_0 : List UInt8 := [42, 3, 181, 0, 83, 27, 3, 16, 10, 184, 0, 92, 153, 0, 45, 28, 3, 16, 10, 184, 0, 92]
abbrev dktX3_whose_0 : List UInt8 := dkwX3_whose_0 ++ dktX3_whose_1
theorem dksX3_whose_0 : cX3_whose.data.toList.drop 0 = dktX3_whose_0 := by decide +kernel
theorem dksX3_whose_1 : cX3_whose.data.toList.drop 22 = dktX3_whose_1 := dk_seg dksX3_whose_0 22 rfl rfl
theorem dksX3_whose_2 : cX3_whose.data.toList.drop 46 = dktX3_whose_2 := dk_seg dksX3_whose_1 24 rfl rfl
theorem dksX3_whose_3 : cX3_whose.data.toList.drop 70 = dktX3_whose_3 := dk_seg dksX3_whose_2 24 rfl rfl
theorem dksX3_whose_4 : cX3_whose.data.toList.drop 94 = dktX3_whose_4 := dk_seg dksX3_whose_3 24 rfl rfl
theorem dksX3_whose_5 : cX3_whose.data.toList.drop 118 = dktX3_whose_5 := dk_seg dksX3_whose_4 24 rfl rfl
theorem dX3_whose_0 : decode cX3_whose 0 = .ok (.aload_n 0, 1) := dk_42 (dk_at dksX3_whose_0 0 rfl rfl)
theorem dX3_whose_1 : decode cX3_whose 1 = .ok (.iconst 0, 1) := dk_3 (dk_at dksX3_whose_0 1 rfl rfl)
theorem dX3_whose_2 : decode cX3_whose 2 = .ok (.putfield 83, 3) := dk_181 0 83 (dk_at dksX3_whose_0 2 rfl rfl)
theorem dX3_whose_5 : decode cX3_whose 5 = .ok (.iload_n 1, 1) := dk_27 (dk_at dksX3_whose_0 5 rfl rfl)
theorem dX3_whose_6 : decode cX3_whose 6 = .ok (.iconst 0, 1) := dk_3 (dk_at dksX3_whose_0 6 rfl rfl)
theorem dX3_whose_7 : decode cX3_whose 7 = .ok (.bipush 10, 2) := dk_16 10 (dk_at dksX3_whose_0 7 rfl rfl)
theorem dX3_whose_9 : decode cX3_whose 9 = .ok (.invokestatic 92, 3) := dk_184 0 92 (dk_at dksX3_whose_0 9 rfl rfl)
theorem dX3_whose_12 : decode cX3_whose 12 = .ok (.ifCond .eq 45, 3) := dk_153 0 45 (dk_at dksX3_whose_0 12 rfl rfl)
theorem dX3_whose_15 : decode cX3_whose 15 = .ok (.iload_n 2, 1) := dk_28 (dk_at dksX3_whose_0 15 rfl rfl)
theorem dX3_whose_16 : decode cX3_whose 16 = .ok (.iconst 0, 1) := dk_3 (dk_at dksX3_whose_0 16 rfl rfl)
theorem dX3_whose_17 : decode cX3_whose 17 = .ok (.bipush 10, 2) := dk_16 10 (dk_at dksX3_whose_0 17 rfl rfl)
theorem dX3_whose_19 : decode cX3_whose 19 = .ok (.invokestatic 92, 3) := dk_184 0 92 (dk_at dksX3_whose_0 19 rfl rfl)
theorem dX3_whose_22 : decode cX3_whose 22 = .ok (.ifCond .eq 35, 3) := dk_153 0 35 (dk_at dksX3_whose_1 0 rfl rfl)
theorem dX3_whose_25 : decode cX3_whose 25 = .ok (.iload_n 3, 1) := dk_29 (dk_at dksX3_whose_1 3 rfl rfl)
theorem dX3_whose_26 : decode cX3_whose 26 = .ok (.iconst 0, 1) := dk_3 (dk_at dksX3_whose_1 4 rfl rfl)
theorem dX3_whose_27 : decode cX3_whose 27 = .ok (.bipush 10, 2) := dk_16 10 (dk_at dksX3_whose_1 5 rfl rfl)
theorem dX3_whose_29 : decode cX3_whose 29 = .ok (.invokestatic 92, 3) := dk_184 0 92 (dk_at dksX3_whose_1 7 rfl rfl)
theorem dX3_whose_32 : decode cX3_whose 32 = .ok (.ifCond .eq 25, 3) := dk_153 0 25 (dk_at dksX3_whose_1 10 rfl rfl)
theorem dX3_whose_35 : decode cX3_whose 35 = .ok (.iload 4, 2) := dk_21 4 (dk_at dksX3_whose_1 13 rfl rfl)
theorem dX3_whose_37 : decode cX3_whose 37 = .ok (.iconst 0, 1) := dk_3 (dk_at dksX3_whose_1 15 rfl rfl)
theorem dX3_whose_38 : decode cX3_whose 38 = .ok (.bipush 8, 2) := dk_16 8 (dk_at dksX3_whose_1 16 rfl rfl)
theorem dX3_whose_40 : decode cX3_whose 40 = .ok (.invokestatic 92, 3) := dk_184 0 92 (dk_at dksX3_whose_1 18 rfl rfl)
theorem dX3_whose_43 : decode cX3_whose 43 = .ok (.ifCond .eq 14, 3) := dk_153 0 14 (dk_at dksX3_whose_1 21 rfl rfl)
theorem dX3_whose_46 : decode cX3_whose 46 = .ok (.iload 5, 2) := dk_21 5 (dk_at dksX3_whose_2 0 rfl rfl)
theorem dX3_whose_48 : decode cX3_whose 48 = .ok (.iconst 0, 1) := dk_3 (dk_at dksX3_whose_2 2 rfl rfl)
theorem dX3_whose_49 : decode cX3_whose 49 = .ok (.iload 4, 2) := dk_21 4 (dk_at dksX3_whose_2 3 rfl rfl)
theorem dX3_whose_51 : decode cX3_whose 51 = .ok (.invokestatic 92, 3) := dk_184 0 92 (dk_at dksX3_whose_2 5 rfl rfl)
theorem dX3_whose_54 : decode cX3_whose 54 = .ok (.ifCond .ne 5, 3) := dk_154 0 5 (dk_at dksX3_whose_2 8 rfl rfl)
theorem dX3_whose_57 : decode cX3_whose 57 = .ok (.iconst (-1), 1) := dk_2 (dk_at dksX3_whose_2 11 rfl rfl)
theorem dX3_whose_58 : decode cX3_whose 58 = .ok (.ireturn, 1) := dk_172 (dk_at dksX3_whose_2 12 rfl rfl)
theorem dX3_whose_59 : decode cX3_whose 59 = .ok (.iload_n 1, 1) := dk_27 (dk_at dksX3_whose_2 13 rfl rfl)
theorem dX3_whose_60 : decode cX3_whose 60 = .ok (.i2l, 1) := dk_133 (dk_at dksX3_whose_2 14 rfl rfl)
theorem dX3_whose_61 : decode cX3_whose 61 = .ok (.iload_n 2, 1) := dk_28 (dk_at dksX3_whose_2 15 rfl rfl)
theorem dX3_whose_62 : decode cX3_whose 62 = .ok (.iload 4, 2) := dk_21 4 (dk_at dksX3_whose_2 16 rfl rfl)
theorem dX3_whose_64 : decode cX3_whose 64 = .ok (.iload 5, 2) := dk_21 5 (dk_at dksX3_whose_2 18 rfl rfl)
theorem dX3_whose_66 : decode cX3_whose 66 = .ok (.invokestatic 350, 3) := dk_184 1 94 (dk_at dksX3_whose_2 20 rfl rfl)
theorem dX3_whose_69 : decode cX3_whose 69 = .ok (.lmul, 1) := dk_105 (dk_at dksX3_whose_2 23 rfl rfl)
theorem dX3_whose_70 : decode cX3_whose 70 = .ok (.lstore 6, 2) := dk_55 6 (dk_at dksX3_whose_3 0 rfl rfl)
theorem dX3_whose_72 : decode cX3_whose 72 = .ok (.lload 6, 2) := dk_22 6 (dk_at dksX3_whose_3 2 rfl rfl)
theorem dX3_whose_74 : decode cX3_whose 74 = .ok (.bipush 10, 2) := dk_16 10 (dk_at dksX3_whose_3 4 rfl rfl)
theorem dX3_whose_76 : decode cX3_whose 76 = .ok (.iload_n 1, 1) := dk_27 (dk_at dksX3_whose_3 6 rfl rfl)
theorem dX3_whose_77 : decode cX3_whose 77 = .ok (.isub, 1) := dk_100 (dk_at dksX3_whose_3 7 rfl rfl)
theorem dX3_whose_78 : decode cX3_whose 78 = .ok (.i2l, 1) := dk_133 (dk_at dksX3_whose_3 8 rfl rfl)
theorem dX3_whose_79 : decode cX3_whose 79 = .ok (.iload_n 3, 1) := dk_29 (dk_at dksX3_whose_3 9 rfl rfl)
theorem dX3_whose_80 : decode cX3_whose 80 = .ok (.iload 4, 2) := dk_21 4 (dk_at dksX3_whose_3 10 rfl rfl)
theorem dX3_whose_82 : decode cX3_whose 82 = .ok (.iload 5, 2) := dk_21 5 (dk_at dksX3_whose_3 12 rfl rfl)
theorem dX3_whose_84 : decode cX3_whose 84 = .ok (.invokestatic 350, 3) := dk_184 1 94 (dk_at dksX3_whose_3 14 rfl rfl)
theorem dX3_whose_87 : decode cX3_whose 87 = .ok (.lmul, 1) := dk_105 (dk_at dksX3_whose_3 17 rfl rfl)
theorem dX3_whose_88 : decode cX3_whose 88 = .ok (.ladd, 1) := dk_97 (dk_at dksX3_whose_3 18 rfl rfl)
theorem dX3_whose_89 : decode cX3_whose 89 = .ok (.lstore 8, 2) := dk_55 8 (dk_at dksX3_whose_3 19 rfl rfl)
theorem dX3_whose_91 : decode cX3_whose 91 = .ok (.lload 8, 2) := dk_22 8 (dk_at dksX3_whose_3 21 rfl rfl)
theorem dX3_whose_93 : decode cX3_whose 93 = .ok (.lconst 0, 1) := dk_9 (dk_at dksX3_whose_3 23 rfl rfl)
theorem dX3_whose_94 : decode cX3_whose 94 = .ok (.lcmp, 1) := dk_148 (dk_at dksX3_whose_4 0 rfl rfl)
theorem dX3_whose_95 : decode cX3_whose 95 = .ok (.ifCond .ne 6, 3) := dk_154 0 6 (dk_at dksX3_whose_4 1 rfl rfl)
theorem dX3_whose_98 : decode cX3_whose 98 = .ok (.bipush (-2), 2) := dk_16 254 (dk_at dksX3_whose_4 4 rfl rfl)
theorem dX3_whose_100 : decode cX3_whose 100 = .ok (.ireturn, 1) := dk_172 (dk_at dksX3_whose_4 6 rfl rfl)
theorem dX3_whose_101 : decode cX3_whose 101 = .ok (.lload 6, 2) := dk_22 6 (dk_at dksX3_whose_4 7 rfl rfl)
theorem dX3_whose_103 : decode cX3_whose 103 = .ok (.lload 8, 2) := dk_22 8 (dk_at dksX3_whose_4 9 rfl rfl)
theorem dX3_whose_105 : decode cX3_whose 105 = .ok (.invokestatic 342, 3) := dk_184 1 86 (dk_at dksX3_whose_4 11 rfl rfl)
theorem dX3_whose_108 : decode cX3_whose 108 = .ok (.lstore 10, 2) := dk_55 10 (dk_at dksX3_whose_4 14 rfl rfl)
theorem dX3_whose_110 : decode cX3_whose 110 = .ok (.aload_n 0, 1) := dk_42 (dk_at dksX3_whose_4 16 rfl rfl)
theorem dX3_whose_111 : decode cX3_whose 111 = .ok (.iconst 0, 1) := dk_3 (dk_at dksX3_whose_4 17 rfl rfl)
theorem dX3_whose_112 : decode cX3_whose 112 = .ok (.putfield 86, 3) := dk_181 0 86 (dk_at dksX3_whose_4 18 rfl rfl)
theorem dX3_whose_115 : decode cX3_whose 115 = .ok (.aload_n 0, 1) := dk_42 (dk_at dksX3_whose_4 21 rfl rfl)
theorem dX3_whose_116 : decode cX3_whose 116 = .ok (.lload 6, 2) := dk_22 6 (dk_at dksX3_whose_4 22 rfl rfl)
theorem dX3_whose_118 : decode cX3_whose 118 = .ok (.lload 10, 2) := dk_22 10 (dk_at dksX3_whose_5 0 rfl rfl)
theorem dX3_whose_120 : decode cX3_whose 120 = .ok (.ldiv, 1) := dk_109 (dk_at dksX3_whose_5 2 rfl rfl)
theorem dX3_whose_121 : decode cX3_whose 121 = .ok (.invokevirtual 286, 3) := dk_182 1 30 (dk_at dksX3_whose_5 3 rfl rfl)
theorem dX3_whose_124 : decode cX3_whose 124 = .ok (.aload_n 0, 1) := dk_42 (dk_at dksX3_whose_5 6 rfl rfl)
theorem dX3_whose_125 : decode cX3_whose 125 = .ok (.lload 8, 2) := dk_22 8 (dk_at dksX3_whose_5 7 rfl rfl)
theorem dX3_whose_127 : decode cX3_whose 127 = .ok (.lload 10, 2) := dk_22 10 (dk_at dksX3_whose_5 9 rfl rfl)
theorem dX3_whose_129 : decode cX3_whose 129 = .ok (.ldiv, 1) := dk_109 (dk_at dksX3_whose_5 11 rfl rfl)
theorem dX3_whose_130 : decode cX3_whose 130 = .ok (.invokevirtual 286, 3) := dk_182 1 30 (dk_at dksX3_whose_5 12 rfl rfl)
theorem dX3_whose_133 : decode cX3_whose 133 = .ok (.iconst 0, 1) := dk_3 (dk_at dksX3_whose_5 15 rfl rfl)
theorem dX3_whose_134 : decode cX3_whose 134 = .ok (.ireturn, 1) := dk_172 (dk_at dksX3_whose_5 16 rfl rfl)
abbrev cX3_looks : ByteArray := prog_9_method_99_code
def yX3_looks : MethodName := ⟨RX3, "looks", "(III)J"⟩
def dkwX3_looks_0 : List UInt8 := [26, 133, 28, 184, 1, 90, 16, 10, 26, 100, 133, 27, 28, 100, 184, 1, 90, 105, 173]
abbrev dktX3_looks_0 : List UInt8 := dkwX3_looks_0 ++ []
theorem dksX3_looks_0 : cX3_looks.data.toList.drop 0 = dktX3_looks_0 := by decide +kernel
theorem dX3_looks_0 : decode cX3_looks 0 = .ok (.iload_n 0, 1) := dk_26 (dk_at dksX3_looks_0 0 rfl rfl)
theorem dX3_looks_1 : decode cX3_looks 1 = .ok (.i2l, 1) := dk_133 (dk_at dksX3_looks_0 1 rfl rfl)
theorem dX3_looks_2 : decode cX3_looks 2 = .ok (.iload_n 2, 1) := dk_28 (dk_at dksX3_looks_0 2 rfl rfl)
theorem dX3_looks_3 : decode cX3_looks 3 = .ok (.invokestatic 346, 3) := dk_184 1 90 (dk_at dksX3_looks_0 3 rfl rfl)
theorem dX3_looks_6 : decode cX3_looks 6 = .ok (.bipush 10, 2) := dk_16 10 (dk_at dksX3_looks_0 6 rfl rfl)
theorem dX3_looks_8 : decode cX3_looks 8 = .ok (.iload_n 0, 1) := dk_26 (dk_at dksX3_looks_0 8 rfl rfl)
theorem dX3_looks_9 : decode cX3_looks 9 = .ok (.isub, 1) := dk_100 (dk_at dksX3_looks_0 9 rfl rfl)
theorem dX3_looks_10 : decode cX3_looks 10 = .ok (.i2l, 1) := dk_133 (dk_at dksX3_looks_0 10 rfl rfl)
theorem dX3_looks_11 : decode cX3_looks 11 = .ok (.iload_n 1, 1) := dk_27 (dk_at dksX3_looks_0 11 rfl rfl)
theorem dX3_looks_12 : decode cX3_looks 12 = .ok (.iload_n 2, 1) := dk_28 (dk_at dksX3_looks_0 12 rfl rfl)
theorem dX3_looks_13 : decode cX3_looks 13 = .ok (.isub, 1) := dk_100 (dk_at dksX3_looks_0 13 rfl rfl)
theorem dX3_looks_14 : decode cX3_looks 14 = .ok (.invokestatic 346, 3) := dk_184 1 90 (dk_at dksX3_looks_0 14 rfl rfl)
theorem dX3_looks_17 : decode cX3_looks 17 = .ok (.lmul, 1) := dk_105 (dk_at dksX3_looks_0 17 rfl rfl)
theorem dX3_looks_18 : decode cX3_looks 18 = .ok (.lreturn, 1) := dk_173 (dk_at dksX3_looks_0 18 rfl rfl)
abbrev cX3_power : ByteArray := prog_9_method_98_code
def yX3_power : MethodName := ⟨RX3, "power", "(JI)J"⟩
def dkwX3_power_0 : List UInt8 := [10, 66, 3, 54, 5, 21, 5, 28, 162, 0, 13, 33, 30, 105, 66, 132, 5, 1, 167, 255, 243, 33, 173]
abbrev dktX3_power_0 : List UInt8 := dkwX3_power_0 ++ []
theorem dksX3_power_0 : cX3_power.data.toList.drop 0 = dktX3_power_0 := by decide +kernel
theorem dX3_power_0 : decode cX3_power 0 = .ok (.lconst 1, 1) := dk_10 (dk_at dksX3_power_0 0 rfl rfl)
theorem dX3_power_1 : decode cX3_power 1 = .ok (.lstore_n 3, 1) := dk_66 (dk_at dksX3_power_0 1 rfl rfl)
theorem dX3_power_2 : decode cX3_power 2 = .ok (.iconst 0, 1) := dk_3 (dk_at dksX3_power_0 2 rfl rfl)
theorem dX3_power_3 : decode cX3_power 3 = .ok (.istore 5, 2) := dk_54 5 (dk_at dksX3_power_0 3 rfl rfl)
theorem dX3_power_5 : decode cX3_power 5 = .ok (.iload 5, 2) := dk_21 5 (dk_at dksX3_power_0 5 rfl rfl)
theorem dX3_power_7 : decode cX3_power 7 = .ok (.iload_n 2, 1) := dk_28 (dk_at dksX3_power_0 7 rfl rfl)
theorem dX3_power_8 : decode cX3_power 8 = .ok (.if_icmp .ge 13, 3) := dk_162 0 13 (dk_at dksX3_power_0 8 rfl rfl)
theorem dX3_power_11 : decode cX3_power 11 = .ok (.lload_n 3, 1) := dk_33 (dk_at dksX3_power_0 11 rfl rfl)
theorem dX3_power_12 : decode cX3_power 12 = .ok (.lload_n 0, 1) := dk_30 (dk_at dksX3_power_0 12 rfl rfl)
theorem dX3_power_13 : decode cX3_power 13 = .ok (.lmul, 1) := dk_105 (dk_at dksX3_power_0 13 rfl rfl)
theorem dX3_power_14 : decode cX3_power 14 = .ok (.lstore_n 3, 1) := dk_66 (dk_at dksX3_power_0 14 rfl rfl)
theorem dX3_power_15 : decode cX3_power 15 = .ok (.iinc 5 1, 3) := dk_132 5 1 (dk_at dksX3_power_0 15 rfl rfl)
theorem dX3_power_18 : decode cX3_power 18 = .ok (.goto (-13), 3) := dk_167 255 243 (dk_at dksX3_power_0 18 rfl rfl)
theorem dX3_power_21 : decode cX3_power 21 = .ok (.lload_n 3, 1) := dk_33 (dk_at dksX3_power_0 21 rfl rfl)
theorem dX3_power_22 : decode cX3_power 22 = .ok (.lreturn, 1) := dk_173 (dk_at dksX3_power_0 22 rfl rfl)
abbrev cX3_common : ByteArray := prog_9_method_97_code
def yX3_common : MethodName := ⟨RX3, "common", "(JJ)J"⟩
def dkwX3_common_0 : List UInt8 := [32, 9, 148, 154, 0, 7, 30, 167, 0, 10, 32, 30, 32, 113, 184, 1, 86, 173]
abbrev dktX3_common_0 : List UInt8 := dkwX3_common_0 ++ []
theorem dksX3_common_0 : cX3_common.data.toList.drop 0 = dktX3_common_0 := by decide +kernel
theorem dX3_common_0 : decode cX3_common 0 = .ok (.lload_n 2, 1) := dk_32 (dk_at dksX3_common_0 0 rfl rfl)
theorem dX3_common_1 : decode cX3_common 1 = .ok (.lconst 0, 1) := dk_9 (dk_at dksX3_common_0 1 rfl rfl)
theorem dX3_common_2 : decode cX3_common 2 = .ok (.lcmp, 1) := dk_148 (dk_at dksX3_common_0 2 rfl rfl)
theorem dX3_common_3 : decode cX3_common 3 = .ok (.ifCond .ne 7, 3) := dk_154 0 7 (dk_at dksX3_common_0 3 rfl rfl)
theorem dX3_common_6 : decode cX3_common 6 = .ok (.lload_n 0, 1) := dk_30 (dk_at dksX3_common_0 6 rfl rfl)
theorem dX3_common_7 : decode cX3_common 7 = .ok (.goto 10, 3) := dk_167 0 10 (dk_at dksX3_common_0 7 rfl rfl)
theorem dX3_common_10 : decode cX3_common 10 = .ok (.lload_n 2, 1) := dk_32 (dk_at dksX3_common_0 10 rfl rfl)
theorem dX3_common_11 : decode cX3_common 11 = .ok (.lload_n 0, 1) := dk_30 (dk_at dksX3_common_0 11 rfl rfl)
theorem dX3_common_12 : decode cX3_common 12 = .ok (.lload_n 2, 1) := dk_32 (dk_at dksX3_common_0 12 rfl rfl)
theorem dX3_common_13 : decode cX3_common 13 = .ok (.lrem, 1) := dk_113 (dk_at dksX3_common_0 13 rfl rfl)
theorem dX3_common_14 : decode cX3_common 14 = .ok (.invokestatic 342, 3) := dk_184 1 86 (dk_at dksX3_common_0 14 rfl rfl)
theorem dX3_common_17 : decode cX3_common 17 = .ok (.lreturn, 1) := dk_173 (dk_at dksX3_common_0 17 rfl rfl)
abbrev cX3_wrote : ByteArray := prog_9_method_101_code
def yX3_wrote : MethodName := ⟨RX3, "wrote", "(II)I"⟩
def dkwX3_wrote_4 : List UInt8 := [181, 1, 98, 42, 180, 1, 98, 172]
abbrev dktX3_wrote_4 : List UInt8 := dkwX3_wrote_4 ++ []
def dkwX3_wrote_3 : List UInt8 := [180, 1, 98, 27, 79, 42, 180, 0, 70, 42, 180, 1, 98, 28, 79, 42, 89, 180, 1, 98, 4, 96]
abbrev dktX3_wrote_3 : List UInt8 := dkwX3_wrote_3 ++ dktX3_wrote_4
def dkwX3_wrote_2 : List UInt8 := [184, 0, 92, 153, 0, 12, 42, 180, 1, 98, 16, 12, 160, 0, 5, 2, 172, 42, 180, 0, 67, 42]
abbrev dktX3_wrote_2 : List UInt8 := dkwX3_wrote_2 ++ dktX3_wrote_3
def dkwX3_wrote_1 : List UInt8 := [62, 27, 3, 7, 184, 0, 92, 153, 0, 30, 28, 27, 4, 160, 0, 7, 4, 167, 0, 4, 3, 29]
abbrev dktX3_wrote_1 : List UInt8 := dkwX3_wrote_1 ++ dktX3_wrote_2
def dkwX3_wrote_0 : List UInt8 := [42, 3, 181, 0, 83, 27, 154, 0, 7, 6, 167, 0, 14, 27, 6, 162, 0, 8, 16, 9, 167, 0, 4, 4]
abbrev dktX3_wrote_0 : List UInt8 := dkwX3_wrote_0 ++ dktX3_wrote_1
theorem dksX3_wrote_0 : cX3_wrote.data.toList.drop 0 = dktX3_wrote_0 := by decide +kernel
theorem dksX3_wrote_1 : cX3_wrote.data.toList.drop 24 = dktX3_wrote_1 := dk_seg dksX3_wrote_0 24 rfl rfl
theorem dksX3_wrote_2 : cX3_wrote.data.toList.drop 46 = dktX3_wrote_2 := dk_seg dksX3_wrote_1 22 rfl rfl
theorem dksX3_wrote_3 : cX3_wrote.data.toList.drop 68 = dktX3_wrote_3 := dk_seg dksX3_wrote_2 22 rfl rfl
theorem dksX3_wrote_4 : cX3_wrote.data.toList.drop 90 = dktX3_wrote_4 := dk_seg dksX3_wrote_3 22 rfl rfl
theorem dX3_wrote_0 : decode cX3_wrote 0 = .ok (.aload_n 0, 1) := dk_42 (dk_at dksX3_wrote_0 0 rfl rfl)
theorem dX3_wrote_1 : decode cX3_wrote 1 = .ok (.iconst 0, 1) := dk_3 (dk_at dksX3_wrote_0 1 rfl rfl)
theorem dX3_wrote_2 : decode cX3_wrote 2 = .ok (.putfield 83, 3) := dk_181 0 83 (dk_at dksX3_wrote_0 2 rfl rfl)
theorem dX3_wrote_5 : decode cX3_wrote 5 = .ok (.iload_n 1, 1) := dk_27 (dk_at dksX3_wrote_0 5 rfl rfl)
theorem dX3_wrote_6 : decode cX3_wrote 6 = .ok (.ifCond .ne 7, 3) := dk_154 0 7 (dk_at dksX3_wrote_0 6 rfl rfl)
theorem dX3_wrote_9 : decode cX3_wrote 9 = .ok (.iconst 3, 1) := dk_6 (dk_at dksX3_wrote_0 9 rfl rfl)
theorem dX3_wrote_10 : decode cX3_wrote 10 = .ok (.goto 14, 3) := dk_167 0 14 (dk_at dksX3_wrote_0 10 rfl rfl)
theorem dX3_wrote_13 : decode cX3_wrote 13 = .ok (.iload_n 1, 1) := dk_27 (dk_at dksX3_wrote_0 13 rfl rfl)
theorem dX3_wrote_14 : decode cX3_wrote 14 = .ok (.iconst 3, 1) := dk_6 (dk_at dksX3_wrote_0 14 rfl rfl)
theorem dX3_wrote_15 : decode cX3_wrote 15 = .ok (.if_icmp .ge 8, 3) := dk_162 0 8 (dk_at dksX3_wrote_0 15 rfl rfl)
theorem dX3_wrote_18 : decode cX3_wrote 18 = .ok (.bipush 9, 2) := dk_16 9 (dk_at dksX3_wrote_0 18 rfl rfl)
theorem dX3_wrote_20 : decode cX3_wrote 20 = .ok (.goto 4, 3) := dk_167 0 4 (dk_at dksX3_wrote_0 20 rfl rfl)
theorem dX3_wrote_23 : decode cX3_wrote 23 = .ok (.iconst 1, 1) := dk_4 (dk_at dksX3_wrote_0 23 rfl rfl)
theorem dX3_wrote_24 : decode cX3_wrote 24 = .ok (.istore_n 3, 1) := dk_62 (dk_at dksX3_wrote_1 0 rfl rfl)
theorem dX3_wrote_25 : decode cX3_wrote 25 = .ok (.iload_n 1, 1) := dk_27 (dk_at dksX3_wrote_1 1 rfl rfl)
theorem dX3_wrote_26 : decode cX3_wrote 26 = .ok (.iconst 0, 1) := dk_3 (dk_at dksX3_wrote_1 2 rfl rfl)
theorem dX3_wrote_27 : decode cX3_wrote 27 = .ok (.iconst 4, 1) := dk_7 (dk_at dksX3_wrote_1 3 rfl rfl)
theorem dX3_wrote_28 : decode cX3_wrote 28 = .ok (.invokestatic 92, 3) := dk_184 0 92 (dk_at dksX3_wrote_1 4 rfl rfl)
theorem dX3_wrote_31 : decode cX3_wrote 31 = .ok (.ifCond .eq 30, 3) := dk_153 0 30 (dk_at dksX3_wrote_1 7 rfl rfl)
theorem dX3_wrote_34 : decode cX3_wrote 34 = .ok (.iload_n 2, 1) := dk_28 (dk_at dksX3_wrote_1 10 rfl rfl)
theorem dX3_wrote_35 : decode cX3_wrote 35 = .ok (.iload_n 1, 1) := dk_27 (dk_at dksX3_wrote_1 11 rfl rfl)
theorem dX3_wrote_36 : decode cX3_wrote 36 = .ok (.iconst 1, 1) := dk_4 (dk_at dksX3_wrote_1 12 rfl rfl)
theorem dX3_wrote_37 : decode cX3_wrote 37 = .ok (.if_icmp .ne 7, 3) := dk_160 0 7 (dk_at dksX3_wrote_1 13 rfl rfl)
theorem dX3_wrote_40 : decode cX3_wrote 40 = .ok (.iconst 1, 1) := dk_4 (dk_at dksX3_wrote_1 16 rfl rfl)
theorem dX3_wrote_41 : decode cX3_wrote 41 = .ok (.goto 4, 3) := dk_167 0 4 (dk_at dksX3_wrote_1 17 rfl rfl)
theorem dX3_wrote_44 : decode cX3_wrote 44 = .ok (.iconst 0, 1) := dk_3 (dk_at dksX3_wrote_1 20 rfl rfl)
theorem dX3_wrote_45 : decode cX3_wrote 45 = .ok (.iload_n 3, 1) := dk_29 (dk_at dksX3_wrote_1 21 rfl rfl)
theorem dX3_wrote_46 : decode cX3_wrote 46 = .ok (.invokestatic 92, 3) := dk_184 0 92 (dk_at dksX3_wrote_2 0 rfl rfl)
theorem dX3_wrote_49 : decode cX3_wrote 49 = .ok (.ifCond .eq 12, 3) := dk_153 0 12 (dk_at dksX3_wrote_2 3 rfl rfl)
theorem dX3_wrote_52 : decode cX3_wrote 52 = .ok (.aload_n 0, 1) := dk_42 (dk_at dksX3_wrote_2 6 rfl rfl)
theorem dX3_wrote_53 : decode cX3_wrote 53 = .ok (.getfield 354, 3) := dk_180 1 98 (dk_at dksX3_wrote_2 7 rfl rfl)
theorem dX3_wrote_56 : decode cX3_wrote 56 = .ok (.bipush 12, 2) := dk_16 12 (dk_at dksX3_wrote_2 10 rfl rfl)
theorem dX3_wrote_58 : decode cX3_wrote 58 = .ok (.if_icmp .ne 5, 3) := dk_160 0 5 (dk_at dksX3_wrote_2 12 rfl rfl)
theorem dX3_wrote_61 : decode cX3_wrote 61 = .ok (.iconst (-1), 1) := dk_2 (dk_at dksX3_wrote_2 15 rfl rfl)
theorem dX3_wrote_62 : decode cX3_wrote 62 = .ok (.ireturn, 1) := dk_172 (dk_at dksX3_wrote_2 16 rfl rfl)
theorem dX3_wrote_63 : decode cX3_wrote 63 = .ok (.aload_n 0, 1) := dk_42 (dk_at dksX3_wrote_2 17 rfl rfl)
theorem dX3_wrote_64 : decode cX3_wrote 64 = .ok (.getfield 67, 3) := dk_180 0 67 (dk_at dksX3_wrote_2 18 rfl rfl)
theorem dX3_wrote_67 : decode cX3_wrote 67 = .ok (.aload_n 0, 1) := dk_42 (dk_at dksX3_wrote_2 21 rfl rfl)
theorem dX3_wrote_68 : decode cX3_wrote 68 = .ok (.getfield 354, 3) := dk_180 1 98 (dk_at dksX3_wrote_3 0 rfl rfl)
theorem dX3_wrote_71 : decode cX3_wrote 71 = .ok (.iload_n 1, 1) := dk_27 (dk_at dksX3_wrote_3 3 rfl rfl)
theorem dX3_wrote_72 : decode cX3_wrote 72 = .ok (.iastore, 1) := dk_79 (dk_at dksX3_wrote_3 4 rfl rfl)
theorem dX3_wrote_73 : decode cX3_wrote 73 = .ok (.aload_n 0, 1) := dk_42 (dk_at dksX3_wrote_3 5 rfl rfl)
theorem dX3_wrote_74 : decode cX3_wrote 74 = .ok (.getfield 70, 3) := dk_180 0 70 (dk_at dksX3_wrote_3 6 rfl rfl)
theorem dX3_wrote_77 : decode cX3_wrote 77 = .ok (.aload_n 0, 1) := dk_42 (dk_at dksX3_wrote_3 9 rfl rfl)
theorem dX3_wrote_78 : decode cX3_wrote 78 = .ok (.getfield 354, 3) := dk_180 1 98 (dk_at dksX3_wrote_3 10 rfl rfl)
theorem dX3_wrote_81 : decode cX3_wrote 81 = .ok (.iload_n 2, 1) := dk_28 (dk_at dksX3_wrote_3 13 rfl rfl)
theorem dX3_wrote_82 : decode cX3_wrote 82 = .ok (.iastore, 1) := dk_79 (dk_at dksX3_wrote_3 14 rfl rfl)
theorem dX3_wrote_83 : decode cX3_wrote 83 = .ok (.aload_n 0, 1) := dk_42 (dk_at dksX3_wrote_3 15 rfl rfl)
theorem dX3_wrote_84 : decode cX3_wrote 84 = .ok (.dup, 1) := dk_89 (dk_at dksX3_wrote_3 16 rfl rfl)
theorem dX3_wrote_85 : decode cX3_wrote 85 = .ok (.getfield 354, 3) := dk_180 1 98 (dk_at dksX3_wrote_3 17 rfl rfl)
theorem dX3_wrote_88 : decode cX3_wrote 88 = .ok (.iconst 1, 1) := dk_4 (dk_at dksX3_wrote_3 20 rfl rfl)
theorem dX3_wrote_89 : decode cX3_wrote 89 = .ok (.iadd, 1) := dk_96 (dk_at dksX3_wrote_3 21 rfl rfl)
theorem dX3_wrote_90 : decode cX3_wrote 90 = .ok (.putfield 354, 3) := dk_181 1 98 (dk_at dksX3_wrote_4 0 rfl rfl)
theorem dX3_wrote_93 : decode cX3_wrote 93 = .ok (.aload_n 0, 1) := dk_42 (dk_at dksX3_wrote_4 3 rfl rfl)
theorem dX3_wrote_94 : decode cX3_wrote 94 = .ok (.getfield 354, 3) := dk_180 1 98 (dk_at dksX3_wrote_4 4 rfl rfl)
theorem dX3_wrote_97 : decode cX3_wrote 97 = .ok (.ireturn, 1) := dk_172 (dk_at dksX3_wrote_4 7 rfl rfl)
abbrev cX3_burn : ByteArray := prog_9_method_102_code
def yX3_burn : MethodName := ⟨RX3, "burn", "()I"⟩
def dkwX3_burn_0 : List UInt8 := [42, 3, 181, 0, 83, 42, 180, 1, 98, 60, 42, 3, 181, 1, 98, 27, 172]
abbrev dktX3_burn_0 : List UInt8 := dkwX3_burn_0 ++ []
theorem dksX3_burn_0 : cX3_burn.data.toList.drop 0 = dktX3_burn_0 := by decide +kernel
theorem dX3_burn_0 : decode cX3_burn 0 = .ok (.aload_n 0, 1) := dk_42 (dk_at dksX3_burn_0 0 rfl rfl)
theorem dX3_burn_1 : decode cX3_burn 1 = .ok (.iconst 0, 1) := dk_3 (dk_at dksX3_burn_0 1 rfl rfl)
theorem dX3_burn_2 : decode cX3_burn 2 = .ok (.putfield 83, 3) := dk_181 0 83 (dk_at dksX3_burn_0 2 rfl rfl)
theorem dX3_burn_5 : decode cX3_burn 5 = .ok (.aload_n 0, 1) := dk_42 (dk_at dksX3_burn_0 5 rfl rfl)
theorem dX3_burn_6 : decode cX3_burn 6 = .ok (.getfield 354, 3) := dk_180 1 98 (dk_at dksX3_burn_0 6 rfl rfl)
theorem dX3_burn_9 : decode cX3_burn 9 = .ok (.istore_n 1, 1) := dk_60 (dk_at dksX3_burn_0 9 rfl rfl)
theorem dX3_burn_10 : decode cX3_burn 10 = .ok (.aload_n 0, 1) := dk_42 (dk_at dksX3_burn_0 10 rfl rfl)
theorem dX3_burn_11 : decode cX3_burn 11 = .ok (.iconst 0, 1) := dk_3 (dk_at dksX3_burn_0 11 rfl rfl)
theorem dX3_burn_12 : decode cX3_burn 12 = .ok (.putfield 354, 3) := dk_181 1 98 (dk_at dksX3_burn_0 12 rfl rfl)
theorem dX3_burn_15 : decode cX3_burn 15 = .ok (.iload_n 1, 1) := dk_27 (dk_at dksX3_burn_0 15 rfl rfl)
theorem dX3_burn_16 : decode cX3_burn 16 = .ok (.ireturn, 1) := dk_172 (dk_at dksX3_burn_0 16 rfl rfl)
abbrev cX3_fits : ByteArray := prog_9_method_105_code
def yX3_fits : MethodName := ⟨RX3, "fits", "()I"⟩
def dkwX3_fits_1 : List UInt8 := [182, 1, 104, 172]
abbrev dktX3_fits_1 : List UInt8 := dkwX3_fits_1 ++ []
def dkwX3_fits_0 : List UInt8 := [42, 3, 181, 0, 83, 42, 3, 181, 0, 86, 42, 42, 182, 1, 104, 184, 0, 206, 133, 182, 1, 30, 42]
abbrev dktX3_fits_0 : List UInt8 := dkwX3_fits_0 ++ dktX3_fits_1
theorem dksX3_fits_0 : cX3_fits.data.toList.drop 0 = dktX3_fits_0 := by decide +kernel
theorem dksX3_fits_1 : cX3_fits.data.toList.drop 23 = dktX3_fits_1 := dk_seg dksX3_fits_0 23 rfl rfl
theorem dX3_fits_0 : decode cX3_fits 0 = .ok (.aload_n 0, 1) := dk_42 (dk_at dksX3_fits_0 0 rfl rfl)
theorem dX3_fits_1 : decode cX3_fits 1 = .ok (.iconst 0, 1) := dk_3 (dk_at dksX3_fits_0 1 rfl rfl)
theorem dX3_fits_2 : decode cX3_fits 2 = .ok (.putfield 83, 3) := dk_181 0 83 (dk_at dksX3_fits_0 2 rfl rfl)
theorem dX3_fits_5 : decode cX3_fits 5 = .ok (.aload_n 0, 1) := dk_42 (dk_at dksX3_fits_0 5 rfl rfl)
theorem dX3_fits_6 : decode cX3_fits 6 = .ok (.iconst 0, 1) := dk_3 (dk_at dksX3_fits_0 6 rfl rfl)
theorem dX3_fits_7 : decode cX3_fits 7 = .ok (.putfield 86, 3) := dk_181 0 86 (dk_at dksX3_fits_0 7 rfl rfl)
theorem dX3_fits_10 : decode cX3_fits 10 = .ok (.aload_n 0, 1) := dk_42 (dk_at dksX3_fits_0 10 rfl rfl)
theorem dX3_fits_11 : decode cX3_fits 11 = .ok (.aload_n 0, 1) := dk_42 (dk_at dksX3_fits_0 11 rfl rfl)
theorem dX3_fits_12 : decode cX3_fits 12 = .ok (.invokevirtual 360, 3) := dk_182 1 104 (dk_at dksX3_fits_0 12 rfl rfl)
theorem dX3_fits_15 : decode cX3_fits 15 = .ok (.invokestatic 206, 3) := dk_184 0 206 (dk_at dksX3_fits_0 15 rfl rfl)
theorem dX3_fits_18 : decode cX3_fits 18 = .ok (.i2l, 1) := dk_133 (dk_at dksX3_fits_0 18 rfl rfl)
theorem dX3_fits_19 : decode cX3_fits 19 = .ok (.invokevirtual 286, 3) := dk_182 1 30 (dk_at dksX3_fits_0 19 rfl rfl)
theorem dX3_fits_22 : decode cX3_fits 22 = .ok (.aload_n 0, 1) := dk_42 (dk_at dksX3_fits_0 22 rfl rfl)
theorem dX3_fits_23 : decode cX3_fits 23 = .ok (.invokevirtual 360, 3) := dk_182 1 104 (dk_at dksX3_fits_1 0 rfl rfl)
theorem dX3_fits_26 : decode cX3_fits 26 = .ok (.ireturn, 1) := dk_172 (dk_at dksX3_fits_1 3 rfl rfl)
abbrev cX3_fitting : ByteArray := prog_9_method_104_code
def yX3_fitting : MethodName := ⟨RX3, "fitting", "()I"⟩
def dkwX3_fitting_3 : List UInt8 := [28, 120, 167, 0, 4, 3, 128, 60, 132, 2, 1, 167, 255, 179, 27, 172]
abbrev dktX3_fitting_3 : List UInt8 := dkwX3_fitting_3 ++ []
def dkwX3_fitting_2 : List UInt8 := [182, 1, 101, 153, 0, 7, 4, 167, 0, 4, 3, 62, 132, 4, 1, 167, 255, 212, 27, 29, 153, 0, 9, 4]
abbrev dktX3_fitting_2 : List UInt8 := dkwX3_fitting_2 ++ dktX3_fitting_3
def dkwX3_fitting_1 : List UInt8 := [162, 0, 41, 29, 153, 0, 29, 42, 28, 42, 180, 0, 67, 21, 4, 46, 42, 180, 0, 70, 21, 4, 46]
abbrev dktX3_fitting_1 : List UInt8 := dkwX3_fitting_1 ++ dktX3_fitting_2
def dkwX3_fitting_0 : List UInt8 := [3, 60, 3, 61, 28, 42, 180, 0, 89, 162, 0, 75, 4, 62, 3, 54, 4, 21, 4, 42, 180, 1, 98]
abbrev dktX3_fitting_0 : List UInt8 := dkwX3_fitting_0 ++ dktX3_fitting_1
theorem dksX3_fitting_0 : cX3_fitting.data.toList.drop 0 = dktX3_fitting_0 := by decide +kernel
theorem dksX3_fitting_1 : cX3_fitting.data.toList.drop 23 = dktX3_fitting_1 := dk_seg dksX3_fitting_0 23 rfl rfl
theorem dksX3_fitting_2 : cX3_fitting.data.toList.drop 46 = dktX3_fitting_2 := dk_seg dksX3_fitting_1 23 rfl rfl
theorem dksX3_fitting_3 : cX3_fitting.data.toList.drop 70 = dktX3_fitting_3 := dk_seg dksX3_fitting_2 24 rfl rfl
theorem dX3_fitting_0 : decode cX3_fitting 0 = .ok (.iconst 0, 1) := dk_3 (dk_at dksX3_fitting_0 0 rfl rfl)
theorem dX3_fitting_1 : decode cX3_fitting 1 = .ok (.istore_n 1, 1) := dk_60 (dk_at dksX3_fitting_0 1 rfl rfl)
theorem dX3_fitting_2 : decode cX3_fitting 2 = .ok (.iconst 0, 1) := dk_3 (dk_at dksX3_fitting_0 2 rfl rfl)
theorem dX3_fitting_3 : decode cX3_fitting 3 = .ok (.istore_n 2, 1) := dk_61 (dk_at dksX3_fitting_0 3 rfl rfl)
theorem dX3_fitting_4 : decode cX3_fitting 4 = .ok (.iload_n 2, 1) := dk_28 (dk_at dksX3_fitting_0 4 rfl rfl)
theorem dX3_fitting_5 : decode cX3_fitting 5 = .ok (.aload_n 0, 1) := dk_42 (dk_at dksX3_fitting_0 5 rfl rfl)
theorem dX3_fitting_6 : decode cX3_fitting 6 = .ok (.getfield 89, 3) := dk_180 0 89 (dk_at dksX3_fitting_0 6 rfl rfl)
theorem dX3_fitting_9 : decode cX3_fitting 9 = .ok (.if_icmp .ge 75, 3) := dk_162 0 75 (dk_at dksX3_fitting_0 9 rfl rfl)
theorem dX3_fitting_12 : decode cX3_fitting 12 = .ok (.iconst 1, 1) := dk_4 (dk_at dksX3_fitting_0 12 rfl rfl)
theorem dX3_fitting_13 : decode cX3_fitting 13 = .ok (.istore_n 3, 1) := dk_62 (dk_at dksX3_fitting_0 13 rfl rfl)
theorem dX3_fitting_14 : decode cX3_fitting 14 = .ok (.iconst 0, 1) := dk_3 (dk_at dksX3_fitting_0 14 rfl rfl)
theorem dX3_fitting_15 : decode cX3_fitting 15 = .ok (.istore 4, 2) := dk_54 4 (dk_at dksX3_fitting_0 15 rfl rfl)
theorem dX3_fitting_17 : decode cX3_fitting 17 = .ok (.iload 4, 2) := dk_21 4 (dk_at dksX3_fitting_0 17 rfl rfl)
theorem dX3_fitting_19 : decode cX3_fitting 19 = .ok (.aload_n 0, 1) := dk_42 (dk_at dksX3_fitting_0 19 rfl rfl)
theorem dX3_fitting_20 : decode cX3_fitting 20 = .ok (.getfield 354, 3) := dk_180 1 98 (dk_at dksX3_fitting_0 20 rfl rfl)
theorem dX3_fitting_23 : decode cX3_fitting 23 = .ok (.if_icmp .ge 41, 3) := dk_162 0 41 (dk_at dksX3_fitting_1 0 rfl rfl)
theorem dX3_fitting_26 : decode cX3_fitting 26 = .ok (.iload_n 3, 1) := dk_29 (dk_at dksX3_fitting_1 3 rfl rfl)
theorem dX3_fitting_27 : decode cX3_fitting 27 = .ok (.ifCond .eq 29, 3) := dk_153 0 29 (dk_at dksX3_fitting_1 4 rfl rfl)
theorem dX3_fitting_30 : decode cX3_fitting 30 = .ok (.aload_n 0, 1) := dk_42 (dk_at dksX3_fitting_1 7 rfl rfl)
theorem dX3_fitting_31 : decode cX3_fitting 31 = .ok (.iload_n 2, 1) := dk_28 (dk_at dksX3_fitting_1 8 rfl rfl)
theorem dX3_fitting_32 : decode cX3_fitting 32 = .ok (.aload_n 0, 1) := dk_42 (dk_at dksX3_fitting_1 9 rfl rfl)
theorem dX3_fitting_33 : decode cX3_fitting 33 = .ok (.getfield 67, 3) := dk_180 0 67 (dk_at dksX3_fitting_1 10 rfl rfl)
theorem dX3_fitting_36 : decode cX3_fitting 36 = .ok (.iload 4, 2) := dk_21 4 (dk_at dksX3_fitting_1 13 rfl rfl)
theorem dX3_fitting_38 : decode cX3_fitting 38 = .ok (.iaload, 1) := dk_46 (dk_at dksX3_fitting_1 15 rfl rfl)
theorem dX3_fitting_39 : decode cX3_fitting 39 = .ok (.aload_n 0, 1) := dk_42 (dk_at dksX3_fitting_1 16 rfl rfl)
theorem dX3_fitting_40 : decode cX3_fitting 40 = .ok (.getfield 70, 3) := dk_180 0 70 (dk_at dksX3_fitting_1 17 rfl rfl)
theorem dX3_fitting_43 : decode cX3_fitting 43 = .ok (.iload 4, 2) := dk_21 4 (dk_at dksX3_fitting_1 20 rfl rfl)
theorem dX3_fitting_45 : decode cX3_fitting 45 = .ok (.iaload, 1) := dk_46 (dk_at dksX3_fitting_1 22 rfl rfl)
theorem dX3_fitting_46 : decode cX3_fitting 46 = .ok (.invokevirtual 357, 3) := dk_182 1 101 (dk_at dksX3_fitting_2 0 rfl rfl)
theorem dX3_fitting_49 : decode cX3_fitting 49 = .ok (.ifCond .eq 7, 3) := dk_153 0 7 (dk_at dksX3_fitting_2 3 rfl rfl)
theorem dX3_fitting_52 : decode cX3_fitting 52 = .ok (.iconst 1, 1) := dk_4 (dk_at dksX3_fitting_2 6 rfl rfl)
theorem dX3_fitting_53 : decode cX3_fitting 53 = .ok (.goto 4, 3) := dk_167 0 4 (dk_at dksX3_fitting_2 7 rfl rfl)
theorem dX3_fitting_56 : decode cX3_fitting 56 = .ok (.iconst 0, 1) := dk_3 (dk_at dksX3_fitting_2 10 rfl rfl)
theorem dX3_fitting_57 : decode cX3_fitting 57 = .ok (.istore_n 3, 1) := dk_62 (dk_at dksX3_fitting_2 11 rfl rfl)
theorem dX3_fitting_58 : decode cX3_fitting 58 = .ok (.iinc 4 1, 3) := dk_132 4 1 (dk_at dksX3_fitting_2 12 rfl rfl)
theorem dX3_fitting_61 : decode cX3_fitting 61 = .ok (.goto (-44), 3) := dk_167 255 212 (dk_at dksX3_fitting_2 15 rfl rfl)
theorem dX3_fitting_64 : decode cX3_fitting 64 = .ok (.iload_n 1, 1) := dk_27 (dk_at dksX3_fitting_2 18 rfl rfl)
theorem dX3_fitting_65 : decode cX3_fitting 65 = .ok (.iload_n 3, 1) := dk_29 (dk_at dksX3_fitting_2 19 rfl rfl)
theorem dX3_fitting_66 : decode cX3_fitting 66 = .ok (.ifCond .eq 9, 3) := dk_153 0 9 (dk_at dksX3_fitting_2 20 rfl rfl)
theorem dX3_fitting_69 : decode cX3_fitting 69 = .ok (.iconst 1, 1) := dk_4 (dk_at dksX3_fitting_2 23 rfl rfl)
theorem dX3_fitting_70 : decode cX3_fitting 70 = .ok (.iload_n 2, 1) := dk_28 (dk_at dksX3_fitting_3 0 rfl rfl)
theorem dX3_fitting_71 : decode cX3_fitting 71 = .ok (.ishl, 1) := dk_120 (dk_at dksX3_fitting_3 1 rfl rfl)
theorem dX3_fitting_72 : decode cX3_fitting 72 = .ok (.goto 4, 3) := dk_167 0 4 (dk_at dksX3_fitting_3 2 rfl rfl)
theorem dX3_fitting_75 : decode cX3_fitting 75 = .ok (.iconst 0, 1) := dk_3 (dk_at dksX3_fitting_3 5 rfl rfl)
theorem dX3_fitting_76 : decode cX3_fitting 76 = .ok (.ior, 1) := dk_128 (dk_at dksX3_fitting_3 6 rfl rfl)
theorem dX3_fitting_77 : decode cX3_fitting 77 = .ok (.istore_n 1, 1) := dk_60 (dk_at dksX3_fitting_3 7 rfl rfl)
theorem dX3_fitting_78 : decode cX3_fitting 78 = .ok (.iinc 2 1, 3) := dk_132 2 1 (dk_at dksX3_fitting_3 8 rfl rfl)
theorem dX3_fitting_81 : decode cX3_fitting 81 = .ok (.goto (-77), 3) := dk_167 255 179 (dk_at dksX3_fitting_3 11 rfl rfl)
theorem dX3_fitting_84 : decode cX3_fitting 84 = .ok (.iload_n 1, 1) := dk_27 (dk_at dksX3_fitting_3 14 rfl rfl)
theorem dX3_fitting_85 : decode cX3_fitting 85 = .ok (.ireturn, 1) := dk_172 (dk_at dksX3_fitting_3 15 rfl rfl)
abbrev cX3_fits_2 : ByteArray := prog_9_method_103_code
def yX3_fits_2 : MethodName := ⟨RX3, "fits", "(III)Z"⟩
def dkwX3_fits_2_7 : List UInt8 := [160, 0, 7, 4, 167, 0, 4, 3, 172]
abbrev dktX3_fits_2_7 : List UInt8 := dkwX3_fits_2_7 ++ []
def dkwX3_fits_2_6 : List UInt8 := [27, 96, 46, 2, 159, 0, 7, 4, 167, 0, 4, 3, 29, 4, 160, 0, 7, 4, 167, 0, 4, 3]
abbrev dktX3_fits_2_6 : List UInt8 := dkwX3_fits_2_6 ++ dktX3_fits_2_7
def dkwX3_fits_2_5 : List UInt8 := [4, 160, 0, 7, 4, 167, 0, 4, 3, 160, 0, 7, 4, 167, 0, 4, 3, 172, 42, 180, 0, 9, 16, 32]
abbrev dktX3_fits_2_5 : List UInt8 := dkwX3_fits_2_5 ++ dktX3_fits_2_6
def dkwX3_fits_2_4 : List UInt8 := [4, 167, 0, 4, 3, 172, 42, 180, 0, 9, 16, 48, 27, 96, 46, 153, 0, 7, 4, 167, 0, 4, 3, 29]
abbrev dktX3_fits_2_4 : List UInt8 := dkwX3_fits_2_4 ++ dktX3_fits_2_5
def dkwX3_fits_2_3 : List UInt8 := [46, 29, 161, 0, 7, 4, 167, 0, 4, 3, 172, 42, 180, 0, 9, 16, 16, 27, 96, 46, 29, 160, 0, 7]
abbrev dktX3_fits_2_3 : List UInt8 := dkwX3_fits_2_3 ++ dktX3_fits_2_4
def dkwX3_fits_2_2 : List UInt8 := [42, 180, 0, 9, 27, 46, 29, 160, 0, 7, 4, 167, 0, 4, 3, 172, 42, 180, 0, 9, 16, 8, 27, 96]
abbrev dktX3_fits_2_2 : List UInt8 := dkwX3_fits_2_2 ++ dktX3_fits_2_3
def dkwX3_fits_2_1 : List UInt8 := [170, 0, 0, 0, 0, 0, 121, 0, 0, 0, 0, 0, 0, 0, 3, 0, 0, 0, 31, 0, 0, 0, 47, 0, 0, 0, 66, 0, 0, 0, 85]
abbrev dktX3_fits_2_1 : List UInt8 := dkwX3_fits_2_1 ++ dktX3_fits_2_2
def dkwX3_fits_2_0 : List UInt8 := [28]
abbrev dktX3_fits_2_0 : List UInt8 := dkwX3_fits_2_0 ++ dktX3_fits_2_1
theorem dksX3_fits_2_0 : cX3_fits_2.data.toList.drop 0 = dktX3_fits_2_0 := by decide +kernel
theorem dksX3_fits_2_1 : cX3_fits_2.data.toList.drop 1 = dktX3_fits_2_1 := dk_seg dksX3_fits_2_0 1 rfl rfl
theorem dksX3_fits_2_2 : cX3_fits_2.data.toList.drop 32 = dktX3_fits_2_2 := dk_seg dksX3_fits_2_1 31 rfl rfl
theorem dksX3_fits_2_3 : cX3_fits_2.data.toList.drop 56 = dktX3_fits_2_3 := dk_seg dksX3_fits_2_2 24 rfl rfl
theorem dksX3_fits_2_4 : cX3_fits_2.data.toList.drop 80 = dktX3_fits_2_4 := dk_seg dksX3_fits_2_3 24 rfl rfl
theorem dksX3_fits_2_5 : cX3_fits_2.data.toList.drop 104 = dktX3_fits_2_5 := dk_seg dksX3_fits_2_4 24 rfl rfl
theorem dksX3_fits_2_6 : cX3_fits_2.data.toList.drop 128 = dktX3_fits_2_6 := dk_seg dksX3_fits_2_5 24 rfl rfl
theorem dksX3_fits_2_7 : cX3_fits_2.data.toList.drop 150 = dktX3_fits_2_7 := dk_seg dksX3_fits_2_6 22 rfl rfl
theorem dX3_fits_2_0 : decode cX3_fits_2 0 = .ok (.iload_n 2, 1) := dk_28 (dk_at dksX3_fits_2_0 0 rfl rfl)
theorem dX3_fits_2_1 : decode cX3_fits_2 1 = .ok (.tableswitch 121 0 3 #[31, 47, 66, 85], 31) := by decide +kernel
theorem dX3_fits_2_32 : decode cX3_fits_2 32 = .ok (.aload_n 0, 1) := dk_42 (dk_at dksX3_fits_2_2 0 rfl rfl)
theorem dX3_fits_2_33 : decode cX3_fits_2 33 = .ok (.getfield 9, 3) := dk_180 0 9 (dk_at dksX3_fits_2_2 1 rfl rfl)
theorem dX3_fits_2_36 : decode cX3_fits_2 36 = .ok (.iload_n 1, 1) := dk_27 (dk_at dksX3_fits_2_2 4 rfl rfl)
theorem dX3_fits_2_37 : decode cX3_fits_2 37 = .ok (.iaload, 1) := dk_46 (dk_at dksX3_fits_2_2 5 rfl rfl)
theorem dX3_fits_2_38 : decode cX3_fits_2 38 = .ok (.iload_n 3, 1) := dk_29 (dk_at dksX3_fits_2_2 6 rfl rfl)
theorem dX3_fits_2_39 : decode cX3_fits_2 39 = .ok (.if_icmp .ne 7, 3) := dk_160 0 7 (dk_at dksX3_fits_2_2 7 rfl rfl)
theorem dX3_fits_2_42 : decode cX3_fits_2 42 = .ok (.iconst 1, 1) := dk_4 (dk_at dksX3_fits_2_2 10 rfl rfl)
theorem dX3_fits_2_43 : decode cX3_fits_2 43 = .ok (.goto 4, 3) := dk_167 0 4 (dk_at dksX3_fits_2_2 11 rfl rfl)
theorem dX3_fits_2_46 : decode cX3_fits_2 46 = .ok (.iconst 0, 1) := dk_3 (dk_at dksX3_fits_2_2 14 rfl rfl)
theorem dX3_fits_2_47 : decode cX3_fits_2 47 = .ok (.ireturn, 1) := dk_172 (dk_at dksX3_fits_2_2 15 rfl rfl)
theorem dX3_fits_2_48 : decode cX3_fits_2 48 = .ok (.aload_n 0, 1) := dk_42 (dk_at dksX3_fits_2_2 16 rfl rfl)
theorem dX3_fits_2_49 : decode cX3_fits_2 49 = .ok (.getfield 9, 3) := dk_180 0 9 (dk_at dksX3_fits_2_2 17 rfl rfl)
theorem dX3_fits_2_52 : decode cX3_fits_2 52 = .ok (.bipush 8, 2) := dk_16 8 (dk_at dksX3_fits_2_2 20 rfl rfl)
theorem dX3_fits_2_54 : decode cX3_fits_2 54 = .ok (.iload_n 1, 1) := dk_27 (dk_at dksX3_fits_2_2 22 rfl rfl)
theorem dX3_fits_2_55 : decode cX3_fits_2 55 = .ok (.iadd, 1) := dk_96 (dk_at dksX3_fits_2_2 23 rfl rfl)
theorem dX3_fits_2_56 : decode cX3_fits_2 56 = .ok (.iaload, 1) := dk_46 (dk_at dksX3_fits_2_3 0 rfl rfl)
theorem dX3_fits_2_57 : decode cX3_fits_2 57 = .ok (.iload_n 3, 1) := dk_29 (dk_at dksX3_fits_2_3 1 rfl rfl)
theorem dX3_fits_2_58 : decode cX3_fits_2 58 = .ok (.if_icmp .lt 7, 3) := dk_161 0 7 (dk_at dksX3_fits_2_3 2 rfl rfl)
theorem dX3_fits_2_61 : decode cX3_fits_2 61 = .ok (.iconst 1, 1) := dk_4 (dk_at dksX3_fits_2_3 5 rfl rfl)
theorem dX3_fits_2_62 : decode cX3_fits_2 62 = .ok (.goto 4, 3) := dk_167 0 4 (dk_at dksX3_fits_2_3 6 rfl rfl)
theorem dX3_fits_2_65 : decode cX3_fits_2 65 = .ok (.iconst 0, 1) := dk_3 (dk_at dksX3_fits_2_3 9 rfl rfl)
theorem dX3_fits_2_66 : decode cX3_fits_2 66 = .ok (.ireturn, 1) := dk_172 (dk_at dksX3_fits_2_3 10 rfl rfl)
theorem dX3_fits_2_67 : decode cX3_fits_2 67 = .ok (.aload_n 0, 1) := dk_42 (dk_at dksX3_fits_2_3 11 rfl rfl)
theorem dX3_fits_2_68 : decode cX3_fits_2 68 = .ok (.getfield 9, 3) := dk_180 0 9 (dk_at dksX3_fits_2_3 12 rfl rfl)
theorem dX3_fits_2_71 : decode cX3_fits_2 71 = .ok (.bipush 16, 2) := dk_16 16 (dk_at dksX3_fits_2_3 15 rfl rfl)
theorem dX3_fits_2_73 : decode cX3_fits_2 73 = .ok (.iload_n 1, 1) := dk_27 (dk_at dksX3_fits_2_3 17 rfl rfl)
theorem dX3_fits_2_74 : decode cX3_fits_2 74 = .ok (.iadd, 1) := dk_96 (dk_at dksX3_fits_2_3 18 rfl rfl)
theorem dX3_fits_2_75 : decode cX3_fits_2 75 = .ok (.iaload, 1) := dk_46 (dk_at dksX3_fits_2_3 19 rfl rfl)
theorem dX3_fits_2_76 : decode cX3_fits_2 76 = .ok (.iload_n 3, 1) := dk_29 (dk_at dksX3_fits_2_3 20 rfl rfl)
theorem dX3_fits_2_77 : decode cX3_fits_2 77 = .ok (.if_icmp .ne 7, 3) := dk_160 0 7 (dk_at dksX3_fits_2_3 21 rfl rfl)
theorem dX3_fits_2_80 : decode cX3_fits_2 80 = .ok (.iconst 1, 1) := dk_4 (dk_at dksX3_fits_2_4 0 rfl rfl)
theorem dX3_fits_2_81 : decode cX3_fits_2 81 = .ok (.goto 4, 3) := dk_167 0 4 (dk_at dksX3_fits_2_4 1 rfl rfl)
theorem dX3_fits_2_84 : decode cX3_fits_2 84 = .ok (.iconst 0, 1) := dk_3 (dk_at dksX3_fits_2_4 4 rfl rfl)
theorem dX3_fits_2_85 : decode cX3_fits_2 85 = .ok (.ireturn, 1) := dk_172 (dk_at dksX3_fits_2_4 5 rfl rfl)
theorem dX3_fits_2_86 : decode cX3_fits_2 86 = .ok (.aload_n 0, 1) := dk_42 (dk_at dksX3_fits_2_4 6 rfl rfl)
theorem dX3_fits_2_87 : decode cX3_fits_2 87 = .ok (.getfield 9, 3) := dk_180 0 9 (dk_at dksX3_fits_2_4 7 rfl rfl)
theorem dX3_fits_2_90 : decode cX3_fits_2 90 = .ok (.bipush 48, 2) := dk_16 48 (dk_at dksX3_fits_2_4 10 rfl rfl)
theorem dX3_fits_2_92 : decode cX3_fits_2 92 = .ok (.iload_n 1, 1) := dk_27 (dk_at dksX3_fits_2_4 12 rfl rfl)
theorem dX3_fits_2_93 : decode cX3_fits_2 93 = .ok (.iadd, 1) := dk_96 (dk_at dksX3_fits_2_4 13 rfl rfl)
theorem dX3_fits_2_94 : decode cX3_fits_2 94 = .ok (.iaload, 1) := dk_46 (dk_at dksX3_fits_2_4 14 rfl rfl)
theorem dX3_fits_2_95 : decode cX3_fits_2 95 = .ok (.ifCond .eq 7, 3) := dk_153 0 7 (dk_at dksX3_fits_2_4 15 rfl rfl)
theorem dX3_fits_2_98 : decode cX3_fits_2 98 = .ok (.iconst 1, 1) := dk_4 (dk_at dksX3_fits_2_4 18 rfl rfl)
theorem dX3_fits_2_99 : decode cX3_fits_2 99 = .ok (.goto 4, 3) := dk_167 0 4 (dk_at dksX3_fits_2_4 19 rfl rfl)
theorem dX3_fits_2_102 : decode cX3_fits_2 102 = .ok (.iconst 0, 1) := dk_3 (dk_at dksX3_fits_2_4 22 rfl rfl)
theorem dX3_fits_2_103 : decode cX3_fits_2 103 = .ok (.iload_n 3, 1) := dk_29 (dk_at dksX3_fits_2_4 23 rfl rfl)
theorem dX3_fits_2_104 : decode cX3_fits_2 104 = .ok (.iconst 1, 1) := dk_4 (dk_at dksX3_fits_2_5 0 rfl rfl)
theorem dX3_fits_2_105 : decode cX3_fits_2 105 = .ok (.if_icmp .ne 7, 3) := dk_160 0 7 (dk_at dksX3_fits_2_5 1 rfl rfl)
theorem dX3_fits_2_108 : decode cX3_fits_2 108 = .ok (.iconst 1, 1) := dk_4 (dk_at dksX3_fits_2_5 4 rfl rfl)
theorem dX3_fits_2_109 : decode cX3_fits_2 109 = .ok (.goto 4, 3) := dk_167 0 4 (dk_at dksX3_fits_2_5 5 rfl rfl)
theorem dX3_fits_2_112 : decode cX3_fits_2 112 = .ok (.iconst 0, 1) := dk_3 (dk_at dksX3_fits_2_5 8 rfl rfl)
theorem dX3_fits_2_113 : decode cX3_fits_2 113 = .ok (.if_icmp .ne 7, 3) := dk_160 0 7 (dk_at dksX3_fits_2_5 9 rfl rfl)
theorem dX3_fits_2_116 : decode cX3_fits_2 116 = .ok (.iconst 1, 1) := dk_4 (dk_at dksX3_fits_2_5 12 rfl rfl)
theorem dX3_fits_2_117 : decode cX3_fits_2 117 = .ok (.goto 4, 3) := dk_167 0 4 (dk_at dksX3_fits_2_5 13 rfl rfl)
theorem dX3_fits_2_120 : decode cX3_fits_2 120 = .ok (.iconst 0, 1) := dk_3 (dk_at dksX3_fits_2_5 16 rfl rfl)
theorem dX3_fits_2_121 : decode cX3_fits_2 121 = .ok (.ireturn, 1) := dk_172 (dk_at dksX3_fits_2_5 17 rfl rfl)
theorem dX3_fits_2_122 : decode cX3_fits_2 122 = .ok (.aload_n 0, 1) := dk_42 (dk_at dksX3_fits_2_5 18 rfl rfl)
theorem dX3_fits_2_123 : decode cX3_fits_2 123 = .ok (.getfield 9, 3) := dk_180 0 9 (dk_at dksX3_fits_2_5 19 rfl rfl)
theorem dX3_fits_2_126 : decode cX3_fits_2 126 = .ok (.bipush 32, 2) := dk_16 32 (dk_at dksX3_fits_2_5 22 rfl rfl)
theorem dX3_fits_2_128 : decode cX3_fits_2 128 = .ok (.iload_n 1, 1) := dk_27 (dk_at dksX3_fits_2_6 0 rfl rfl)
theorem dX3_fits_2_129 : decode cX3_fits_2 129 = .ok (.iadd, 1) := dk_96 (dk_at dksX3_fits_2_6 1 rfl rfl)
theorem dX3_fits_2_130 : decode cX3_fits_2 130 = .ok (.iaload, 1) := dk_46 (dk_at dksX3_fits_2_6 2 rfl rfl)
theorem dX3_fits_2_131 : decode cX3_fits_2 131 = .ok (.iconst (-1), 1) := dk_2 (dk_at dksX3_fits_2_6 3 rfl rfl)
theorem dX3_fits_2_132 : decode cX3_fits_2 132 = .ok (.if_icmp .eq 7, 3) := dk_159 0 7 (dk_at dksX3_fits_2_6 4 rfl rfl)
theorem dX3_fits_2_135 : decode cX3_fits_2 135 = .ok (.iconst 1, 1) := dk_4 (dk_at dksX3_fits_2_6 7 rfl rfl)
theorem dX3_fits_2_136 : decode cX3_fits_2 136 = .ok (.goto 4, 3) := dk_167 0 4 (dk_at dksX3_fits_2_6 8 rfl rfl)
theorem dX3_fits_2_139 : decode cX3_fits_2 139 = .ok (.iconst 0, 1) := dk_3 (dk_at dksX3_fits_2_6 11 rfl rfl)
theorem dX3_fits_2_140 : decode cX3_fits_2 140 = .ok (.iload_n 3, 1) := dk_29 (dk_at dksX3_fits_2_6 12 rfl rfl)
theorem dX3_fits_2_141 : decode cX3_fits_2 141 = .ok (.iconst 1, 1) := dk_4 (dk_at dksX3_fits_2_6 13 rfl rfl)
theorem dX3_fits_2_142 : decode cX3_fits_2 142 = .ok (.if_icmp .ne 7, 3) := dk_160 0 7 (dk_at dksX3_fits_2_6 14 rfl rfl)
theorem dX3_fits_2_145 : decode cX3_fits_2 145 = .ok (.iconst 1, 1) := dk_4 (dk_at dksX3_fits_2_6 17 rfl rfl)
theorem dX3_fits_2_146 : decode cX3_fits_2 146 = .ok (.goto 4, 3) := dk_167 0 4 (dk_at dksX3_fits_2_6 18 rfl rfl)
theorem dX3_fits_2_149 : decode cX3_fits_2 149 = .ok (.iconst 0, 1) := dk_3 (dk_at dksX3_fits_2_6 21 rfl rfl)
theorem dX3_fits_2_150 : decode cX3_fits_2 150 = .ok (.if_icmp .ne 7, 3) := dk_160 0 7 (dk_at dksX3_fits_2_7 0 rfl rfl)
theorem dX3_fits_2_153 : decode cX3_fits_2 153 = .ok (.iconst 1, 1) := dk_4 (dk_at dksX3_fits_2_7 3 rfl rfl)
theorem dX3_fits_2_154 : decode cX3_fits_2 154 = .ok (.goto 4, 3) := dk_167 0 4 (dk_at dksX3_fits_2_7 4 rfl rfl)
theorem dX3_fits_2_157 : decode cX3_fits_2 157 = .ok (.iconst 0, 1) := dk_3 (dk_at dksX3_fits_2_7 7 rfl rfl)
theorem dX3_fits_2_158 : decode cX3_fits_2 158 = .ok (.ireturn, 1) := dk_172 (dk_at dksX3_fits_2_7 8 rfl rfl)
abbrev cX3_ask : ByteArray := prog_9_method_106_code
def yX3_ask : MethodName := ⟨RX3, "ask", "()I"⟩
def dkwX3_ask_5 : List UInt8 := [132, 4, 1, 167, 255, 162, 42, 3, 181, 0, 86, 42, 29, 133, 182, 1, 30, 28, 172]
abbrev dktX3_ask_5 : List UInt8 := dkwX3_ask_5 ++ []
def dkwX3_ask_4 : List UInt8 := [21, 5, 100, 184, 0, 198, 54, 6, 21, 6, 29, 161, 0, 6, 167, 0, 9, 21, 4, 61, 21, 6, 62]
abbrev dktX3_ask_4 : List UInt8 := dkwX3_ask_4 ++ dktX3_ask_5
def dkwX3_ask_3 : List UInt8 := [163, 0, 7, 4, 167, 0, 4, 3, 96, 54, 5, 132, 6, 1, 167, 255, 210, 21, 5, 27, 184, 0, 206]
abbrev dktX3_ask_3 : List UInt8 := dkwX3_ask_3 ++ dktX3_ask_4
def dkwX3_ask_2 : List UInt8 := [21, 5, 27, 21, 6, 184, 1, 21, 153, 0, 22, 42, 180, 0, 9, 16, 16, 21, 6, 96, 46, 21, 4]
abbrev dktX3_ask_2 : List UInt8 := dkwX3_ask_2 ++ dktX3_ask_3
def dkwX3_ask_1 : List UInt8 := [54, 4, 21, 4, 16, 10, 162, 0, 93, 3, 54, 5, 3, 54, 6, 21, 6, 42, 180, 0, 89, 162, 0, 43]
abbrev dktX3_ask_1 : List UInt8 := dkwX3_ask_1 ++ dktX3_ask_2
def dkwX3_ask_0 : List UInt8 := [42, 3, 181, 0, 83, 42, 182, 1, 104, 60, 27, 154, 0, 6, 16, 254, 172, 2, 61, 19, 1, 62, 62, 3]
abbrev dktX3_ask_0 : List UInt8 := dkwX3_ask_0 ++ dktX3_ask_1
theorem dksX3_ask_0 : cX3_ask.data.toList.drop 0 = dktX3_ask_0 := by decide +kernel
theorem dksX3_ask_1 : cX3_ask.data.toList.drop 24 = dktX3_ask_1 := dk_seg dksX3_ask_0 24 rfl rfl
theorem dksX3_ask_2 : cX3_ask.data.toList.drop 48 = dktX3_ask_2 := dk_seg dksX3_ask_1 24 rfl rfl
theorem dksX3_ask_3 : cX3_ask.data.toList.drop 71 = dktX3_ask_3 := dk_seg dksX3_ask_2 23 rfl rfl
theorem dksX3_ask_4 : cX3_ask.data.toList.drop 94 = dktX3_ask_4 := dk_seg dksX3_ask_3 23 rfl rfl
theorem dksX3_ask_5 : cX3_ask.data.toList.drop 117 = dktX3_ask_5 := dk_seg dksX3_ask_4 23 rfl rfl
theorem dX3_ask_0 : decode cX3_ask 0 = .ok (.aload_n 0, 1) := dk_42 (dk_at dksX3_ask_0 0 rfl rfl)
theorem dX3_ask_1 : decode cX3_ask 1 = .ok (.iconst 0, 1) := dk_3 (dk_at dksX3_ask_0 1 rfl rfl)
theorem dX3_ask_2 : decode cX3_ask 2 = .ok (.putfield 83, 3) := dk_181 0 83 (dk_at dksX3_ask_0 2 rfl rfl)
theorem dX3_ask_5 : decode cX3_ask 5 = .ok (.aload_n 0, 1) := dk_42 (dk_at dksX3_ask_0 5 rfl rfl)
theorem dX3_ask_6 : decode cX3_ask 6 = .ok (.invokevirtual 360, 3) := dk_182 1 104 (dk_at dksX3_ask_0 6 rfl rfl)
theorem dX3_ask_9 : decode cX3_ask 9 = .ok (.istore_n 1, 1) := dk_60 (dk_at dksX3_ask_0 9 rfl rfl)
theorem dX3_ask_10 : decode cX3_ask 10 = .ok (.iload_n 1, 1) := dk_27 (dk_at dksX3_ask_0 10 rfl rfl)
theorem dX3_ask_11 : decode cX3_ask 11 = .ok (.ifCond .ne 6, 3) := dk_154 0 6 (dk_at dksX3_ask_0 11 rfl rfl)
theorem dX3_ask_14 : decode cX3_ask 14 = .ok (.bipush (-2), 2) := dk_16 254 (dk_at dksX3_ask_0 14 rfl rfl)
theorem dX3_ask_16 : decode cX3_ask 16 = .ok (.ireturn, 1) := dk_172 (dk_at dksX3_ask_0 16 rfl rfl)
theorem dX3_ask_17 : decode cX3_ask 17 = .ok (.iconst (-1), 1) := dk_2 (dk_at dksX3_ask_0 17 rfl rfl)
theorem dX3_ask_18 : decode cX3_ask 18 = .ok (.istore_n 2, 1) := dk_61 (dk_at dksX3_ask_0 18 rfl rfl)
theorem dX3_ask_19 : decode cX3_ask 19 = .ok (.ldc_w 318, 3) := dk_19 1 62 (dk_at dksX3_ask_0 19 rfl rfl)
theorem dX3_ask_22 : decode cX3_ask 22 = .ok (.istore_n 3, 1) := dk_62 (dk_at dksX3_ask_0 22 rfl rfl)
theorem dX3_ask_23 : decode cX3_ask 23 = .ok (.iconst 0, 1) := dk_3 (dk_at dksX3_ask_0 23 rfl rfl)
theorem dX3_ask_24 : decode cX3_ask 24 = .ok (.istore 4, 2) := dk_54 4 (dk_at dksX3_ask_1 0 rfl rfl)
theorem dX3_ask_26 : decode cX3_ask 26 = .ok (.iload 4, 2) := dk_21 4 (dk_at dksX3_ask_1 2 rfl rfl)
theorem dX3_ask_28 : decode cX3_ask 28 = .ok (.bipush 10, 2) := dk_16 10 (dk_at dksX3_ask_1 4 rfl rfl)
theorem dX3_ask_30 : decode cX3_ask 30 = .ok (.if_icmp .ge 93, 3) := dk_162 0 93 (dk_at dksX3_ask_1 6 rfl rfl)
theorem dX3_ask_33 : decode cX3_ask 33 = .ok (.iconst 0, 1) := dk_3 (dk_at dksX3_ask_1 9 rfl rfl)
theorem dX3_ask_34 : decode cX3_ask 34 = .ok (.istore 5, 2) := dk_54 5 (dk_at dksX3_ask_1 10 rfl rfl)
theorem dX3_ask_36 : decode cX3_ask 36 = .ok (.iconst 0, 1) := dk_3 (dk_at dksX3_ask_1 12 rfl rfl)
theorem dX3_ask_37 : decode cX3_ask 37 = .ok (.istore 6, 2) := dk_54 6 (dk_at dksX3_ask_1 13 rfl rfl)
theorem dX3_ask_39 : decode cX3_ask 39 = .ok (.iload 6, 2) := dk_21 6 (dk_at dksX3_ask_1 15 rfl rfl)
theorem dX3_ask_41 : decode cX3_ask 41 = .ok (.aload_n 0, 1) := dk_42 (dk_at dksX3_ask_1 17 rfl rfl)
theorem dX3_ask_42 : decode cX3_ask 42 = .ok (.getfield 89, 3) := dk_180 0 89 (dk_at dksX3_ask_1 18 rfl rfl)
theorem dX3_ask_45 : decode cX3_ask 45 = .ok (.if_icmp .ge 43, 3) := dk_162 0 43 (dk_at dksX3_ask_1 21 rfl rfl)
theorem dX3_ask_48 : decode cX3_ask 48 = .ok (.iload 5, 2) := dk_21 5 (dk_at dksX3_ask_2 0 rfl rfl)
theorem dX3_ask_50 : decode cX3_ask 50 = .ok (.iload_n 1, 1) := dk_27 (dk_at dksX3_ask_2 2 rfl rfl)
theorem dX3_ask_51 : decode cX3_ask 51 = .ok (.iload 6, 2) := dk_21 6 (dk_at dksX3_ask_2 3 rfl rfl)
theorem dX3_ask_53 : decode cX3_ask 53 = .ok (.invokestatic 277, 3) := dk_184 1 21 (dk_at dksX3_ask_2 5 rfl rfl)
theorem dX3_ask_56 : decode cX3_ask 56 = .ok (.ifCond .eq 22, 3) := dk_153 0 22 (dk_at dksX3_ask_2 8 rfl rfl)
theorem dX3_ask_59 : decode cX3_ask 59 = .ok (.aload_n 0, 1) := dk_42 (dk_at dksX3_ask_2 11 rfl rfl)
theorem dX3_ask_60 : decode cX3_ask 60 = .ok (.getfield 9, 3) := dk_180 0 9 (dk_at dksX3_ask_2 12 rfl rfl)
theorem dX3_ask_63 : decode cX3_ask 63 = .ok (.bipush 16, 2) := dk_16 16 (dk_at dksX3_ask_2 15 rfl rfl)
theorem dX3_ask_65 : decode cX3_ask 65 = .ok (.iload 6, 2) := dk_21 6 (dk_at dksX3_ask_2 17 rfl rfl)
theorem dX3_ask_67 : decode cX3_ask 67 = .ok (.iadd, 1) := dk_96 (dk_at dksX3_ask_2 19 rfl rfl)
theorem dX3_ask_68 : decode cX3_ask 68 = .ok (.iaload, 1) := dk_46 (dk_at dksX3_ask_2 20 rfl rfl)
theorem dX3_ask_69 : decode cX3_ask 69 = .ok (.iload 4, 2) := dk_21 4 (dk_at dksX3_ask_2 21 rfl rfl)
theorem dX3_ask_71 : decode cX3_ask 71 = .ok (.if_icmp .gt 7, 3) := dk_163 0 7 (dk_at dksX3_ask_3 0 rfl rfl)
theorem dX3_ask_74 : decode cX3_ask 74 = .ok (.iconst 1, 1) := dk_4 (dk_at dksX3_ask_3 3 rfl rfl)
theorem dX3_ask_75 : decode cX3_ask 75 = .ok (.goto 4, 3) := dk_167 0 4 (dk_at dksX3_ask_3 4 rfl rfl)
theorem dX3_ask_78 : decode cX3_ask 78 = .ok (.iconst 0, 1) := dk_3 (dk_at dksX3_ask_3 7 rfl rfl)
theorem dX3_ask_79 : decode cX3_ask 79 = .ok (.iadd, 1) := dk_96 (dk_at dksX3_ask_3 8 rfl rfl)
theorem dX3_ask_80 : decode cX3_ask 80 = .ok (.istore 5, 2) := dk_54 5 (dk_at dksX3_ask_3 9 rfl rfl)
theorem dX3_ask_82 : decode cX3_ask 82 = .ok (.iinc 6 1, 3) := dk_132 6 1 (dk_at dksX3_ask_3 11 rfl rfl)
theorem dX3_ask_85 : decode cX3_ask 85 = .ok (.goto (-46), 3) := dk_167 255 210 (dk_at dksX3_ask_3 14 rfl rfl)
theorem dX3_ask_88 : decode cX3_ask 88 = .ok (.iload 5, 2) := dk_21 5 (dk_at dksX3_ask_3 17 rfl rfl)
theorem dX3_ask_90 : decode cX3_ask 90 = .ok (.iload_n 1, 1) := dk_27 (dk_at dksX3_ask_3 19 rfl rfl)
theorem dX3_ask_91 : decode cX3_ask 91 = .ok (.invokestatic 206, 3) := dk_184 0 206 (dk_at dksX3_ask_3 20 rfl rfl)
theorem dX3_ask_94 : decode cX3_ask 94 = .ok (.iload 5, 2) := dk_21 5 (dk_at dksX3_ask_4 0 rfl rfl)
theorem dX3_ask_96 : decode cX3_ask 96 = .ok (.isub, 1) := dk_100 (dk_at dksX3_ask_4 2 rfl rfl)
theorem dX3_ask_97 : decode cX3_ask 97 = .ok (.invokestatic 198, 3) := dk_184 0 198 (dk_at dksX3_ask_4 3 rfl rfl)
theorem dX3_ask_100 : decode cX3_ask 100 = .ok (.istore 6, 2) := dk_54 6 (dk_at dksX3_ask_4 6 rfl rfl)
theorem dX3_ask_102 : decode cX3_ask 102 = .ok (.iload 6, 2) := dk_21 6 (dk_at dksX3_ask_4 8 rfl rfl)
theorem dX3_ask_104 : decode cX3_ask 104 = .ok (.iload_n 3, 1) := dk_29 (dk_at dksX3_ask_4 10 rfl rfl)
theorem dX3_ask_105 : decode cX3_ask 105 = .ok (.if_icmp .lt 6, 3) := dk_161 0 6 (dk_at dksX3_ask_4 11 rfl rfl)
theorem dX3_ask_108 : decode cX3_ask 108 = .ok (.goto 9, 3) := dk_167 0 9 (dk_at dksX3_ask_4 14 rfl rfl)
theorem dX3_ask_111 : decode cX3_ask 111 = .ok (.iload 4, 2) := dk_21 4 (dk_at dksX3_ask_4 17 rfl rfl)
theorem dX3_ask_113 : decode cX3_ask 113 = .ok (.istore_n 2, 1) := dk_61 (dk_at dksX3_ask_4 19 rfl rfl)
theorem dX3_ask_114 : decode cX3_ask 114 = .ok (.iload 6, 2) := dk_21 6 (dk_at dksX3_ask_4 20 rfl rfl)
theorem dX3_ask_116 : decode cX3_ask 116 = .ok (.istore_n 3, 1) := dk_62 (dk_at dksX3_ask_4 22 rfl rfl)
theorem dX3_ask_117 : decode cX3_ask 117 = .ok (.iinc 4 1, 3) := dk_132 4 1 (dk_at dksX3_ask_5 0 rfl rfl)
theorem dX3_ask_120 : decode cX3_ask 120 = .ok (.goto (-94), 3) := dk_167 255 162 (dk_at dksX3_ask_5 3 rfl rfl)
theorem dX3_ask_123 : decode cX3_ask 123 = .ok (.aload_n 0, 1) := dk_42 (dk_at dksX3_ask_5 6 rfl rfl)
theorem dX3_ask_124 : decode cX3_ask 124 = .ok (.iconst 0, 1) := dk_3 (dk_at dksX3_ask_5 7 rfl rfl)
theorem dX3_ask_125 : decode cX3_ask 125 = .ok (.putfield 86, 3) := dk_181 0 86 (dk_at dksX3_ask_5 8 rfl rfl)
theorem dX3_ask_128 : decode cX3_ask 128 = .ok (.aload_n 0, 1) := dk_42 (dk_at dksX3_ask_5 11 rfl rfl)
theorem dX3_ask_129 : decode cX3_ask 129 = .ok (.iload_n 3, 1) := dk_29 (dk_at dksX3_ask_5 12 rfl rfl)
theorem dX3_ask_130 : decode cX3_ask 130 = .ok (.i2l, 1) := dk_133 (dk_at dksX3_ask_5 13 rfl rfl)
theorem dX3_ask_131 : decode cX3_ask 131 = .ok (.invokevirtual 286, 3) := dk_182 1 30 (dk_at dksX3_ask_5 14 rfl rfl)
theorem dX3_ask_134 : decode cX3_ask 134 = .ok (.iload_n 2, 1) := dk_28 (dk_at dksX3_ask_5 17 rfl rfl)
theorem dX3_ask_135 : decode cX3_ask 135 = .ok (.ireturn, 1) := dk_172 (dk_at dksX3_ask_5 18 rfl rfl)
abbrev cX3_rests : ByteArray := prog_9_method_110_code
def yX3_rests : MethodName := ⟨RX3, "rests", "(I)I"⟩
def dkwX3_rests_3 : List UInt8 := [182, 1, 30, 132, 2, 1, 132, 4, 1, 167, 255, 213, 132, 3, 1, 167, 255, 198, 28, 172]
abbrev dktX3_rests_3 : List UInt8 := dkwX3_rests_3 ++ []
def dkwX3_rests_2 : List UInt8 := [184, 1, 114, 154, 0, 6, 167, 0, 23, 28, 154, 0, 16, 42, 29, 133, 182, 1, 30, 42, 21, 4, 133]
abbrev dktX3_rests_2 : List UInt8 := dkwX3_rests_2 ++ dktX3_rests_3
def dkwX3_rests_1 : List UInt8 := [3, 62, 29, 16, 9, 163, 0, 58, 3, 54, 4, 21, 4, 16, 9, 163, 0, 42, 29, 21, 4, 27]
abbrev dktX3_rests_1 : List UInt8 := dkwX3_rests_1 ++ dktX3_rests_2
def dkwX3_rests_0 : List UInt8 := [42, 3, 181, 0, 83, 27, 3, 16, 20, 184, 0, 92, 154, 0, 5, 2, 172, 3, 61, 42, 3, 181, 0, 86]
abbrev dktX3_rests_0 : List UInt8 := dkwX3_rests_0 ++ dktX3_rests_1
theorem dksX3_rests_0 : cX3_rests.data.toList.drop 0 = dktX3_rests_0 := by decide +kernel
theorem dksX3_rests_1 : cX3_rests.data.toList.drop 24 = dktX3_rests_1 := dk_seg dksX3_rests_0 24 rfl rfl
theorem dksX3_rests_2 : cX3_rests.data.toList.drop 46 = dktX3_rests_2 := dk_seg dksX3_rests_1 22 rfl rfl
theorem dksX3_rests_3 : cX3_rests.data.toList.drop 69 = dktX3_rests_3 := dk_seg dksX3_rests_2 23 rfl rfl
theorem dX3_rests_0 : decode cX3_rests 0 = .ok (.aload_n 0, 1) := dk_42 (dk_at dksX3_rests_0 0 rfl rfl)
theorem dX3_rests_1 : decode cX3_rests 1 = .ok (.iconst 0, 1) := dk_3 (dk_at dksX3_rests_0 1 rfl rfl)
theorem dX3_rests_2 : decode cX3_rests 2 = .ok (.putfield 83, 3) := dk_181 0 83 (dk_at dksX3_rests_0 2 rfl rfl)
theorem dX3_rests_5 : decode cX3_rests 5 = .ok (.iload_n 1, 1) := dk_27 (dk_at dksX3_rests_0 5 rfl rfl)
theorem dX3_rests_6 : decode cX3_rests 6 = .ok (.iconst 0, 1) := dk_3 (dk_at dksX3_rests_0 6 rfl rfl)
theorem dX3_rests_7 : decode cX3_rests 7 = .ok (.bipush 20, 2) := dk_16 20 (dk_at dksX3_rests_0 7 rfl rfl)
theorem dX3_rests_9 : decode cX3_rests 9 = .ok (.invokestatic 92, 3) := dk_184 0 92 (dk_at dksX3_rests_0 9 rfl rfl)
theorem dX3_rests_12 : decode cX3_rests 12 = .ok (.ifCond .ne 5, 3) := dk_154 0 5 (dk_at dksX3_rests_0 12 rfl rfl)
theorem dX3_rests_15 : decode cX3_rests 15 = .ok (.iconst (-1), 1) := dk_2 (dk_at dksX3_rests_0 15 rfl rfl)
theorem dX3_rests_16 : decode cX3_rests 16 = .ok (.ireturn, 1) := dk_172 (dk_at dksX3_rests_0 16 rfl rfl)
theorem dX3_rests_17 : decode cX3_rests 17 = .ok (.iconst 0, 1) := dk_3 (dk_at dksX3_rests_0 17 rfl rfl)
theorem dX3_rests_18 : decode cX3_rests 18 = .ok (.istore_n 2, 1) := dk_61 (dk_at dksX3_rests_0 18 rfl rfl)
theorem dX3_rests_19 : decode cX3_rests 19 = .ok (.aload_n 0, 1) := dk_42 (dk_at dksX3_rests_0 19 rfl rfl)
theorem dX3_rests_20 : decode cX3_rests 20 = .ok (.iconst 0, 1) := dk_3 (dk_at dksX3_rests_0 20 rfl rfl)
theorem dX3_rests_21 : decode cX3_rests 21 = .ok (.putfield 86, 3) := dk_181 0 86 (dk_at dksX3_rests_0 21 rfl rfl)
theorem dX3_rests_24 : decode cX3_rests 24 = .ok (.iconst 0, 1) := dk_3 (dk_at dksX3_rests_1 0 rfl rfl)
theorem dX3_rests_25 : decode cX3_rests 25 = .ok (.istore_n 3, 1) := dk_62 (dk_at dksX3_rests_1 1 rfl rfl)
theorem dX3_rests_26 : decode cX3_rests 26 = .ok (.iload_n 3, 1) := dk_29 (dk_at dksX3_rests_1 2 rfl rfl)
theorem dX3_rests_27 : decode cX3_rests 27 = .ok (.bipush 9, 2) := dk_16 9 (dk_at dksX3_rests_1 3 rfl rfl)
theorem dX3_rests_29 : decode cX3_rests 29 = .ok (.if_icmp .gt 58, 3) := dk_163 0 58 (dk_at dksX3_rests_1 5 rfl rfl)
theorem dX3_rests_32 : decode cX3_rests 32 = .ok (.iconst 0, 1) := dk_3 (dk_at dksX3_rests_1 8 rfl rfl)
theorem dX3_rests_33 : decode cX3_rests 33 = .ok (.istore 4, 2) := dk_54 4 (dk_at dksX3_rests_1 9 rfl rfl)
theorem dX3_rests_35 : decode cX3_rests 35 = .ok (.iload 4, 2) := dk_21 4 (dk_at dksX3_rests_1 11 rfl rfl)
theorem dX3_rests_37 : decode cX3_rests 37 = .ok (.bipush 9, 2) := dk_16 9 (dk_at dksX3_rests_1 13 rfl rfl)
theorem dX3_rests_39 : decode cX3_rests 39 = .ok (.if_icmp .gt 42, 3) := dk_163 0 42 (dk_at dksX3_rests_1 15 rfl rfl)
theorem dX3_rests_42 : decode cX3_rests 42 = .ok (.iload_n 3, 1) := dk_29 (dk_at dksX3_rests_1 18 rfl rfl)
theorem dX3_rests_43 : decode cX3_rests 43 = .ok (.iload 4, 2) := dk_21 4 (dk_at dksX3_rests_1 19 rfl rfl)
theorem dX3_rests_45 : decode cX3_rests 45 = .ok (.iload_n 1, 1) := dk_27 (dk_at dksX3_rests_1 21 rfl rfl)
theorem dX3_rests_46 : decode cX3_rests 46 = .ok (.invokestatic 370, 3) := dk_184 1 114 (dk_at dksX3_rests_2 0 rfl rfl)
theorem dX3_rests_49 : decode cX3_rests 49 = .ok (.ifCond .ne 6, 3) := dk_154 0 6 (dk_at dksX3_rests_2 3 rfl rfl)
theorem dX3_rests_52 : decode cX3_rests 52 = .ok (.goto 23, 3) := dk_167 0 23 (dk_at dksX3_rests_2 6 rfl rfl)
theorem dX3_rests_55 : decode cX3_rests 55 = .ok (.iload_n 2, 1) := dk_28 (dk_at dksX3_rests_2 9 rfl rfl)
theorem dX3_rests_56 : decode cX3_rests 56 = .ok (.ifCond .ne 16, 3) := dk_154 0 16 (dk_at dksX3_rests_2 10 rfl rfl)
theorem dX3_rests_59 : decode cX3_rests 59 = .ok (.aload_n 0, 1) := dk_42 (dk_at dksX3_rests_2 13 rfl rfl)
theorem dX3_rests_60 : decode cX3_rests 60 = .ok (.iload_n 3, 1) := dk_29 (dk_at dksX3_rests_2 14 rfl rfl)
theorem dX3_rests_61 : decode cX3_rests 61 = .ok (.i2l, 1) := dk_133 (dk_at dksX3_rests_2 15 rfl rfl)
theorem dX3_rests_62 : decode cX3_rests 62 = .ok (.invokevirtual 286, 3) := dk_182 1 30 (dk_at dksX3_rests_2 16 rfl rfl)
theorem dX3_rests_65 : decode cX3_rests 65 = .ok (.aload_n 0, 1) := dk_42 (dk_at dksX3_rests_2 19 rfl rfl)
theorem dX3_rests_66 : decode cX3_rests 66 = .ok (.iload 4, 2) := dk_21 4 (dk_at dksX3_rests_2 20 rfl rfl)
theorem dX3_rests_68 : decode cX3_rests 68 = .ok (.i2l, 1) := dk_133 (dk_at dksX3_rests_2 22 rfl rfl)
theorem dX3_rests_69 : decode cX3_rests 69 = .ok (.invokevirtual 286, 3) := dk_182 1 30 (dk_at dksX3_rests_3 0 rfl rfl)
theorem dX3_rests_72 : decode cX3_rests 72 = .ok (.iinc 2 1, 3) := dk_132 2 1 (dk_at dksX3_rests_3 3 rfl rfl)
theorem dX3_rests_75 : decode cX3_rests 75 = .ok (.iinc 4 1, 3) := dk_132 4 1 (dk_at dksX3_rests_3 6 rfl rfl)
theorem dX3_rests_78 : decode cX3_rests 78 = .ok (.goto (-43), 3) := dk_167 255 213 (dk_at dksX3_rests_3 9 rfl rfl)
theorem dX3_rests_81 : decode cX3_rests 81 = .ok (.iinc 3 1, 3) := dk_132 3 1 (dk_at dksX3_rests_3 12 rfl rfl)
theorem dX3_rests_84 : decode cX3_rests 84 = .ok (.goto (-58), 3) := dk_167 255 198 (dk_at dksX3_rests_3 15 rfl rfl)
theorem dX3_rests_87 : decode cX3_rests 87 = .ok (.iload_n 2, 1) := dk_28 (dk_at dksX3_rests_3 18 rfl rfl)
theorem dX3_rests_88 : decode cX3_rests 88 = .ok (.ireturn, 1) := dk_172 (dk_at dksX3_rests_3 19 rfl rfl)
abbrev cX3_isRest : ByteArray := prog_9_method_109_code
def yX3_isRest : MethodName := ⟨RX3, "isRest", "(III)Z"⟩
def dkwX3_isRest_1 : List UInt8 := [29, 28, 184, 1, 111, 26, 27, 28, 184, 1, 111, 164, 0, 5, 3, 172, 132, 3, 1, 167, 255, 215, 4, 172]
abbrev dktX3_isRest_1 : List UInt8 := dkwX3_isRest_1 ++ []
def dkwX3_isRest_0 : List UInt8 := [3, 62, 29, 16, 9, 163, 0, 41, 29, 27, 28, 184, 1, 107, 26, 27, 28, 184, 1, 107, 163, 0, 18, 26]
abbrev dktX3_isRest_0 : List UInt8 := dkwX3_isRest_0 ++ dktX3_isRest_1
theorem dksX3_isRest_0 : cX3_isRest.data.toList.drop 0 = dktX3_isRest_0 := by decide +kernel
theorem dksX3_isRest_1 : cX3_isRest.data.toList.drop 24 = dktX3_isRest_1 := dk_seg dksX3_isRest_0 24 rfl rfl
theorem dX3_isRest_0 : decode cX3_isRest 0 = .ok (.iconst 0, 1) := dk_3 (dk_at dksX3_isRest_0 0 rfl rfl)
theorem dX3_isRest_1 : decode cX3_isRest 1 = .ok (.istore_n 3, 1) := dk_62 (dk_at dksX3_isRest_0 1 rfl rfl)
theorem dX3_isRest_2 : decode cX3_isRest 2 = .ok (.iload_n 3, 1) := dk_29 (dk_at dksX3_isRest_0 2 rfl rfl)
theorem dX3_isRest_3 : decode cX3_isRest 3 = .ok (.bipush 9, 2) := dk_16 9 (dk_at dksX3_isRest_0 3 rfl rfl)
theorem dX3_isRest_5 : decode cX3_isRest 5 = .ok (.if_icmp .gt 41, 3) := dk_163 0 41 (dk_at dksX3_isRest_0 5 rfl rfl)
theorem dX3_isRest_8 : decode cX3_isRest 8 = .ok (.iload_n 3, 1) := dk_29 (dk_at dksX3_isRest_0 8 rfl rfl)
theorem dX3_isRest_9 : decode cX3_isRest 9 = .ok (.iload_n 1, 1) := dk_27 (dk_at dksX3_isRest_0 9 rfl rfl)
theorem dX3_isRest_10 : decode cX3_isRest 10 = .ok (.iload_n 2, 1) := dk_28 (dk_at dksX3_isRest_0 10 rfl rfl)
theorem dX3_isRest_11 : decode cX3_isRest 11 = .ok (.invokestatic 363, 3) := dk_184 1 107 (dk_at dksX3_isRest_0 11 rfl rfl)
theorem dX3_isRest_14 : decode cX3_isRest 14 = .ok (.iload_n 0, 1) := dk_26 (dk_at dksX3_isRest_0 14 rfl rfl)
theorem dX3_isRest_15 : decode cX3_isRest 15 = .ok (.iload_n 1, 1) := dk_27 (dk_at dksX3_isRest_0 15 rfl rfl)
theorem dX3_isRest_16 : decode cX3_isRest 16 = .ok (.iload_n 2, 1) := dk_28 (dk_at dksX3_isRest_0 16 rfl rfl)
theorem dX3_isRest_17 : decode cX3_isRest 17 = .ok (.invokestatic 363, 3) := dk_184 1 107 (dk_at dksX3_isRest_0 17 rfl rfl)
theorem dX3_isRest_20 : decode cX3_isRest 20 = .ok (.if_icmp .gt 18, 3) := dk_163 0 18 (dk_at dksX3_isRest_0 20 rfl rfl)
theorem dX3_isRest_23 : decode cX3_isRest 23 = .ok (.iload_n 0, 1) := dk_26 (dk_at dksX3_isRest_0 23 rfl rfl)
theorem dX3_isRest_24 : decode cX3_isRest 24 = .ok (.iload_n 3, 1) := dk_29 (dk_at dksX3_isRest_1 0 rfl rfl)
theorem dX3_isRest_25 : decode cX3_isRest 25 = .ok (.iload_n 2, 1) := dk_28 (dk_at dksX3_isRest_1 1 rfl rfl)
theorem dX3_isRest_26 : decode cX3_isRest 26 = .ok (.invokestatic 367, 3) := dk_184 1 111 (dk_at dksX3_isRest_1 2 rfl rfl)
theorem dX3_isRest_29 : decode cX3_isRest 29 = .ok (.iload_n 0, 1) := dk_26 (dk_at dksX3_isRest_1 5 rfl rfl)
theorem dX3_isRest_30 : decode cX3_isRest 30 = .ok (.iload_n 1, 1) := dk_27 (dk_at dksX3_isRest_1 6 rfl rfl)
theorem dX3_isRest_31 : decode cX3_isRest 31 = .ok (.iload_n 2, 1) := dk_28 (dk_at dksX3_isRest_1 7 rfl rfl)
theorem dX3_isRest_32 : decode cX3_isRest 32 = .ok (.invokestatic 367, 3) := dk_184 1 111 (dk_at dksX3_isRest_1 8 rfl rfl)
theorem dX3_isRest_35 : decode cX3_isRest 35 = .ok (.if_icmp .le 5, 3) := dk_164 0 5 (dk_at dksX3_isRest_1 11 rfl rfl)
theorem dX3_isRest_38 : decode cX3_isRest 38 = .ok (.iconst 0, 1) := dk_3 (dk_at dksX3_isRest_1 14 rfl rfl)
theorem dX3_isRest_39 : decode cX3_isRest 39 = .ok (.ireturn, 1) := dk_172 (dk_at dksX3_isRest_1 15 rfl rfl)
theorem dX3_isRest_40 : decode cX3_isRest 40 = .ok (.iinc 3 1, 3) := dk_132 3 1 (dk_at dksX3_isRest_1 16 rfl rfl)
theorem dX3_isRest_43 : decode cX3_isRest 43 = .ok (.goto (-41), 3) := dk_167 255 215 (dk_at dksX3_isRest_1 19 rfl rfl)
theorem dX3_isRest_46 : decode cX3_isRest 46 = .ok (.iconst 1, 1) := dk_4 (dk_at dksX3_isRest_1 22 rfl rfl)
theorem dX3_isRest_47 : decode cX3_isRest 47 = .ok (.ireturn, 1) := dk_172 (dk_at dksX3_isRest_1 23 rfl rfl)
abbrev cX3_hostGets : ByteArray := prog_9_method_107_code
def yX3_hostGets : MethodName := ⟨RX3, "hostGets", "(III)I"⟩
def dkwX3_hostGets_0 : List UInt8 := [26, 27, 164, 0, 7, 28, 167, 0, 4, 3, 26, 100, 172]
abbrev dktX3_hostGets_0 : List UInt8 := dkwX3_hostGets_0 ++ []
theorem dksX3_hostGets_0 : cX3_hostGets.data.toList.drop 0 = dktX3_hostGets_0 := by decide +kernel
theorem dX3_hostGets_0 : decode cX3_hostGets 0 = .ok (.iload_n 0, 1) := dk_26 (dk_at dksX3_hostGets_0 0 rfl rfl)
theorem dX3_hostGets_1 : decode cX3_hostGets 1 = .ok (.iload_n 1, 1) := dk_27 (dk_at dksX3_hostGets_0 1 rfl rfl)
theorem dX3_hostGets_2 : decode cX3_hostGets 2 = .ok (.if_icmp .le 7, 3) := dk_164 0 7 (dk_at dksX3_hostGets_0 2 rfl rfl)
theorem dX3_hostGets_5 : decode cX3_hostGets 5 = .ok (.iload_n 2, 1) := dk_28 (dk_at dksX3_hostGets_0 5 rfl rfl)
theorem dX3_hostGets_6 : decode cX3_hostGets 6 = .ok (.goto 4, 3) := dk_167 0 4 (dk_at dksX3_hostGets_0 6 rfl rfl)
theorem dX3_hostGets_9 : decode cX3_hostGets 9 = .ok (.iconst 0, 1) := dk_3 (dk_at dksX3_hostGets_0 9 rfl rfl)
theorem dX3_hostGets_10 : decode cX3_hostGets 10 = .ok (.iload_n 0, 1) := dk_26 (dk_at dksX3_hostGets_0 10 rfl rfl)
theorem dX3_hostGets_11 : decode cX3_hostGets 11 = .ok (.isub, 1) := dk_100 (dk_at dksX3_hostGets_0 11 rfl rfl)
theorem dX3_hostGets_12 : decode cX3_hostGets 12 = .ok (.ireturn, 1) := dk_172 (dk_at dksX3_hostGets_0 12 rfl rfl)
abbrev cX3_guestGets : ByteArray := prog_9_method_108_code
def yX3_guestGets : MethodName := ⟨RX3, "guestGets", "(III)I"⟩
def dkwX3_guestGets_0 : List UInt8 := [26, 27, 164, 0, 7, 3, 167, 0, 4, 28, 27, 100, 172]
abbrev dktX3_guestGets_0 : List UInt8 := dkwX3_guestGets_0 ++ []
theorem dksX3_guestGets_0 : cX3_guestGets.data.toList.drop 0 = dktX3_guestGets_0 := by decide +kernel
theorem dX3_guestGets_0 : decode cX3_guestGets 0 = .ok (.iload_n 0, 1) := dk_26 (dk_at dksX3_guestGets_0 0 rfl rfl)
theorem dX3_guestGets_1 : decode cX3_guestGets 1 = .ok (.iload_n 1, 1) := dk_27 (dk_at dksX3_guestGets_0 1 rfl rfl)
theorem dX3_guestGets_2 : decode cX3_guestGets 2 = .ok (.if_icmp .le 7, 3) := dk_164 0 7 (dk_at dksX3_guestGets_0 2 rfl rfl)
theorem dX3_guestGets_5 : decode cX3_guestGets 5 = .ok (.iconst 0, 1) := dk_3 (dk_at dksX3_guestGets_0 5 rfl rfl)
theorem dX3_guestGets_6 : decode cX3_guestGets 6 = .ok (.goto 4, 3) := dk_167 0 4 (dk_at dksX3_guestGets_0 6 rfl rfl)
theorem dX3_guestGets_9 : decode cX3_guestGets 9 = .ok (.iload_n 2, 1) := dk_28 (dk_at dksX3_guestGets_0 9 rfl rfl)
theorem dX3_guestGets_10 : decode cX3_guestGets 10 = .ok (.iload_n 1, 1) := dk_27 (dk_at dksX3_guestGets_0 10 rfl rfl)
theorem dX3_guestGets_11 : decode cX3_guestGets 11 = .ok (.isub, 1) := dk_100 (dk_at dksX3_guestGets_0 11 rfl rfl)
theorem dX3_guestGets_12 : decode cX3_guestGets 12 = .ok (.ireturn, 1) := dk_172 (dk_at dksX3_guestGets_0 12 rfl rfl)
abbrev cX3_law : ByteArray := prog_9_method_112_code
def yX3_law : MethodName := ⟨RX3, "law", "()I"⟩
def dkwX3_law_5 : List UInt8 := [21, 5, 28, 100, 172]
abbrev dktX3_law_5 : List UInt8 := dkwX3_law_5 ++ []
def dkwX3_law_4 : List UInt8 := [42, 21, 4, 181, 0, 190, 42, 3, 181, 0, 86, 42, 21, 5, 133, 182, 1, 30, 42, 28, 133, 182, 1, 30]
abbrev dktX3_law_4 : List UInt8 := dkwX3_law_4 ++ dktX3_law_5
def dkwX3_law_3 : List UInt8 := [180, 0, 17, 21, 5, 51, 84, 132, 5, 1, 167, 255, 233, 42, 182, 1, 117, 54, 5, 42, 45, 181, 0, 28]
abbrev dktX3_law_3 : List UInt8 := dkwX3_law_3 ++ dktX3_law_4
def dkwX3_law_2 : List UInt8 := [181, 0, 28, 42, 27, 181, 0, 190, 3, 54, 5, 21, 5, 27, 162, 0, 23, 42, 180, 0, 28, 21, 5, 42]
abbrev dktX3_law_2 : List UInt8 := dkwX3_law_2 ++ dktX3_law_3
def dkwX3_law_1 : List UInt8 := [100, 172, 42, 182, 1, 117, 61, 42, 180, 0, 28, 78, 42, 180, 0, 190, 54, 4, 42, 42, 180, 0, 31]
abbrev dktX3_law_1 : List UInt8 := dkwX3_law_1 ++ dktX3_law_2
def dkwX3_law_0 : List UInt8 := [42, 3, 181, 0, 83, 42, 180, 0, 100, 60, 42, 182, 0, 187, 154, 0, 12, 17, 216, 240, 42, 180, 0, 115]
abbrev dktX3_law_0 : List UInt8 := dkwX3_law_0 ++ dktX3_law_1
theorem dksX3_law_0 : cX3_law.data.toList.drop 0 = dktX3_law_0 := by decide +kernel
theorem dksX3_law_1 : cX3_law.data.toList.drop 24 = dktX3_law_1 := dk_seg dksX3_law_0 24 rfl rfl
theorem dksX3_law_2 : cX3_law.data.toList.drop 47 = dktX3_law_2 := dk_seg dksX3_law_1 23 rfl rfl
theorem dksX3_law_3 : cX3_law.data.toList.drop 71 = dktX3_law_3 := dk_seg dksX3_law_2 24 rfl rfl
theorem dksX3_law_4 : cX3_law.data.toList.drop 95 = dktX3_law_4 := dk_seg dksX3_law_3 24 rfl rfl
theorem dksX3_law_5 : cX3_law.data.toList.drop 119 = dktX3_law_5 := dk_seg dksX3_law_4 24 rfl rfl
theorem dX3_law_0 : decode cX3_law 0 = .ok (.aload_n 0, 1) := dk_42 (dk_at dksX3_law_0 0 rfl rfl)
theorem dX3_law_1 : decode cX3_law 1 = .ok (.iconst 0, 1) := dk_3 (dk_at dksX3_law_0 1 rfl rfl)
theorem dX3_law_2 : decode cX3_law 2 = .ok (.putfield 83, 3) := dk_181 0 83 (dk_at dksX3_law_0 2 rfl rfl)
theorem dX3_law_5 : decode cX3_law 5 = .ok (.aload_n 0, 1) := dk_42 (dk_at dksX3_law_0 5 rfl rfl)
theorem dX3_law_6 : decode cX3_law 6 = .ok (.getfield 100, 3) := dk_180 0 100 (dk_at dksX3_law_0 6 rfl rfl)
theorem dX3_law_9 : decode cX3_law 9 = .ok (.istore_n 1, 1) := dk_60 (dk_at dksX3_law_0 9 rfl rfl)
theorem dX3_law_10 : decode cX3_law 10 = .ok (.aload_n 0, 1) := dk_42 (dk_at dksX3_law_0 10 rfl rfl)
theorem dX3_law_11 : decode cX3_law 11 = .ok (.invokevirtual 187, 3) := dk_182 0 187 (dk_at dksX3_law_0 11 rfl rfl)
theorem dX3_law_14 : decode cX3_law 14 = .ok (.ifCond .ne 12, 3) := dk_154 0 12 (dk_at dksX3_law_0 14 rfl rfl)
theorem dX3_law_17 : decode cX3_law 17 = .ok (.sipush (-10000), 3) := dk_17 216 240 (dk_at dksX3_law_0 17 rfl rfl)
theorem dX3_law_20 : decode cX3_law 20 = .ok (.aload_n 0, 1) := dk_42 (dk_at dksX3_law_0 20 rfl rfl)
theorem dX3_law_21 : decode cX3_law 21 = .ok (.getfield 115, 3) := dk_180 0 115 (dk_at dksX3_law_0 21 rfl rfl)
theorem dX3_law_24 : decode cX3_law 24 = .ok (.isub, 1) := dk_100 (dk_at dksX3_law_1 0 rfl rfl)
theorem dX3_law_25 : decode cX3_law 25 = .ok (.ireturn, 1) := dk_172 (dk_at dksX3_law_1 1 rfl rfl)
theorem dX3_law_26 : decode cX3_law 26 = .ok (.aload_n 0, 1) := dk_42 (dk_at dksX3_law_1 2 rfl rfl)
theorem dX3_law_27 : decode cX3_law 27 = .ok (.invokevirtual 373, 3) := dk_182 1 117 (dk_at dksX3_law_1 3 rfl rfl)
theorem dX3_law_30 : decode cX3_law 30 = .ok (.istore_n 2, 1) := dk_61 (dk_at dksX3_law_1 6 rfl rfl)
theorem dX3_law_31 : decode cX3_law 31 = .ok (.aload_n 0, 1) := dk_42 (dk_at dksX3_law_1 7 rfl rfl)
theorem dX3_law_32 : decode cX3_law 32 = .ok (.getfield 28, 3) := dk_180 0 28 (dk_at dksX3_law_1 8 rfl rfl)
theorem dX3_law_35 : decode cX3_law 35 = .ok (.astore_n 3, 1) := dk_78 (dk_at dksX3_law_1 11 rfl rfl)
theorem dX3_law_36 : decode cX3_law 36 = .ok (.aload_n 0, 1) := dk_42 (dk_at dksX3_law_1 12 rfl rfl)
theorem dX3_law_37 : decode cX3_law 37 = .ok (.getfield 190, 3) := dk_180 0 190 (dk_at dksX3_law_1 13 rfl rfl)
theorem dX3_law_40 : decode cX3_law 40 = .ok (.istore 4, 2) := dk_54 4 (dk_at dksX3_law_1 16 rfl rfl)
theorem dX3_law_42 : decode cX3_law 42 = .ok (.aload_n 0, 1) := dk_42 (dk_at dksX3_law_1 18 rfl rfl)
theorem dX3_law_43 : decode cX3_law 43 = .ok (.aload_n 0, 1) := dk_42 (dk_at dksX3_law_1 19 rfl rfl)
theorem dX3_law_44 : decode cX3_law 44 = .ok (.getfield 31, 3) := dk_180 0 31 (dk_at dksX3_law_1 20 rfl rfl)
theorem dX3_law_47 : decode cX3_law 47 = .ok (.putfield 28, 3) := dk_181 0 28 (dk_at dksX3_law_2 0 rfl rfl)
theorem dX3_law_50 : decode cX3_law 50 = .ok (.aload_n 0, 1) := dk_42 (dk_at dksX3_law_2 3 rfl rfl)
theorem dX3_law_51 : decode cX3_law 51 = .ok (.iload_n 1, 1) := dk_27 (dk_at dksX3_law_2 4 rfl rfl)
theorem dX3_law_52 : decode cX3_law 52 = .ok (.putfield 190, 3) := dk_181 0 190 (dk_at dksX3_law_2 5 rfl rfl)
theorem dX3_law_55 : decode cX3_law 55 = .ok (.iconst 0, 1) := dk_3 (dk_at dksX3_law_2 8 rfl rfl)
theorem dX3_law_56 : decode cX3_law 56 = .ok (.istore 5, 2) := dk_54 5 (dk_at dksX3_law_2 9 rfl rfl)
theorem dX3_law_58 : decode cX3_law 58 = .ok (.iload 5, 2) := dk_21 5 (dk_at dksX3_law_2 11 rfl rfl)
theorem dX3_law_60 : decode cX3_law 60 = .ok (.iload_n 1, 1) := dk_27 (dk_at dksX3_law_2 13 rfl rfl)
theorem dX3_law_61 : decode cX3_law 61 = .ok (.if_icmp .ge 23, 3) := dk_162 0 23 (dk_at dksX3_law_2 14 rfl rfl)
theorem dX3_law_64 : decode cX3_law 64 = .ok (.aload_n 0, 1) := dk_42 (dk_at dksX3_law_2 17 rfl rfl)
theorem dX3_law_65 : decode cX3_law 65 = .ok (.getfield 28, 3) := dk_180 0 28 (dk_at dksX3_law_2 18 rfl rfl)
theorem dX3_law_68 : decode cX3_law 68 = .ok (.iload 5, 2) := dk_21 5 (dk_at dksX3_law_2 21 rfl rfl)
theorem dX3_law_70 : decode cX3_law 70 = .ok (.aload_n 0, 1) := dk_42 (dk_at dksX3_law_2 23 rfl rfl)
theorem dX3_law_71 : decode cX3_law 71 = .ok (.getfield 17, 3) := dk_180 0 17 (dk_at dksX3_law_3 0 rfl rfl)
theorem dX3_law_74 : decode cX3_law 74 = .ok (.iload 5, 2) := dk_21 5 (dk_at dksX3_law_3 3 rfl rfl)
theorem dX3_law_76 : decode cX3_law 76 = .ok (.baload, 1) := dk_51 (dk_at dksX3_law_3 5 rfl rfl)
theorem dX3_law_77 : decode cX3_law 77 = .ok (.bastore, 1) := dk_84 (dk_at dksX3_law_3 6 rfl rfl)
theorem dX3_law_78 : decode cX3_law 78 = .ok (.iinc 5 1, 3) := dk_132 5 1 (dk_at dksX3_law_3 7 rfl rfl)
theorem dX3_law_81 : decode cX3_law 81 = .ok (.goto (-23), 3) := dk_167 255 233 (dk_at dksX3_law_3 10 rfl rfl)
theorem dX3_law_84 : decode cX3_law 84 = .ok (.aload_n 0, 1) := dk_42 (dk_at dksX3_law_3 13 rfl rfl)
theorem dX3_law_85 : decode cX3_law 85 = .ok (.invokevirtual 373, 3) := dk_182 1 117 (dk_at dksX3_law_3 14 rfl rfl)
theorem dX3_law_88 : decode cX3_law 88 = .ok (.istore 5, 2) := dk_54 5 (dk_at dksX3_law_3 17 rfl rfl)
theorem dX3_law_90 : decode cX3_law 90 = .ok (.aload_n 0, 1) := dk_42 (dk_at dksX3_law_3 19 rfl rfl)
theorem dX3_law_91 : decode cX3_law 91 = .ok (.aload_n 3, 1) := dk_45 (dk_at dksX3_law_3 20 rfl rfl)
theorem dX3_law_92 : decode cX3_law 92 = .ok (.putfield 28, 3) := dk_181 0 28 (dk_at dksX3_law_3 21 rfl rfl)
theorem dX3_law_95 : decode cX3_law 95 = .ok (.aload_n 0, 1) := dk_42 (dk_at dksX3_law_4 0 rfl rfl)
theorem dX3_law_96 : decode cX3_law 96 = .ok (.iload 4, 2) := dk_21 4 (dk_at dksX3_law_4 1 rfl rfl)
theorem dX3_law_98 : decode cX3_law 98 = .ok (.putfield 190, 3) := dk_181 0 190 (dk_at dksX3_law_4 3 rfl rfl)
theorem dX3_law_101 : decode cX3_law 101 = .ok (.aload_n 0, 1) := dk_42 (dk_at dksX3_law_4 6 rfl rfl)
theorem dX3_law_102 : decode cX3_law 102 = .ok (.iconst 0, 1) := dk_3 (dk_at dksX3_law_4 7 rfl rfl)
theorem dX3_law_103 : decode cX3_law 103 = .ok (.putfield 86, 3) := dk_181 0 86 (dk_at dksX3_law_4 8 rfl rfl)
theorem dX3_law_106 : decode cX3_law 106 = .ok (.aload_n 0, 1) := dk_42 (dk_at dksX3_law_4 11 rfl rfl)
theorem dX3_law_107 : decode cX3_law 107 = .ok (.iload 5, 2) := dk_21 5 (dk_at dksX3_law_4 12 rfl rfl)
theorem dX3_law_109 : decode cX3_law 109 = .ok (.i2l, 1) := dk_133 (dk_at dksX3_law_4 14 rfl rfl)
theorem dX3_law_110 : decode cX3_law 110 = .ok (.invokevirtual 286, 3) := dk_182 1 30 (dk_at dksX3_law_4 15 rfl rfl)
theorem dX3_law_113 : decode cX3_law 113 = .ok (.aload_n 0, 1) := dk_42 (dk_at dksX3_law_4 18 rfl rfl)
theorem dX3_law_114 : decode cX3_law 114 = .ok (.iload_n 2, 1) := dk_28 (dk_at dksX3_law_4 19 rfl rfl)
theorem dX3_law_115 : decode cX3_law 115 = .ok (.i2l, 1) := dk_133 (dk_at dksX3_law_4 20 rfl rfl)
theorem dX3_law_116 : decode cX3_law 116 = .ok (.invokevirtual 286, 3) := dk_182 1 30 (dk_at dksX3_law_4 21 rfl rfl)
theorem dX3_law_119 : decode cX3_law 119 = .ok (.iload 5, 2) := dk_21 5 (dk_at dksX3_law_5 0 rfl rfl)
theorem dX3_law_121 : decode cX3_law 121 = .ok (.iload_n 2, 1) := dk_28 (dk_at dksX3_law_5 2 rfl rfl)
theorem dX3_law_122 : decode cX3_law 122 = .ok (.isub, 1) := dk_100 (dk_at dksX3_law_5 3 rfl rfl)
theorem dX3_law_123 : decode cX3_law 123 = .ok (.ireturn, 1) := dk_172 (dk_at dksX3_law_5 4 rfl rfl)
abbrev cX3_flownIn60 : ByteArray := prog_9_method_111_code
def yX3_flownIn60 : MethodName := ⟨RX3, "flownIn60", "()I"⟩
def dkwX3_flownIn60_1 : List UInt8 := [180, 0, 43, 16, 81, 46, 42, 180, 0, 9, 16, 81, 46, 100, 172]
abbrev dktX3_flownIn60_1 : List UInt8 := dkwX3_flownIn60_1 ++ []
def dkwX3_flownIn60_0 : List UInt8 := [42, 180, 0, 9, 42, 180, 0, 43, 3, 184, 0, 229, 42, 42, 180, 0, 43, 16, 60, 182, 1, 27, 42]
abbrev dktX3_flownIn60_0 : List UInt8 := dkwX3_flownIn60_0 ++ dktX3_flownIn60_1
theorem dksX3_flownIn60_0 : cX3_flownIn60.data.toList.drop 0 = dktX3_flownIn60_0 := by decide +kernel
theorem dksX3_flownIn60_1 : cX3_flownIn60.data.toList.drop 23 = dktX3_flownIn60_1 := dk_seg dksX3_flownIn60_0 23 rfl rfl
theorem dX3_flownIn60_0 : decode cX3_flownIn60 0 = .ok (.aload_n 0, 1) := dk_42 (dk_at dksX3_flownIn60_0 0 rfl rfl)
theorem dX3_flownIn60_1 : decode cX3_flownIn60 1 = .ok (.getfield 9, 3) := dk_180 0 9 (dk_at dksX3_flownIn60_0 1 rfl rfl)
theorem dX3_flownIn60_4 : decode cX3_flownIn60 4 = .ok (.aload_n 0, 1) := dk_42 (dk_at dksX3_flownIn60_0 4 rfl rfl)
theorem dX3_flownIn60_5 : decode cX3_flownIn60 5 = .ok (.getfield 43, 3) := dk_180 0 43 (dk_at dksX3_flownIn60_0 5 rfl rfl)
theorem dX3_flownIn60_8 : decode cX3_flownIn60 8 = .ok (.iconst 0, 1) := dk_3 (dk_at dksX3_flownIn60_0 8 rfl rfl)
theorem dX3_flownIn60_9 : decode cX3_flownIn60 9 = .ok (.invokestatic 229, 3) := dk_184 0 229 (dk_at dksX3_flownIn60_0 9 rfl rfl)
theorem dX3_flownIn60_12 : decode cX3_flownIn60 12 = .ok (.aload_n 0, 1) := dk_42 (dk_at dksX3_flownIn60_0 12 rfl rfl)
theorem dX3_flownIn60_13 : decode cX3_flownIn60 13 = .ok (.aload_n 0, 1) := dk_42 (dk_at dksX3_flownIn60_0 13 rfl rfl)
theorem dX3_flownIn60_14 : decode cX3_flownIn60 14 = .ok (.getfield 43, 3) := dk_180 0 43 (dk_at dksX3_flownIn60_0 14 rfl rfl)
theorem dX3_flownIn60_17 : decode cX3_flownIn60 17 = .ok (.bipush 60, 2) := dk_16 60 (dk_at dksX3_flownIn60_0 17 rfl rfl)
theorem dX3_flownIn60_19 : decode cX3_flownIn60 19 = .ok (.invokevirtual 283, 3) := dk_182 1 27 (dk_at dksX3_flownIn60_0 19 rfl rfl)
theorem dX3_flownIn60_22 : decode cX3_flownIn60 22 = .ok (.aload_n 0, 1) := dk_42 (dk_at dksX3_flownIn60_0 22 rfl rfl)
theorem dX3_flownIn60_23 : decode cX3_flownIn60 23 = .ok (.getfield 43, 3) := dk_180 0 43 (dk_at dksX3_flownIn60_1 0 rfl rfl)
theorem dX3_flownIn60_26 : decode cX3_flownIn60 26 = .ok (.bipush 81, 2) := dk_16 81 (dk_at dksX3_flownIn60_1 3 rfl rfl)
theorem dX3_flownIn60_28 : decode cX3_flownIn60 28 = .ok (.iaload, 1) := dk_46 (dk_at dksX3_flownIn60_1 5 rfl rfl)
theorem dX3_flownIn60_29 : decode cX3_flownIn60 29 = .ok (.aload_n 0, 1) := dk_42 (dk_at dksX3_flownIn60_1 6 rfl rfl)
theorem dX3_flownIn60_30 : decode cX3_flownIn60 30 = .ok (.getfield 9, 3) := dk_180 0 9 (dk_at dksX3_flownIn60_1 7 rfl rfl)
theorem dX3_flownIn60_33 : decode cX3_flownIn60 33 = .ok (.bipush 81, 2) := dk_16 81 (dk_at dksX3_flownIn60_1 10 rfl rfl)
theorem dX3_flownIn60_35 : decode cX3_flownIn60 35 = .ok (.iaload, 1) := dk_46 (dk_at dksX3_flownIn60_1 12 rfl rfl)
theorem dX3_flownIn60_36 : decode cX3_flownIn60 36 = .ok (.isub, 1) := dk_100 (dk_at dksX3_flownIn60_1 13 rfl rfl)
theorem dX3_flownIn60_37 : decode cX3_flownIn60 37 = .ok (.ireturn, 1) := dk_172 (dk_at dksX3_flownIn60_1 14 rfl rfl)
abbrev cX3_years : ByteArray := prog_9_method_114_code
def yX3_years : MethodName := ⟨RX3, "years", "(II)I"⟩
def dkwX3_years_10 : List UInt8 := [180, 0, 43, 16, 81, 46, 42, 180, 0, 9, 16, 81, 46, 100, 172]
abbrev dktX3_years_10 : List UInt8 := dkwX3_years_10 ++ []
def dkwX3_years_9 : List UInt8 := [16, 82, 46, 100, 133, 182, 1, 30, 42, 42, 42, 180, 0, 43, 182, 0, 202, 133, 182, 1, 30, 42]
abbrev dktX3_years_9 : List UInt8 := dkwX3_years_9 ++ dktX3_years_10
def dkwX3_years_8 : List UInt8 := [132, 3, 1, 167, 255, 105, 42, 3, 181, 0, 86, 42, 42, 180, 0, 43, 16, 82, 46, 42, 180, 0, 9]
abbrev dktX3_years_8 : List UInt8 := dkwX3_years_8 ++ dktX3_years_9
def dkwX3_years_7 : List UInt8 := [180, 0, 43, 21, 5, 21, 6, 182, 1, 0, 154, 0, 14, 42, 180, 0, 43, 21, 5, 21, 6, 184, 1, 4]
abbrev dktX3_years_7 : List UInt8 := dkwX3_years_7 ++ dktX3_years_8
def dkwX3_years_6 : List UInt8 := [180, 0, 43, 21, 5, 184, 0, 250, 21, 4, 7, 160, 0, 37, 42, 16, 10, 182, 1, 124, 54, 6, 42, 42]
abbrev dktX3_years_6 : List UInt8 := dkwX3_years_6 ++ dktX3_years_7
def dkwX3_years_5 : List UInt8 := [184, 0, 240, 21, 4, 6, 160, 0, 25, 42, 42, 180, 0, 43, 21, 5, 182, 0, 247, 154, 0, 12, 42]
abbrev dktX3_years_5 : List UInt8 := dkwX3_years_5 ++ dktX3_years_6
def dkwX3_years_4 : List UInt8 := [160, 0, 25, 42, 42, 180, 0, 43, 21, 5, 182, 0, 233, 154, 0, 12, 42, 180, 0, 43, 21, 5]
abbrev dktX3_years_4 : List UInt8 := dkwX3_years_4 ++ dktX3_years_5
def dkwX3_years_3 : List UInt8 := [180, 0, 89, 154, 0, 6, 167, 0, 109, 42, 42, 180, 0, 89, 182, 1, 124, 54, 5, 21, 4, 5]
abbrev dktX3_years_3 : List UInt8 := dkwX3_years_3 ++ dktX3_years_4
def dkwX3_years_2 : List UInt8 := [54, 4, 21, 4, 5, 162, 0, 11, 42, 42, 180, 0, 43, 182, 1, 24, 21, 4, 5, 161, 0, 119, 42]
abbrev dktX3_years_2 : List UInt8 := dkwX3_years_2 ++ dktX3_years_3
def dkwX3_years_1 : List UInt8 := [180, 0, 9, 42, 180, 0, 43, 3, 184, 0, 229, 3, 62, 29, 28, 162, 0, 152, 42, 8, 182, 1, 124]
abbrev dktX3_years_1 : List UInt8 := dkwX3_years_1 ++ dktX3_years_2
def dkwX3_years_0 : List UInt8 := [42, 3, 181, 0, 83, 28, 4, 16, 60, 184, 0, 92, 154, 0, 5, 2, 172, 42, 27, 181, 1, 120, 42]
abbrev dktX3_years_0 : List UInt8 := dkwX3_years_0 ++ dktX3_years_1
theorem dksX3_years_0 : cX3_years.data.toList.drop 0 = dktX3_years_0 := by decide +kernel
theorem dksX3_years_1 : cX3_years.data.toList.drop 23 = dktX3_years_1 := dk_seg dksX3_years_0 23 rfl rfl
theorem dksX3_years_2 : cX3_years.data.toList.drop 46 = dktX3_years_2 := dk_seg dksX3_years_1 23 rfl rfl
theorem dksX3_years_3 : cX3_years.data.toList.drop 69 = dktX3_years_3 := dk_seg dksX3_years_2 23 rfl rfl
theorem dksX3_years_4 : cX3_years.data.toList.drop 91 = dktX3_years_4 := dk_seg dksX3_years_3 22 rfl rfl
theorem dksX3_years_5 : cX3_years.data.toList.drop 113 = dktX3_years_5 := dk_seg dksX3_years_4 22 rfl rfl
theorem dksX3_years_6 : cX3_years.data.toList.drop 136 = dktX3_years_6 := dk_seg dksX3_years_5 23 rfl rfl
theorem dksX3_years_7 : cX3_years.data.toList.drop 160 = dktX3_years_7 := dk_seg dksX3_years_6 24 rfl rfl
theorem dksX3_years_8 : cX3_years.data.toList.drop 184 = dktX3_years_8 := dk_seg dksX3_years_7 24 rfl rfl
theorem dksX3_years_9 : cX3_years.data.toList.drop 207 = dktX3_years_9 := dk_seg dksX3_years_8 23 rfl rfl
theorem dksX3_years_10 : cX3_years.data.toList.drop 229 = dktX3_years_10 := dk_seg dksX3_years_9 22 rfl rfl
theorem dX3_years_0 : decode cX3_years 0 = .ok (.aload_n 0, 1) := dk_42 (dk_at dksX3_years_0 0 rfl rfl)
theorem dX3_years_1 : decode cX3_years 1 = .ok (.iconst 0, 1) := dk_3 (dk_at dksX3_years_0 1 rfl rfl)
theorem dX3_years_2 : decode cX3_years 2 = .ok (.putfield 83, 3) := dk_181 0 83 (dk_at dksX3_years_0 2 rfl rfl)
theorem dX3_years_5 : decode cX3_years 5 = .ok (.iload_n 2, 1) := dk_28 (dk_at dksX3_years_0 5 rfl rfl)
theorem dX3_years_6 : decode cX3_years 6 = .ok (.iconst 1, 1) := dk_4 (dk_at dksX3_years_0 6 rfl rfl)
theorem dX3_years_7 : decode cX3_years 7 = .ok (.bipush 60, 2) := dk_16 60 (dk_at dksX3_years_0 7 rfl rfl)
theorem dX3_years_9 : decode cX3_years 9 = .ok (.invokestatic 92, 3) := dk_184 0 92 (dk_at dksX3_years_0 9 rfl rfl)
theorem dX3_years_12 : decode cX3_years 12 = .ok (.ifCond .ne 5, 3) := dk_154 0 5 (dk_at dksX3_years_0 12 rfl rfl)
theorem dX3_years_15 : decode cX3_years 15 = .ok (.iconst (-1), 1) := dk_2 (dk_at dksX3_years_0 15 rfl rfl)
theorem dX3_years_16 : decode cX3_years 16 = .ok (.ireturn, 1) := dk_172 (dk_at dksX3_years_0 16 rfl rfl)
theorem dX3_years_17 : decode cX3_years 17 = .ok (.aload_n 0, 1) := dk_42 (dk_at dksX3_years_0 17 rfl rfl)
theorem dX3_years_18 : decode cX3_years 18 = .ok (.iload_n 1, 1) := dk_27 (dk_at dksX3_years_0 18 rfl rfl)
theorem dX3_years_19 : decode cX3_years 19 = .ok (.putfield 376, 3) := dk_181 1 120 (dk_at dksX3_years_0 19 rfl rfl)
theorem dX3_years_22 : decode cX3_years 22 = .ok (.aload_n 0, 1) := dk_42 (dk_at dksX3_years_0 22 rfl rfl)
theorem dX3_years_23 : decode cX3_years 23 = .ok (.getfield 9, 3) := dk_180 0 9 (dk_at dksX3_years_1 0 rfl rfl)
theorem dX3_years_26 : decode cX3_years 26 = .ok (.aload_n 0, 1) := dk_42 (dk_at dksX3_years_1 3 rfl rfl)
theorem dX3_years_27 : decode cX3_years 27 = .ok (.getfield 43, 3) := dk_180 0 43 (dk_at dksX3_years_1 4 rfl rfl)
theorem dX3_years_30 : decode cX3_years 30 = .ok (.iconst 0, 1) := dk_3 (dk_at dksX3_years_1 7 rfl rfl)
theorem dX3_years_31 : decode cX3_years 31 = .ok (.invokestatic 229, 3) := dk_184 0 229 (dk_at dksX3_years_1 8 rfl rfl)
theorem dX3_years_34 : decode cX3_years 34 = .ok (.iconst 0, 1) := dk_3 (dk_at dksX3_years_1 11 rfl rfl)
theorem dX3_years_35 : decode cX3_years 35 = .ok (.istore_n 3, 1) := dk_62 (dk_at dksX3_years_1 12 rfl rfl)
theorem dX3_years_36 : decode cX3_years 36 = .ok (.iload_n 3, 1) := dk_29 (dk_at dksX3_years_1 13 rfl rfl)
theorem dX3_years_37 : decode cX3_years 37 = .ok (.iload_n 2, 1) := dk_28 (dk_at dksX3_years_1 14 rfl rfl)
theorem dX3_years_38 : decode cX3_years 38 = .ok (.if_icmp .ge 152, 3) := dk_162 0 152 (dk_at dksX3_years_1 15 rfl rfl)
theorem dX3_years_41 : decode cX3_years 41 = .ok (.aload_n 0, 1) := dk_42 (dk_at dksX3_years_1 18 rfl rfl)
theorem dX3_years_42 : decode cX3_years 42 = .ok (.iconst 5, 1) := dk_8 (dk_at dksX3_years_1 19 rfl rfl)
theorem dX3_years_43 : decode cX3_years 43 = .ok (.invokevirtual 380, 3) := dk_182 1 124 (dk_at dksX3_years_1 20 rfl rfl)
theorem dX3_years_46 : decode cX3_years 46 = .ok (.istore 4, 2) := dk_54 4 (dk_at dksX3_years_2 0 rfl rfl)
theorem dX3_years_48 : decode cX3_years 48 = .ok (.iload 4, 2) := dk_21 4 (dk_at dksX3_years_2 2 rfl rfl)
theorem dX3_years_50 : decode cX3_years 50 = .ok (.iconst 2, 1) := dk_5 (dk_at dksX3_years_2 4 rfl rfl)
theorem dX3_years_51 : decode cX3_years 51 = .ok (.if_icmp .ge 11, 3) := dk_162 0 11 (dk_at dksX3_years_2 5 rfl rfl)
theorem dX3_years_54 : decode cX3_years 54 = .ok (.aload_n 0, 1) := dk_42 (dk_at dksX3_years_2 8 rfl rfl)
theorem dX3_years_55 : decode cX3_years 55 = .ok (.aload_n 0, 1) := dk_42 (dk_at dksX3_years_2 9 rfl rfl)
theorem dX3_years_56 : decode cX3_years 56 = .ok (.getfield 43, 3) := dk_180 0 43 (dk_at dksX3_years_2 10 rfl rfl)
theorem dX3_years_59 : decode cX3_years 59 = .ok (.invokevirtual 280, 3) := dk_182 1 24 (dk_at dksX3_years_2 13 rfl rfl)
theorem dX3_years_62 : decode cX3_years 62 = .ok (.iload 4, 2) := dk_21 4 (dk_at dksX3_years_2 16 rfl rfl)
theorem dX3_years_64 : decode cX3_years 64 = .ok (.iconst 2, 1) := dk_5 (dk_at dksX3_years_2 18 rfl rfl)
theorem dX3_years_65 : decode cX3_years 65 = .ok (.if_icmp .lt 119, 3) := dk_161 0 119 (dk_at dksX3_years_2 19 rfl rfl)
theorem dX3_years_68 : decode cX3_years 68 = .ok (.aload_n 0, 1) := dk_42 (dk_at dksX3_years_2 22 rfl rfl)
theorem dX3_years_69 : decode cX3_years 69 = .ok (.getfield 89, 3) := dk_180 0 89 (dk_at dksX3_years_3 0 rfl rfl)
theorem dX3_years_72 : decode cX3_years 72 = .ok (.ifCond .ne 6, 3) := dk_154 0 6 (dk_at dksX3_years_3 3 rfl rfl)
theorem dX3_years_75 : decode cX3_years 75 = .ok (.goto 109, 3) := dk_167 0 109 (dk_at dksX3_years_3 6 rfl rfl)
theorem dX3_years_78 : decode cX3_years 78 = .ok (.aload_n 0, 1) := dk_42 (dk_at dksX3_years_3 9 rfl rfl)
theorem dX3_years_79 : decode cX3_years 79 = .ok (.aload_n 0, 1) := dk_42 (dk_at dksX3_years_3 10 rfl rfl)
theorem dX3_years_80 : decode cX3_years 80 = .ok (.getfield 89, 3) := dk_180 0 89 (dk_at dksX3_years_3 11 rfl rfl)
theorem dX3_years_83 : decode cX3_years 83 = .ok (.invokevirtual 380, 3) := dk_182 1 124 (dk_at dksX3_years_3 14 rfl rfl)
theorem dX3_years_86 : decode cX3_years 86 = .ok (.istore 5, 2) := dk_54 5 (dk_at dksX3_years_3 17 rfl rfl)
theorem dX3_years_88 : decode cX3_years 88 = .ok (.iload 4, 2) := dk_21 4 (dk_at dksX3_years_3 19 rfl rfl)
theorem dX3_years_90 : decode cX3_years 90 = .ok (.iconst 2, 1) := dk_5 (dk_at dksX3_years_3 21 rfl rfl)
theorem dX3_years_91 : decode cX3_years 91 = .ok (.if_icmp .ne 25, 3) := dk_160 0 25 (dk_at dksX3_years_4 0 rfl rfl)
theorem dX3_years_94 : decode cX3_years 94 = .ok (.aload_n 0, 1) := dk_42 (dk_at dksX3_years_4 3 rfl rfl)
theorem dX3_years_95 : decode cX3_years 95 = .ok (.aload_n 0, 1) := dk_42 (dk_at dksX3_years_4 4 rfl rfl)
theorem dX3_years_96 : decode cX3_years 96 = .ok (.getfield 43, 3) := dk_180 0 43 (dk_at dksX3_years_4 5 rfl rfl)
theorem dX3_years_99 : decode cX3_years 99 = .ok (.iload 5, 2) := dk_21 5 (dk_at dksX3_years_4 8 rfl rfl)
theorem dX3_years_101 : decode cX3_years 101 = .ok (.invokevirtual 233, 3) := dk_182 0 233 (dk_at dksX3_years_4 10 rfl rfl)
theorem dX3_years_104 : decode cX3_years 104 = .ok (.ifCond .ne 12, 3) := dk_154 0 12 (dk_at dksX3_years_4 13 rfl rfl)
theorem dX3_years_107 : decode cX3_years 107 = .ok (.aload_n 0, 1) := dk_42 (dk_at dksX3_years_4 16 rfl rfl)
theorem dX3_years_108 : decode cX3_years 108 = .ok (.getfield 43, 3) := dk_180 0 43 (dk_at dksX3_years_4 17 rfl rfl)
theorem dX3_years_111 : decode cX3_years 111 = .ok (.iload 5, 2) := dk_21 5 (dk_at dksX3_years_4 20 rfl rfl)
theorem dX3_years_113 : decode cX3_years 113 = .ok (.invokestatic 240, 3) := dk_184 0 240 (dk_at dksX3_years_5 0 rfl rfl)
theorem dX3_years_116 : decode cX3_years 116 = .ok (.iload 4, 2) := dk_21 4 (dk_at dksX3_years_5 3 rfl rfl)
theorem dX3_years_118 : decode cX3_years 118 = .ok (.iconst 3, 1) := dk_6 (dk_at dksX3_years_5 5 rfl rfl)
theorem dX3_years_119 : decode cX3_years 119 = .ok (.if_icmp .ne 25, 3) := dk_160 0 25 (dk_at dksX3_years_5 6 rfl rfl)
theorem dX3_years_122 : decode cX3_years 122 = .ok (.aload_n 0, 1) := dk_42 (dk_at dksX3_years_5 9 rfl rfl)
theorem dX3_years_123 : decode cX3_years 123 = .ok (.aload_n 0, 1) := dk_42 (dk_at dksX3_years_5 10 rfl rfl)
theorem dX3_years_124 : decode cX3_years 124 = .ok (.getfield 43, 3) := dk_180 0 43 (dk_at dksX3_years_5 11 rfl rfl)
theorem dX3_years_127 : decode cX3_years 127 = .ok (.iload 5, 2) := dk_21 5 (dk_at dksX3_years_5 14 rfl rfl)
theorem dX3_years_129 : decode cX3_years 129 = .ok (.invokevirtual 247, 3) := dk_182 0 247 (dk_at dksX3_years_5 16 rfl rfl)
theorem dX3_years_132 : decode cX3_years 132 = .ok (.ifCond .ne 12, 3) := dk_154 0 12 (dk_at dksX3_years_5 19 rfl rfl)
theorem dX3_years_135 : decode cX3_years 135 = .ok (.aload_n 0, 1) := dk_42 (dk_at dksX3_years_5 22 rfl rfl)
theorem dX3_years_136 : decode cX3_years 136 = .ok (.getfield 43, 3) := dk_180 0 43 (dk_at dksX3_years_6 0 rfl rfl)
theorem dX3_years_139 : decode cX3_years 139 = .ok (.iload 5, 2) := dk_21 5 (dk_at dksX3_years_6 3 rfl rfl)
theorem dX3_years_141 : decode cX3_years 141 = .ok (.invokestatic 250, 3) := dk_184 0 250 (dk_at dksX3_years_6 5 rfl rfl)
theorem dX3_years_144 : decode cX3_years 144 = .ok (.iload 4, 2) := dk_21 4 (dk_at dksX3_years_6 8 rfl rfl)
theorem dX3_years_146 : decode cX3_years 146 = .ok (.iconst 4, 1) := dk_7 (dk_at dksX3_years_6 10 rfl rfl)
theorem dX3_years_147 : decode cX3_years 147 = .ok (.if_icmp .ne 37, 3) := dk_160 0 37 (dk_at dksX3_years_6 11 rfl rfl)
theorem dX3_years_150 : decode cX3_years 150 = .ok (.aload_n 0, 1) := dk_42 (dk_at dksX3_years_6 14 rfl rfl)
theorem dX3_years_151 : decode cX3_years 151 = .ok (.bipush 10, 2) := dk_16 10 (dk_at dksX3_years_6 15 rfl rfl)
theorem dX3_years_153 : decode cX3_years 153 = .ok (.invokevirtual 380, 3) := dk_182 1 124 (dk_at dksX3_years_6 17 rfl rfl)
theorem dX3_years_156 : decode cX3_years 156 = .ok (.istore 6, 2) := dk_54 6 (dk_at dksX3_years_6 20 rfl rfl)
theorem dX3_years_158 : decode cX3_years 158 = .ok (.aload_n 0, 1) := dk_42 (dk_at dksX3_years_6 22 rfl rfl)
theorem dX3_years_159 : decode cX3_years 159 = .ok (.aload_n 0, 1) := dk_42 (dk_at dksX3_years_6 23 rfl rfl)
theorem dX3_years_160 : decode cX3_years 160 = .ok (.getfield 43, 3) := dk_180 0 43 (dk_at dksX3_years_7 0 rfl rfl)
theorem dX3_years_163 : decode cX3_years 163 = .ok (.iload 5, 2) := dk_21 5 (dk_at dksX3_years_7 3 rfl rfl)
theorem dX3_years_165 : decode cX3_years 165 = .ok (.iload 6, 2) := dk_21 6 (dk_at dksX3_years_7 5 rfl rfl)
theorem dX3_years_167 : decode cX3_years 167 = .ok (.invokevirtual 256, 3) := dk_182 1 0 (dk_at dksX3_years_7 7 rfl rfl)
theorem dX3_years_170 : decode cX3_years 170 = .ok (.ifCond .ne 14, 3) := dk_154 0 14 (dk_at dksX3_years_7 10 rfl rfl)
theorem dX3_years_173 : decode cX3_years 173 = .ok (.aload_n 0, 1) := dk_42 (dk_at dksX3_years_7 13 rfl rfl)
theorem dX3_years_174 : decode cX3_years 174 = .ok (.getfield 43, 3) := dk_180 0 43 (dk_at dksX3_years_7 14 rfl rfl)
theorem dX3_years_177 : decode cX3_years 177 = .ok (.iload 5, 2) := dk_21 5 (dk_at dksX3_years_7 17 rfl rfl)
theorem dX3_years_179 : decode cX3_years 179 = .ok (.iload 6, 2) := dk_21 6 (dk_at dksX3_years_7 19 rfl rfl)
theorem dX3_years_181 : decode cX3_years 181 = .ok (.invokestatic 260, 3) := dk_184 1 4 (dk_at dksX3_years_7 21 rfl rfl)
theorem dX3_years_184 : decode cX3_years 184 = .ok (.iinc 3 1, 3) := dk_132 3 1 (dk_at dksX3_years_8 0 rfl rfl)
theorem dX3_years_187 : decode cX3_years 187 = .ok (.goto (-151), 3) := dk_167 255 105 (dk_at dksX3_years_8 3 rfl rfl)
theorem dX3_years_190 : decode cX3_years 190 = .ok (.aload_n 0, 1) := dk_42 (dk_at dksX3_years_8 6 rfl rfl)
theorem dX3_years_191 : decode cX3_years 191 = .ok (.iconst 0, 1) := dk_3 (dk_at dksX3_years_8 7 rfl rfl)
theorem dX3_years_192 : decode cX3_years 192 = .ok (.putfield 86, 3) := dk_181 0 86 (dk_at dksX3_years_8 8 rfl rfl)
theorem dX3_years_195 : decode cX3_years 195 = .ok (.aload_n 0, 1) := dk_42 (dk_at dksX3_years_8 11 rfl rfl)
theorem dX3_years_196 : decode cX3_years 196 = .ok (.aload_n 0, 1) := dk_42 (dk_at dksX3_years_8 12 rfl rfl)
theorem dX3_years_197 : decode cX3_years 197 = .ok (.getfield 43, 3) := dk_180 0 43 (dk_at dksX3_years_8 13 rfl rfl)
theorem dX3_years_200 : decode cX3_years 200 = .ok (.bipush 82, 2) := dk_16 82 (dk_at dksX3_years_8 16 rfl rfl)
theorem dX3_years_202 : decode cX3_years 202 = .ok (.iaload, 1) := dk_46 (dk_at dksX3_years_8 18 rfl rfl)
theorem dX3_years_203 : decode cX3_years 203 = .ok (.aload_n 0, 1) := dk_42 (dk_at dksX3_years_8 19 rfl rfl)
theorem dX3_years_204 : decode cX3_years 204 = .ok (.getfield 9, 3) := dk_180 0 9 (dk_at dksX3_years_8 20 rfl rfl)
theorem dX3_years_207 : decode cX3_years 207 = .ok (.bipush 82, 2) := dk_16 82 (dk_at dksX3_years_9 0 rfl rfl)
theorem dX3_years_209 : decode cX3_years 209 = .ok (.iaload, 1) := dk_46 (dk_at dksX3_years_9 2 rfl rfl)
theorem dX3_years_210 : decode cX3_years 210 = .ok (.isub, 1) := dk_100 (dk_at dksX3_years_9 3 rfl rfl)
theorem dX3_years_211 : decode cX3_years 211 = .ok (.i2l, 1) := dk_133 (dk_at dksX3_years_9 4 rfl rfl)
theorem dX3_years_212 : decode cX3_years 212 = .ok (.invokevirtual 286, 3) := dk_182 1 30 (dk_at dksX3_years_9 5 rfl rfl)
theorem dX3_years_215 : decode cX3_years 215 = .ok (.aload_n 0, 1) := dk_42 (dk_at dksX3_years_9 8 rfl rfl)
theorem dX3_years_216 : decode cX3_years 216 = .ok (.aload_n 0, 1) := dk_42 (dk_at dksX3_years_9 9 rfl rfl)
theorem dX3_years_217 : decode cX3_years 217 = .ok (.aload_n 0, 1) := dk_42 (dk_at dksX3_years_9 10 rfl rfl)
theorem dX3_years_218 : decode cX3_years 218 = .ok (.getfield 43, 3) := dk_180 0 43 (dk_at dksX3_years_9 11 rfl rfl)
theorem dX3_years_221 : decode cX3_years 221 = .ok (.invokevirtual 202, 3) := dk_182 0 202 (dk_at dksX3_years_9 14 rfl rfl)
theorem dX3_years_224 : decode cX3_years 224 = .ok (.i2l, 1) := dk_133 (dk_at dksX3_years_9 17 rfl rfl)
theorem dX3_years_225 : decode cX3_years 225 = .ok (.invokevirtual 286, 3) := dk_182 1 30 (dk_at dksX3_years_9 18 rfl rfl)
theorem dX3_years_228 : decode cX3_years 228 = .ok (.aload_n 0, 1) := dk_42 (dk_at dksX3_years_9 21 rfl rfl)
theorem dX3_years_229 : decode cX3_years 229 = .ok (.getfield 43, 3) := dk_180 0 43 (dk_at dksX3_years_10 0 rfl rfl)
theorem dX3_years_232 : decode cX3_years 232 = .ok (.bipush 81, 2) := dk_16 81 (dk_at dksX3_years_10 3 rfl rfl)
theorem dX3_years_234 : decode cX3_years 234 = .ok (.iaload, 1) := dk_46 (dk_at dksX3_years_10 5 rfl rfl)
theorem dX3_years_235 : decode cX3_years 235 = .ok (.aload_n 0, 1) := dk_42 (dk_at dksX3_years_10 6 rfl rfl)
theorem dX3_years_236 : decode cX3_years 236 = .ok (.getfield 9, 3) := dk_180 0 9 (dk_at dksX3_years_10 7 rfl rfl)
theorem dX3_years_239 : decode cX3_years 239 = .ok (.bipush 81, 2) := dk_16 81 (dk_at dksX3_years_10 10 rfl rfl)
theorem dX3_years_241 : decode cX3_years 241 = .ok (.iaload, 1) := dk_46 (dk_at dksX3_years_10 12 rfl rfl)
theorem dX3_years_242 : decode cX3_years 242 = .ok (.isub, 1) := dk_100 (dk_at dksX3_years_10 13 rfl rfl)
theorem dX3_years_243 : decode cX3_years 243 = .ok (.ireturn, 1) := dk_172 (dk_at dksX3_years_10 14 rfl rfl)
abbrev cX3_draw : ByteArray := prog_9_method_113_code
def yX3_draw : MethodName := ⟨RX3, "draw", "(I)I"⟩
def dkwX3_draw_1 : List UInt8 := [112, 172]
abbrev dktX3_draw_1 : List UInt8 := dkwX3_draw_1 ++ []
def dkwX3_draw_0 : List UInt8 := [42, 42, 180, 1, 120, 19, 1, 123, 104, 17, 48, 57, 96, 181, 1, 120, 42, 180, 1, 120, 16, 16, 124, 27]
abbrev dktX3_draw_0 : List UInt8 := dkwX3_draw_0 ++ dktX3_draw_1
theorem dksX3_draw_0 : cX3_draw.data.toList.drop 0 = dktX3_draw_0 := by decide +kernel
theorem dksX3_draw_1 : cX3_draw.data.toList.drop 24 = dktX3_draw_1 := dk_seg dksX3_draw_0 24 rfl rfl
theorem dX3_draw_0 : decode cX3_draw 0 = .ok (.aload_n 0, 1) := dk_42 (dk_at dksX3_draw_0 0 rfl rfl)
theorem dX3_draw_1 : decode cX3_draw 1 = .ok (.aload_n 0, 1) := dk_42 (dk_at dksX3_draw_0 1 rfl rfl)
theorem dX3_draw_2 : decode cX3_draw 2 = .ok (.getfield 376, 3) := dk_180 1 120 (dk_at dksX3_draw_0 2 rfl rfl)
theorem dX3_draw_5 : decode cX3_draw 5 = .ok (.ldc_w 379, 3) := dk_19 1 123 (dk_at dksX3_draw_0 5 rfl rfl)
theorem dX3_draw_8 : decode cX3_draw 8 = .ok (.imul, 1) := dk_104 (dk_at dksX3_draw_0 8 rfl rfl)
theorem dX3_draw_9 : decode cX3_draw 9 = .ok (.sipush 12345, 3) := dk_17 48 57 (dk_at dksX3_draw_0 9 rfl rfl)
theorem dX3_draw_12 : decode cX3_draw 12 = .ok (.iadd, 1) := dk_96 (dk_at dksX3_draw_0 12 rfl rfl)
theorem dX3_draw_13 : decode cX3_draw 13 = .ok (.putfield 376, 3) := dk_181 1 120 (dk_at dksX3_draw_0 13 rfl rfl)
theorem dX3_draw_16 : decode cX3_draw 16 = .ok (.aload_n 0, 1) := dk_42 (dk_at dksX3_draw_0 16 rfl rfl)
theorem dX3_draw_17 : decode cX3_draw 17 = .ok (.getfield 376, 3) := dk_180 1 120 (dk_at dksX3_draw_0 17 rfl rfl)
theorem dX3_draw_20 : decode cX3_draw 20 = .ok (.bipush 16, 2) := dk_16 16 (dk_at dksX3_draw_0 20 rfl rfl)
theorem dX3_draw_22 : decode cX3_draw 22 = .ok (.iushr, 1) := dk_124 (dk_at dksX3_draw_0 22 rfl rfl)
theorem dX3_draw_23 : decode cX3_draw 23 = .ok (.iload_n 1, 1) := dk_27 (dk_at dksX3_draw_0 23 rfl rfl)
theorem dX3_draw_24 : decode cX3_draw 24 = .ok (.irem, 1) := dk_112 (dk_at dksX3_draw_1 0 rfl rfl)
theorem dX3_draw_25 : decode cX3_draw 25 = .ok (.ireturn, 1) := dk_172 (dk_at dksX3_draw_1 1 rfl rfl)
abbrev cX3_keep : ByteArray := prog_9_method_115_code
def yX3_keep : MethodName := ⟨RX3, "keep", "(I)Z"⟩
def dkwX3_keep_2 : List UInt8 := [4, 172]
abbrev dktX3_keep_2 : List UInt8 := dkwX3_keep_2 ++ []
def dkwX3_keep_1 : List UInt8 := [180, 0, 80, 27, 42, 180, 0, 158, 79, 42, 180, 0, 9, 42, 180, 0, 73, 16, 83, 27, 104, 184, 0, 229]
abbrev dktX3_keep_1 : List UInt8 := dkwX3_keep_1 ++ dktX3_keep_2
def dkwX3_keep_0 : List UInt8 := [42, 3, 181, 0, 83, 27, 3, 4, 184, 0, 92, 154, 0, 5, 3, 172, 42, 180, 0, 76, 27, 4, 84, 42]
abbrev dktX3_keep_0 : List UInt8 := dkwX3_keep_0 ++ dktX3_keep_1
theorem dksX3_keep_0 : cX3_keep.data.toList.drop 0 = dktX3_keep_0 := by decide +kernel
theorem dksX3_keep_1 : cX3_keep.data.toList.drop 24 = dktX3_keep_1 := dk_seg dksX3_keep_0 24 rfl rfl
theorem dksX3_keep_2 : cX3_keep.data.toList.drop 48 = dktX3_keep_2 := dk_seg dksX3_keep_1 24 rfl rfl
theorem dX3_keep_0 : decode cX3_keep 0 = .ok (.aload_n 0, 1) := dk_42 (dk_at dksX3_keep_0 0 rfl rfl)
theorem dX3_keep_1 : decode cX3_keep 1 = .ok (.iconst 0, 1) := dk_3 (dk_at dksX3_keep_0 1 rfl rfl)
theorem dX3_keep_2 : decode cX3_keep 2 = .ok (.putfield 83, 3) := dk_181 0 83 (dk_at dksX3_keep_0 2 rfl rfl)
theorem dX3_keep_5 : decode cX3_keep 5 = .ok (.iload_n 1, 1) := dk_27 (dk_at dksX3_keep_0 5 rfl rfl)
theorem dX3_keep_6 : decode cX3_keep 6 = .ok (.iconst 0, 1) := dk_3 (dk_at dksX3_keep_0 6 rfl rfl)
theorem dX3_keep_7 : decode cX3_keep 7 = .ok (.iconst 1, 1) := dk_4 (dk_at dksX3_keep_0 7 rfl rfl)
theorem dX3_keep_8 : decode cX3_keep 8 = .ok (.invokestatic 92, 3) := dk_184 0 92 (dk_at dksX3_keep_0 8 rfl rfl)
theorem dX3_keep_11 : decode cX3_keep 11 = .ok (.ifCond .ne 5, 3) := dk_154 0 5 (dk_at dksX3_keep_0 11 rfl rfl)
theorem dX3_keep_14 : decode cX3_keep 14 = .ok (.iconst 0, 1) := dk_3 (dk_at dksX3_keep_0 14 rfl rfl)
theorem dX3_keep_15 : decode cX3_keep 15 = .ok (.ireturn, 1) := dk_172 (dk_at dksX3_keep_0 15 rfl rfl)
theorem dX3_keep_16 : decode cX3_keep 16 = .ok (.aload_n 0, 1) := dk_42 (dk_at dksX3_keep_0 16 rfl rfl)
theorem dX3_keep_17 : decode cX3_keep 17 = .ok (.getfield 76, 3) := dk_180 0 76 (dk_at dksX3_keep_0 17 rfl rfl)
theorem dX3_keep_20 : decode cX3_keep 20 = .ok (.iload_n 1, 1) := dk_27 (dk_at dksX3_keep_0 20 rfl rfl)
theorem dX3_keep_21 : decode cX3_keep 21 = .ok (.iconst 1, 1) := dk_4 (dk_at dksX3_keep_0 21 rfl rfl)
theorem dX3_keep_22 : decode cX3_keep 22 = .ok (.bastore, 1) := dk_84 (dk_at dksX3_keep_0 22 rfl rfl)
theorem dX3_keep_23 : decode cX3_keep 23 = .ok (.aload_n 0, 1) := dk_42 (dk_at dksX3_keep_0 23 rfl rfl)
theorem dX3_keep_24 : decode cX3_keep 24 = .ok (.getfield 80, 3) := dk_180 0 80 (dk_at dksX3_keep_1 0 rfl rfl)
theorem dX3_keep_27 : decode cX3_keep 27 = .ok (.iload_n 1, 1) := dk_27 (dk_at dksX3_keep_1 3 rfl rfl)
theorem dX3_keep_28 : decode cX3_keep 28 = .ok (.aload_n 0, 1) := dk_42 (dk_at dksX3_keep_1 4 rfl rfl)
theorem dX3_keep_29 : decode cX3_keep 29 = .ok (.getfield 158, 3) := dk_180 0 158 (dk_at dksX3_keep_1 5 rfl rfl)
theorem dX3_keep_32 : decode cX3_keep 32 = .ok (.iastore, 1) := dk_79 (dk_at dksX3_keep_1 8 rfl rfl)
theorem dX3_keep_33 : decode cX3_keep 33 = .ok (.aload_n 0, 1) := dk_42 (dk_at dksX3_keep_1 9 rfl rfl)
theorem dX3_keep_34 : decode cX3_keep 34 = .ok (.getfield 9, 3) := dk_180 0 9 (dk_at dksX3_keep_1 10 rfl rfl)
theorem dX3_keep_37 : decode cX3_keep 37 = .ok (.aload_n 0, 1) := dk_42 (dk_at dksX3_keep_1 13 rfl rfl)
theorem dX3_keep_38 : decode cX3_keep 38 = .ok (.getfield 73, 3) := dk_180 0 73 (dk_at dksX3_keep_1 14 rfl rfl)
theorem dX3_keep_41 : decode cX3_keep 41 = .ok (.bipush 83, 2) := dk_16 83 (dk_at dksX3_keep_1 17 rfl rfl)
theorem dX3_keep_43 : decode cX3_keep 43 = .ok (.iload_n 1, 1) := dk_27 (dk_at dksX3_keep_1 19 rfl rfl)
theorem dX3_keep_44 : decode cX3_keep 44 = .ok (.imul, 1) := dk_104 (dk_at dksX3_keep_1 20 rfl rfl)
theorem dX3_keep_45 : decode cX3_keep 45 = .ok (.invokestatic 229, 3) := dk_184 0 229 (dk_at dksX3_keep_1 21 rfl rfl)
theorem dX3_keep_48 : decode cX3_keep 48 = .ok (.iconst 1, 1) := dk_4 (dk_at dksX3_keep_2 0 rfl rfl)
theorem dX3_keep_49 : decode cX3_keep 49 = .ok (.ireturn, 1) := dk_172 (dk_at dksX3_keep_2 1 rfl rfl)
abbrev cX3_again : ByteArray := prog_9_method_116_code
def yX3_again : MethodName := ⟨RX3, "again", "(I)Z"⟩
def dkwX3_again_3 : List UInt8 := [181, 0, 155, 4, 172]
abbrev dktX3_again_3 : List UInt8 := dkwX3_again_3 ++ []
def dkwX3_again_2 : List UInt8 := [180, 0, 9, 28, 42, 180, 0, 73, 16, 83, 27, 104, 28, 96, 46, 79, 132, 2, 1, 167, 255, 230, 42, 3]
abbrev dktX3_again_2 : List UInt8 := dkwX3_again_2 ++ dktX3_again_3
def dkwX3_again_1 : List UInt8 := [180, 0, 80, 27, 46, 42, 180, 0, 158, 159, 0, 5, 3, 172, 3, 61, 28, 16, 83, 162, 0, 26, 42]
abbrev dktX3_again_1 : List UInt8 := dkwX3_again_1 ++ dktX3_again_2
def dkwX3_again_0 : List UInt8 := [42, 3, 181, 0, 83, 27, 3, 4, 184, 0, 92, 153, 0, 25, 42, 180, 0, 76, 27, 51, 153, 0, 16, 42]
abbrev dktX3_again_0 : List UInt8 := dkwX3_again_0 ++ dktX3_again_1
theorem dksX3_again_0 : cX3_again.data.toList.drop 0 = dktX3_again_0 := by decide +kernel
theorem dksX3_again_1 : cX3_again.data.toList.drop 24 = dktX3_again_1 := dk_seg dksX3_again_0 24 rfl rfl
theorem dksX3_again_2 : cX3_again.data.toList.drop 47 = dktX3_again_2 := dk_seg dksX3_again_1 23 rfl rfl
theorem dksX3_again_3 : cX3_again.data.toList.drop 71 = dktX3_again_3 := dk_seg dksX3_again_2 24 rfl rfl
theorem dX3_again_0 : decode cX3_again 0 = .ok (.aload_n 0, 1) := dk_42 (dk_at dksX3_again_0 0 rfl rfl)
theorem dX3_again_1 : decode cX3_again 1 = .ok (.iconst 0, 1) := dk_3 (dk_at dksX3_again_0 1 rfl rfl)
theorem dX3_again_2 : decode cX3_again 2 = .ok (.putfield 83, 3) := dk_181 0 83 (dk_at dksX3_again_0 2 rfl rfl)
theorem dX3_again_5 : decode cX3_again 5 = .ok (.iload_n 1, 1) := dk_27 (dk_at dksX3_again_0 5 rfl rfl)
theorem dX3_again_6 : decode cX3_again 6 = .ok (.iconst 0, 1) := dk_3 (dk_at dksX3_again_0 6 rfl rfl)
theorem dX3_again_7 : decode cX3_again 7 = .ok (.iconst 1, 1) := dk_4 (dk_at dksX3_again_0 7 rfl rfl)
theorem dX3_again_8 : decode cX3_again 8 = .ok (.invokestatic 92, 3) := dk_184 0 92 (dk_at dksX3_again_0 8 rfl rfl)
theorem dX3_again_11 : decode cX3_again 11 = .ok (.ifCond .eq 25, 3) := dk_153 0 25 (dk_at dksX3_again_0 11 rfl rfl)
theorem dX3_again_14 : decode cX3_again 14 = .ok (.aload_n 0, 1) := dk_42 (dk_at dksX3_again_0 14 rfl rfl)
theorem dX3_again_15 : decode cX3_again 15 = .ok (.getfield 76, 3) := dk_180 0 76 (dk_at dksX3_again_0 15 rfl rfl)
theorem dX3_again_18 : decode cX3_again 18 = .ok (.iload_n 1, 1) := dk_27 (dk_at dksX3_again_0 18 rfl rfl)
theorem dX3_again_19 : decode cX3_again 19 = .ok (.baload, 1) := dk_51 (dk_at dksX3_again_0 19 rfl rfl)
theorem dX3_again_20 : decode cX3_again 20 = .ok (.ifCond .eq 16, 3) := dk_153 0 16 (dk_at dksX3_again_0 20 rfl rfl)
theorem dX3_again_23 : decode cX3_again 23 = .ok (.aload_n 0, 1) := dk_42 (dk_at dksX3_again_0 23 rfl rfl)
theorem dX3_again_24 : decode cX3_again 24 = .ok (.getfield 80, 3) := dk_180 0 80 (dk_at dksX3_again_1 0 rfl rfl)
theorem dX3_again_27 : decode cX3_again 27 = .ok (.iload_n 1, 1) := dk_27 (dk_at dksX3_again_1 3 rfl rfl)
theorem dX3_again_28 : decode cX3_again 28 = .ok (.iaload, 1) := dk_46 (dk_at dksX3_again_1 4 rfl rfl)
theorem dX3_again_29 : decode cX3_again 29 = .ok (.aload_n 0, 1) := dk_42 (dk_at dksX3_again_1 5 rfl rfl)
theorem dX3_again_30 : decode cX3_again 30 = .ok (.getfield 158, 3) := dk_180 0 158 (dk_at dksX3_again_1 6 rfl rfl)
theorem dX3_again_33 : decode cX3_again 33 = .ok (.if_icmp .eq 5, 3) := dk_159 0 5 (dk_at dksX3_again_1 9 rfl rfl)
theorem dX3_again_36 : decode cX3_again 36 = .ok (.iconst 0, 1) := dk_3 (dk_at dksX3_again_1 12 rfl rfl)
theorem dX3_again_37 : decode cX3_again 37 = .ok (.ireturn, 1) := dk_172 (dk_at dksX3_again_1 13 rfl rfl)
theorem dX3_again_38 : decode cX3_again 38 = .ok (.iconst 0, 1) := dk_3 (dk_at dksX3_again_1 14 rfl rfl)
theorem dX3_again_39 : decode cX3_again 39 = .ok (.istore_n 2, 1) := dk_61 (dk_at dksX3_again_1 15 rfl rfl)
theorem dX3_again_40 : decode cX3_again 40 = .ok (.iload_n 2, 1) := dk_28 (dk_at dksX3_again_1 16 rfl rfl)
theorem dX3_again_41 : decode cX3_again 41 = .ok (.bipush 83, 2) := dk_16 83 (dk_at dksX3_again_1 17 rfl rfl)
theorem dX3_again_43 : decode cX3_again 43 = .ok (.if_icmp .ge 26, 3) := dk_162 0 26 (dk_at dksX3_again_1 19 rfl rfl)
theorem dX3_again_46 : decode cX3_again 46 = .ok (.aload_n 0, 1) := dk_42 (dk_at dksX3_again_1 22 rfl rfl)
theorem dX3_again_47 : decode cX3_again 47 = .ok (.getfield 9, 3) := dk_180 0 9 (dk_at dksX3_again_2 0 rfl rfl)
theorem dX3_again_50 : decode cX3_again 50 = .ok (.iload_n 2, 1) := dk_28 (dk_at dksX3_again_2 3 rfl rfl)
theorem dX3_again_51 : decode cX3_again 51 = .ok (.aload_n 0, 1) := dk_42 (dk_at dksX3_again_2 4 rfl rfl)
theorem dX3_again_52 : decode cX3_again 52 = .ok (.getfield 73, 3) := dk_180 0 73 (dk_at dksX3_again_2 5 rfl rfl)
theorem dX3_again_55 : decode cX3_again 55 = .ok (.bipush 83, 2) := dk_16 83 (dk_at dksX3_again_2 8 rfl rfl)
theorem dX3_again_57 : decode cX3_again 57 = .ok (.iload_n 1, 1) := dk_27 (dk_at dksX3_again_2 10 rfl rfl)
theorem dX3_again_58 : decode cX3_again 58 = .ok (.imul, 1) := dk_104 (dk_at dksX3_again_2 11 rfl rfl)
theorem dX3_again_59 : decode cX3_again 59 = .ok (.iload_n 2, 1) := dk_28 (dk_at dksX3_again_2 12 rfl rfl)
theorem dX3_again_60 : decode cX3_again 60 = .ok (.iadd, 1) := dk_96 (dk_at dksX3_again_2 13 rfl rfl)
theorem dX3_again_61 : decode cX3_again 61 = .ok (.iaload, 1) := dk_46 (dk_at dksX3_again_2 14 rfl rfl)
theorem dX3_again_62 : decode cX3_again 62 = .ok (.iastore, 1) := dk_79 (dk_at dksX3_again_2 15 rfl rfl)
theorem dX3_again_63 : decode cX3_again 63 = .ok (.iinc 2 1, 3) := dk_132 2 1 (dk_at dksX3_again_2 16 rfl rfl)
theorem dX3_again_66 : decode cX3_again 66 = .ok (.goto (-26), 3) := dk_167 255 230 (dk_at dksX3_again_2 19 rfl rfl)
theorem dX3_again_69 : decode cX3_again 69 = .ok (.aload_n 0, 1) := dk_42 (dk_at dksX3_again_2 22 rfl rfl)
theorem dX3_again_70 : decode cX3_again 70 = .ok (.iconst 0, 1) := dk_3 (dk_at dksX3_again_2 23 rfl rfl)
theorem dX3_again_71 : decode cX3_again 71 = .ok (.putfield 155, 3) := dk_181 0 155 (dk_at dksX3_again_3 0 rfl rfl)
theorem dX3_again_74 : decode cX3_again 74 = .ok (.iconst 1, 1) := dk_4 (dk_at dksX3_again_3 3 rfl rfl)
theorem dX3_again_75 : decode cX3_again 75 = .ok (.ireturn, 1) := dk_172 (dk_at dksX3_again_3 4 rfl rfl)
abbrev cX3_count : ByteArray := prog_9_method_118_code
def yX3_count : MethodName := ⟨RX3, "count", "(I)I"⟩
def dkwX3_count_5 : List UInt8 := [42, 180, 0, 86, 172, 42, 180, 0, 100, 172, 2, 172]
abbrev dktX3_count_5 : List UInt8 := dkwX3_count_5 ++ []
def dkwX3_count_4 : List UInt8 := [42, 42, 180, 0, 9, 182, 0, 244, 172, 42, 182, 1, 127, 172, 42, 180, 1, 98, 172, 42, 180, 0, 155, 172]
abbrev dktX3_count_4 : List UInt8 := dkwX3_count_4 ++ dktX3_count_5
def dkwX3_count_3 : List UInt8 := [46, 172, 42, 180, 0, 9, 16, 82, 46, 172, 42, 42, 180, 0, 9, 182, 0, 202, 172, 42, 182, 1, 68, 172]
abbrev dktX3_count_3 : List UInt8 := dkwX3_count_3 ++ dktX3_count_4
def dkwX3_count_2 : List UInt8 := [42, 180, 0, 89, 172, 42, 180, 0, 13, 172, 42, 180, 0, 9, 16, 80, 46, 172, 42, 180, 0, 9, 16, 81]
abbrev dktX3_count_2 : List UInt8 := dkwX3_count_2 ++ dktX3_count_3
def dkwX3_count_1 : List UInt8 := [170, 0, 0, 0, 0, 148, 0, 0, 0, 0, 0, 0, 0, 12, 0, 0, 0, 66, 0, 0, 0, 71, 0, 0, 0, 76, 0, 0, 0, 84, 0, 0, 0, 92, 0, 0, 0, 100, 0, 0, 0, 109, 0, 0, 0, 114, 0, 0, 0, 123, 0, 0, 0, 128, 0, 0, 0, 133, 0, 0, 0, 138, 0, 0, 0, 143]
abbrev dktX3_count_1 : List UInt8 := dkwX3_count_1 ++ dktX3_count_2
def dkwX3_count_0 : List UInt8 := [42, 3, 181, 0, 83, 27]
abbrev dktX3_count_0 : List UInt8 := dkwX3_count_0 ++ dktX3_count_1
theorem dksX3_count_0 : cX3_count.data.toList.drop 0 = dktX3_count_0 := by decide +kernel
theorem dksX3_count_1 : cX3_count.data.toList.drop 6 = dktX3_count_1 := dk_seg dksX3_count_0 6 rfl rfl
theorem dksX3_count_2 : cX3_count.data.toList.drop 72 = dktX3_count_2 := dk_seg dksX3_count_1 66 rfl rfl
theorem dksX3_count_3 : cX3_count.data.toList.drop 96 = dktX3_count_3 := dk_seg dksX3_count_2 24 rfl rfl
theorem dksX3_count_4 : cX3_count.data.toList.drop 120 = dktX3_count_4 := dk_seg dksX3_count_3 24 rfl rfl
theorem dksX3_count_5 : cX3_count.data.toList.drop 144 = dktX3_count_5 := dk_seg dksX3_count_4 24 rfl rfl
theorem dX3_count_0 : decode cX3_count 0 = .ok (.aload_n 0, 1) := dk_42 (dk_at dksX3_count_0 0 rfl rfl)
theorem dX3_count_1 : decode cX3_count 1 = .ok (.iconst 0, 1) := dk_3 (dk_at dksX3_count_0 1 rfl rfl)
theorem dX3_count_2 : decode cX3_count 2 = .ok (.putfield 83, 3) := dk_181 0 83 (dk_at dksX3_count_0 2 rfl rfl)
theorem dX3_count_5 : decode cX3_count 5 = .ok (.iload_n 1, 1) := dk_27 (dk_at dksX3_count_0 5 rfl rfl)
theorem dX3_count_6 : decode cX3_count 6 = .ok (.tableswitch 148 0 12 #[66, 71, 76, 84, 92, 100, 109, 114, 123, 128, 133, 138, 143], 66) := by decide +kernel
theorem dX3_count_72 : decode cX3_count 72 = .ok (.aload_n 0, 1) := dk_42 (dk_at dksX3_count_2 0 rfl rfl)
theorem dX3_count_73 : decode cX3_count 73 = .ok (.getfield 89, 3) := dk_180 0 89 (dk_at dksX3_count_2 1 rfl rfl)
theorem dX3_count_76 : decode cX3_count 76 = .ok (.ireturn, 1) := dk_172 (dk_at dksX3_count_2 4 rfl rfl)
theorem dX3_count_77 : decode cX3_count 77 = .ok (.aload_n 0, 1) := dk_42 (dk_at dksX3_count_2 5 rfl rfl)
theorem dX3_count_78 : decode cX3_count 78 = .ok (.getfield 13, 3) := dk_180 0 13 (dk_at dksX3_count_2 6 rfl rfl)
theorem dX3_count_81 : decode cX3_count 81 = .ok (.ireturn, 1) := dk_172 (dk_at dksX3_count_2 9 rfl rfl)
theorem dX3_count_82 : decode cX3_count 82 = .ok (.aload_n 0, 1) := dk_42 (dk_at dksX3_count_2 10 rfl rfl)
theorem dX3_count_83 : decode cX3_count 83 = .ok (.getfield 9, 3) := dk_180 0 9 (dk_at dksX3_count_2 11 rfl rfl)
theorem dX3_count_86 : decode cX3_count 86 = .ok (.bipush 80, 2) := dk_16 80 (dk_at dksX3_count_2 14 rfl rfl)
theorem dX3_count_88 : decode cX3_count 88 = .ok (.iaload, 1) := dk_46 (dk_at dksX3_count_2 16 rfl rfl)
theorem dX3_count_89 : decode cX3_count 89 = .ok (.ireturn, 1) := dk_172 (dk_at dksX3_count_2 17 rfl rfl)
theorem dX3_count_90 : decode cX3_count 90 = .ok (.aload_n 0, 1) := dk_42 (dk_at dksX3_count_2 18 rfl rfl)
theorem dX3_count_91 : decode cX3_count 91 = .ok (.getfield 9, 3) := dk_180 0 9 (dk_at dksX3_count_2 19 rfl rfl)
theorem dX3_count_94 : decode cX3_count 94 = .ok (.bipush 81, 2) := dk_16 81 (dk_at dksX3_count_2 22 rfl rfl)
theorem dX3_count_96 : decode cX3_count 96 = .ok (.iaload, 1) := dk_46 (dk_at dksX3_count_3 0 rfl rfl)
theorem dX3_count_97 : decode cX3_count 97 = .ok (.ireturn, 1) := dk_172 (dk_at dksX3_count_3 1 rfl rfl)
theorem dX3_count_98 : decode cX3_count 98 = .ok (.aload_n 0, 1) := dk_42 (dk_at dksX3_count_3 2 rfl rfl)
theorem dX3_count_99 : decode cX3_count 99 = .ok (.getfield 9, 3) := dk_180 0 9 (dk_at dksX3_count_3 3 rfl rfl)
theorem dX3_count_102 : decode cX3_count 102 = .ok (.bipush 82, 2) := dk_16 82 (dk_at dksX3_count_3 6 rfl rfl)
theorem dX3_count_104 : decode cX3_count 104 = .ok (.iaload, 1) := dk_46 (dk_at dksX3_count_3 8 rfl rfl)
theorem dX3_count_105 : decode cX3_count 105 = .ok (.ireturn, 1) := dk_172 (dk_at dksX3_count_3 9 rfl rfl)
theorem dX3_count_106 : decode cX3_count 106 = .ok (.aload_n 0, 1) := dk_42 (dk_at dksX3_count_3 10 rfl rfl)
theorem dX3_count_107 : decode cX3_count 107 = .ok (.aload_n 0, 1) := dk_42 (dk_at dksX3_count_3 11 rfl rfl)
theorem dX3_count_108 : decode cX3_count 108 = .ok (.getfield 9, 3) := dk_180 0 9 (dk_at dksX3_count_3 12 rfl rfl)
theorem dX3_count_111 : decode cX3_count 111 = .ok (.invokevirtual 202, 3) := dk_182 0 202 (dk_at dksX3_count_3 15 rfl rfl)
theorem dX3_count_114 : decode cX3_count 114 = .ok (.ireturn, 1) := dk_172 (dk_at dksX3_count_3 18 rfl rfl)
theorem dX3_count_115 : decode cX3_count 115 = .ok (.aload_n 0, 1) := dk_42 (dk_at dksX3_count_3 19 rfl rfl)
theorem dX3_count_116 : decode cX3_count 116 = .ok (.invokevirtual 324, 3) := dk_182 1 68 (dk_at dksX3_count_3 20 rfl rfl)
theorem dX3_count_119 : decode cX3_count 119 = .ok (.ireturn, 1) := dk_172 (dk_at dksX3_count_3 23 rfl rfl)
theorem dX3_count_120 : decode cX3_count 120 = .ok (.aload_n 0, 1) := dk_42 (dk_at dksX3_count_4 0 rfl rfl)
theorem dX3_count_121 : decode cX3_count 121 = .ok (.aload_n 0, 1) := dk_42 (dk_at dksX3_count_4 1 rfl rfl)
theorem dX3_count_122 : decode cX3_count 122 = .ok (.getfield 9, 3) := dk_180 0 9 (dk_at dksX3_count_4 2 rfl rfl)
theorem dX3_count_125 : decode cX3_count 125 = .ok (.invokevirtual 244, 3) := dk_182 0 244 (dk_at dksX3_count_4 5 rfl rfl)
theorem dX3_count_128 : decode cX3_count 128 = .ok (.ireturn, 1) := dk_172 (dk_at dksX3_count_4 8 rfl rfl)
theorem dX3_count_129 : decode cX3_count 129 = .ok (.aload_n 0, 1) := dk_42 (dk_at dksX3_count_4 9 rfl rfl)
theorem dX3_count_130 : decode cX3_count 130 = .ok (.invokevirtual 383, 3) := dk_182 1 127 (dk_at dksX3_count_4 10 rfl rfl)
theorem dX3_count_133 : decode cX3_count 133 = .ok (.ireturn, 1) := dk_172 (dk_at dksX3_count_4 13 rfl rfl)
theorem dX3_count_134 : decode cX3_count 134 = .ok (.aload_n 0, 1) := dk_42 (dk_at dksX3_count_4 14 rfl rfl)
theorem dX3_count_135 : decode cX3_count 135 = .ok (.getfield 354, 3) := dk_180 1 98 (dk_at dksX3_count_4 15 rfl rfl)
theorem dX3_count_138 : decode cX3_count 138 = .ok (.ireturn, 1) := dk_172 (dk_at dksX3_count_4 18 rfl rfl)
theorem dX3_count_139 : decode cX3_count 139 = .ok (.aload_n 0, 1) := dk_42 (dk_at dksX3_count_4 19 rfl rfl)
theorem dX3_count_140 : decode cX3_count 140 = .ok (.getfield 155, 3) := dk_180 0 155 (dk_at dksX3_count_4 20 rfl rfl)
theorem dX3_count_143 : decode cX3_count 143 = .ok (.ireturn, 1) := dk_172 (dk_at dksX3_count_4 23 rfl rfl)
theorem dX3_count_144 : decode cX3_count 144 = .ok (.aload_n 0, 1) := dk_42 (dk_at dksX3_count_5 0 rfl rfl)
theorem dX3_count_145 : decode cX3_count 145 = .ok (.getfield 86, 3) := dk_180 0 86 (dk_at dksX3_count_5 1 rfl rfl)
theorem dX3_count_148 : decode cX3_count 148 = .ok (.ireturn, 1) := dk_172 (dk_at dksX3_count_5 4 rfl rfl)
theorem dX3_count_149 : decode cX3_count 149 = .ok (.aload_n 0, 1) := dk_42 (dk_at dksX3_count_5 5 rfl rfl)
theorem dX3_count_150 : decode cX3_count 150 = .ok (.getfield 100, 3) := dk_180 0 100 (dk_at dksX3_count_5 6 rfl rfl)
theorem dX3_count_153 : decode cX3_count 153 = .ok (.ireturn, 1) := dk_172 (dk_at dksX3_count_5 9 rfl rfl)
theorem dX3_count_154 : decode cX3_count 154 = .ok (.iconst (-1), 1) := dk_2 (dk_at dksX3_count_5 10 rfl rfl)
theorem dX3_count_155 : decode cX3_count 155 = .ok (.ireturn, 1) := dk_172 (dk_at dksX3_count_5 11 rfl rfl)
abbrev cX3_allOwn : ByteArray := prog_9_method_117_code
def yX3_allOwn : MethodName := ⟨RX3, "allOwn", "()I"⟩
def dkwX3_allOwn_1 : List UInt8 := [132, 2, 1, 167, 255, 233, 27, 172]
abbrev dktX3_allOwn_1 : List UInt8 := dkwX3_allOwn_1 ++ []
def dkwX3_allOwn_0 : List UInt8 := [3, 60, 3, 61, 28, 42, 180, 0, 89, 162, 0, 21, 27, 42, 180, 0, 9, 16, 24, 28, 96, 46, 96, 60]
abbrev dktX3_allOwn_0 : List UInt8 := dkwX3_allOwn_0 ++ dktX3_allOwn_1
theorem dksX3_allOwn_0 : cX3_allOwn.data.toList.drop 0 = dktX3_allOwn_0 := by decide +kernel
theorem dksX3_allOwn_1 : cX3_allOwn.data.toList.drop 24 = dktX3_allOwn_1 := dk_seg dksX3_allOwn_0 24 rfl rfl
theorem dX3_allOwn_0 : decode cX3_allOwn 0 = .ok (.iconst 0, 1) := dk_3 (dk_at dksX3_allOwn_0 0 rfl rfl)
theorem dX3_allOwn_1 : decode cX3_allOwn 1 = .ok (.istore_n 1, 1) := dk_60 (dk_at dksX3_allOwn_0 1 rfl rfl)
theorem dX3_allOwn_2 : decode cX3_allOwn 2 = .ok (.iconst 0, 1) := dk_3 (dk_at dksX3_allOwn_0 2 rfl rfl)
theorem dX3_allOwn_3 : decode cX3_allOwn 3 = .ok (.istore_n 2, 1) := dk_61 (dk_at dksX3_allOwn_0 3 rfl rfl)
theorem dX3_allOwn_4 : decode cX3_allOwn 4 = .ok (.iload_n 2, 1) := dk_28 (dk_at dksX3_allOwn_0 4 rfl rfl)
theorem dX3_allOwn_5 : decode cX3_allOwn 5 = .ok (.aload_n 0, 1) := dk_42 (dk_at dksX3_allOwn_0 5 rfl rfl)
theorem dX3_allOwn_6 : decode cX3_allOwn 6 = .ok (.getfield 89, 3) := dk_180 0 89 (dk_at dksX3_allOwn_0 6 rfl rfl)
theorem dX3_allOwn_9 : decode cX3_allOwn 9 = .ok (.if_icmp .ge 21, 3) := dk_162 0 21 (dk_at dksX3_allOwn_0 9 rfl rfl)
theorem dX3_allOwn_12 : decode cX3_allOwn 12 = .ok (.iload_n 1, 1) := dk_27 (dk_at dksX3_allOwn_0 12 rfl rfl)
theorem dX3_allOwn_13 : decode cX3_allOwn 13 = .ok (.aload_n 0, 1) := dk_42 (dk_at dksX3_allOwn_0 13 rfl rfl)
theorem dX3_allOwn_14 : decode cX3_allOwn 14 = .ok (.getfield 9, 3) := dk_180 0 9 (dk_at dksX3_allOwn_0 14 rfl rfl)
theorem dX3_allOwn_17 : decode cX3_allOwn 17 = .ok (.bipush 24, 2) := dk_16 24 (dk_at dksX3_allOwn_0 17 rfl rfl)
theorem dX3_allOwn_19 : decode cX3_allOwn 19 = .ok (.iload_n 2, 1) := dk_28 (dk_at dksX3_allOwn_0 19 rfl rfl)
theorem dX3_allOwn_20 : decode cX3_allOwn 20 = .ok (.iadd, 1) := dk_96 (dk_at dksX3_allOwn_0 20 rfl rfl)
theorem dX3_allOwn_21 : decode cX3_allOwn 21 = .ok (.iaload, 1) := dk_46 (dk_at dksX3_allOwn_0 21 rfl rfl)
theorem dX3_allOwn_22 : decode cX3_allOwn 22 = .ok (.iadd, 1) := dk_96 (dk_at dksX3_allOwn_0 22 rfl rfl)
theorem dX3_allOwn_23 : decode cX3_allOwn 23 = .ok (.istore_n 1, 1) := dk_60 (dk_at dksX3_allOwn_0 23 rfl rfl)
theorem dX3_allOwn_24 : decode cX3_allOwn 24 = .ok (.iinc 2 1, 3) := dk_132 2 1 (dk_at dksX3_allOwn_1 0 rfl rfl)
theorem dX3_allOwn_27 : decode cX3_allOwn 27 = .ok (.goto (-23), 3) := dk_167 255 233 (dk_at dksX3_allOwn_1 3 rfl rfl)
theorem dX3_allOwn_30 : decode cX3_allOwn 30 = .ok (.iload_n 1, 1) := dk_27 (dk_at dksX3_allOwn_1 6 rfl rfl)
theorem dX3_allOwn_31 : decode cX3_allOwn 31 = .ok (.ireturn, 1) := dk_172 (dk_at dksX3_allOwn_1 7 rfl rfl)
abbrev cX3_row : ByteArray := prog_9_method_119_code
def yX3_row : MethodName := ⟨RX3, "row", "(I)J"⟩
def dkwX3_row_1 : List UInt8 := [47, 167, 0, 8, 42, 182, 0, 218, 133, 173]
abbrev dktX3_row_1 : List UInt8 := dkwX3_row_1 ++ []
def dkwX3_row_0 : List UInt8 := [42, 3, 181, 0, 83, 27, 3, 42, 180, 0, 86, 4, 100, 184, 0, 92, 153, 0, 12, 42, 180, 0, 21, 27]
abbrev dktX3_row_0 : List UInt8 := dkwX3_row_0 ++ dktX3_row_1
theorem dksX3_row_0 : cX3_row.data.toList.drop 0 = dktX3_row_0 := by decide +kernel
theorem dksX3_row_1 : cX3_row.data.toList.drop 24 = dktX3_row_1 := dk_seg dksX3_row_0 24 rfl rfl
theorem dX3_row_0 : decode cX3_row 0 = .ok (.aload_n 0, 1) := dk_42 (dk_at dksX3_row_0 0 rfl rfl)
theorem dX3_row_1 : decode cX3_row 1 = .ok (.iconst 0, 1) := dk_3 (dk_at dksX3_row_0 1 rfl rfl)
theorem dX3_row_2 : decode cX3_row 2 = .ok (.putfield 83, 3) := dk_181 0 83 (dk_at dksX3_row_0 2 rfl rfl)
theorem dX3_row_5 : decode cX3_row 5 = .ok (.iload_n 1, 1) := dk_27 (dk_at dksX3_row_0 5 rfl rfl)
theorem dX3_row_6 : decode cX3_row 6 = .ok (.iconst 0, 1) := dk_3 (dk_at dksX3_row_0 6 rfl rfl)
theorem dX3_row_7 : decode cX3_row 7 = .ok (.aload_n 0, 1) := dk_42 (dk_at dksX3_row_0 7 rfl rfl)
theorem dX3_row_8 : decode cX3_row 8 = .ok (.getfield 86, 3) := dk_180 0 86 (dk_at dksX3_row_0 8 rfl rfl)
theorem dX3_row_11 : decode cX3_row 11 = .ok (.iconst 1, 1) := dk_4 (dk_at dksX3_row_0 11 rfl rfl)
theorem dX3_row_12 : decode cX3_row 12 = .ok (.isub, 1) := dk_100 (dk_at dksX3_row_0 12 rfl rfl)
theorem dX3_row_13 : decode cX3_row 13 = .ok (.invokestatic 92, 3) := dk_184 0 92 (dk_at dksX3_row_0 13 rfl rfl)
theorem dX3_row_16 : decode cX3_row 16 = .ok (.ifCond .eq 12, 3) := dk_153 0 12 (dk_at dksX3_row_0 16 rfl rfl)
theorem dX3_row_19 : decode cX3_row 19 = .ok (.aload_n 0, 1) := dk_42 (dk_at dksX3_row_0 19 rfl rfl)
theorem dX3_row_20 : decode cX3_row 20 = .ok (.getfield 21, 3) := dk_180 0 21 (dk_at dksX3_row_0 20 rfl rfl)
theorem dX3_row_23 : decode cX3_row 23 = .ok (.iload_n 1, 1) := dk_27 (dk_at dksX3_row_0 23 rfl rfl)
theorem dX3_row_24 : decode cX3_row 24 = .ok (.laload, 1) := dk_47 (dk_at dksX3_row_1 0 rfl rfl)
theorem dX3_row_25 : decode cX3_row 25 = .ok (.goto 8, 3) := dk_167 0 8 (dk_at dksX3_row_1 1 rfl rfl)
theorem dX3_row_28 : decode cX3_row 28 = .ok (.aload_n 0, 1) := dk_42 (dk_at dksX3_row_1 4 rfl rfl)
theorem dX3_row_29 : decode cX3_row 29 = .ok (.invokevirtual 218, 3) := dk_182 0 218 (dk_at dksX3_row_1 5 rfl rfl)
theorem dX3_row_32 : decode cX3_row 32 = .ok (.i2l, 1) := dk_133 (dk_at dksX3_row_1 8 rfl rfl)
theorem dX3_row_33 : decode cX3_row 33 = .ok (.lreturn, 1) := dk_173 (dk_at dksX3_row_1 9 rfl rfl)
theorem q104 : (Jvm.Cond.initialized "CuckooByPostModel") ∈ lw_all := lw_g (lw_at lw_m1 3 rfl) rfl
theorem q1055 : (Jvm.Cond.instantiable "CuckooByPostModel" (39 : Nat)) ∈ lw_all := lw_g (lw_at lw_m4 234 rfl) rfl
theorem q1057 : (Jvm.Cond.instanceMethod ({ cls := "CuckooByPostModel", name := "<init>", desc := "()V" } : Jvm.MethodName)) ∈ lw_all := lw_g (lw_at lw_m4 236 rfl) rfl
theorem q1058 : (Jvm.Cond.code ({ cls := "CuckooByPostModel", name := "<init>", desc := "()V" } : Jvm.MethodName) prog_9_method_1_code (1 : Nat) (Option.none : Option Jvm.ClassFile.FieldType)) ∈ lw_all := lw_g (lw_at lw_m4 237 rfl) rfl
theorem q1059 : (Jvm.Cond.methodLink "CuckooByPostModel" (3 : Nat) ({ cls := "java/lang/Object", name := "<init>", desc := "()V" } : Jvm.MethodName)) ∈ lw_all := lw_g (lw_at lw_m4 238 rfl) rfl
theorem q1060 : (Jvm.Cond.fieldLink "CuckooByPostModel" (9 : Nat) "CuckooByPostModel" "now" "[I") ∈ lw_all := lw_g (lw_at lw_m4 239 rfl) rfl
theorem q1061 : (Jvm.Cond.fieldLink "CuckooByPostModel" (89 : Nat) "CuckooByPostModel" "nests" "I") ∈ lw_all := lw_g (lw_at lw_m5 0 rfl) rfl
theorem q1062 : (Jvm.Cond.fieldLink "CuckooByPostModel" (13 : Nat) "CuckooByPostModel" "clear" "I") ∈ lw_all := lw_g (lw_at lw_m5 1 rfl) rfl
theorem q1063 : (Jvm.Cond.fieldLink "CuckooByPostModel" (17 : Nat) "CuckooByPostModel" "text" "[B") ∈ lw_all := lw_g (lw_at lw_m5 2 rfl) rfl
theorem q1064 : (Jvm.Cond.fieldLink "CuckooByPostModel" (100 : Nat) "CuckooByPostModel" "typed" "I") ∈ lw_all := lw_g (lw_at lw_m5 3 rfl) rfl
theorem q1065 : (Jvm.Cond.fieldLink "CuckooByPostModel" (21 : Nat) "CuckooByPostModel" "row" "[J") ∈ lw_all := lw_g (lw_at lw_m5 4 rfl) rfl
theorem q1066 : (Jvm.Cond.fieldLink "CuckooByPostModel" (86 : Nat) "CuckooByPostModel" "rowMany" "I") ∈ lw_all := lw_g (lw_at lw_m5 5 rfl) rfl
theorem q1067 : (Jvm.Cond.fieldLink "CuckooByPostModel" (83 : Nat) "CuckooByPostModel" "thrown" "I") ∈ lw_all := lw_g (lw_at lw_m5 6 rfl) rfl
theorem q1068 : (Jvm.Cond.fieldLink "CuckooByPostModel" (103 : Nat) "CuckooByPostModel" "read" "[B") ∈ lw_all := lw_g (lw_at lw_m5 7 rfl) rfl
theorem q1069 : (Jvm.Cond.fieldLink "CuckooByPostModel" (106 : Nat) "CuckooByPostModel" "length" "I") ∈ lw_all := lw_g (lw_at lw_m5 8 rfl) rfl
theorem q1070 : (Jvm.Cond.fieldLink "CuckooByPostModel" (109 : Nat) "CuckooByPostModel" "top" "I") ∈ lw_all := lw_g (lw_at lw_m5 9 rfl) rfl
theorem q1071 : (Jvm.Cond.fieldLink "CuckooByPostModel" (112 : Nat) "CuckooByPostModel" "at" "I") ∈ lw_all := lw_g (lw_at lw_m5 10 rfl) rfl
theorem q1072 : (Jvm.Cond.fieldLink "CuckooByPostModel" (115 : Nat) "CuckooByPostModel" "wrong" "I") ∈ lw_all := lw_g (lw_at lw_m5 11 rfl) rfl
theorem q1073 : (Jvm.Cond.fieldLink "CuckooByPostModel" (25 : Nat) "CuckooByPostModel" "comes" "[I") ∈ lw_all := lw_g (lw_at lw_m5 12 rfl) rfl
theorem q1074 : (Jvm.Cond.fieldLink "CuckooByPostModel" (28 : Nat) "CuckooByPostModel" "rule" "[B") ∈ lw_all := lw_g (lw_at lw_m5 13 rfl) rfl
theorem q1075 : (Jvm.Cond.fieldLink "CuckooByPostModel" (31 : Nat) "CuckooByPostModel" "otherRule" "[B") ∈ lw_all := lw_g (lw_at lw_m5 14 rfl) rfl
theorem q1076 : (Jvm.Cond.fieldLink "CuckooByPostModel" (190 : Nat) "CuckooByPostModel" "ruleSize" "I") ∈ lw_all := lw_g (lw_at lw_m5 15 rfl) rfl
theorem q1077 : (Jvm.Cond.fieldLink "CuckooByPostModel" (183 : Nat) "CuckooByPostModel" "isAsked" "Z") ∈ lw_all := lw_g (lw_at lw_m5 16 rfl) rfl
theorem q1078 : (Jvm.Cond.fieldLink "CuckooByPostModel" (34 : Nat) "CuckooByPostModel" "asked" "[I") ∈ lw_all := lw_g (lw_at lw_m5 17 rfl) rfl
theorem q1079 : (Jvm.Cond.fieldLink "CuckooByPostModel" (37 : Nat) "CuckooByPostModel" "undos" "[I") ∈ lw_all := lw_g (lw_at lw_m5 18 rfl) rfl
theorem q1080 : (Jvm.Cond.fieldLink "CuckooByPostModel" (155 : Nat) "CuckooByPostModel" "undoMany" "I") ∈ lw_all := lw_g (lw_at lw_m5 19 rfl) rfl
theorem q1081 : (Jvm.Cond.fieldLink "CuckooByPostModel" (40 : Nat) "CuckooByPostModel" "aside" "[I") ∈ lw_all := lw_g (lw_at lw_m5 20 rfl) rfl
theorem q1082 : (Jvm.Cond.fieldLink "CuckooByPostModel" (43 : Nat) "CuckooByPostModel" "then" "[I") ∈ lw_all := lw_g (lw_at lw_m5 21 rfl) rfl
theorem q1083 : (Jvm.Cond.fieldLink "CuckooByPostModel" (46 : Nat) "CuckooByPostModel" "other" "[I") ∈ lw_all := lw_g (lw_at lw_m5 22 rfl) rfl
theorem q1084 : (Jvm.Cond.fieldLink "CuckooByPostModel" (49 : Nat) "CuckooByPostModel" "acts" "[I") ∈ lw_all := lw_g (lw_at lw_m5 23 rfl) rfl
theorem q1085 : (Jvm.Cond.fieldLink "CuckooByPostModel" (52 : Nat) "CuckooByPostModel" "eggs" "[I") ∈ lw_all := lw_g (lw_at lw_m5 24 rfl) rfl
theorem q1086 : (Jvm.Cond.fieldLink "CuckooByPostModel" (55 : Nat) "CuckooByPostModel" "line" "[I") ∈ lw_all := lw_g (lw_at lw_m5 25 rfl) rfl
theorem q1087 : (Jvm.Cond.fieldLink "CuckooByPostModel" (58 : Nat) "CuckooByPostModel" "bestLine" "[I") ∈ lw_all := lw_g (lw_at lw_m5 26 rfl) rfl
theorem q1088 : (Jvm.Cond.fieldLink "CuckooByPostModel" (305 : Nat) "CuckooByPostModel" "mostFlown" "I") ∈ lw_all := lw_g (lw_at lw_m5 27 rfl) rfl
theorem q1089 : (Jvm.Cond.fieldLink "CuckooByPostModel" (61 : Nat) "CuckooByPostModel" "can" "[I") ∈ lw_all := lw_g (lw_at lw_m5 28 rfl) rfl
theorem q1090 : (Jvm.Cond.fieldLink "CuckooByPostModel" (64 : Nat) "CuckooByPostModel" "lodged" "[I") ∈ lw_all := lw_g (lw_at lw_m5 29 rfl) rfl
theorem q1091 : (Jvm.Cond.fieldLink "CuckooByPostModel" (67 : Nat) "CuckooByPostModel" "wroteOf" "[I") ∈ lw_all := lw_g (lw_at lw_m5 30 rfl) rfl
theorem q1092 : (Jvm.Cond.fieldLink "CuckooByPostModel" (70 : Nat) "CuckooByPostModel" "wroteBy" "[I") ∈ lw_all := lw_g (lw_at lw_m5 31 rfl) rfl
theorem q1093 : (Jvm.Cond.fieldLink "CuckooByPostModel" (354 : Nat) "CuckooByPostModel" "wrote" "I") ∈ lw_all := lw_g (lw_at lw_m5 32 rfl) rfl
theorem q1094 : (Jvm.Cond.fieldLink "CuckooByPostModel" (376 : Nat) "CuckooByPostModel" "drawn" "I") ∈ lw_all := lw_g (lw_at lw_m5 33 rfl) rfl
theorem q1095 : (Jvm.Cond.fieldLink "CuckooByPostModel" (158 : Nat) "CuckooByPostModel" "came" "I") ∈ lw_all := lw_g (lw_at lw_m5 34 rfl) rfl
theorem q1096 : (Jvm.Cond.fieldLink "CuckooByPostModel" (73 : Nat) "CuckooByPostModel" "kept" "[I") ∈ lw_all := lw_g (lw_at lw_m5 35 rfl) rfl
theorem q1097 : (Jvm.Cond.fieldLink "CuckooByPostModel" (76 : Nat) "CuckooByPostModel" "isKept" "[Z") ∈ lw_all := lw_g (lw_at lw_m5 36 rfl) rfl
theorem q1098 : (Jvm.Cond.fieldLink "CuckooByPostModel" (80 : Nat) "CuckooByPostModel" "keptCame" "[I") ∈ lw_all := lw_g (lw_at lw_m5 37 rfl) rfl
theorem q1099 : (Jvm.Cond.laysFinal "CuckooByPostModel" "CuckooByPostModel" "now" "[I") ∈ lw_all := lw_g (lw_at lw_m5 38 rfl) rfl
theorem q1100 : (Jvm.Cond.soleField "CuckooByPostModel" "now") ∈ lw_all := lw_g (lw_at lw_m5 39 rfl) rfl
theorem q1101 : (Jvm.Cond.lays "CuckooByPostModel" "CuckooByPostModel" "nests" "I") ∈ lw_all := lw_g (lw_at lw_m5 40 rfl) rfl
theorem q1102 : (Jvm.Cond.soleField "CuckooByPostModel" "nests") ∈ lw_all := lw_g (lw_at lw_m5 41 rfl) rfl
theorem q1103 : (Jvm.Cond.lays "CuckooByPostModel" "CuckooByPostModel" "clear" "I") ∈ lw_all := lw_g (lw_at lw_m5 42 rfl) rfl
theorem q1104 : (Jvm.Cond.soleField "CuckooByPostModel" "clear") ∈ lw_all := lw_g (lw_at lw_m5 43 rfl) rfl
theorem q1105 : (Jvm.Cond.laysFinal "CuckooByPostModel" "CuckooByPostModel" "text" "[B") ∈ lw_all := lw_g (lw_at lw_m5 44 rfl) rfl
theorem q1106 : (Jvm.Cond.soleField "CuckooByPostModel" "text") ∈ lw_all := lw_g (lw_at lw_m5 45 rfl) rfl
theorem q1107 : (Jvm.Cond.lays "CuckooByPostModel" "CuckooByPostModel" "typed" "I") ∈ lw_all := lw_g (lw_at lw_m5 46 rfl) rfl
theorem q1108 : (Jvm.Cond.soleField "CuckooByPostModel" "typed") ∈ lw_all := lw_g (lw_at lw_m5 47 rfl) rfl
theorem q1109 : (Jvm.Cond.laysFinal "CuckooByPostModel" "CuckooByPostModel" "row" "[J") ∈ lw_all := lw_g (lw_at lw_m5 48 rfl) rfl
theorem q1110 : (Jvm.Cond.soleField "CuckooByPostModel" "row") ∈ lw_all := lw_g (lw_at lw_m5 49 rfl) rfl
theorem q1111 : (Jvm.Cond.lays "CuckooByPostModel" "CuckooByPostModel" "rowMany" "I") ∈ lw_all := lw_g (lw_at lw_m5 50 rfl) rfl
theorem q1112 : (Jvm.Cond.soleField "CuckooByPostModel" "rowMany") ∈ lw_all := lw_g (lw_at lw_m5 51 rfl) rfl
theorem q1113 : (Jvm.Cond.lays "CuckooByPostModel" "CuckooByPostModel" "thrown" "I") ∈ lw_all := lw_g (lw_at lw_m5 52 rfl) rfl
theorem q1114 : (Jvm.Cond.soleField "CuckooByPostModel" "thrown") ∈ lw_all := lw_g (lw_at lw_m5 53 rfl) rfl
theorem q1115 : (Jvm.Cond.lays "CuckooByPostModel" "CuckooByPostModel" "read" "[B") ∈ lw_all := lw_g (lw_at lw_m5 54 rfl) rfl
theorem q1116 : (Jvm.Cond.soleField "CuckooByPostModel" "read") ∈ lw_all := lw_g (lw_at lw_m5 55 rfl) rfl
theorem q1117 : (Jvm.Cond.lays "CuckooByPostModel" "CuckooByPostModel" "length" "I") ∈ lw_all := lw_g (lw_at lw_m5 56 rfl) rfl
theorem q1118 : (Jvm.Cond.soleField "CuckooByPostModel" "length") ∈ lw_all := lw_g (lw_at lw_m5 57 rfl) rfl
theorem q1119 : (Jvm.Cond.lays "CuckooByPostModel" "CuckooByPostModel" "top" "I") ∈ lw_all := lw_g (lw_at lw_m5 58 rfl) rfl
theorem q1120 : (Jvm.Cond.soleField "CuckooByPostModel" "top") ∈ lw_all := lw_g (lw_at lw_m5 59 rfl) rfl
theorem q1121 : (Jvm.Cond.lays "CuckooByPostModel" "CuckooByPostModel" "at" "I") ∈ lw_all := lw_g (lw_at lw_m5 60 rfl) rfl
theorem q1122 : (Jvm.Cond.soleField "CuckooByPostModel" "at") ∈ lw_all := lw_g (lw_at lw_m5 61 rfl) rfl
theorem q1123 : (Jvm.Cond.lays "CuckooByPostModel" "CuckooByPostModel" "wrong" "I") ∈ lw_all := lw_g (lw_at lw_m5 62 rfl) rfl
theorem q1124 : (Jvm.Cond.soleField "CuckooByPostModel" "wrong") ∈ lw_all := lw_g (lw_at lw_m5 63 rfl) rfl
theorem q1125 : (Jvm.Cond.laysFinal "CuckooByPostModel" "CuckooByPostModel" "comes" "[I") ∈ lw_all := lw_g (lw_at lw_m5 64 rfl) rfl
theorem q1126 : (Jvm.Cond.soleField "CuckooByPostModel" "comes") ∈ lw_all := lw_g (lw_at lw_m5 65 rfl) rfl
theorem q1127 : (Jvm.Cond.lays "CuckooByPostModel" "CuckooByPostModel" "rule" "[B") ∈ lw_all := lw_g (lw_at lw_m5 66 rfl) rfl
theorem q1128 : (Jvm.Cond.soleField "CuckooByPostModel" "rule") ∈ lw_all := lw_g (lw_at lw_m5 67 rfl) rfl
theorem q1129 : (Jvm.Cond.lays "CuckooByPostModel" "CuckooByPostModel" "otherRule" "[B") ∈ lw_all := lw_g (lw_at lw_m5 68 rfl) rfl
theorem q1130 : (Jvm.Cond.soleField "CuckooByPostModel" "otherRule") ∈ lw_all := lw_g (lw_at lw_m5 69 rfl) rfl
theorem q1131 : (Jvm.Cond.lays "CuckooByPostModel" "CuckooByPostModel" "ruleSize" "I") ∈ lw_all := lw_g (lw_at lw_m5 70 rfl) rfl
theorem q1132 : (Jvm.Cond.soleField "CuckooByPostModel" "ruleSize") ∈ lw_all := lw_g (lw_at lw_m5 71 rfl) rfl
theorem q1133 : (Jvm.Cond.lays "CuckooByPostModel" "CuckooByPostModel" "isAsked" "Z") ∈ lw_all := lw_g (lw_at lw_m5 72 rfl) rfl
theorem q1134 : (Jvm.Cond.soleField "CuckooByPostModel" "isAsked") ∈ lw_all := lw_g (lw_at lw_m5 73 rfl) rfl
theorem q1135 : (Jvm.Cond.laysFinal "CuckooByPostModel" "CuckooByPostModel" "asked" "[I") ∈ lw_all := lw_g (lw_at lw_m5 74 rfl) rfl
theorem q1136 : (Jvm.Cond.soleField "CuckooByPostModel" "asked") ∈ lw_all := lw_g (lw_at lw_m5 75 rfl) rfl
theorem q1137 : (Jvm.Cond.laysFinal "CuckooByPostModel" "CuckooByPostModel" "undos" "[I") ∈ lw_all := lw_g (lw_at lw_m5 76 rfl) rfl
theorem q1138 : (Jvm.Cond.soleField "CuckooByPostModel" "undos") ∈ lw_all := lw_g (lw_at lw_m5 77 rfl) rfl
theorem q1139 : (Jvm.Cond.lays "CuckooByPostModel" "CuckooByPostModel" "undoMany" "I") ∈ lw_all := lw_g (lw_at lw_m5 78 rfl) rfl
theorem q1140 : (Jvm.Cond.soleField "CuckooByPostModel" "undoMany") ∈ lw_all := lw_g (lw_at lw_m5 79 rfl) rfl
theorem q1141 : (Jvm.Cond.laysFinal "CuckooByPostModel" "CuckooByPostModel" "aside" "[I") ∈ lw_all := lw_g (lw_at lw_m5 80 rfl) rfl
theorem q1142 : (Jvm.Cond.soleField "CuckooByPostModel" "aside") ∈ lw_all := lw_g (lw_at lw_m5 81 rfl) rfl
theorem q1143 : (Jvm.Cond.laysFinal "CuckooByPostModel" "CuckooByPostModel" "then" "[I") ∈ lw_all := lw_g (lw_at lw_m5 82 rfl) rfl
theorem q1144 : (Jvm.Cond.soleField "CuckooByPostModel" "then") ∈ lw_all := lw_g (lw_at lw_m5 83 rfl) rfl
theorem q1145 : (Jvm.Cond.laysFinal "CuckooByPostModel" "CuckooByPostModel" "other" "[I") ∈ lw_all := lw_g (lw_at lw_m5 84 rfl) rfl
theorem q1146 : (Jvm.Cond.soleField "CuckooByPostModel" "other") ∈ lw_all := lw_g (lw_at lw_m5 85 rfl) rfl
theorem q1147 : (Jvm.Cond.laysFinal "CuckooByPostModel" "CuckooByPostModel" "acts" "[I") ∈ lw_all := lw_g (lw_at lw_m5 86 rfl) rfl
theorem q1148 : (Jvm.Cond.soleField "CuckooByPostModel" "acts") ∈ lw_all := lw_g (lw_at lw_m5 87 rfl) rfl
theorem q1149 : (Jvm.Cond.laysFinal "CuckooByPostModel" "CuckooByPostModel" "eggs" "[I") ∈ lw_all := lw_g (lw_at lw_m5 88 rfl) rfl
theorem q1150 : (Jvm.Cond.soleField "CuckooByPostModel" "eggs") ∈ lw_all := lw_g (lw_at lw_m5 89 rfl) rfl
theorem q1151 : (Jvm.Cond.laysFinal "CuckooByPostModel" "CuckooByPostModel" "line" "[I") ∈ lw_all := lw_g (lw_at lw_m5 90 rfl) rfl
theorem q1152 : (Jvm.Cond.soleField "CuckooByPostModel" "line") ∈ lw_all := lw_g (lw_at lw_m5 91 rfl) rfl
theorem q1153 : (Jvm.Cond.laysFinal "CuckooByPostModel" "CuckooByPostModel" "bestLine" "[I") ∈ lw_all := lw_g (lw_at lw_m5 92 rfl) rfl
theorem q1154 : (Jvm.Cond.soleField "CuckooByPostModel" "bestLine") ∈ lw_all := lw_g (lw_at lw_m5 93 rfl) rfl
theorem q1155 : (Jvm.Cond.lays "CuckooByPostModel" "CuckooByPostModel" "mostFlown" "I") ∈ lw_all := lw_g (lw_at lw_m5 94 rfl) rfl
theorem q1156 : (Jvm.Cond.soleField "CuckooByPostModel" "mostFlown") ∈ lw_all := lw_g (lw_at lw_m5 95 rfl) rfl
theorem q1157 : (Jvm.Cond.laysFinal "CuckooByPostModel" "CuckooByPostModel" "can" "[I") ∈ lw_all := lw_g (lw_at lw_m5 96 rfl) rfl
theorem q1158 : (Jvm.Cond.soleField "CuckooByPostModel" "can") ∈ lw_all := lw_g (lw_at lw_m5 97 rfl) rfl
theorem q1159 : (Jvm.Cond.laysFinal "CuckooByPostModel" "CuckooByPostModel" "lodged" "[I") ∈ lw_all := lw_g (lw_at lw_m5 98 rfl) rfl
theorem q1160 : (Jvm.Cond.soleField "CuckooByPostModel" "lodged") ∈ lw_all := lw_g (lw_at lw_m5 99 rfl) rfl
theorem q1161 : (Jvm.Cond.laysFinal "CuckooByPostModel" "CuckooByPostModel" "wroteOf" "[I") ∈ lw_all := lw_g (lw_at lw_m5 100 rfl) rfl
theorem q1162 : (Jvm.Cond.soleField "CuckooByPostModel" "wroteOf") ∈ lw_all := lw_g (lw_at lw_m5 101 rfl) rfl
theorem q1163 : (Jvm.Cond.laysFinal "CuckooByPostModel" "CuckooByPostModel" "wroteBy" "[I") ∈ lw_all := lw_g (lw_at lw_m5 102 rfl) rfl
theorem q1164 : (Jvm.Cond.soleField "CuckooByPostModel" "wroteBy") ∈ lw_all := lw_g (lw_at lw_m5 103 rfl) rfl
theorem q1165 : (Jvm.Cond.lays "CuckooByPostModel" "CuckooByPostModel" "wrote" "I") ∈ lw_all := lw_g (lw_at lw_m5 104 rfl) rfl
theorem q1166 : (Jvm.Cond.soleField "CuckooByPostModel" "wrote") ∈ lw_all := lw_g (lw_at lw_m5 105 rfl) rfl
theorem q1167 : (Jvm.Cond.lays "CuckooByPostModel" "CuckooByPostModel" "drawn" "I") ∈ lw_all := lw_g (lw_at lw_m5 106 rfl) rfl
theorem q1168 : (Jvm.Cond.soleField "CuckooByPostModel" "drawn") ∈ lw_all := lw_g (lw_at lw_m5 107 rfl) rfl
theorem q1169 : (Jvm.Cond.lays "CuckooByPostModel" "CuckooByPostModel" "came" "I") ∈ lw_all := lw_g (lw_at lw_m5 108 rfl) rfl
theorem q1170 : (Jvm.Cond.soleField "CuckooByPostModel" "came") ∈ lw_all := lw_g (lw_at lw_m5 109 rfl) rfl
theorem q1171 : (Jvm.Cond.laysFinal "CuckooByPostModel" "CuckooByPostModel" "kept" "[I") ∈ lw_all := lw_g (lw_at lw_m5 110 rfl) rfl
theorem q1172 : (Jvm.Cond.soleField "CuckooByPostModel" "kept") ∈ lw_all := lw_g (lw_at lw_m5 111 rfl) rfl
theorem q1173 : (Jvm.Cond.laysFinal "CuckooByPostModel" "CuckooByPostModel" "isKept" "[Z") ∈ lw_all := lw_g (lw_at lw_m5 112 rfl) rfl
theorem q1174 : (Jvm.Cond.soleField "CuckooByPostModel" "isKept") ∈ lw_all := lw_g (lw_at lw_m5 113 rfl) rfl
theorem q1175 : (Jvm.Cond.laysFinal "CuckooByPostModel" "CuckooByPostModel" "keptCame" "[I") ∈ lw_all := lw_g (lw_at lw_m5 114 rfl) rfl
theorem q1176 : (Jvm.Cond.soleField "CuckooByPostModel" "keptCame") ∈ lw_all := lw_g (lw_at lw_m5 115 rfl) rfl
theorem q1177 : (Jvm.Cond.superclass "CuckooByPostModel" "java/lang/Object") ∈ lw_all := lw_g (lw_at lw_m5 116 rfl) rfl
theorem q1179 : (Jvm.Cond.instanceMethod ({ cls := "CuckooByPostModel", name := "thrown", desc := "()I" } : Jvm.MethodName)) ∈ lw_all := lw_g (lw_at lw_m5 118 rfl) rfl
theorem q1180 : (Jvm.Cond.selects "CuckooByPostModel" ({ cls := "CuckooByPostModel", name := "thrown", desc := "()I" } : Jvm.MethodName) ({ cls := "CuckooByPostModel", name := "thrown", desc := "()I" } : Jvm.MethodName)) ∈ lw_all := lw_g (lw_at lw_m5 119 rfl) rfl
theorem q1181 : (Jvm.Cond.code ({ cls := "CuckooByPostModel", name := "thrown", desc := "()I" } : Jvm.MethodName) prog_9_method_2_code (1 : Nat) (Option.some Jvm.ClassFile.FieldType.int)) ∈ lw_all := lw_g (lw_at lw_m5 120 rfl) rfl
theorem q1183 : (Jvm.Cond.instanceMethod ({ cls := "CuckooByPostModel", name := "sign", desc := "(I)I" } : Jvm.MethodName)) ∈ lw_all := lw_g (lw_at lw_m5 122 rfl) rfl
theorem q1184 : (Jvm.Cond.selects "CuckooByPostModel" ({ cls := "CuckooByPostModel", name := "sign", desc := "(I)I" } : Jvm.MethodName) ({ cls := "CuckooByPostModel", name := "sign", desc := "(I)I" } : Jvm.MethodName)) ∈ lw_all := lw_g (lw_at lw_m5 123 rfl) rfl
theorem q1185 : (Jvm.Cond.code ({ cls := "CuckooByPostModel", name := "sign", desc := "(I)I" } : Jvm.MethodName) prog_9_method_10_code (3 : Nat) (Option.some Jvm.ClassFile.FieldType.int)) ∈ lw_all := lw_g (lw_at lw_m5 124 rfl) rfl
theorem q1187 : (Jvm.Cond.instanceMethod ({ cls := "CuckooByPostModel", name := "end", desc := "(I)Z" } : Jvm.MethodName)) ∈ lw_all := lw_g (lw_at lw_m5 126 rfl) rfl
theorem q1188 : (Jvm.Cond.selects "CuckooByPostModel" ({ cls := "CuckooByPostModel", name := "end", desc := "(I)Z" } : Jvm.MethodName) ({ cls := "CuckooByPostModel", name := "end", desc := "(I)Z" } : Jvm.MethodName)) ∈ lw_all := lw_g (lw_at lw_m5 127 rfl) rfl
theorem q1189 : (Jvm.Cond.code ({ cls := "CuckooByPostModel", name := "end", desc := "(I)Z" } : Jvm.MethodName) prog_9_method_11_code (2 : Nat) (Option.some Jvm.ClassFile.FieldType.boolean)) ∈ lw_all := lw_g (lw_at lw_m5 128 rfl) rfl
theorem q1190 : (Jvm.Cond.methodLink "CuckooByPostModel" (92 : Nat) ({ cls := "CuckooByPostModel", name := "in", desc := "(III)Z" } : Jvm.MethodName)) ∈ lw_all := lw_g (lw_at lw_m5 129 rfl) rfl
theorem q1191 : (Jvm.Cond.static ({ cls := "CuckooByPostModel", name := "in", desc := "(III)Z" } : Jvm.MethodName)) ∈ lw_all := lw_g (lw_at lw_m5 130 rfl) rfl
theorem q1192 : (Jvm.Cond.code ({ cls := "CuckooByPostModel", name := "in", desc := "(III)Z" } : Jvm.MethodName) prog_9_method_3_code (3 : Nat) (Option.some Jvm.ClassFile.FieldType.boolean)) ∈ lw_all := lw_g (lw_at lw_m5 131 rfl) rfl
theorem q1194 : (Jvm.Cond.instanceMethod ({ cls := "CuckooByPostModel", name := "nests", desc := "()I" } : Jvm.MethodName)) ∈ lw_all := lw_g (lw_at lw_m5 133 rfl) rfl
theorem q1195 : (Jvm.Cond.selects "CuckooByPostModel" ({ cls := "CuckooByPostModel", name := "nests", desc := "()I" } : Jvm.MethodName) ({ cls := "CuckooByPostModel", name := "nests", desc := "()I" } : Jvm.MethodName)) ∈ lw_all := lw_g (lw_at lw_m5 134 rfl) rfl
theorem q1196 : (Jvm.Cond.code ({ cls := "CuckooByPostModel", name := "nests", desc := "()I" } : Jvm.MethodName) prog_9_method_24_code (5 : Nat) (Option.some Jvm.ClassFile.FieldType.int)) ∈ lw_all := lw_g (lw_at lw_m5 135 rfl) rfl
theorem q1197 : (Jvm.Cond.methodLink "CuckooByPostModel" (146 : Nat) ({ cls := "CuckooByPostModel", name := "beginText", desc := "(I)V" } : Jvm.MethodName)) ∈ lw_all := lw_g (lw_at lw_m5 136 rfl) rfl
theorem q1198 : (Jvm.Cond.privateMethod ({ cls := "CuckooByPostModel", name := "beginText", desc := "(I)V" } : Jvm.MethodName)) ∈ lw_tbl := lw_at lw_m5 137 rfl
theorem q1199 : (Jvm.Cond.instanceMethod ({ cls := "CuckooByPostModel", name := "beginText", desc := "(I)V" } : Jvm.MethodName)) ∈ lw_all := lw_g (lw_at lw_m5 138 rfl) rfl
theorem q1200 : (Jvm.Cond.code ({ cls := "CuckooByPostModel", name := "beginText", desc := "(I)V" } : Jvm.MethodName) prog_9_method_13_code (2 : Nat) (Option.none : Option Jvm.ClassFile.FieldType)) ∈ lw_all := lw_g (lw_at lw_m5 139 rfl) rfl
theorem q1201 : (Jvm.Cond.methodLink "CuckooByPostModel" (118 : Nat) ({ cls := "CuckooByPostModel", name := "begin", desc := "([BII)V" } : Jvm.MethodName)) ∈ lw_all := lw_g (lw_at lw_m5 140 rfl) rfl
theorem q1202 : (Jvm.Cond.privateMethod ({ cls := "CuckooByPostModel", name := "begin", desc := "([BII)V" } : Jvm.MethodName)) ∈ lw_tbl := lw_at lw_m5 141 rfl
theorem q1203 : (Jvm.Cond.instanceMethod ({ cls := "CuckooByPostModel", name := "begin", desc := "([BII)V" } : Jvm.MethodName)) ∈ lw_all := lw_g (lw_at lw_m5 142 rfl) rfl
theorem q1204 : (Jvm.Cond.code ({ cls := "CuckooByPostModel", name := "begin", desc := "([BII)V" } : Jvm.MethodName) prog_9_method_12_code (4 : Nat) (Option.none : Option Jvm.ClassFile.FieldType)) ∈ lw_all := lw_g (lw_at lw_m5 143 rfl) rfl
theorem q1205 : (Jvm.Cond.methodLink "CuckooByPostModel" (122 : Nat) ({ cls := "CuckooByPostModel", name := "fine", desc := "()Z" } : Jvm.MethodName)) ∈ lw_all := lw_g (lw_at lw_m5 144 rfl) rfl
theorem q1206 : (Jvm.Cond.privateMethod ({ cls := "CuckooByPostModel", name := "fine", desc := "()Z" } : Jvm.MethodName)) ∈ lw_tbl := lw_at lw_m5 145 rfl
theorem q1207 : (Jvm.Cond.instanceMethod ({ cls := "CuckooByPostModel", name := "fine", desc := "()Z" } : Jvm.MethodName)) ∈ lw_all := lw_g (lw_at lw_m5 146 rfl) rfl
theorem q1208 : (Jvm.Cond.code ({ cls := "CuckooByPostModel", name := "fine", desc := "()Z" } : Jvm.MethodName) prog_9_method_15_code (1 : Nat) (Option.some Jvm.ClassFile.FieldType.boolean)) ∈ lw_all := lw_g (lw_at lw_m5 147 rfl) rfl
theorem q1209 : (Jvm.Cond.methodLink "CuckooByPostModel" (134 : Nat) ({ cls := "CuckooByPostModel", name := "fault", desc := "(I)V" } : Jvm.MethodName)) ∈ lw_all := lw_g (lw_at lw_m5 148 rfl) rfl
theorem q1210 : (Jvm.Cond.privateMethod ({ cls := "CuckooByPostModel", name := "fault", desc := "(I)V" } : Jvm.MethodName)) ∈ lw_tbl := lw_at lw_m5 149 rfl
theorem q1211 : (Jvm.Cond.instanceMethod ({ cls := "CuckooByPostModel", name := "fault", desc := "(I)V" } : Jvm.MethodName)) ∈ lw_all := lw_g (lw_at lw_m5 150 rfl) rfl
theorem q1212 : (Jvm.Cond.code ({ cls := "CuckooByPostModel", name := "fault", desc := "(I)V" } : Jvm.MethodName) prog_9_method_16_code (2 : Nat) (Option.none : Option Jvm.ClassFile.FieldType)) ∈ lw_all := lw_g (lw_at lw_m5 151 rfl) rfl
theorem q1213 : (Jvm.Cond.methodLink "CuckooByPostModel" (149 : Nat) ({ cls := "CuckooByPostModel", name := "readNest", desc := "(I)V" } : Jvm.MethodName)) ∈ lw_all := lw_g (lw_at lw_m5 152 rfl) rfl
theorem q1214 : (Jvm.Cond.privateMethod ({ cls := "CuckooByPostModel", name := "readNest", desc := "(I)V" } : Jvm.MethodName)) ∈ lw_tbl := lw_at lw_m5 153 rfl
theorem q1215 : (Jvm.Cond.instanceMethod ({ cls := "CuckooByPostModel", name := "readNest", desc := "(I)V" } : Jvm.MethodName)) ∈ lw_all := lw_g (lw_at lw_m5 154 rfl) rfl
theorem q1216 : (Jvm.Cond.code ({ cls := "CuckooByPostModel", name := "readNest", desc := "(I)V" } : Jvm.MethodName) prog_9_method_23_code (2 : Nat) (Option.none : Option Jvm.ClassFile.FieldType)) ∈ lw_all := lw_g (lw_at lw_m5 155 rfl) rfl
theorem q1217 : (Jvm.Cond.methodLink "CuckooByPostModel" (126 : Nat) ({ cls := "CuckooByPostModel", name := "here", desc := "()I" } : Jvm.MethodName)) ∈ lw_all := lw_g (lw_at lw_m5 156 rfl) rfl
theorem q1218 : (Jvm.Cond.privateMethod ({ cls := "CuckooByPostModel", name := "here", desc := "()I" } : Jvm.MethodName)) ∈ lw_tbl := lw_at lw_m5 157 rfl
theorem q1219 : (Jvm.Cond.instanceMethod ({ cls := "CuckooByPostModel", name := "here", desc := "()I" } : Jvm.MethodName)) ∈ lw_all := lw_g (lw_at lw_m5 158 rfl) rfl
theorem q1220 : (Jvm.Cond.code ({ cls := "CuckooByPostModel", name := "here", desc := "()I" } : Jvm.MethodName) prog_9_method_14_code (1 : Nat) (Option.some Jvm.ClassFile.FieldType.int)) ∈ lw_all := lw_g (lw_at lw_m5 159 rfl) rfl
theorem q1221 : (Jvm.Cond.methodLink "CuckooByPostModel" (142 : Nat) ({ cls := "CuckooByPostModel", name := "kindBy", desc := "(I)I" } : Jvm.MethodName)) ∈ lw_all := lw_g (lw_at lw_m5 160 rfl) rfl
theorem q1222 : (Jvm.Cond.static ({ cls := "CuckooByPostModel", name := "kindBy", desc := "(I)I" } : Jvm.MethodName)) ∈ lw_all := lw_g (lw_at lw_m5 161 rfl) rfl
theorem q1223 : (Jvm.Cond.code ({ cls := "CuckooByPostModel", name := "kindBy", desc := "(I)I" } : Jvm.MethodName) prog_9_method_22_code (1 : Nat) (Option.some Jvm.ClassFile.FieldType.int)) ∈ lw_all := lw_g (lw_at lw_m5 162 rfl) rfl
theorem q1224 : (Jvm.Cond.methodLink "CuckooByPostModel" (138 : Nat) ({ cls := "CuckooByPostModel", name := "oneOf", desc := "(CI)I" } : Jvm.MethodName)) ∈ lw_all := lw_g (lw_at lw_m5 163 rfl) rfl
theorem q1225 : (Jvm.Cond.privateMethod ({ cls := "CuckooByPostModel", name := "oneOf", desc := "(CI)I" } : Jvm.MethodName)) ∈ lw_tbl := lw_at lw_m5 164 rfl
theorem q1226 : (Jvm.Cond.instanceMethod ({ cls := "CuckooByPostModel", name := "oneOf", desc := "(CI)I" } : Jvm.MethodName)) ∈ lw_all := lw_g (lw_at lw_m5 165 rfl) rfl
theorem q1227 : (Jvm.Cond.code ({ cls := "CuckooByPostModel", name := "oneOf", desc := "(CI)I" } : Jvm.MethodName) prog_9_method_19_code (3 : Nat) (Option.some Jvm.ClassFile.FieldType.int)) ∈ lw_all := lw_g (lw_at lw_m5 166 rfl) rfl
theorem q1228 : (Jvm.Cond.methodLink "CuckooByPostModel" (130 : Nat) ({ cls := "CuckooByPostModel", name := "passes", desc := "(C)Z" } : Jvm.MethodName)) ∈ lw_all := lw_g (lw_at lw_m5 167 rfl) rfl
theorem q1229 : (Jvm.Cond.privateMethod ({ cls := "CuckooByPostModel", name := "passes", desc := "(C)Z" } : Jvm.MethodName)) ∈ lw_tbl := lw_at lw_m5 168 rfl
theorem q1230 : (Jvm.Cond.instanceMethod ({ cls := "CuckooByPostModel", name := "passes", desc := "(C)Z" } : Jvm.MethodName)) ∈ lw_all := lw_g (lw_at lw_m5 169 rfl) rfl
theorem q1231 : (Jvm.Cond.code ({ cls := "CuckooByPostModel", name := "passes", desc := "(C)Z" } : Jvm.MethodName) prog_9_method_17_code (2 : Nat) (Option.some Jvm.ClassFile.FieldType.boolean)) ∈ lw_all := lw_g (lw_at lw_m5 170 rfl) rfl
theorem q1232 : (Jvm.Cond.methodLink "CuckooByPostModel" (152 : Nat) ({ cls := "CuckooByPostModel", name := "wasRight", desc := "()Z" } : Jvm.MethodName)) ∈ lw_all := lw_g (lw_at lw_m5 171 rfl) rfl
theorem q1233 : (Jvm.Cond.privateMethod ({ cls := "CuckooByPostModel", name := "wasRight", desc := "()Z" } : Jvm.MethodName)) ∈ lw_tbl := lw_at lw_m5 172 rfl
theorem q1234 : (Jvm.Cond.instanceMethod ({ cls := "CuckooByPostModel", name := "wasRight", desc := "()Z" } : Jvm.MethodName)) ∈ lw_all := lw_g (lw_at lw_m5 173 rfl) rfl
theorem q1235 : (Jvm.Cond.code ({ cls := "CuckooByPostModel", name := "wasRight", desc := "()Z" } : Jvm.MethodName) prog_9_method_21_code (1 : Nat) (Option.some Jvm.ClassFile.FieldType.boolean)) ∈ lw_all := lw_g (lw_at lw_m5 174 rfl) rfl
theorem q1237 : (Jvm.Cond.instanceMethod ({ cls := "CuckooByPostModel", name := "rule", desc := "()I" } : Jvm.MethodName)) ∈ lw_all := lw_g (lw_at lw_m5 176 rfl) rfl
theorem q1238 : (Jvm.Cond.selects "CuckooByPostModel" ({ cls := "CuckooByPostModel", name := "rule", desc := "()I" } : Jvm.MethodName) ({ cls := "CuckooByPostModel", name := "rule", desc := "()I" } : Jvm.MethodName)) ∈ lw_all := lw_g (lw_at lw_m5 177 rfl) rfl
theorem q1239 : (Jvm.Cond.code ({ cls := "CuckooByPostModel", name := "rule", desc := "()I" } : Jvm.MethodName) prog_9_method_31_code (3 : Nat) (Option.some Jvm.ClassFile.FieldType.int)) ∈ lw_all := lw_g (lw_at lw_m5 178 rfl) rfl
theorem q1240 : (Jvm.Cond.methodLink "CuckooByPostModel" (187 : Nat) ({ cls := "CuckooByPostModel", name := "readRule", desc := "()Z" } : Jvm.MethodName)) ∈ lw_all := lw_g (lw_at lw_m5 179 rfl) rfl
theorem q1241 : (Jvm.Cond.privateMethod ({ cls := "CuckooByPostModel", name := "readRule", desc := "()Z" } : Jvm.MethodName)) ∈ lw_tbl := lw_at lw_m5 180 rfl
theorem q1242 : (Jvm.Cond.instanceMethod ({ cls := "CuckooByPostModel", name := "readRule", desc := "()Z" } : Jvm.MethodName)) ∈ lw_all := lw_g (lw_at lw_m5 181 rfl) rfl
theorem q1243 : (Jvm.Cond.code ({ cls := "CuckooByPostModel", name := "readRule", desc := "()Z" } : Jvm.MethodName) prog_9_method_30_code (1 : Nat) (Option.some Jvm.ClassFile.FieldType.boolean)) ∈ lw_all := lw_g (lw_at lw_m5 182 rfl) rfl
theorem q1244 : (Jvm.Cond.methodLink "CuckooByPostModel" (170 : Nat) ({ cls := "CuckooByPostModel", name := "held", desc := "(I)I" } : Jvm.MethodName)) ∈ lw_all := lw_g (lw_at lw_m5 183 rfl) rfl
theorem q1245 : (Jvm.Cond.privateMethod ({ cls := "CuckooByPostModel", name := "held", desc := "(I)I" } : Jvm.MethodName)) ∈ lw_tbl := lw_at lw_m5 184 rfl
theorem q1246 : (Jvm.Cond.instanceMethod ({ cls := "CuckooByPostModel", name := "held", desc := "(I)I" } : Jvm.MethodName)) ∈ lw_all := lw_g (lw_at lw_m5 185 rfl) rfl
theorem q1247 : (Jvm.Cond.code ({ cls := "CuckooByPostModel", name := "held", desc := "(I)I" } : Jvm.MethodName) prog_9_method_25_code (3 : Nat) (Option.some Jvm.ClassFile.FieldType.int)) ∈ lw_all := lw_g (lw_at lw_m5 186 rfl) rfl
theorem q1248 : (Jvm.Cond.methodLink "CuckooByPostModel" (161 : Nat) ({ cls := "CuckooByPostModel", name := "sum", desc := "(I)I" } : Jvm.MethodName)) ∈ lw_all := lw_g (lw_at lw_m5 187 rfl) rfl
theorem q1249 : (Jvm.Cond.privateMethod ({ cls := "CuckooByPostModel", name := "sum", desc := "(I)I" } : Jvm.MethodName)) ∈ lw_tbl := lw_at lw_m5 188 rfl
theorem q1250 : (Jvm.Cond.instanceMethod ({ cls := "CuckooByPostModel", name := "sum", desc := "(I)I" } : Jvm.MethodName)) ∈ lw_all := lw_g (lw_at lw_m5 189 rfl) rfl
theorem q1251 : (Jvm.Cond.code ({ cls := "CuckooByPostModel", name := "sum", desc := "(I)I" } : Jvm.MethodName) prog_9_method_26_code (5 : Nat) (Option.some Jvm.ClassFile.FieldType.int)) ∈ lw_all := lw_g (lw_at lw_m5 190 rfl) rfl
theorem q1252 : (Jvm.Cond.methodLink "CuckooByPostModel" (164 : Nat) ({ cls := "CuckooByPostModel", name := "product", desc := "(I)I" } : Jvm.MethodName)) ∈ lw_all := lw_g (lw_at lw_m5 191 rfl) rfl
theorem q1253 : (Jvm.Cond.privateMethod ({ cls := "CuckooByPostModel", name := "product", desc := "(I)I" } : Jvm.MethodName)) ∈ lw_tbl := lw_at lw_m5 192 rfl
theorem q1254 : (Jvm.Cond.instanceMethod ({ cls := "CuckooByPostModel", name := "product", desc := "(I)I" } : Jvm.MethodName)) ∈ lw_all := lw_g (lw_at lw_m5 193 rfl) rfl
theorem q1255 : (Jvm.Cond.code ({ cls := "CuckooByPostModel", name := "product", desc := "(I)I" } : Jvm.MethodName) prog_9_method_27_code (5 : Nat) (Option.some Jvm.ClassFile.FieldType.int)) ∈ lw_all := lw_g (lw_at lw_m5 194 rfl) rfl
theorem q1256 : (Jvm.Cond.methodLink "CuckooByPostModel" (167 : Nat) ({ cls := "CuckooByPostModel", name := "thing", desc := "(I)I" } : Jvm.MethodName)) ∈ lw_all := lw_g (lw_at lw_m5 195 rfl) rfl
theorem q1257 : (Jvm.Cond.privateMethod ({ cls := "CuckooByPostModel", name := "thing", desc := "(I)I" } : Jvm.MethodName)) ∈ lw_tbl := lw_at lw_m5 196 rfl
theorem q1258 : (Jvm.Cond.instanceMethod ({ cls := "CuckooByPostModel", name := "thing", desc := "(I)I" } : Jvm.MethodName)) ∈ lw_all := lw_g (lw_at lw_m5 197 rfl) rfl
theorem q1259 : (Jvm.Cond.code ({ cls := "CuckooByPostModel", name := "thing", desc := "(I)I" } : Jvm.MethodName) prog_9_method_29_code (4 : Nat) (Option.some Jvm.ClassFile.FieldType.int)) ∈ lw_all := lw_g (lw_at lw_m5 198 rfl) rfl
theorem q1260 : (Jvm.Cond.methodLink "CuckooByPostModel" (173 : Nat) ({ cls := "CuckooByPostModel", name := "need", desc := "(C)V" } : Jvm.MethodName)) ∈ lw_all := lw_g (lw_at lw_m5 199 rfl) rfl
theorem q1261 : (Jvm.Cond.privateMethod ({ cls := "CuckooByPostModel", name := "need", desc := "(C)V" } : Jvm.MethodName)) ∈ lw_tbl := lw_at lw_m5 200 rfl
theorem q1262 : (Jvm.Cond.instanceMethod ({ cls := "CuckooByPostModel", name := "need", desc := "(C)V" } : Jvm.MethodName)) ∈ lw_all := lw_g (lw_at lw_m5 201 rfl) rfl
theorem q1263 : (Jvm.Cond.code ({ cls := "CuckooByPostModel", name := "need", desc := "(C)V" } : Jvm.MethodName) prog_9_method_18_code (2 : Nat) (Option.none : Option Jvm.ClassFile.FieldType)) ∈ lw_all := lw_g (lw_at lw_m5 202 rfl) rfl
theorem q1264 : (Jvm.Cond.methodLink "CuckooByPostModel" (177 : Nat) ({ cls := "CuckooByPostModel", name := "number", desc := "(I)I" } : Jvm.MethodName)) ∈ lw_all := lw_g (lw_at lw_m5 203 rfl) rfl
theorem q1265 : (Jvm.Cond.privateMethod ({ cls := "CuckooByPostModel", name := "number", desc := "(I)I" } : Jvm.MethodName)) ∈ lw_tbl := lw_at lw_m5 204 rfl
theorem q1266 : (Jvm.Cond.instanceMethod ({ cls := "CuckooByPostModel", name := "number", desc := "(I)I" } : Jvm.MethodName)) ∈ lw_all := lw_g (lw_at lw_m5 205 rfl) rfl
theorem q1267 : (Jvm.Cond.code ({ cls := "CuckooByPostModel", name := "number", desc := "(I)I" } : Jvm.MethodName) prog_9_method_20_code (4 : Nat) (Option.some Jvm.ClassFile.FieldType.int)) ∈ lw_all := lw_g (lw_at lw_m5 206 rfl) rfl
theorem q1268 : (Jvm.Cond.methodLink "CuckooByPostModel" (180 : Nat) ({ cls := "CuckooByPostModel", name := "letterOf", desc := "(I)I" } : Jvm.MethodName)) ∈ lw_all := lw_g (lw_at lw_m5 207 rfl) rfl
theorem q1269 : (Jvm.Cond.static ({ cls := "CuckooByPostModel", name := "letterOf", desc := "(I)I" } : Jvm.MethodName)) ∈ lw_all := lw_g (lw_at lw_m5 208 rfl) rfl
theorem q1270 : (Jvm.Cond.code ({ cls := "CuckooByPostModel", name := "letterOf", desc := "(I)I" } : Jvm.MethodName) prog_9_method_28_code (1 : Nat) (Option.some Jvm.ClassFile.FieldType.int)) ∈ lw_all := lw_g (lw_at lw_m5 209 rfl) rfl
theorem q1272 : (Jvm.Cond.instanceMethod ({ cls := "CuckooByPostModel", name := "nest", desc := "(II)I" } : Jvm.MethodName)) ∈ lw_all := lw_g (lw_at lw_m5 211 rfl) rfl
theorem q1273 : (Jvm.Cond.selects "CuckooByPostModel" ({ cls := "CuckooByPostModel", name := "nest", desc := "(II)I" } : Jvm.MethodName) ({ cls := "CuckooByPostModel", name := "nest", desc := "(II)I" } : Jvm.MethodName)) ∈ lw_all := lw_g (lw_at lw_m5 212 rfl) rfl
theorem q1274 : (Jvm.Cond.code ({ cls := "CuckooByPostModel", name := "nest", desc := "(II)I" } : Jvm.MethodName) prog_9_method_38_code (3 : Nat) (Option.some Jvm.ClassFile.FieldType.int)) ∈ lw_all := lw_g (lw_at lw_m5 213 rfl) rfl
theorem q1275 : (Jvm.Cond.methodLink "CuckooByPostModel" (96 : Nat) ({ cls := "CuckooByPostModel", name := "isNest", desc := "(I)Z" } : Jvm.MethodName)) ∈ lw_all := lw_g (lw_at lw_m5 214 rfl) rfl
theorem q1276 : (Jvm.Cond.privateMethod ({ cls := "CuckooByPostModel", name := "isNest", desc := "(I)Z" } : Jvm.MethodName)) ∈ lw_tbl := lw_at lw_m5 215 rfl
theorem q1277 : (Jvm.Cond.instanceMethod ({ cls := "CuckooByPostModel", name := "isNest", desc := "(I)Z" } : Jvm.MethodName)) ∈ lw_all := lw_g (lw_at lw_m5 216 rfl) rfl
theorem q1278 : (Jvm.Cond.code ({ cls := "CuckooByPostModel", name := "isNest", desc := "(I)Z" } : Jvm.MethodName) prog_9_method_7_code (2 : Nat) (Option.some Jvm.ClassFile.FieldType.boolean)) ∈ lw_all := lw_g (lw_at lw_m5 217 rfl) rfl
theorem q1279 : (Jvm.Cond.methodLink "CuckooByPostModel" (218 : Nat) ({ cls := "CuckooByPostModel", name := "lost", desc := "()I" } : Jvm.MethodName)) ∈ lw_all := lw_g (lw_at lw_m5 218 rfl) rfl
theorem q1280 : (Jvm.Cond.privateMethod ({ cls := "CuckooByPostModel", name := "lost", desc := "()I" } : Jvm.MethodName)) ∈ lw_tbl := lw_at lw_m5 219 rfl
theorem q1281 : (Jvm.Cond.instanceMethod ({ cls := "CuckooByPostModel", name := "lost", desc := "()I" } : Jvm.MethodName)) ∈ lw_all := lw_g (lw_at lw_m5 220 rfl) rfl
theorem q1282 : (Jvm.Cond.code ({ cls := "CuckooByPostModel", name := "lost", desc := "()I" } : Jvm.MethodName) prog_9_method_5_code (1 : Nat) (Option.some Jvm.ClassFile.FieldType.int)) ∈ lw_all := lw_g (lw_at lw_m5 221 rfl) rfl
theorem q1283 : (Jvm.Cond.methodLink "CuckooByPostModel" (221 : Nat) ({ cls := "CuckooByPostModel", name := "isInTime", desc := "([II)Z" } : Jvm.MethodName)) ∈ lw_all := lw_g (lw_at lw_m5 222 rfl) rfl
theorem q1284 : (Jvm.Cond.privateMethod ({ cls := "CuckooByPostModel", name := "isInTime", desc := "([II)Z" } : Jvm.MethodName)) ∈ lw_tbl := lw_at lw_m5 223 rfl
theorem q1285 : (Jvm.Cond.instanceMethod ({ cls := "CuckooByPostModel", name := "isInTime", desc := "([II)Z" } : Jvm.MethodName)) ∈ lw_all := lw_g (lw_at lw_m5 224 rfl) rfl
theorem q1286 : (Jvm.Cond.code ({ cls := "CuckooByPostModel", name := "isInTime", desc := "([II)Z" } : Jvm.MethodName) prog_9_method_37_code (3 : Nat) (Option.some Jvm.ClassFile.FieldType.boolean)) ∈ lw_all := lw_g (lw_at lw_m5 225 rfl) rfl
theorem q1288 : (Jvm.Cond.instanceMethod ({ cls := "CuckooByPostModel", name := "guest", desc := "(II)I" } : Jvm.MethodName)) ∈ lw_all := lw_g (lw_at lw_m5 227 rfl) rfl
theorem q1289 : (Jvm.Cond.selects "CuckooByPostModel" ({ cls := "CuckooByPostModel", name := "guest", desc := "(II)I" } : Jvm.MethodName) ({ cls := "CuckooByPostModel", name := "guest", desc := "(II)I" } : Jvm.MethodName)) ∈ lw_all := lw_g (lw_at lw_m5 228 rfl) rfl
theorem q1290 : (Jvm.Cond.code ({ cls := "CuckooByPostModel", name := "guest", desc := "(II)I" } : Jvm.MethodName) prog_9_method_39_code (3 : Nat) (Option.some Jvm.ClassFile.FieldType.int)) ∈ lw_all := lw_g (lw_at lw_m5 229 rfl) rfl
theorem q1291 : (Jvm.Cond.methodLink "CuckooByPostModel" (225 : Nat) ({ cls := "CuckooByPostModel", name := "oddNow", desc := "([II)I" } : Jvm.MethodName)) ∈ lw_all := lw_g (lw_at lw_m5 230 rfl) rfl
theorem q1292 : (Jvm.Cond.privateMethod ({ cls := "CuckooByPostModel", name := "oddNow", desc := "([II)I" } : Jvm.MethodName)) ∈ lw_tbl := lw_at lw_m5 231 rfl
theorem q1293 : (Jvm.Cond.instanceMethod ({ cls := "CuckooByPostModel", name := "oddNow", desc := "([II)I" } : Jvm.MethodName)) ∈ lw_all := lw_g (lw_at lw_m5 232 rfl) rfl
theorem q1294 : (Jvm.Cond.code ({ cls := "CuckooByPostModel", name := "oddNow", desc := "([II)I" } : Jvm.MethodName) prog_9_method_34_code (3 : Nat) (Option.some Jvm.ClassFile.FieldType.int)) ∈ lw_all := lw_g (lw_at lw_m5 233 rfl) rfl
theorem q1295 : (Jvm.Cond.methodLink "CuckooByPostModel" (202 : Nat) ({ cls := "CuckooByPostModel", name := "guests", desc := "([I)I" } : Jvm.MethodName)) ∈ lw_all := lw_g (lw_at lw_m5 234 rfl) rfl
theorem q1296 : (Jvm.Cond.privateMethod ({ cls := "CuckooByPostModel", name := "guests", desc := "([I)I" } : Jvm.MethodName)) ∈ lw_tbl := lw_at lw_m5 235 rfl
theorem q1297 : (Jvm.Cond.instanceMethod ({ cls := "CuckooByPostModel", name := "guests", desc := "([I)I" } : Jvm.MethodName)) ∈ lw_all := lw_g (lw_at lw_m5 236 rfl) rfl
theorem q1298 : (Jvm.Cond.code ({ cls := "CuckooByPostModel", name := "guests", desc := "([I)I" } : Jvm.MethodName) prog_9_method_32_code (4 : Nat) (Option.some Jvm.ClassFile.FieldType.int)) ∈ lw_all := lw_g (lw_at lw_m5 237 rfl) rfl
theorem q1299 : (Jvm.Cond.methodLink "CuckooByPostModel" (206 : Nat) ({ cls := "java/lang/Integer", name := "bitCount", desc := "(I)I" } : Jvm.MethodName)) ∈ lw_all := lw_g (lw_at lw_m5 238 rfl) rfl
theorem q1300 : (Jvm.Cond.methodLink "CuckooByPostModel" (211 : Nat) ({ cls := "CuckooByPostModel", name := "oddOf", desc := "([IIIIII)I" } : Jvm.MethodName)) ∈ lw_all := lw_g (lw_at lw_m5 239 rfl) rfl
theorem q1301 : (Jvm.Cond.privateMethod ({ cls := "CuckooByPostModel", name := "oddOf", desc := "([IIIIII)I" } : Jvm.MethodName)) ∈ lw_tbl := lw_at lw_m6 0 rfl
theorem q1302 : (Jvm.Cond.instanceMethod ({ cls := "CuckooByPostModel", name := "oddOf", desc := "([IIIIII)I" } : Jvm.MethodName)) ∈ lw_all := lw_g (lw_at lw_m6 1 rfl) rfl
theorem q1303 : (Jvm.Cond.code ({ cls := "CuckooByPostModel", name := "oddOf", desc := "([IIIIII)I" } : Jvm.MethodName) prog_9_method_33_code (10 : Nat) (Option.some Jvm.ClassFile.FieldType.int)) ∈ lw_all := lw_g (lw_at lw_m6 2 rfl) rfl
theorem q1304 : (Jvm.Cond.methodLink "CuckooByPostModel" (193 : Nat) ({ cls := "java/lang/Math", name := "abs", desc := "(I)I" } : Jvm.MethodName)) ∈ lw_all := lw_g (lw_at lw_m6 3 rfl) rfl
theorem q1305 : (Jvm.Cond.methodLink "CuckooByPostModel" (198 : Nat) ({ cls := "java/lang/Math", name := "max", desc := "(II)I" } : Jvm.MethodName)) ∈ lw_all := lw_g (lw_at lw_m6 4 rfl) rfl
theorem q1307 : (Jvm.Cond.instanceMethod ({ cls := "CuckooByPostModel", name := "clear", desc := "(I)I" } : Jvm.MethodName)) ∈ lw_all := lw_g (lw_at lw_m6 6 rfl) rfl
theorem q1308 : (Jvm.Cond.selects "CuckooByPostModel" ({ cls := "CuckooByPostModel", name := "clear", desc := "(I)I" } : Jvm.MethodName) ({ cls := "CuckooByPostModel", name := "clear", desc := "(I)I" } : Jvm.MethodName)) ∈ lw_all := lw_g (lw_at lw_m6 7 rfl) rfl
theorem q1309 : (Jvm.Cond.code ({ cls := "CuckooByPostModel", name := "clear", desc := "(I)I" } : Jvm.MethodName) prog_9_method_40_code (3 : Nat) (Option.some Jvm.ClassFile.FieldType.int)) ∈ lw_all := lw_g (lw_at lw_m6 8 rfl) rfl
theorem q1311 : (Jvm.Cond.instanceMethod ({ cls := "CuckooByPostModel", name := "sheet", desc := "(IIII)I" } : Jvm.MethodName)) ∈ lw_all := lw_g (lw_at lw_m6 10 rfl) rfl
theorem q1312 : (Jvm.Cond.selects "CuckooByPostModel" ({ cls := "CuckooByPostModel", name := "sheet", desc := "(IIII)I" } : Jvm.MethodName) ({ cls := "CuckooByPostModel", name := "sheet", desc := "(IIII)I" } : Jvm.MethodName)) ∈ lw_all := lw_g (lw_at lw_m6 11 rfl) rfl
theorem q1313 : (Jvm.Cond.code ({ cls := "CuckooByPostModel", name := "sheet", desc := "(IIII)I" } : Jvm.MethodName) prog_9_method_41_code (9 : Nat) (Option.some Jvm.ClassFile.FieldType.int)) ∈ lw_all := lw_g (lw_at lw_m6 12 rfl) rfl
theorem q1314 : (Jvm.Cond.methodLink "CuckooByPostModel" (215 : Nat) ({ cls := "java/lang/Math", name := "min", desc := "(II)I" } : Jvm.MethodName)) ∈ lw_all := lw_g (lw_at lw_m6 13 rfl) rfl
theorem q1316 : (Jvm.Cond.instanceMethod ({ cls := "CuckooByPostModel", name := "announce", desc := "(I)I" } : Jvm.MethodName)) ∈ lw_all := lw_g (lw_at lw_m6 15 rfl) rfl
theorem q1317 : (Jvm.Cond.selects "CuckooByPostModel" ({ cls := "CuckooByPostModel", name := "announce", desc := "(I)I" } : Jvm.MethodName) ({ cls := "CuckooByPostModel", name := "announce", desc := "(I)I" } : Jvm.MethodName)) ∈ lw_all := lw_g (lw_at lw_m6 16 rfl) rfl
theorem q1318 : (Jvm.Cond.code ({ cls := "CuckooByPostModel", name := "announce", desc := "(I)I" } : Jvm.MethodName) prog_9_method_47_code (3 : Nat) (Option.some Jvm.ClassFile.FieldType.int)) ∈ lw_all := lw_g (lw_at lw_m6 17 rfl) rfl
theorem q1319 : (Jvm.Cond.methodLink "CuckooByPostModel" (233 : Nat) ({ cls := "CuckooByPostModel", name := "refusesAnnounce", desc := "([II)I" } : Jvm.MethodName)) ∈ lw_all := lw_g (lw_at lw_m6 18 rfl) rfl
theorem q1320 : (Jvm.Cond.privateMethod ({ cls := "CuckooByPostModel", name := "refusesAnnounce", desc := "([II)I" } : Jvm.MethodName)) ∈ lw_tbl := lw_at lw_m6 19 rfl
theorem q1321 : (Jvm.Cond.instanceMethod ({ cls := "CuckooByPostModel", name := "refusesAnnounce", desc := "([II)I" } : Jvm.MethodName)) ∈ lw_all := lw_g (lw_at lw_m6 20 rfl) rfl
theorem q1322 : (Jvm.Cond.code ({ cls := "CuckooByPostModel", name := "refusesAnnounce", desc := "([II)I" } : Jvm.MethodName) prog_9_method_45_code (3 : Nat) (Option.some Jvm.ClassFile.FieldType.int)) ∈ lw_all := lw_g (lw_at lw_m6 21 rfl) rfl
theorem q1323 : (Jvm.Cond.methodLink "CuckooByPostModel" (236 : Nat) ({ cls := "CuckooByPostModel", name := "remember", desc := "([I)V" } : Jvm.MethodName)) ∈ lw_all := lw_g (lw_at lw_m6 22 rfl) rfl
theorem q1324 : (Jvm.Cond.privateMethod ({ cls := "CuckooByPostModel", name := "remember", desc := "([I)V" } : Jvm.MethodName)) ∈ lw_tbl := lw_at lw_m6 23 rfl
theorem q1325 : (Jvm.Cond.instanceMethod ({ cls := "CuckooByPostModel", name := "remember", desc := "([I)V" } : Jvm.MethodName)) ∈ lw_all := lw_g (lw_at lw_m6 24 rfl) rfl
theorem q1326 : (Jvm.Cond.code ({ cls := "CuckooByPostModel", name := "remember", desc := "([I)V" } : Jvm.MethodName) prog_9_method_43_code (3 : Nat) (Option.none : Option Jvm.ClassFile.FieldType)) ∈ lw_all := lw_g (lw_at lw_m6 25 rfl) rfl
theorem q1327 : (Jvm.Cond.methodLink "CuckooByPostModel" (229 : Nat) ({ cls := "CuckooByPostModel", name := "lay0", desc := "([I[II)V" } : Jvm.MethodName)) ∈ lw_all := lw_g (lw_at lw_m6 26 rfl) rfl
theorem q1328 : (Jvm.Cond.static ({ cls := "CuckooByPostModel", name := "lay0", desc := "([I[II)V" } : Jvm.MethodName)) ∈ lw_all := lw_g (lw_at lw_m6 27 rfl) rfl
theorem q1329 : (Jvm.Cond.code ({ cls := "CuckooByPostModel", name := "lay0", desc := "([I[II)V" } : Jvm.MethodName) prog_9_method_42_code (4 : Nat) (Option.none : Option Jvm.ClassFile.FieldType)) ∈ lw_all := lw_g (lw_at lw_m6 28 rfl) rfl
theorem q1330 : (Jvm.Cond.methodLink "CuckooByPostModel" (240 : Nat) ({ cls := "CuckooByPostModel", name := "goAnnounce", desc := "([II)V" } : Jvm.MethodName)) ∈ lw_all := lw_g (lw_at lw_m6 29 rfl) rfl
theorem q1331 : (Jvm.Cond.static ({ cls := "CuckooByPostModel", name := "goAnnounce", desc := "([II)V" } : Jvm.MethodName)) ∈ lw_all := lw_g (lw_at lw_m6 30 rfl) rfl
theorem q1332 : (Jvm.Cond.code ({ cls := "CuckooByPostModel", name := "goAnnounce", desc := "([II)V" } : Jvm.MethodName) prog_9_method_46_code (2 : Nat) (Option.none : Option Jvm.ClassFile.FieldType)) ∈ lw_all := lw_g (lw_at lw_m6 31 rfl) rfl
theorem q1333 : (Jvm.Cond.methodLink "CuckooByPostModel" (244 : Nat) ({ cls := "CuckooByPostModel", name := "notices", desc := "([I)I" } : Jvm.MethodName)) ∈ lw_all := lw_g (lw_at lw_m6 32 rfl) rfl
theorem q1334 : (Jvm.Cond.privateMethod ({ cls := "CuckooByPostModel", name := "notices", desc := "([I)I" } : Jvm.MethodName)) ∈ lw_tbl := lw_at lw_m6 33 rfl
theorem q1335 : (Jvm.Cond.instanceMethod ({ cls := "CuckooByPostModel", name := "notices", desc := "([I)I" } : Jvm.MethodName)) ∈ lw_all := lw_g (lw_at lw_m6 34 rfl) rfl
theorem q1336 : (Jvm.Cond.code ({ cls := "CuckooByPostModel", name := "notices", desc := "([I)I" } : Jvm.MethodName) prog_9_method_44_code (4 : Nat) (Option.some Jvm.ClassFile.FieldType.int)) ∈ lw_all := lw_g (lw_at lw_m6 35 rfl) rfl
theorem q1338 : (Jvm.Cond.instanceMethod ({ cls := "CuckooByPostModel", name := "reply", desc := "(I)I" } : Jvm.MethodName)) ∈ lw_all := lw_g (lw_at lw_m6 37 rfl) rfl
theorem q1339 : (Jvm.Cond.selects "CuckooByPostModel" ({ cls := "CuckooByPostModel", name := "reply", desc := "(I)I" } : Jvm.MethodName) ({ cls := "CuckooByPostModel", name := "reply", desc := "(I)I" } : Jvm.MethodName)) ∈ lw_all := lw_g (lw_at lw_m6 38 rfl) rfl
theorem q1340 : (Jvm.Cond.code ({ cls := "CuckooByPostModel", name := "reply", desc := "(I)I" } : Jvm.MethodName) prog_9_method_50_code (3 : Nat) (Option.some Jvm.ClassFile.FieldType.int)) ∈ lw_all := lw_g (lw_at lw_m6 39 rfl) rfl
theorem q1341 : (Jvm.Cond.methodLink "CuckooByPostModel" (247 : Nat) ({ cls := "CuckooByPostModel", name := "refusesReply", desc := "([II)I" } : Jvm.MethodName)) ∈ lw_all := lw_g (lw_at lw_m6 40 rfl) rfl
theorem q1342 : (Jvm.Cond.privateMethod ({ cls := "CuckooByPostModel", name := "refusesReply", desc := "([II)I" } : Jvm.MethodName)) ∈ lw_tbl := lw_at lw_m6 41 rfl
theorem q1343 : (Jvm.Cond.instanceMethod ({ cls := "CuckooByPostModel", name := "refusesReply", desc := "([II)I" } : Jvm.MethodName)) ∈ lw_all := lw_g (lw_at lw_m6 42 rfl) rfl
theorem q1344 : (Jvm.Cond.code ({ cls := "CuckooByPostModel", name := "refusesReply", desc := "([II)I" } : Jvm.MethodName) prog_9_method_48_code (3 : Nat) (Option.some Jvm.ClassFile.FieldType.int)) ∈ lw_all := lw_g (lw_at lw_m6 43 rfl) rfl
theorem q1345 : (Jvm.Cond.methodLink "CuckooByPostModel" (250 : Nat) ({ cls := "CuckooByPostModel", name := "goReply", desc := "([II)V" } : Jvm.MethodName)) ∈ lw_all := lw_g (lw_at lw_m6 44 rfl) rfl
theorem q1346 : (Jvm.Cond.static ({ cls := "CuckooByPostModel", name := "goReply", desc := "([II)V" } : Jvm.MethodName)) ∈ lw_all := lw_g (lw_at lw_m6 45 rfl) rfl
theorem q1347 : (Jvm.Cond.code ({ cls := "CuckooByPostModel", name := "goReply", desc := "([II)V" } : Jvm.MethodName) prog_9_method_49_code (2 : Nat) (Option.none : Option Jvm.ClassFile.FieldType)) ∈ lw_all := lw_g (lw_at lw_m6 46 rfl) rfl
theorem q1349 : (Jvm.Cond.instanceMethod ({ cls := "CuckooByPostModel", name := "lay", desc := "(II)I" } : Jvm.MethodName)) ∈ lw_all := lw_g (lw_at lw_m6 48 rfl) rfl
theorem q1350 : (Jvm.Cond.selects "CuckooByPostModel" ({ cls := "CuckooByPostModel", name := "lay", desc := "(II)I" } : Jvm.MethodName) ({ cls := "CuckooByPostModel", name := "lay", desc := "(II)I" } : Jvm.MethodName)) ∈ lw_all := lw_g (lw_at lw_m6 49 rfl) rfl
theorem q1351 : (Jvm.Cond.code ({ cls := "CuckooByPostModel", name := "lay", desc := "(II)I" } : Jvm.MethodName) prog_9_method_53_code (4 : Nat) (Option.some Jvm.ClassFile.FieldType.int)) ∈ lw_all := lw_g (lw_at lw_m6 50 rfl) rfl
theorem q1352 : (Jvm.Cond.methodLink "CuckooByPostModel" (256 : Nat) ({ cls := "CuckooByPostModel", name := "refusesLay", desc := "([III)I" } : Jvm.MethodName)) ∈ lw_all := lw_g (lw_at lw_m6 51 rfl) rfl
theorem q1353 : (Jvm.Cond.privateMethod ({ cls := "CuckooByPostModel", name := "refusesLay", desc := "([III)I" } : Jvm.MethodName)) ∈ lw_tbl := lw_at lw_m6 52 rfl
theorem q1354 : (Jvm.Cond.instanceMethod ({ cls := "CuckooByPostModel", name := "refusesLay", desc := "([III)I" } : Jvm.MethodName)) ∈ lw_all := lw_g (lw_at lw_m6 53 rfl) rfl
theorem q1355 : (Jvm.Cond.code ({ cls := "CuckooByPostModel", name := "refusesLay", desc := "([III)I" } : Jvm.MethodName) prog_9_method_51_code (4 : Nat) (Option.some Jvm.ClassFile.FieldType.int)) ∈ lw_all := lw_g (lw_at lw_m6 54 rfl) rfl
theorem q1356 : (Jvm.Cond.methodLink "CuckooByPostModel" (253 : Nat) ({ cls := "CuckooByPostModel", name := "isColour", desc := "(I)Z" } : Jvm.MethodName)) ∈ lw_all := lw_g (lw_at lw_m6 55 rfl) rfl
theorem q1357 : (Jvm.Cond.static ({ cls := "CuckooByPostModel", name := "isColour", desc := "(I)Z" } : Jvm.MethodName)) ∈ lw_all := lw_g (lw_at lw_m6 56 rfl) rfl
theorem q1358 : (Jvm.Cond.code ({ cls := "CuckooByPostModel", name := "isColour", desc := "(I)Z" } : Jvm.MethodName) prog_9_method_9_code (1 : Nat) (Option.some Jvm.ClassFile.FieldType.boolean)) ∈ lw_all := lw_g (lw_at lw_m6 57 rfl) rfl
theorem q1359 : (Jvm.Cond.methodLink "CuckooByPostModel" (260 : Nat) ({ cls := "CuckooByPostModel", name := "goLay", desc := "([III)V" } : Jvm.MethodName)) ∈ lw_all := lw_g (lw_at lw_m6 58 rfl) rfl
theorem q1360 : (Jvm.Cond.static ({ cls := "CuckooByPostModel", name := "goLay", desc := "([III)V" } : Jvm.MethodName)) ∈ lw_all := lw_g (lw_at lw_m6 59 rfl) rfl
theorem q1361 : (Jvm.Cond.code ({ cls := "CuckooByPostModel", name := "goLay", desc := "([III)V" } : Jvm.MethodName) prog_9_method_52_code (3 : Nat) (Option.none : Option Jvm.ClassFile.FieldType)) ∈ lw_all := lw_g (lw_at lw_m6 60 rfl) rfl
theorem q1363 : (Jvm.Cond.instanceMethod ({ cls := "CuckooByPostModel", name := "tint", desc := "(II)I" } : Jvm.MethodName)) ∈ lw_all := lw_g (lw_at lw_m6 62 rfl) rfl
theorem q1364 : (Jvm.Cond.selects "CuckooByPostModel" ({ cls := "CuckooByPostModel", name := "tint", desc := "(II)I" } : Jvm.MethodName) ({ cls := "CuckooByPostModel", name := "tint", desc := "(II)I" } : Jvm.MethodName)) ∈ lw_all := lw_g (lw_at lw_m6 63 rfl) rfl
theorem q1365 : (Jvm.Cond.code ({ cls := "CuckooByPostModel", name := "tint", desc := "(II)I" } : Jvm.MethodName) prog_9_method_55_code (5 : Nat) (Option.some Jvm.ClassFile.FieldType.int)) ∈ lw_all := lw_g (lw_at lw_m6 64 rfl) rfl
theorem q1366 : (Jvm.Cond.methodLink "CuckooByPostModel" (264 : Nat) ({ cls := "CuckooByPostModel", name := "refusesTint", desc := "(II)I" } : Jvm.MethodName)) ∈ lw_all := lw_g (lw_at lw_m6 65 rfl) rfl
theorem q1367 : (Jvm.Cond.privateMethod ({ cls := "CuckooByPostModel", name := "refusesTint", desc := "(II)I" } : Jvm.MethodName)) ∈ lw_tbl := lw_at lw_m6 66 rfl
theorem q1368 : (Jvm.Cond.instanceMethod ({ cls := "CuckooByPostModel", name := "refusesTint", desc := "(II)I" } : Jvm.MethodName)) ∈ lw_all := lw_g (lw_at lw_m6 67 rfl) rfl
theorem q1369 : (Jvm.Cond.code ({ cls := "CuckooByPostModel", name := "refusesTint", desc := "(II)I" } : Jvm.MethodName) prog_9_method_54_code (3 : Nat) (Option.some Jvm.ClassFile.FieldType.int)) ∈ lw_all := lw_g (lw_at lw_m6 68 rfl) rfl
theorem q1371 : (Jvm.Cond.instanceMethod ({ cls := "CuckooByPostModel", name := "exchange", desc := "(II)I" } : Jvm.MethodName)) ∈ lw_all := lw_g (lw_at lw_m6 70 rfl) rfl
theorem q1372 : (Jvm.Cond.selects "CuckooByPostModel" ({ cls := "CuckooByPostModel", name := "exchange", desc := "(II)I" } : Jvm.MethodName) ({ cls := "CuckooByPostModel", name := "exchange", desc := "(II)I" } : Jvm.MethodName)) ∈ lw_all := lw_g (lw_at lw_m6 71 rfl) rfl
theorem q1373 : (Jvm.Cond.code ({ cls := "CuckooByPostModel", name := "exchange", desc := "(II)I" } : Jvm.MethodName) prog_9_method_57_code (3 : Nat) (Option.some Jvm.ClassFile.FieldType.int)) ∈ lw_all := lw_g (lw_at lw_m6 72 rfl) rfl
theorem q1374 : (Jvm.Cond.methodLink "CuckooByPostModel" (267 : Nat) ({ cls := "CuckooByPostModel", name := "areTwo", desc := "(II)Z" } : Jvm.MethodName)) ∈ lw_all := lw_g (lw_at lw_m6 73 rfl) rfl
theorem q1375 : (Jvm.Cond.privateMethod ({ cls := "CuckooByPostModel", name := "areTwo", desc := "(II)Z" } : Jvm.MethodName)) ∈ lw_tbl := lw_at lw_m6 74 rfl
theorem q1376 : (Jvm.Cond.instanceMethod ({ cls := "CuckooByPostModel", name := "areTwo", desc := "(II)Z" } : Jvm.MethodName)) ∈ lw_all := lw_g (lw_at lw_m6 75 rfl) rfl
theorem q1377 : (Jvm.Cond.code ({ cls := "CuckooByPostModel", name := "areTwo", desc := "(II)Z" } : Jvm.MethodName) prog_9_method_8_code (3 : Nat) (Option.some Jvm.ClassFile.FieldType.boolean)) ∈ lw_all := lw_g (lw_at lw_m6 76 rfl) rfl
theorem q1378 : (Jvm.Cond.methodLink "CuckooByPostModel" (271 : Nat) ({ cls := "CuckooByPostModel", name := "goExchange", desc := "([III)V" } : Jvm.MethodName)) ∈ lw_all := lw_g (lw_at lw_m6 77 rfl) rfl
theorem q1379 : (Jvm.Cond.static ({ cls := "CuckooByPostModel", name := "goExchange", desc := "([III)V" } : Jvm.MethodName)) ∈ lw_all := lw_g (lw_at lw_m6 78 rfl) rfl
theorem q1380 : (Jvm.Cond.code ({ cls := "CuckooByPostModel", name := "goExchange", desc := "([III)V" } : Jvm.MethodName) prog_9_method_56_code (5 : Nat) (Option.none : Option Jvm.ClassFile.FieldType)) ∈ lw_all := lw_g (lw_at lw_m6 79 rfl) rfl
theorem q1382 : (Jvm.Cond.instanceMethod ({ cls := "CuckooByPostModel", name := "days", desc := "(I)I" } : Jvm.MethodName)) ∈ lw_all := lw_g (lw_at lw_m6 81 rfl) rfl
theorem q1383 : (Jvm.Cond.selects "CuckooByPostModel" ({ cls := "CuckooByPostModel", name := "days", desc := "(I)I" } : Jvm.MethodName) ({ cls := "CuckooByPostModel", name := "days", desc := "(I)I" } : Jvm.MethodName)) ∈ lw_all := lw_g (lw_at lw_m6 82 rfl) rfl
theorem q1384 : (Jvm.Cond.code ({ cls := "CuckooByPostModel", name := "days", desc := "(I)I" } : Jvm.MethodName) prog_9_method_61_code (4 : Nat) (Option.some Jvm.ClassFile.FieldType.int)) ∈ lw_all := lw_g (lw_at lw_m6 83 rfl) rfl
theorem q1385 : (Jvm.Cond.methodLink "CuckooByPostModel" (283 : Nat) ({ cls := "CuckooByPostModel", name := "goDays", desc := "([II)V" } : Jvm.MethodName)) ∈ lw_all := lw_g (lw_at lw_m6 84 rfl) rfl
theorem q1386 : (Jvm.Cond.privateMethod ({ cls := "CuckooByPostModel", name := "goDays", desc := "([II)V" } : Jvm.MethodName)) ∈ lw_tbl := lw_at lw_m6 85 rfl
theorem q1387 : (Jvm.Cond.instanceMethod ({ cls := "CuckooByPostModel", name := "goDays", desc := "([II)V" } : Jvm.MethodName)) ∈ lw_all := lw_g (lw_at lw_m6 86 rfl) rfl
theorem q1388 : (Jvm.Cond.code ({ cls := "CuckooByPostModel", name := "goDays", desc := "([II)V" } : Jvm.MethodName) prog_9_method_60_code (4 : Nat) (Option.none : Option Jvm.ClassFile.FieldType)) ∈ lw_all := lw_g (lw_at lw_m6 87 rfl) rfl
theorem q1389 : (Jvm.Cond.methodLink "CuckooByPostModel" (280 : Nat) ({ cls := "CuckooByPostModel", name := "goDay", desc := "([I)V" } : Jvm.MethodName)) ∈ lw_all := lw_g (lw_at lw_m6 88 rfl) rfl
theorem q1390 : (Jvm.Cond.privateMethod ({ cls := "CuckooByPostModel", name := "goDay", desc := "([I)V" } : Jvm.MethodName)) ∈ lw_tbl := lw_at lw_m6 89 rfl
theorem q1391 : (Jvm.Cond.instanceMethod ({ cls := "CuckooByPostModel", name := "goDay", desc := "([I)V" } : Jvm.MethodName)) ∈ lw_all := lw_g (lw_at lw_m6 90 rfl) rfl
theorem q1392 : (Jvm.Cond.code ({ cls := "CuckooByPostModel", name := "goDay", desc := "([I)V" } : Jvm.MethodName) prog_9_method_59_code (4 : Nat) (Option.none : Option Jvm.ClassFile.FieldType)) ∈ lw_all := lw_g (lw_at lw_m6 91 rfl) rfl
theorem q1393 : (Jvm.Cond.methodLink "CuckooByPostModel" (274 : Nat) ({ cls := "CuckooByPostModel", name := "outs", desc := "([I)I" } : Jvm.MethodName)) ∈ lw_all := lw_g (lw_at lw_m6 92 rfl) rfl
theorem q1394 : (Jvm.Cond.privateMethod ({ cls := "CuckooByPostModel", name := "outs", desc := "([I)I" } : Jvm.MethodName)) ∈ lw_tbl := lw_at lw_m6 93 rfl
theorem q1395 : (Jvm.Cond.instanceMethod ({ cls := "CuckooByPostModel", name := "outs", desc := "([I)I" } : Jvm.MethodName)) ∈ lw_all := lw_g (lw_at lw_m6 94 rfl) rfl
theorem q1396 : (Jvm.Cond.code ({ cls := "CuckooByPostModel", name := "outs", desc := "([I)I" } : Jvm.MethodName) prog_9_method_58_code (4 : Nat) (Option.some Jvm.ClassFile.FieldType.int)) ∈ lw_all := lw_g (lw_at lw_m6 95 rfl) rfl
theorem q1397 : (Jvm.Cond.methodLink "CuckooByPostModel" (277 : Nat) ({ cls := "CuckooByPostModel", name := "has", desc := "(II)Z" } : Jvm.MethodName)) ∈ lw_all := lw_g (lw_at lw_m6 96 rfl) rfl
theorem q1398 : (Jvm.Cond.static ({ cls := "CuckooByPostModel", name := "has", desc := "(II)Z" } : Jvm.MethodName)) ∈ lw_all := lw_g (lw_at lw_m6 97 rfl) rfl
theorem q1399 : (Jvm.Cond.code ({ cls := "CuckooByPostModel", name := "has", desc := "(II)Z" } : Jvm.MethodName) prog_9_method_4_code (2 : Nat) (Option.some Jvm.ClassFile.FieldType.boolean)) ∈ lw_all := lw_g (lw_at lw_m6 98 rfl) rfl
theorem q1400 : (Jvm.Cond.methodLink "CuckooByPostModel" (286 : Nat) ({ cls := "CuckooByPostModel", name := "tell", desc := "(J)V" } : Jvm.MethodName)) ∈ lw_all := lw_g (lw_at lw_m6 99 rfl) rfl
theorem q1401 : (Jvm.Cond.privateMethod ({ cls := "CuckooByPostModel", name := "tell", desc := "(J)V" } : Jvm.MethodName)) ∈ lw_tbl := lw_at lw_m6 100 rfl
theorem q1402 : (Jvm.Cond.instanceMethod ({ cls := "CuckooByPostModel", name := "tell", desc := "(J)V" } : Jvm.MethodName)) ∈ lw_all := lw_g (lw_at lw_m6 101 rfl) rfl
theorem q1403 : (Jvm.Cond.code ({ cls := "CuckooByPostModel", name := "tell", desc := "(J)V" } : Jvm.MethodName) prog_9_method_6_code (3 : Nat) (Option.none : Option Jvm.ClassFile.FieldType)) ∈ lw_all := lw_g (lw_at lw_m6 102 rfl) rfl
theorem q1405 : (Jvm.Cond.instanceMethod ({ cls := "CuckooByPostModel", name := "spring", desc := "()I" } : Jvm.MethodName)) ∈ lw_all := lw_g (lw_at lw_m6 104 rfl) rfl
theorem q1406 : (Jvm.Cond.selects "CuckooByPostModel" ({ cls := "CuckooByPostModel", name := "spring", desc := "()I" } : Jvm.MethodName) ({ cls := "CuckooByPostModel", name := "spring", desc := "()I" } : Jvm.MethodName)) ∈ lw_all := lw_g (lw_at lw_m6 105 rfl) rfl
theorem q1407 : (Jvm.Cond.code ({ cls := "CuckooByPostModel", name := "spring", desc := "()I" } : Jvm.MethodName) prog_9_method_62_code (3 : Nat) (Option.some Jvm.ClassFile.FieldType.int)) ∈ lw_all := lw_g (lw_at lw_m6 106 rfl) rfl
theorem q1408 : (Jvm.Cond.methodLink "CuckooByPostModel" (290 : Nat) ({ cls := "CuckooByPostModel", name := "readAct", desc := "(I)V" } : Jvm.MethodName)) ∈ lw_all := lw_g (lw_at lw_m6 107 rfl) rfl
theorem q1409 : (Jvm.Cond.privateMethod ({ cls := "CuckooByPostModel", name := "readAct", desc := "(I)V" } : Jvm.MethodName)) ∈ lw_tbl := lw_at lw_m6 108 rfl
theorem q1410 : (Jvm.Cond.instanceMethod ({ cls := "CuckooByPostModel", name := "readAct", desc := "(I)V" } : Jvm.MethodName)) ∈ lw_all := lw_g (lw_at lw_m6 109 rfl) rfl
theorem q1411 : (Jvm.Cond.code ({ cls := "CuckooByPostModel", name := "readAct", desc := "(I)V" } : Jvm.MethodName) prog_9_method_63_code (4 : Nat) (Option.none : Option Jvm.ClassFile.FieldType)) ∈ lw_all := lw_g (lw_at lw_m6 110 rfl) rfl
theorem q1412 : (Jvm.Cond.methodLink "CuckooByPostModel" (293 : Nat) ({ cls := "CuckooByPostModel", name := "act", desc := "(III)Z" } : Jvm.MethodName)) ∈ lw_all := lw_g (lw_at lw_m6 111 rfl) rfl
theorem q1413 : (Jvm.Cond.privateMethod ({ cls := "CuckooByPostModel", name := "act", desc := "(III)Z" } : Jvm.MethodName)) ∈ lw_tbl := lw_at lw_m6 112 rfl
theorem q1414 : (Jvm.Cond.instanceMethod ({ cls := "CuckooByPostModel", name := "act", desc := "(III)Z" } : Jvm.MethodName)) ∈ lw_all := lw_g (lw_at lw_m6 113 rfl) rfl
theorem q1415 : (Jvm.Cond.code ({ cls := "CuckooByPostModel", name := "act", desc := "(III)Z" } : Jvm.MethodName) prog_9_method_64_code (4 : Nat) (Option.some Jvm.ClassFile.FieldType.boolean)) ∈ lw_all := lw_g (lw_at lw_m6 114 rfl) rfl
theorem q1417 : (Jvm.Cond.instanceMethod ({ cls := "CuckooByPostModel", name := "undo", desc := "()I" } : Jvm.MethodName)) ∈ lw_all := lw_g (lw_at lw_m6 116 rfl) rfl
theorem q1418 : (Jvm.Cond.selects "CuckooByPostModel" ({ cls := "CuckooByPostModel", name := "undo", desc := "()I" } : Jvm.MethodName) ({ cls := "CuckooByPostModel", name := "undo", desc := "()I" } : Jvm.MethodName)) ∈ lw_all := lw_g (lw_at lw_m6 117 rfl) rfl
theorem q1419 : (Jvm.Cond.code ({ cls := "CuckooByPostModel", name := "undo", desc := "()I" } : Jvm.MethodName) prog_9_method_65_code (2 : Nat) (Option.some Jvm.ClassFile.FieldType.int)) ∈ lw_all := lw_g (lw_at lw_m6 118 rfl) rfl
theorem q1421 : (Jvm.Cond.instanceMethod ({ cls := "CuckooByPostModel", name := "odd", desc := "(II)I" } : Jvm.MethodName)) ∈ lw_all := lw_g (lw_at lw_m6 120 rfl) rfl
theorem q1422 : (Jvm.Cond.selects "CuckooByPostModel" ({ cls := "CuckooByPostModel", name := "odd", desc := "(II)I" } : Jvm.MethodName) ({ cls := "CuckooByPostModel", name := "odd", desc := "(II)I" } : Jvm.MethodName)) ∈ lw_all := lw_g (lw_at lw_m6 121 rfl) rfl
theorem q1423 : (Jvm.Cond.code ({ cls := "CuckooByPostModel", name := "odd", desc := "(II)I" } : Jvm.MethodName) prog_9_method_66_code (3 : Nat) (Option.some Jvm.ClassFile.FieldType.int)) ∈ lw_all := lw_g (lw_at lw_m6 122 rfl) rfl
theorem q1424 : (Jvm.Cond.methodLink "CuckooByPostModel" (296 : Nat) ({ cls := "CuckooByPostModel", name := "oddLaid", desc := "([III)I" } : Jvm.MethodName)) ∈ lw_all := lw_g (lw_at lw_m6 123 rfl) rfl
theorem q1425 : (Jvm.Cond.privateMethod ({ cls := "CuckooByPostModel", name := "oddLaid", desc := "([III)I" } : Jvm.MethodName)) ∈ lw_tbl := lw_at lw_m6 124 rfl
theorem q1426 : (Jvm.Cond.instanceMethod ({ cls := "CuckooByPostModel", name := "oddLaid", desc := "([III)I" } : Jvm.MethodName)) ∈ lw_all := lw_g (lw_at lw_m6 125 rfl) rfl
theorem q1427 : (Jvm.Cond.code ({ cls := "CuckooByPostModel", name := "oddLaid", desc := "([III)I" } : Jvm.MethodName) prog_9_method_35_code (4 : Nat) (Option.some Jvm.ClassFile.FieldType.int)) ∈ lw_all := lw_g (lw_at lw_m6 126 rfl) rfl
theorem q1428 : (Jvm.Cond.methodLink "CuckooByPostModel" (299 : Nat) ({ cls := "CuckooByPostModel", name := "put", desc := "(I)I" } : Jvm.MethodName)) ∈ lw_all := lw_g (lw_at lw_m6 127 rfl) rfl
theorem q1429 : (Jvm.Cond.static ({ cls := "CuckooByPostModel", name := "put", desc := "(I)I" } : Jvm.MethodName)) ∈ lw_all := lw_g (lw_at lw_m6 128 rfl) rfl
theorem q1430 : (Jvm.Cond.code ({ cls := "CuckooByPostModel", name := "put", desc := "(I)I" } : Jvm.MethodName) prog_9_method_36_code (1 : Nat) (Option.some Jvm.ClassFile.FieldType.int)) ∈ lw_all := lw_g (lw_at lw_m6 129 rfl) rfl
theorem q1432 : (Jvm.Cond.instanceMethod ({ cls := "CuckooByPostModel", name := "colours", desc := "(I)I" } : Jvm.MethodName)) ∈ lw_all := lw_g (lw_at lw_m6 131 rfl) rfl
theorem q1433 : (Jvm.Cond.selects "CuckooByPostModel" ({ cls := "CuckooByPostModel", name := "colours", desc := "(I)I" } : Jvm.MethodName) ({ cls := "CuckooByPostModel", name := "colours", desc := "(I)I" } : Jvm.MethodName)) ∈ lw_all := lw_g (lw_at lw_m6 132 rfl) rfl
theorem q1434 : (Jvm.Cond.code ({ cls := "CuckooByPostModel", name := "colours", desc := "(I)I" } : Jvm.MethodName) prog_9_method_67_code (6 : Nat) (Option.some Jvm.ClassFile.FieldType.int)) ∈ lw_all := lw_g (lw_at lw_m6 133 rfl) rfl
theorem q1436 : (Jvm.Cond.instanceMethod ({ cls := "CuckooByPostModel", name := "where", desc := "(I)I" } : Jvm.MethodName)) ∈ lw_all := lw_g (lw_at lw_m6 135 rfl) rfl
theorem q1437 : (Jvm.Cond.selects "CuckooByPostModel" ({ cls := "CuckooByPostModel", name := "where", desc := "(I)I" } : Jvm.MethodName) ({ cls := "CuckooByPostModel", name := "where", desc := "(I)I" } : Jvm.MethodName)) ∈ lw_all := lw_g (lw_at lw_m6 136 rfl) rfl
theorem q1438 : (Jvm.Cond.code ({ cls := "CuckooByPostModel", name := "where", desc := "(I)I" } : Jvm.MethodName) prog_9_method_68_code (4 : Nat) (Option.some Jvm.ClassFile.FieldType.int)) ∈ lw_all := lw_g (lw_at lw_m6 137 rfl) rfl
theorem q1440 : (Jvm.Cond.instanceMethod ({ cls := "CuckooByPostModel", name := "flies", desc := "(II)I" } : Jvm.MethodName)) ∈ lw_all := lw_g (lw_at lw_m6 139 rfl) rfl
theorem q1441 : (Jvm.Cond.selects "CuckooByPostModel" ({ cls := "CuckooByPostModel", name := "flies", desc := "(II)I" } : Jvm.MethodName) ({ cls := "CuckooByPostModel", name := "flies", desc := "(II)I" } : Jvm.MethodName)) ∈ lw_all := lw_g (lw_at lw_m6 140 rfl) rfl
theorem q1442 : (Jvm.Cond.code ({ cls := "CuckooByPostModel", name := "flies", desc := "(II)I" } : Jvm.MethodName) prog_9_method_70_code (4 : Nat) (Option.some Jvm.ClassFile.FieldType.int)) ∈ lw_all := lw_g (lw_at lw_m6 141 rfl) rfl
theorem q1443 : (Jvm.Cond.methodLink "CuckooByPostModel" (302 : Nat) ({ cls := "CuckooByPostModel", name := "fliesIn", desc := "([II)I" } : Jvm.MethodName)) ∈ lw_all := lw_g (lw_at lw_m6 142 rfl) rfl
theorem q1444 : (Jvm.Cond.privateMethod ({ cls := "CuckooByPostModel", name := "fliesIn", desc := "([II)I" } : Jvm.MethodName)) ∈ lw_tbl := lw_at lw_m6 143 rfl
theorem q1445 : (Jvm.Cond.instanceMethod ({ cls := "CuckooByPostModel", name := "fliesIn", desc := "([II)I" } : Jvm.MethodName)) ∈ lw_all := lw_g (lw_at lw_m6 144 rfl) rfl
theorem q1446 : (Jvm.Cond.code ({ cls := "CuckooByPostModel", name := "fliesIn", desc := "([II)I" } : Jvm.MethodName) prog_9_method_69_code (5 : Nat) (Option.some Jvm.ClassFile.FieldType.int)) ∈ lw_all := lw_g (lw_at lw_m6 145 rfl) rfl
theorem q1448 : (Jvm.Cond.instanceMethod ({ cls := "CuckooByPostModel", name := "later", desc := "(I)I" } : Jvm.MethodName)) ∈ lw_all := lw_g (lw_at lw_m6 147 rfl) rfl
theorem q1449 : (Jvm.Cond.selects "CuckooByPostModel" ({ cls := "CuckooByPostModel", name := "later", desc := "(I)I" } : Jvm.MethodName) ({ cls := "CuckooByPostModel", name := "later", desc := "(I)I" } : Jvm.MethodName)) ∈ lw_all := lw_g (lw_at lw_m6 148 rfl) rfl
theorem q1450 : (Jvm.Cond.code ({ cls := "CuckooByPostModel", name := "later", desc := "(I)I" } : Jvm.MethodName) prog_9_method_71_code (2 : Nat) (Option.some Jvm.ClassFile.FieldType.int)) ∈ lw_all := lw_g (lw_at lw_m6 149 rfl) rfl
theorem q1452 : (Jvm.Cond.instanceMethod ({ cls := "CuckooByPostModel", name := "place", desc := "()I" } : Jvm.MethodName)) ∈ lw_all := lw_g (lw_at lw_m6 151 rfl) rfl
theorem q1453 : (Jvm.Cond.selects "CuckooByPostModel" ({ cls := "CuckooByPostModel", name := "place", desc := "()I" } : Jvm.MethodName) ({ cls := "CuckooByPostModel", name := "place", desc := "()I" } : Jvm.MethodName)) ∈ lw_all := lw_g (lw_at lw_m6 152 rfl) rfl
theorem q1454 : (Jvm.Cond.code ({ cls := "CuckooByPostModel", name := "place", desc := "()I" } : Jvm.MethodName) prog_9_method_74_code (3 : Nat) (Option.some Jvm.ClassFile.FieldType.int)) ∈ lw_all := lw_g (lw_at lw_m6 153 rfl) rfl
theorem q1455 : (Jvm.Cond.methodLink "CuckooByPostModel" (312 : Nat) ({ cls := "CuckooByPostModel", name := "openFree", desc := "()I" } : Jvm.MethodName)) ∈ lw_all := lw_g (lw_at lw_m6 154 rfl) rfl
theorem q1456 : (Jvm.Cond.privateMethod ({ cls := "CuckooByPostModel", name := "openFree", desc := "()I" } : Jvm.MethodName)) ∈ lw_tbl := lw_at lw_m6 155 rfl
theorem q1457 : (Jvm.Cond.instanceMethod ({ cls := "CuckooByPostModel", name := "openFree", desc := "()I" } : Jvm.MethodName)) ∈ lw_all := lw_g (lw_at lw_m6 156 rfl) rfl
theorem q1458 : (Jvm.Cond.code ({ cls := "CuckooByPostModel", name := "openFree", desc := "()I" } : Jvm.MethodName) prog_9_method_73_code (3 : Nat) (Option.some Jvm.ClassFile.FieldType.int)) ∈ lw_all := lw_g (lw_at lw_m6 157 rfl) rfl
theorem q1459 : (Jvm.Cond.methodLink "CuckooByPostModel" (308 : Nat) ({ cls := "CuckooByPostModel", name := "goPlace", desc := "(III)V" } : Jvm.MethodName)) ∈ lw_all := lw_g (lw_at lw_m6 158 rfl) rfl
theorem q1460 : (Jvm.Cond.privateMethod ({ cls := "CuckooByPostModel", name := "goPlace", desc := "(III)V" } : Jvm.MethodName)) ∈ lw_tbl := lw_at lw_m6 159 rfl
theorem q1461 : (Jvm.Cond.instanceMethod ({ cls := "CuckooByPostModel", name := "goPlace", desc := "(III)V" } : Jvm.MethodName)) ∈ lw_all := lw_g (lw_at lw_m6 160 rfl) rfl
theorem q1462 : (Jvm.Cond.code ({ cls := "CuckooByPostModel", name := "goPlace", desc := "(III)V" } : Jvm.MethodName) prog_9_method_72_code (5 : Nat) (Option.none : Option Jvm.ClassFile.FieldType)) ∈ lw_all := lw_g (lw_at lw_m6 161 rfl) rfl
theorem q1464 : (Jvm.Cond.instanceMethod ({ cls := "CuckooByPostModel", name := "suspects", desc := "()I" } : Jvm.MethodName)) ∈ lw_all := lw_g (lw_at lw_m6 163 rfl) rfl
theorem q1465 : (Jvm.Cond.selects "CuckooByPostModel" ({ cls := "CuckooByPostModel", name := "suspects", desc := "()I" } : Jvm.MethodName) ({ cls := "CuckooByPostModel", name := "suspects", desc := "()I" } : Jvm.MethodName)) ∈ lw_all := lw_g (lw_at lw_m6 164 rfl) rfl
theorem q1466 : (Jvm.Cond.code ({ cls := "CuckooByPostModel", name := "suspects", desc := "()I" } : Jvm.MethodName) prog_9_method_75_code (4 : Nat) (Option.some Jvm.ClassFile.FieldType.int)) ∈ lw_all := lw_g (lw_at lw_m6 165 rfl) rfl
theorem q1468 : (Jvm.Cond.instanceMethod ({ cls := "CuckooByPostModel", name := "tinting", desc := "(I)I" } : Jvm.MethodName)) ∈ lw_all := lw_g (lw_at lw_m6 167 rfl) rfl
theorem q1469 : (Jvm.Cond.selects "CuckooByPostModel" ({ cls := "CuckooByPostModel", name := "tinting", desc := "(I)I" } : Jvm.MethodName) ({ cls := "CuckooByPostModel", name := "tinting", desc := "(I)I" } : Jvm.MethodName)) ∈ lw_all := lw_g (lw_at lw_m6 168 rfl) rfl
theorem q1470 : (Jvm.Cond.code ({ cls := "CuckooByPostModel", name := "tinting", desc := "(I)I" } : Jvm.MethodName) prog_9_method_77_code (4 : Nat) (Option.some Jvm.ClassFile.FieldType.int)) ∈ lw_all := lw_g (lw_at lw_m6 169 rfl) rfl
theorem q1471 : (Jvm.Cond.methodLink "CuckooByPostModel" (315 : Nat) ({ cls := "CuckooByPostModel", name := "oddTinted", desc := "(II)I" } : Jvm.MethodName)) ∈ lw_all := lw_g (lw_at lw_m6 170 rfl) rfl
theorem q1472 : (Jvm.Cond.privateMethod ({ cls := "CuckooByPostModel", name := "oddTinted", desc := "(II)I" } : Jvm.MethodName)) ∈ lw_tbl := lw_at lw_m6 171 rfl
theorem q1473 : (Jvm.Cond.instanceMethod ({ cls := "CuckooByPostModel", name := "oddTinted", desc := "(II)I" } : Jvm.MethodName)) ∈ lw_all := lw_g (lw_at lw_m6 172 rfl) rfl
theorem q1474 : (Jvm.Cond.code ({ cls := "CuckooByPostModel", name := "oddTinted", desc := "(II)I" } : Jvm.MethodName) prog_9_method_76_code (3 : Nat) (Option.some Jvm.ClassFile.FieldType.int)) ∈ lw_all := lw_g (lw_at lw_m6 173 rfl) rfl
theorem q1476 : (Jvm.Cond.instanceMethod ({ cls := "CuckooByPostModel", name := "waiting", desc := "(II)I" } : Jvm.MethodName)) ∈ lw_all := lw_g (lw_at lw_m6 175 rfl) rfl
theorem q1477 : (Jvm.Cond.selects "CuckooByPostModel" ({ cls := "CuckooByPostModel", name := "waiting", desc := "(II)I" } : Jvm.MethodName) ({ cls := "CuckooByPostModel", name := "waiting", desc := "(II)I" } : Jvm.MethodName)) ∈ lw_all := lw_g (lw_at lw_m6 176 rfl) rfl
theorem q1478 : (Jvm.Cond.code ({ cls := "CuckooByPostModel", name := "waiting", desc := "(II)I" } : Jvm.MethodName) prog_9_method_78_code (4 : Nat) (Option.some Jvm.ClassFile.FieldType.int)) ∈ lw_all := lw_g (lw_at lw_m6 177 rfl) rfl
theorem q1480 : (Jvm.Cond.instanceMethod ({ cls := "CuckooByPostModel", name := "exchanged", desc := "()I" } : Jvm.MethodName)) ∈ lw_all := lw_g (lw_at lw_m6 179 rfl) rfl
theorem q1481 : (Jvm.Cond.selects "CuckooByPostModel" ({ cls := "CuckooByPostModel", name := "exchanged", desc := "()I" } : Jvm.MethodName) ({ cls := "CuckooByPostModel", name := "exchanged", desc := "()I" } : Jvm.MethodName)) ∈ lw_all := lw_g (lw_at lw_m6 180 rfl) rfl
theorem q1482 : (Jvm.Cond.code ({ cls := "CuckooByPostModel", name := "exchanged", desc := "()I" } : Jvm.MethodName) prog_9_method_79_code (7 : Nat) (Option.some Jvm.ClassFile.FieldType.int)) ∈ lw_all := lw_g (lw_at lw_m6 181 rfl) rfl
theorem q1483 : (Jvm.Cond.constant "CuckooByPostModel" (318 : Nat) (2000000000 : Int32)) ∈ lw_all := lw_g (lw_at lw_m6 182 rfl) rfl
theorem q1485 : (Jvm.Cond.instanceMethod ({ cls := "CuckooByPostModel", name := "eldest", desc := "()I" } : Jvm.MethodName)) ∈ lw_all := lw_g (lw_at lw_m6 184 rfl) rfl
theorem q1486 : (Jvm.Cond.selects "CuckooByPostModel" ({ cls := "CuckooByPostModel", name := "eldest", desc := "()I" } : Jvm.MethodName) ({ cls := "CuckooByPostModel", name := "eldest", desc := "()I" } : Jvm.MethodName)) ∈ lw_all := lw_g (lw_at lw_m6 185 rfl) rfl
theorem q1487 : (Jvm.Cond.code ({ cls := "CuckooByPostModel", name := "eldest", desc := "()I" } : Jvm.MethodName) prog_9_method_80_code (3 : Nat) (Option.some Jvm.ClassFile.FieldType.int)) ∈ lw_all := lw_g (lw_at lw_m6 186 rfl) rfl
theorem q1488 : (Jvm.Cond.constantLong "CuckooByPostModel" (319 : Nat) (-1 : Int64)) ∈ lw_all := lw_g (lw_at lw_m6 187 rfl) rfl
theorem q1490 : (Jvm.Cond.instanceMethod ({ cls := "CuckooByPostModel", name := "waits", desc := "(II)I" } : Jvm.MethodName)) ∈ lw_all := lw_g (lw_at lw_m6 189 rfl) rfl
theorem q1491 : (Jvm.Cond.selects "CuckooByPostModel" ({ cls := "CuckooByPostModel", name := "waits", desc := "(II)I" } : Jvm.MethodName) ({ cls := "CuckooByPostModel", name := "waits", desc := "(II)I" } : Jvm.MethodName)) ∈ lw_all := lw_g (lw_at lw_m6 190 rfl) rfl
theorem q1492 : (Jvm.Cond.code ({ cls := "CuckooByPostModel", name := "waits", desc := "(II)I" } : Jvm.MethodName) prog_9_method_82_code (3 : Nat) (Option.some Jvm.ClassFile.FieldType.int)) ∈ lw_all := lw_g (lw_at lw_m6 191 rfl) rfl
theorem q1493 : (Jvm.Cond.methodLink "CuckooByPostModel" (321 : Nat) ({ cls := "CuckooByPostModel", name := "daysBy", desc := "(II)I" } : Jvm.MethodName)) ∈ lw_all := lw_g (lw_at lw_m6 192 rfl) rfl
theorem q1494 : (Jvm.Cond.privateMethod ({ cls := "CuckooByPostModel", name := "daysBy", desc := "(II)I" } : Jvm.MethodName)) ∈ lw_tbl := lw_at lw_m6 193 rfl
theorem q1495 : (Jvm.Cond.instanceMethod ({ cls := "CuckooByPostModel", name := "daysBy", desc := "(II)I" } : Jvm.MethodName)) ∈ lw_all := lw_g (lw_at lw_m6 194 rfl) rfl
theorem q1496 : (Jvm.Cond.code ({ cls := "CuckooByPostModel", name := "daysBy", desc := "(II)I" } : Jvm.MethodName) prog_9_method_81_code (5 : Nat) (Option.some Jvm.ClassFile.FieldType.int)) ∈ lw_all := lw_g (lw_at lw_m6 195 rfl) rfl
theorem q1498 : (Jvm.Cond.instanceMethod ({ cls := "CuckooByPostModel", name := "spares", desc := "(II)I" } : Jvm.MethodName)) ∈ lw_all := lw_g (lw_at lw_m6 197 rfl) rfl
theorem q1499 : (Jvm.Cond.selects "CuckooByPostModel" ({ cls := "CuckooByPostModel", name := "spares", desc := "(II)I" } : Jvm.MethodName) ({ cls := "CuckooByPostModel", name := "spares", desc := "(II)I" } : Jvm.MethodName)) ∈ lw_all := lw_g (lw_at lw_m6 198 rfl) rfl
theorem q1500 : (Jvm.Cond.code ({ cls := "CuckooByPostModel", name := "spares", desc := "(II)I" } : Jvm.MethodName) prog_9_method_83_code (4 : Nat) (Option.some Jvm.ClassFile.FieldType.int)) ∈ lw_all := lw_g (lw_at lw_m6 199 rfl) rfl
theorem q1502 : (Jvm.Cond.instanceMethod ({ cls := "CuckooByPostModel", name := "open", desc := "()I" } : Jvm.MethodName)) ∈ lw_all := lw_g (lw_at lw_m6 201 rfl) rfl
theorem q1503 : (Jvm.Cond.selects "CuckooByPostModel" ({ cls := "CuckooByPostModel", name := "open", desc := "()I" } : Jvm.MethodName) ({ cls := "CuckooByPostModel", name := "open", desc := "()I" } : Jvm.MethodName)) ∈ lw_all := lw_g (lw_at lw_m6 202 rfl) rfl
theorem q1504 : (Jvm.Cond.code ({ cls := "CuckooByPostModel", name := "open", desc := "()I" } : Jvm.MethodName) prog_9_method_84_code (3 : Nat) (Option.some Jvm.ClassFile.FieldType.int)) ∈ lw_all := lw_g (lw_at lw_m6 203 rfl) rfl
theorem q1506 : (Jvm.Cond.instanceMethod ({ cls := "CuckooByPostModel", name := "kinds", desc := "(I)I" } : Jvm.MethodName)) ∈ lw_all := lw_g (lw_at lw_m6 205 rfl) rfl
theorem q1507 : (Jvm.Cond.selects "CuckooByPostModel" ({ cls := "CuckooByPostModel", name := "kinds", desc := "(I)I" } : Jvm.MethodName) ({ cls := "CuckooByPostModel", name := "kinds", desc := "(I)I" } : Jvm.MethodName)) ∈ lw_all := lw_g (lw_at lw_m6 206 rfl) rfl
theorem q1508 : (Jvm.Cond.code ({ cls := "CuckooByPostModel", name := "kinds", desc := "(I)I" } : Jvm.MethodName) prog_9_method_85_code (5 : Nat) (Option.some Jvm.ClassFile.FieldType.int)) ∈ lw_all := lw_g (lw_at lw_m6 207 rfl) rfl
theorem q1510 : (Jvm.Cond.instanceMethod ({ cls := "CuckooByPostModel", name := "feeds", desc := "(I)I" } : Jvm.MethodName)) ∈ lw_all := lw_g (lw_at lw_m6 209 rfl) rfl
theorem q1511 : (Jvm.Cond.selects "CuckooByPostModel" ({ cls := "CuckooByPostModel", name := "feeds", desc := "(I)I" } : Jvm.MethodName) ({ cls := "CuckooByPostModel", name := "feeds", desc := "(I)I" } : Jvm.MethodName)) ∈ lw_all := lw_g (lw_at lw_m6 210 rfl) rfl
theorem q1512 : (Jvm.Cond.code ({ cls := "CuckooByPostModel", name := "feeds", desc := "(I)I" } : Jvm.MethodName) prog_9_method_88_code (2 : Nat) (Option.some Jvm.ClassFile.FieldType.int)) ∈ lw_all := lw_g (lw_at lw_m6 211 rfl) rfl
theorem q1513 : (Jvm.Cond.methodLink "CuckooByPostModel" (324 : Nat) ({ cls := "CuckooByPostModel", name := "young", desc := "()I" } : Jvm.MethodName)) ∈ lw_all := lw_g (lw_at lw_m6 212 rfl) rfl
theorem q1514 : (Jvm.Cond.privateMethod ({ cls := "CuckooByPostModel", name := "young", desc := "()I" } : Jvm.MethodName)) ∈ lw_tbl := lw_at lw_m6 213 rfl
theorem q1515 : (Jvm.Cond.instanceMethod ({ cls := "CuckooByPostModel", name := "young", desc := "()I" } : Jvm.MethodName)) ∈ lw_all := lw_g (lw_at lw_m6 214 rfl) rfl
theorem q1516 : (Jvm.Cond.code ({ cls := "CuckooByPostModel", name := "young", desc := "()I" } : Jvm.MethodName) prog_9_method_86_code (3 : Nat) (Option.some Jvm.ClassFile.FieldType.int)) ∈ lw_all := lw_g (lw_at lw_m6 215 rfl) rfl
theorem q1517 : (Jvm.Cond.methodLink "CuckooByPostModel" (327 : Nat) ({ cls := "CuckooByPostModel", name := "givenBy", desc := "(II)I" } : Jvm.MethodName)) ∈ lw_all := lw_g (lw_at lw_m6 216 rfl) rfl
theorem q1518 : (Jvm.Cond.privateMethod ({ cls := "CuckooByPostModel", name := "givenBy", desc := "(II)I" } : Jvm.MethodName)) ∈ lw_tbl := lw_at lw_m6 217 rfl
theorem q1519 : (Jvm.Cond.instanceMethod ({ cls := "CuckooByPostModel", name := "givenBy", desc := "(II)I" } : Jvm.MethodName)) ∈ lw_all := lw_g (lw_at lw_m6 218 rfl) rfl
theorem q1520 : (Jvm.Cond.code ({ cls := "CuckooByPostModel", name := "givenBy", desc := "(II)I" } : Jvm.MethodName) prog_9_method_87_code (8 : Nat) (Option.some Jvm.ClassFile.FieldType.int)) ∈ lw_all := lw_g (lw_at lw_m6 219 rfl) rfl
theorem q1522 : (Jvm.Cond.instanceMethod ({ cls := "CuckooByPostModel", name := "enough", desc := "()I" } : Jvm.MethodName)) ∈ lw_all := lw_g (lw_at lw_m6 221 rfl) rfl
theorem q1523 : (Jvm.Cond.selects "CuckooByPostModel" ({ cls := "CuckooByPostModel", name := "enough", desc := "()I" } : Jvm.MethodName) ({ cls := "CuckooByPostModel", name := "enough", desc := "()I" } : Jvm.MethodName)) ∈ lw_all := lw_g (lw_at lw_m6 222 rfl) rfl
theorem q1524 : (Jvm.Cond.code ({ cls := "CuckooByPostModel", name := "enough", desc := "()I" } : Jvm.MethodName) prog_9_method_89_code (3 : Nat) (Option.some Jvm.ClassFile.FieldType.int)) ∈ lw_all := lw_g (lw_at lw_m6 223 rfl) rfl
theorem q1526 : (Jvm.Cond.instanceMethod ({ cls := "CuckooByPostModel", name := "needed", desc := "(I)I" } : Jvm.MethodName)) ∈ lw_all := lw_g (lw_at lw_m6 225 rfl) rfl
theorem q1527 : (Jvm.Cond.selects "CuckooByPostModel" ({ cls := "CuckooByPostModel", name := "needed", desc := "(I)I" } : Jvm.MethodName) ({ cls := "CuckooByPostModel", name := "needed", desc := "(I)I" } : Jvm.MethodName)) ∈ lw_all := lw_g (lw_at lw_m6 226 rfl) rfl
theorem q1528 : (Jvm.Cond.code ({ cls := "CuckooByPostModel", name := "needed", desc := "(I)I" } : Jvm.MethodName) prog_9_method_90_code (4 : Nat) (Option.some Jvm.ClassFile.FieldType.int)) ∈ lw_all := lw_g (lw_at lw_m6 227 rfl) rfl
theorem q1530 : (Jvm.Cond.instanceMethod ({ cls := "CuckooByPostModel", name := "lodgings", desc := "()I" } : Jvm.MethodName)) ∈ lw_all := lw_g (lw_at lw_m6 229 rfl) rfl
theorem q1531 : (Jvm.Cond.selects "CuckooByPostModel" ({ cls := "CuckooByPostModel", name := "lodgings", desc := "()I" } : Jvm.MethodName) ({ cls := "CuckooByPostModel", name := "lodgings", desc := "()I" } : Jvm.MethodName)) ∈ lw_all := lw_g (lw_at lw_m6 230 rfl) rfl
theorem q1532 : (Jvm.Cond.code ({ cls := "CuckooByPostModel", name := "lodgings", desc := "()I" } : Jvm.MethodName) prog_9_method_94_code (2 : Nat) (Option.some Jvm.ClassFile.FieldType.int)) ∈ lw_all := lw_g (lw_at lw_m6 231 rfl) rfl
theorem q1533 : (Jvm.Cond.methodLink "CuckooByPostModel" (339 : Nat) ({ cls := "CuckooByPostModel", name := "layLodgings", desc := "()V" } : Jvm.MethodName)) ∈ lw_all := lw_g (lw_at lw_m6 232 rfl) rfl
theorem q1534 : (Jvm.Cond.privateMethod ({ cls := "CuckooByPostModel", name := "layLodgings", desc := "()V" } : Jvm.MethodName)) ∈ lw_tbl := lw_at lw_m6 233 rfl
theorem q1535 : (Jvm.Cond.instanceMethod ({ cls := "CuckooByPostModel", name := "layLodgings", desc := "()V" } : Jvm.MethodName)) ∈ lw_all := lw_g (lw_at lw_m6 234 rfl) rfl
theorem q1536 : (Jvm.Cond.code ({ cls := "CuckooByPostModel", name := "layLodgings", desc := "()V" } : Jvm.MethodName) prog_9_method_93_code (4 : Nat) (Option.none : Option Jvm.ClassFile.FieldType)) ∈ lw_all := lw_g (lw_at lw_m6 235 rfl) rfl
theorem q1537 : (Jvm.Cond.methodLink "CuckooByPostModel" (333 : Nat) ({ cls := "java/lang/Integer", name := "numberOfTrailingZeros", desc := "(I)I" } : Jvm.MethodName)) ∈ lw_all := lw_g (lw_at lw_m6 236 rfl) rfl
theorem q1538 : (Jvm.Cond.methodLink "CuckooByPostModel" (336 : Nat) ({ cls := "CuckooByPostModel", name := "wish", desc := "(II)I" } : Jvm.MethodName)) ∈ lw_all := lw_g (lw_at lw_m6 237 rfl) rfl
theorem q1539 : (Jvm.Cond.privateMethod ({ cls := "CuckooByPostModel", name := "wish", desc := "(II)I" } : Jvm.MethodName)) ∈ lw_tbl := lw_at lw_m6 238 rfl
theorem q1540 : (Jvm.Cond.instanceMethod ({ cls := "CuckooByPostModel", name := "wish", desc := "(II)I" } : Jvm.MethodName)) ∈ lw_all := lw_g (lw_at lw_m6 239 rfl) rfl
theorem q1541 : (Jvm.Cond.code ({ cls := "CuckooByPostModel", name := "wish", desc := "(II)I" } : Jvm.MethodName) prog_9_method_92_code (5 : Nat) (Option.some Jvm.ClassFile.FieldType.int)) ∈ lw_all := lw_g (lw_at lw_m7 0 rfl) rfl
theorem q1542 : (Jvm.Cond.methodLink "CuckooByPostModel" (330 : Nat) ({ cls := "CuckooByPostModel", name := "worse", desc := "(II)I" } : Jvm.MethodName)) ∈ lw_all := lw_g (lw_at lw_m7 1 rfl) rfl
theorem q1543 : (Jvm.Cond.privateMethod ({ cls := "CuckooByPostModel", name := "worse", desc := "(II)I" } : Jvm.MethodName)) ∈ lw_tbl := lw_at lw_m7 2 rfl
theorem q1544 : (Jvm.Cond.instanceMethod ({ cls := "CuckooByPostModel", name := "worse", desc := "(II)I" } : Jvm.MethodName)) ∈ lw_all := lw_g (lw_at lw_m7 3 rfl) rfl
theorem q1545 : (Jvm.Cond.code ({ cls := "CuckooByPostModel", name := "worse", desc := "(II)I" } : Jvm.MethodName) prog_9_method_91_code (3 : Nat) (Option.some Jvm.ClassFile.FieldType.int)) ∈ lw_all := lw_g (lw_at lw_m7 4 rfl) rfl
theorem q1547 : (Jvm.Cond.instanceMethod ({ cls := "CuckooByPostModel", name := "movers", desc := "()I" } : Jvm.MethodName)) ∈ lw_all := lw_g (lw_at lw_m7 6 rfl) rfl
theorem q1548 : (Jvm.Cond.selects "CuckooByPostModel" ({ cls := "CuckooByPostModel", name := "movers", desc := "()I" } : Jvm.MethodName) ({ cls := "CuckooByPostModel", name := "movers", desc := "()I" } : Jvm.MethodName)) ∈ lw_all := lw_g (lw_at lw_m7 7 rfl) rfl
theorem q1549 : (Jvm.Cond.code ({ cls := "CuckooByPostModel", name := "movers", desc := "()I" } : Jvm.MethodName) prog_9_method_95_code (3 : Nat) (Option.some Jvm.ClassFile.FieldType.int)) ∈ lw_all := lw_g (lw_at lw_m7 8 rfl) rfl
theorem q1551 : (Jvm.Cond.instanceMethod ({ cls := "CuckooByPostModel", name := "leavers", desc := "()I" } : Jvm.MethodName)) ∈ lw_all := lw_g (lw_at lw_m7 10 rfl) rfl
theorem q1552 : (Jvm.Cond.selects "CuckooByPostModel" ({ cls := "CuckooByPostModel", name := "leavers", desc := "()I" } : Jvm.MethodName) ({ cls := "CuckooByPostModel", name := "leavers", desc := "()I" } : Jvm.MethodName)) ∈ lw_all := lw_g (lw_at lw_m7 11 rfl) rfl
theorem q1553 : (Jvm.Cond.code ({ cls := "CuckooByPostModel", name := "leavers", desc := "()I" } : Jvm.MethodName) prog_9_method_96_code (5 : Nat) (Option.some Jvm.ClassFile.FieldType.int)) ∈ lw_all := lw_g (lw_at lw_m7 12 rfl) rfl
theorem q1555 : (Jvm.Cond.instanceMethod ({ cls := "CuckooByPostModel", name := "whose", desc := "(IIIII)I" } : Jvm.MethodName)) ∈ lw_all := lw_g (lw_at lw_m7 14 rfl) rfl
theorem q1556 : (Jvm.Cond.selects "CuckooByPostModel" ({ cls := "CuckooByPostModel", name := "whose", desc := "(IIIII)I" } : Jvm.MethodName) ({ cls := "CuckooByPostModel", name := "whose", desc := "(IIIII)I" } : Jvm.MethodName)) ∈ lw_all := lw_g (lw_at lw_m7 15 rfl) rfl
theorem q1557 : (Jvm.Cond.code ({ cls := "CuckooByPostModel", name := "whose", desc := "(IIIII)I" } : Jvm.MethodName) prog_9_method_100_code (12 : Nat) (Option.some Jvm.ClassFile.FieldType.int)) ∈ lw_all := lw_g (lw_at lw_m7 16 rfl) rfl
theorem q1558 : (Jvm.Cond.methodLink "CuckooByPostModel" (350 : Nat) ({ cls := "CuckooByPostModel", name := "looks", desc := "(III)J" } : Jvm.MethodName)) ∈ lw_all := lw_g (lw_at lw_m7 17 rfl) rfl
theorem q1559 : (Jvm.Cond.static ({ cls := "CuckooByPostModel", name := "looks", desc := "(III)J" } : Jvm.MethodName)) ∈ lw_all := lw_g (lw_at lw_m7 18 rfl) rfl
theorem q1560 : (Jvm.Cond.code ({ cls := "CuckooByPostModel", name := "looks", desc := "(III)J" } : Jvm.MethodName) prog_9_method_99_code (3 : Nat) (Option.some Jvm.ClassFile.FieldType.long)) ∈ lw_all := lw_g (lw_at lw_m7 19 rfl) rfl
theorem q1561 : (Jvm.Cond.methodLink "CuckooByPostModel" (346 : Nat) ({ cls := "CuckooByPostModel", name := "power", desc := "(JI)J" } : Jvm.MethodName)) ∈ lw_all := lw_g (lw_at lw_m7 20 rfl) rfl
theorem q1562 : (Jvm.Cond.static ({ cls := "CuckooByPostModel", name := "power", desc := "(JI)J" } : Jvm.MethodName)) ∈ lw_all := lw_g (lw_at lw_m7 21 rfl) rfl
theorem q1563 : (Jvm.Cond.code ({ cls := "CuckooByPostModel", name := "power", desc := "(JI)J" } : Jvm.MethodName) prog_9_method_98_code (6 : Nat) (Option.some Jvm.ClassFile.FieldType.long)) ∈ lw_all := lw_g (lw_at lw_m7 22 rfl) rfl
theorem q1564 : (Jvm.Cond.methodLink "CuckooByPostModel" (342 : Nat) ({ cls := "CuckooByPostModel", name := "common", desc := "(JJ)J" } : Jvm.MethodName)) ∈ lw_all := lw_g (lw_at lw_m7 23 rfl) rfl
theorem q1565 : (Jvm.Cond.static ({ cls := "CuckooByPostModel", name := "common", desc := "(JJ)J" } : Jvm.MethodName)) ∈ lw_all := lw_g (lw_at lw_m7 24 rfl) rfl
theorem q1566 : (Jvm.Cond.code ({ cls := "CuckooByPostModel", name := "common", desc := "(JJ)J" } : Jvm.MethodName) prog_9_method_97_code (4 : Nat) (Option.some Jvm.ClassFile.FieldType.long)) ∈ lw_all := lw_g (lw_at lw_m7 25 rfl) rfl
theorem q1568 : (Jvm.Cond.instanceMethod ({ cls := "CuckooByPostModel", name := "wrote", desc := "(II)I" } : Jvm.MethodName)) ∈ lw_all := lw_g (lw_at lw_m7 27 rfl) rfl
theorem q1569 : (Jvm.Cond.selects "CuckooByPostModel" ({ cls := "CuckooByPostModel", name := "wrote", desc := "(II)I" } : Jvm.MethodName) ({ cls := "CuckooByPostModel", name := "wrote", desc := "(II)I" } : Jvm.MethodName)) ∈ lw_all := lw_g (lw_at lw_m7 28 rfl) rfl
theorem q1570 : (Jvm.Cond.code ({ cls := "CuckooByPostModel", name := "wrote", desc := "(II)I" } : Jvm.MethodName) prog_9_method_101_code (4 : Nat) (Option.some Jvm.ClassFile.FieldType.int)) ∈ lw_all := lw_g (lw_at lw_m7 29 rfl) rfl
theorem q1572 : (Jvm.Cond.instanceMethod ({ cls := "CuckooByPostModel", name := "burn", desc := "()I" } : Jvm.MethodName)) ∈ lw_all := lw_g (lw_at lw_m7 31 rfl) rfl
theorem q1573 : (Jvm.Cond.selects "CuckooByPostModel" ({ cls := "CuckooByPostModel", name := "burn", desc := "()I" } : Jvm.MethodName) ({ cls := "CuckooByPostModel", name := "burn", desc := "()I" } : Jvm.MethodName)) ∈ lw_all := lw_g (lw_at lw_m7 32 rfl) rfl
theorem q1574 : (Jvm.Cond.code ({ cls := "CuckooByPostModel", name := "burn", desc := "()I" } : Jvm.MethodName) prog_9_method_102_code (2 : Nat) (Option.some Jvm.ClassFile.FieldType.int)) ∈ lw_all := lw_g (lw_at lw_m7 33 rfl) rfl
theorem q1576 : (Jvm.Cond.instanceMethod ({ cls := "CuckooByPostModel", name := "fits", desc := "()I" } : Jvm.MethodName)) ∈ lw_all := lw_g (lw_at lw_m7 35 rfl) rfl
theorem q1577 : (Jvm.Cond.selects "CuckooByPostModel" ({ cls := "CuckooByPostModel", name := "fits", desc := "()I" } : Jvm.MethodName) ({ cls := "CuckooByPostModel", name := "fits", desc := "()I" } : Jvm.MethodName)) ∈ lw_all := lw_g (lw_at lw_m7 36 rfl) rfl
theorem q1578 : (Jvm.Cond.code ({ cls := "CuckooByPostModel", name := "fits", desc := "()I" } : Jvm.MethodName) prog_9_method_105_code (1 : Nat) (Option.some Jvm.ClassFile.FieldType.int)) ∈ lw_all := lw_g (lw_at lw_m7 37 rfl) rfl
theorem q1579 : (Jvm.Cond.methodLink "CuckooByPostModel" (360 : Nat) ({ cls := "CuckooByPostModel", name := "fitting", desc := "()I" } : Jvm.MethodName)) ∈ lw_all := lw_g (lw_at lw_m7 38 rfl) rfl
theorem q1580 : (Jvm.Cond.privateMethod ({ cls := "CuckooByPostModel", name := "fitting", desc := "()I" } : Jvm.MethodName)) ∈ lw_tbl := lw_at lw_m7 39 rfl
theorem q1581 : (Jvm.Cond.instanceMethod ({ cls := "CuckooByPostModel", name := "fitting", desc := "()I" } : Jvm.MethodName)) ∈ lw_all := lw_g (lw_at lw_m7 40 rfl) rfl
theorem q1582 : (Jvm.Cond.code ({ cls := "CuckooByPostModel", name := "fitting", desc := "()I" } : Jvm.MethodName) prog_9_method_104_code (5 : Nat) (Option.some Jvm.ClassFile.FieldType.int)) ∈ lw_all := lw_g (lw_at lw_m7 41 rfl) rfl
theorem q1583 : (Jvm.Cond.methodLink "CuckooByPostModel" (357 : Nat) ({ cls := "CuckooByPostModel", name := "fits", desc := "(III)Z" } : Jvm.MethodName)) ∈ lw_all := lw_g (lw_at lw_m7 42 rfl) rfl
theorem q1584 : (Jvm.Cond.privateMethod ({ cls := "CuckooByPostModel", name := "fits", desc := "(III)Z" } : Jvm.MethodName)) ∈ lw_tbl := lw_at lw_m7 43 rfl
theorem q1585 : (Jvm.Cond.instanceMethod ({ cls := "CuckooByPostModel", name := "fits", desc := "(III)Z" } : Jvm.MethodName)) ∈ lw_all := lw_g (lw_at lw_m7 44 rfl) rfl
theorem q1586 : (Jvm.Cond.code ({ cls := "CuckooByPostModel", name := "fits", desc := "(III)Z" } : Jvm.MethodName) prog_9_method_103_code (4 : Nat) (Option.some Jvm.ClassFile.FieldType.boolean)) ∈ lw_all := lw_g (lw_at lw_m7 45 rfl) rfl
theorem q1588 : (Jvm.Cond.instanceMethod ({ cls := "CuckooByPostModel", name := "ask", desc := "()I" } : Jvm.MethodName)) ∈ lw_all := lw_g (lw_at lw_m7 47 rfl) rfl
theorem q1589 : (Jvm.Cond.selects "CuckooByPostModel" ({ cls := "CuckooByPostModel", name := "ask", desc := "()I" } : Jvm.MethodName) ({ cls := "CuckooByPostModel", name := "ask", desc := "()I" } : Jvm.MethodName)) ∈ lw_all := lw_g (lw_at lw_m7 48 rfl) rfl
theorem q1590 : (Jvm.Cond.code ({ cls := "CuckooByPostModel", name := "ask", desc := "()I" } : Jvm.MethodName) prog_9_method_106_code (7 : Nat) (Option.some Jvm.ClassFile.FieldType.int)) ∈ lw_all := lw_g (lw_at lw_m7 49 rfl) rfl
theorem q1592 : (Jvm.Cond.instanceMethod ({ cls := "CuckooByPostModel", name := "rests", desc := "(I)I" } : Jvm.MethodName)) ∈ lw_all := lw_g (lw_at lw_m7 51 rfl) rfl
theorem q1593 : (Jvm.Cond.selects "CuckooByPostModel" ({ cls := "CuckooByPostModel", name := "rests", desc := "(I)I" } : Jvm.MethodName) ({ cls := "CuckooByPostModel", name := "rests", desc := "(I)I" } : Jvm.MethodName)) ∈ lw_all := lw_g (lw_at lw_m7 52 rfl) rfl
theorem q1594 : (Jvm.Cond.code ({ cls := "CuckooByPostModel", name := "rests", desc := "(I)I" } : Jvm.MethodName) prog_9_method_110_code (5 : Nat) (Option.some Jvm.ClassFile.FieldType.int)) ∈ lw_all := lw_g (lw_at lw_m7 53 rfl) rfl
theorem q1595 : (Jvm.Cond.methodLink "CuckooByPostModel" (370 : Nat) ({ cls := "CuckooByPostModel", name := "isRest", desc := "(III)Z" } : Jvm.MethodName)) ∈ lw_all := lw_g (lw_at lw_m7 54 rfl) rfl
theorem q1596 : (Jvm.Cond.static ({ cls := "CuckooByPostModel", name := "isRest", desc := "(III)Z" } : Jvm.MethodName)) ∈ lw_all := lw_g (lw_at lw_m7 55 rfl) rfl
theorem q1597 : (Jvm.Cond.code ({ cls := "CuckooByPostModel", name := "isRest", desc := "(III)Z" } : Jvm.MethodName) prog_9_method_109_code (4 : Nat) (Option.some Jvm.ClassFile.FieldType.boolean)) ∈ lw_all := lw_g (lw_at lw_m7 56 rfl) rfl
theorem q1598 : (Jvm.Cond.methodLink "CuckooByPostModel" (363 : Nat) ({ cls := "CuckooByPostModel", name := "hostGets", desc := "(III)I" } : Jvm.MethodName)) ∈ lw_all := lw_g (lw_at lw_m7 57 rfl) rfl
theorem q1599 : (Jvm.Cond.static ({ cls := "CuckooByPostModel", name := "hostGets", desc := "(III)I" } : Jvm.MethodName)) ∈ lw_all := lw_g (lw_at lw_m7 58 rfl) rfl
theorem q1600 : (Jvm.Cond.code ({ cls := "CuckooByPostModel", name := "hostGets", desc := "(III)I" } : Jvm.MethodName) prog_9_method_107_code (3 : Nat) (Option.some Jvm.ClassFile.FieldType.int)) ∈ lw_all := lw_g (lw_at lw_m7 59 rfl) rfl
theorem q1601 : (Jvm.Cond.methodLink "CuckooByPostModel" (367 : Nat) ({ cls := "CuckooByPostModel", name := "guestGets", desc := "(III)I" } : Jvm.MethodName)) ∈ lw_all := lw_g (lw_at lw_m7 60 rfl) rfl
theorem q1602 : (Jvm.Cond.static ({ cls := "CuckooByPostModel", name := "guestGets", desc := "(III)I" } : Jvm.MethodName)) ∈ lw_all := lw_g (lw_at lw_m7 61 rfl) rfl
theorem q1603 : (Jvm.Cond.code ({ cls := "CuckooByPostModel", name := "guestGets", desc := "(III)I" } : Jvm.MethodName) prog_9_method_108_code (3 : Nat) (Option.some Jvm.ClassFile.FieldType.int)) ∈ lw_all := lw_g (lw_at lw_m7 62 rfl) rfl
theorem q1605 : (Jvm.Cond.instanceMethod ({ cls := "CuckooByPostModel", name := "law", desc := "()I" } : Jvm.MethodName)) ∈ lw_all := lw_g (lw_at lw_m7 64 rfl) rfl
theorem q1606 : (Jvm.Cond.selects "CuckooByPostModel" ({ cls := "CuckooByPostModel", name := "law", desc := "()I" } : Jvm.MethodName) ({ cls := "CuckooByPostModel", name := "law", desc := "()I" } : Jvm.MethodName)) ∈ lw_all := lw_g (lw_at lw_m7 65 rfl) rfl
theorem q1607 : (Jvm.Cond.code ({ cls := "CuckooByPostModel", name := "law", desc := "()I" } : Jvm.MethodName) prog_9_method_112_code (6 : Nat) (Option.some Jvm.ClassFile.FieldType.int)) ∈ lw_all := lw_g (lw_at lw_m7 66 rfl) rfl
theorem q1608 : (Jvm.Cond.methodLink "CuckooByPostModel" (373 : Nat) ({ cls := "CuckooByPostModel", name := "flownIn60", desc := "()I" } : Jvm.MethodName)) ∈ lw_all := lw_g (lw_at lw_m7 67 rfl) rfl
theorem q1609 : (Jvm.Cond.privateMethod ({ cls := "CuckooByPostModel", name := "flownIn60", desc := "()I" } : Jvm.MethodName)) ∈ lw_tbl := lw_at lw_m7 68 rfl
theorem q1610 : (Jvm.Cond.instanceMethod ({ cls := "CuckooByPostModel", name := "flownIn60", desc := "()I" } : Jvm.MethodName)) ∈ lw_all := lw_g (lw_at lw_m7 69 rfl) rfl
theorem q1611 : (Jvm.Cond.code ({ cls := "CuckooByPostModel", name := "flownIn60", desc := "()I" } : Jvm.MethodName) prog_9_method_111_code (1 : Nat) (Option.some Jvm.ClassFile.FieldType.int)) ∈ lw_all := lw_g (lw_at lw_m7 70 rfl) rfl
theorem q1613 : (Jvm.Cond.instanceMethod ({ cls := "CuckooByPostModel", name := "years", desc := "(II)I" } : Jvm.MethodName)) ∈ lw_all := lw_g (lw_at lw_m7 72 rfl) rfl
theorem q1614 : (Jvm.Cond.selects "CuckooByPostModel" ({ cls := "CuckooByPostModel", name := "years", desc := "(II)I" } : Jvm.MethodName) ({ cls := "CuckooByPostModel", name := "years", desc := "(II)I" } : Jvm.MethodName)) ∈ lw_all := lw_g (lw_at lw_m7 73 rfl) rfl
theorem q1615 : (Jvm.Cond.code ({ cls := "CuckooByPostModel", name := "years", desc := "(II)I" } : Jvm.MethodName) prog_9_method_114_code (7 : Nat) (Option.some Jvm.ClassFile.FieldType.int)) ∈ lw_all := lw_g (lw_at lw_m7 74 rfl) rfl
theorem q1616 : (Jvm.Cond.methodLink "CuckooByPostModel" (380 : Nat) ({ cls := "CuckooByPostModel", name := "draw", desc := "(I)I" } : Jvm.MethodName)) ∈ lw_all := lw_g (lw_at lw_m7 75 rfl) rfl
theorem q1617 : (Jvm.Cond.privateMethod ({ cls := "CuckooByPostModel", name := "draw", desc := "(I)I" } : Jvm.MethodName)) ∈ lw_tbl := lw_at lw_m7 76 rfl
theorem q1618 : (Jvm.Cond.instanceMethod ({ cls := "CuckooByPostModel", name := "draw", desc := "(I)I" } : Jvm.MethodName)) ∈ lw_all := lw_g (lw_at lw_m7 77 rfl) rfl
theorem q1619 : (Jvm.Cond.code ({ cls := "CuckooByPostModel", name := "draw", desc := "(I)I" } : Jvm.MethodName) prog_9_method_113_code (2 : Nat) (Option.some Jvm.ClassFile.FieldType.int)) ∈ lw_all := lw_g (lw_at lw_m7 78 rfl) rfl
theorem q1620 : (Jvm.Cond.constant "CuckooByPostModel" (379 : Nat) (1103515245 : Int32)) ∈ lw_all := lw_g (lw_at lw_m7 79 rfl) rfl
theorem q1622 : (Jvm.Cond.instanceMethod ({ cls := "CuckooByPostModel", name := "keep", desc := "(I)Z" } : Jvm.MethodName)) ∈ lw_all := lw_g (lw_at lw_m7 81 rfl) rfl
theorem q1623 : (Jvm.Cond.selects "CuckooByPostModel" ({ cls := "CuckooByPostModel", name := "keep", desc := "(I)Z" } : Jvm.MethodName) ({ cls := "CuckooByPostModel", name := "keep", desc := "(I)Z" } : Jvm.MethodName)) ∈ lw_all := lw_g (lw_at lw_m7 82 rfl) rfl
theorem q1624 : (Jvm.Cond.code ({ cls := "CuckooByPostModel", name := "keep", desc := "(I)Z" } : Jvm.MethodName) prog_9_method_115_code (2 : Nat) (Option.some Jvm.ClassFile.FieldType.boolean)) ∈ lw_all := lw_g (lw_at lw_m7 83 rfl) rfl
theorem q1626 : (Jvm.Cond.instanceMethod ({ cls := "CuckooByPostModel", name := "again", desc := "(I)Z" } : Jvm.MethodName)) ∈ lw_all := lw_g (lw_at lw_m7 85 rfl) rfl
theorem q1627 : (Jvm.Cond.selects "CuckooByPostModel" ({ cls := "CuckooByPostModel", name := "again", desc := "(I)Z" } : Jvm.MethodName) ({ cls := "CuckooByPostModel", name := "again", desc := "(I)Z" } : Jvm.MethodName)) ∈ lw_all := lw_g (lw_at lw_m7 86 rfl) rfl
theorem q1628 : (Jvm.Cond.code ({ cls := "CuckooByPostModel", name := "again", desc := "(I)Z" } : Jvm.MethodName) prog_9_method_116_code (3 : Nat) (Option.some Jvm.ClassFile.FieldType.boolean)) ∈ lw_all := lw_g (lw_at lw_m7 87 rfl) rfl
theorem q1630 : (Jvm.Cond.instanceMethod ({ cls := "CuckooByPostModel", name := "count", desc := "(I)I" } : Jvm.MethodName)) ∈ lw_all := lw_g (lw_at lw_m7 89 rfl) rfl
theorem q1631 : (Jvm.Cond.selects "CuckooByPostModel" ({ cls := "CuckooByPostModel", name := "count", desc := "(I)I" } : Jvm.MethodName) ({ cls := "CuckooByPostModel", name := "count", desc := "(I)I" } : Jvm.MethodName)) ∈ lw_all := lw_g (lw_at lw_m7 90 rfl) rfl
theorem q1632 : (Jvm.Cond.code ({ cls := "CuckooByPostModel", name := "count", desc := "(I)I" } : Jvm.MethodName) prog_9_method_118_code (2 : Nat) (Option.some Jvm.ClassFile.FieldType.int)) ∈ lw_all := lw_g (lw_at lw_m7 91 rfl) rfl
theorem q1633 : (Jvm.Cond.methodLink "CuckooByPostModel" (383 : Nat) ({ cls := "CuckooByPostModel", name := "allOwn", desc := "()I" } : Jvm.MethodName)) ∈ lw_all := lw_g (lw_at lw_m7 92 rfl) rfl
theorem q1634 : (Jvm.Cond.privateMethod ({ cls := "CuckooByPostModel", name := "allOwn", desc := "()I" } : Jvm.MethodName)) ∈ lw_tbl := lw_at lw_m7 93 rfl
theorem q1635 : (Jvm.Cond.instanceMethod ({ cls := "CuckooByPostModel", name := "allOwn", desc := "()I" } : Jvm.MethodName)) ∈ lw_all := lw_g (lw_at lw_m7 94 rfl) rfl
theorem q1636 : (Jvm.Cond.code ({ cls := "CuckooByPostModel", name := "allOwn", desc := "()I" } : Jvm.MethodName) prog_9_method_117_code (3 : Nat) (Option.some Jvm.ClassFile.FieldType.int)) ∈ lw_all := lw_g (lw_at lw_m7 95 rfl) rfl
theorem q1638 : (Jvm.Cond.instanceMethod ({ cls := "CuckooByPostModel", name := "row", desc := "(I)J" } : Jvm.MethodName)) ∈ lw_all := lw_g (lw_at lw_m7 97 rfl) rfl
theorem q1639 : (Jvm.Cond.selects "CuckooByPostModel" ({ cls := "CuckooByPostModel", name := "row", desc := "(I)J" } : Jvm.MethodName) ({ cls := "CuckooByPostModel", name := "row", desc := "(I)J" } : Jvm.MethodName)) ∈ lw_all := lw_g (lw_at lw_m7 98 rfl) rfl
theorem q1640 : (Jvm.Cond.code ({ cls := "CuckooByPostModel", name := "row", desc := "(I)J" } : Jvm.MethodName) prog_9_method_119_code (2 : Nat) (Option.some Jvm.ClassFile.FieldType.long)) ∈ lw_all := lw_g (lw_at lw_m7 99 rfl) rfl
theorem q1644 : (Jvm.Cond.castable "CuckooByPostModel" "java/lang/Object") ∈ lw_tbl := lw_at lw_m7 103 rfl
theorem in_X3 : ∀ w ∈ wsX30, w ∈ lw_all := lw_in wsX30 [1099, 1101, 1103, 1105, 1107, 1109, 1111, 1113, 1115, 1117, 1119, 1121, 1123, 1125, 1127, 1129, 1131, 1133, 1135, 1137, 1139, 1141, 1143, 1145, 1147, 1149, 1151, 1153, 1155, 1157, 1159, 1161, 1163, 1165, 1167, 1169, 1171, 1173, 1175] (by decide +kernel) (by decide +kernel)
