/-! DECODE ROWS BY BYTES: one lemma an opcode; a method's code is cut into short pieces once, and a row reads its own piece alone. -/
set_option maxRecDepth 100000
/-- the code has just these bytes from pc on -/
def DkAt (code : ByteArray) (pc : Nat) (bs : List UInt8) : Prop := ∀ (j : Nat) (b : UInt8), bs[j]? = some b → code.data.toList[pc + j]? = some b
/-- the piece W has the bytes bs from its place j on -/
def dkIn (W : List UInt8) (j : Nat) (bs : List UInt8) : Bool := decide ((W.drop j).take bs.length = bs)
theorem dk_seg {l W T : List UInt8} {o o2 : Nat} (h : l.drop o = W ++ T) (n : Nat) (hn : W.length = n) (ho : o + n = o2) : l.drop o2 = T := by
  subst ho
  rw [← List.drop_drop, h, List.drop_left' hn]
theorem dk_at {code : ByteArray} {W T bs : List UInt8} {o pc : Nat} (h : code.data.toList.drop o = W ++ T) (j : Nat) (hp : o + j = pc) (hw : dkIn W j bs = true) : DkAt code pc bs := by
  subst hp
  intro i b e
  have h1 := of_decide_eq_true hw
  have h2 : i < bs.length := (List.getElem?_eq_some_iff.mp e).1
  have h3 : W[j + i]? = some b := by
    rw [← h1, List.getElem?_take, if_pos h2, List.getElem?_drop] at e
    exact e
  have h4 : j + i < W.length := (List.getElem?_eq_some_iff.mp h3).1
  have h5 : (code.data.toList.drop o)[j + i]? = some b := by
    rw [h, List.getElem?_append_left h4]
    exact h3
  rw [List.getElem?_drop, ← Nat.add_assoc] at h5
  exact h5
theorem dk_u1 {A : ByteArray} {p : Nat} {b : UInt8} (h : A.data.toList[p]? = some b) : (Reader.u1 : Reader DecodeError Nat) A p = .ok (b.toNat, p + 1) := by
  obtain ⟨h1, h2⟩ := List.getElem?_eq_some_iff.mp h
  have h3 : p < A.size := by simpa using h1
  have h4 : A[p]'h3 = b := h2
  have e : (Reader.u1 : Reader DecodeError Nat) A p = (if h : p < A.size then .ok (A[p].toNat, p + 1) else .error (HasTruncated.truncated p)) := by
    show (do if h : p < A.size then do set (p + 1); Pure.pure A[p].toNat else MonadExcept.throw (HasTruncated.truncated p) : Reader DecodeError Nat) A p = _
    by_cases hi : p < A.size
    · rw [dif_pos hi, dif_pos hi]; rfl
    · rw [dif_neg hi, dif_neg hi]; rfl
  rw [e, dif_pos h3, h4]
theorem dk_bind {α β : Type} {r : Reader DecodeError α} {f : α → Reader DecodeError β} {A : ByteArray} {p s : Nat} {a : α} (h : r A p = .ok (a, s)) : (r >>= f) A p = f a A s := by
  show (do let (a, s) ← r A p; f a A s : Except DecodeError (β × Nat)) = _
  rw [h]
  rfl
theorem dk_map {α β : Type} {r : Reader DecodeError α} {g : α → β} {A : ByteArray} {p s : Nat} {a : α} (h : r A p = .ok (a, s)) : (g <$> r) A p = .ok (g a, s) := by
  show (do let (a, s) ← r A p; .ok (g a, s) : Except DecodeError (β × Nat)) = _
  rw [h]
  rfl
theorem dk_u2 {A : ByteArray} {p : Nat} {a b : UInt8} (h : A.data.toList[p]? = some a) (h2 : A.data.toList[p + 1]? = some b) : (Reader.u2 : Reader DecodeError Nat) A p = .ok (a.toNat * 256 + b.toNat, p + 2) := by
  show (Reader.u1 >>= fun hi => Reader.u1 >>= fun lo => Pure.pure (hi * 256 + lo) : Reader DecodeError Nat) A p = _
  rw [dk_bind (dk_u1 h), dk_bind (dk_u1 h2)]
  rfl
theorem dk_of {code : ByteArray} {pc n : Nat} {i : Instr} (h : Decoder.instr pc code pc = .ok (i, pc + n)) : decode code pc = .ok (i, n) := by
  have e : decode code pc = (match Decoder.instr pc code pc with | .error x => .error x | .ok (j, s) => .ok (j, s - pc)) := by
    show (do let (j, s) ← Decoder.instr pc code pc; Pure.pure (j, s - pc) : Except DecodeError (Instr × Nat)) = _
    cases Decoder.instr pc code pc <;> rfl
  rw [e, h]
  show Except.ok (i, pc + n - pc) = _
  rw [Nat.add_sub_cancel_left]
theorem dk_1 {code : ByteArray} {pc : Nat} (h : DkAt code pc [1]) : decode code pc = .ok (.aconst_null, 1) := dk_of ((dk_bind (dk_u1 (h 0 _ rfl))).trans rfl)
theorem dk_2 {code : ByteArray} {pc : Nat} (h : DkAt code pc [2]) : decode code pc = .ok (.iconst (-1), 1) := dk_of ((dk_bind (dk_u1 (h 0 _ rfl))).trans rfl)
theorem dk_3 {code : ByteArray} {pc : Nat} (h : DkAt code pc [3]) : decode code pc = .ok (.iconst 0, 1) := dk_of ((dk_bind (dk_u1 (h 0 _ rfl))).trans rfl)
theorem dk_4 {code : ByteArray} {pc : Nat} (h : DkAt code pc [4]) : decode code pc = .ok (.iconst 1, 1) := dk_of ((dk_bind (dk_u1 (h 0 _ rfl))).trans rfl)
theorem dk_5 {code : ByteArray} {pc : Nat} (h : DkAt code pc [5]) : decode code pc = .ok (.iconst 2, 1) := dk_of ((dk_bind (dk_u1 (h 0 _ rfl))).trans rfl)
theorem dk_6 {code : ByteArray} {pc : Nat} (h : DkAt code pc [6]) : decode code pc = .ok (.iconst 3, 1) := dk_of ((dk_bind (dk_u1 (h 0 _ rfl))).trans rfl)
theorem dk_7 {code : ByteArray} {pc : Nat} (h : DkAt code pc [7]) : decode code pc = .ok (.iconst 4, 1) := dk_of ((dk_bind (dk_u1 (h 0 _ rfl))).trans rfl)
theorem dk_8 {code : ByteArray} {pc : Nat} (h : DkAt code pc [8]) : decode code pc = .ok (.iconst 5, 1) := dk_of ((dk_bind (dk_u1 (h 0 _ rfl))).trans rfl)
theorem dk_9 {code : ByteArray} {pc : Nat} (h : DkAt code pc [9]) : decode code pc = .ok (.lconst 0, 1) := dk_of ((dk_bind (dk_u1 (h 0 _ rfl))).trans rfl)
theorem dk_10 {code : ByteArray} {pc : Nat} (h : DkAt code pc [10]) : decode code pc = .ok (.lconst 1, 1) := dk_of ((dk_bind (dk_u1 (h 0 _ rfl))).trans rfl)
theorem dk_16 {code : ByteArray} {pc : Nat} (a : UInt8) (h : DkAt code pc [16, a]) : decode code pc = .ok (.bipush (Reader.signed 8 a.toNat), 2) := dk_of ((dk_bind (dk_u1 (h 0 _ rfl))).trans ((dk_bind (dk_map (dk_u1 (h 1 _ rfl)))).trans rfl))
theorem dk_17 {code : ByteArray} {pc : Nat} (a b : UInt8) (h : DkAt code pc [17, a, b]) : decode code pc = .ok (.sipush (Reader.signed 16 (a.toNat * 256 + b.toNat)), 3) := dk_of ((dk_bind (dk_u1 (h 0 _ rfl))).trans ((dk_bind (dk_map (dk_u2 (h 1 _ rfl) (h 2 _ rfl)))).trans rfl))
theorem dk_18 {code : ByteArray} {pc : Nat} (a : UInt8) (h : DkAt code pc [18, a]) : decode code pc = .ok (.ldc a.toNat, 2) := dk_of ((dk_bind (dk_u1 (h 0 _ rfl))).trans ((dk_bind (dk_u1 (h 1 _ rfl))).trans rfl))
theorem dk_19 {code : ByteArray} {pc : Nat} (a b : UInt8) (h : DkAt code pc [19, a, b]) : decode code pc = .ok (.ldc_w (a.toNat * 256 + b.toNat), 3) := dk_of ((dk_bind (dk_u1 (h 0 _ rfl))).trans ((dk_bind (dk_u2 (h 1 _ rfl) (h 2 _ rfl))).trans rfl))
theorem dk_20 {code : ByteArray} {pc : Nat} (a b : UInt8) (h : DkAt code pc [20, a, b]) : decode code pc = .ok (.ldc2_w (a.toNat * 256 + b.toNat), 3) := dk_of ((dk_bind (dk_u1 (h 0 _ rfl))).trans ((dk_bind (dk_u2 (h 1 _ rfl) (h 2 _ rfl))).trans rfl))
theorem dk_21 {code : ByteArray} {pc : Nat} (a : UInt8) (h : DkAt code pc [21, a]) : decode code pc = .ok (.iload a.toNat, 2) := dk_of ((dk_bind (dk_u1 (h 0 _ rfl))).trans ((dk_bind (dk_u1 (h 1 _ rfl))).trans rfl))
theorem dk_22 {code : ByteArray} {pc : Nat} (a : UInt8) (h : DkAt code pc [22, a]) : decode code pc = .ok (.lload a.toNat, 2) := dk_of ((dk_bind (dk_u1 (h 0 _ rfl))).trans ((dk_bind (dk_u1 (h 1 _ rfl))).trans rfl))
theorem dk_25 {code : ByteArray} {pc : Nat} (a : UInt8) (h : DkAt code pc [25, a]) : decode code pc = .ok (.aload a.toNat, 2) := dk_of ((dk_bind (dk_u1 (h 0 _ rfl))).trans ((dk_bind (dk_u1 (h 1 _ rfl))).trans rfl))
theorem dk_26 {code : ByteArray} {pc : Nat} (h : DkAt code pc [26]) : decode code pc = .ok (.iload_n 0, 1) := dk_of ((dk_bind (dk_u1 (h 0 _ rfl))).trans rfl)
theorem dk_27 {code : ByteArray} {pc : Nat} (h : DkAt code pc [27]) : decode code pc = .ok (.iload_n 1, 1) := dk_of ((dk_bind (dk_u1 (h 0 _ rfl))).trans rfl)
theorem dk_28 {code : ByteArray} {pc : Nat} (h : DkAt code pc [28]) : decode code pc = .ok (.iload_n 2, 1) := dk_of ((dk_bind (dk_u1 (h 0 _ rfl))).trans rfl)
theorem dk_29 {code : ByteArray} {pc : Nat} (h : DkAt code pc [29]) : decode code pc = .ok (.iload_n 3, 1) := dk_of ((dk_bind (dk_u1 (h 0 _ rfl))).trans rfl)
theorem dk_30 {code : ByteArray} {pc : Nat} (h : DkAt code pc [30]) : decode code pc = .ok (.lload_n 0, 1) := dk_of ((dk_bind (dk_u1 (h 0 _ rfl))).trans rfl)
theorem dk_31 {code : ByteArray} {pc : Nat} (h : DkAt code pc [31]) : decode code pc = .ok (.lload_n 1, 1) := dk_of ((dk_bind (dk_u1 (h 0 _ rfl))).trans rfl)
theorem dk_32 {code : ByteArray} {pc : Nat} (h : DkAt code pc [32]) : decode code pc = .ok (.lload_n 2, 1) := dk_of ((dk_bind (dk_u1 (h 0 _ rfl))).trans rfl)
theorem dk_33 {code : ByteArray} {pc : Nat} (h : DkAt code pc [33]) : decode code pc = .ok (.lload_n 3, 1) := dk_of ((dk_bind (dk_u1 (h 0 _ rfl))).trans rfl)
theorem dk_42 {code : ByteArray} {pc : Nat} (h : DkAt code pc [42]) : decode code pc = .ok (.aload_n 0, 1) := dk_of ((dk_bind (dk_u1 (h 0 _ rfl))).trans rfl)
theorem dk_43 {code : ByteArray} {pc : Nat} (h : DkAt code pc [43]) : decode code pc = .ok (.aload_n 1, 1) := dk_of ((dk_bind (dk_u1 (h 0 _ rfl))).trans rfl)
theorem dk_44 {code : ByteArray} {pc : Nat} (h : DkAt code pc [44]) : decode code pc = .ok (.aload_n 2, 1) := dk_of ((dk_bind (dk_u1 (h 0 _ rfl))).trans rfl)
theorem dk_45 {code : ByteArray} {pc : Nat} (h : DkAt code pc [45]) : decode code pc = .ok (.aload_n 3, 1) := dk_of ((dk_bind (dk_u1 (h 0 _ rfl))).trans rfl)
theorem dk_46 {code : ByteArray} {pc : Nat} (h : DkAt code pc [46]) : decode code pc = .ok (.iaload, 1) := dk_of ((dk_bind (dk_u1 (h 0 _ rfl))).trans rfl)
theorem dk_47 {code : ByteArray} {pc : Nat} (h : DkAt code pc [47]) : decode code pc = .ok (.laload, 1) := dk_of ((dk_bind (dk_u1 (h 0 _ rfl))).trans rfl)
theorem dk_50 {code : ByteArray} {pc : Nat} (h : DkAt code pc [50]) : decode code pc = .ok (.aaload, 1) := dk_of ((dk_bind (dk_u1 (h 0 _ rfl))).trans rfl)
theorem dk_51 {code : ByteArray} {pc : Nat} (h : DkAt code pc [51]) : decode code pc = .ok (.baload, 1) := dk_of ((dk_bind (dk_u1 (h 0 _ rfl))).trans rfl)
theorem dk_54 {code : ByteArray} {pc : Nat} (a : UInt8) (h : DkAt code pc [54, a]) : decode code pc = .ok (.istore a.toNat, 2) := dk_of ((dk_bind (dk_u1 (h 0 _ rfl))).trans ((dk_bind (dk_u1 (h 1 _ rfl))).trans rfl))
theorem dk_55 {code : ByteArray} {pc : Nat} (a : UInt8) (h : DkAt code pc [55, a]) : decode code pc = .ok (.lstore a.toNat, 2) := dk_of ((dk_bind (dk_u1 (h 0 _ rfl))).trans ((dk_bind (dk_u1 (h 1 _ rfl))).trans rfl))
theorem dk_58 {code : ByteArray} {pc : Nat} (a : UInt8) (h : DkAt code pc [58, a]) : decode code pc = .ok (.astore a.toNat, 2) := dk_of ((dk_bind (dk_u1 (h 0 _ rfl))).trans ((dk_bind (dk_u1 (h 1 _ rfl))).trans rfl))
theorem dk_59 {code : ByteArray} {pc : Nat} (h : DkAt code pc [59]) : decode code pc = .ok (.istore_n 0, 1) := dk_of ((dk_bind (dk_u1 (h 0 _ rfl))).trans rfl)
theorem dk_60 {code : ByteArray} {pc : Nat} (h : DkAt code pc [60]) : decode code pc = .ok (.istore_n 1, 1) := dk_of ((dk_bind (dk_u1 (h 0 _ rfl))).trans rfl)
theorem dk_61 {code : ByteArray} {pc : Nat} (h : DkAt code pc [61]) : decode code pc = .ok (.istore_n 2, 1) := dk_of ((dk_bind (dk_u1 (h 0 _ rfl))).trans rfl)
theorem dk_62 {code : ByteArray} {pc : Nat} (h : DkAt code pc [62]) : decode code pc = .ok (.istore_n 3, 1) := dk_of ((dk_bind (dk_u1 (h 0 _ rfl))).trans rfl)
theorem dk_66 {code : ByteArray} {pc : Nat} (h : DkAt code pc [66]) : decode code pc = .ok (.lstore_n 3, 1) := dk_of ((dk_bind (dk_u1 (h 0 _ rfl))).trans rfl)
theorem dk_76 {code : ByteArray} {pc : Nat} (h : DkAt code pc [76]) : decode code pc = .ok (.astore_n 1, 1) := dk_of ((dk_bind (dk_u1 (h 0 _ rfl))).trans rfl)
theorem dk_77 {code : ByteArray} {pc : Nat} (h : DkAt code pc [77]) : decode code pc = .ok (.astore_n 2, 1) := dk_of ((dk_bind (dk_u1 (h 0 _ rfl))).trans rfl)
theorem dk_78 {code : ByteArray} {pc : Nat} (h : DkAt code pc [78]) : decode code pc = .ok (.astore_n 3, 1) := dk_of ((dk_bind (dk_u1 (h 0 _ rfl))).trans rfl)
theorem dk_79 {code : ByteArray} {pc : Nat} (h : DkAt code pc [79]) : decode code pc = .ok (.iastore, 1) := dk_of ((dk_bind (dk_u1 (h 0 _ rfl))).trans rfl)
theorem dk_80 {code : ByteArray} {pc : Nat} (h : DkAt code pc [80]) : decode code pc = .ok (.lastore, 1) := dk_of ((dk_bind (dk_u1 (h 0 _ rfl))).trans rfl)
theorem dk_83 {code : ByteArray} {pc : Nat} (h : DkAt code pc [83]) : decode code pc = .ok (.aastore, 1) := dk_of ((dk_bind (dk_u1 (h 0 _ rfl))).trans rfl)
theorem dk_84 {code : ByteArray} {pc : Nat} (h : DkAt code pc [84]) : decode code pc = .ok (.bastore, 1) := dk_of ((dk_bind (dk_u1 (h 0 _ rfl))).trans rfl)
theorem dk_87 {code : ByteArray} {pc : Nat} (h : DkAt code pc [87]) : decode code pc = .ok (.pop, 1) := dk_of ((dk_bind (dk_u1 (h 0 _ rfl))).trans rfl)
theorem dk_89 {code : ByteArray} {pc : Nat} (h : DkAt code pc [89]) : decode code pc = .ok (.dup, 1) := dk_of ((dk_bind (dk_u1 (h 0 _ rfl))).trans rfl)
theorem dk_90 {code : ByteArray} {pc : Nat} (h : DkAt code pc [90]) : decode code pc = .ok (.dup_x1, 1) := dk_of ((dk_bind (dk_u1 (h 0 _ rfl))).trans rfl)
theorem dk_92 {code : ByteArray} {pc : Nat} (h : DkAt code pc [92]) : decode code pc = .ok (.dup2, 1) := dk_of ((dk_bind (dk_u1 (h 0 _ rfl))).trans rfl)
theorem dk_96 {code : ByteArray} {pc : Nat} (h : DkAt code pc [96]) : decode code pc = .ok (.iadd, 1) := dk_of ((dk_bind (dk_u1 (h 0 _ rfl))).trans rfl)
theorem dk_97 {code : ByteArray} {pc : Nat} (h : DkAt code pc [97]) : decode code pc = .ok (.ladd, 1) := dk_of ((dk_bind (dk_u1 (h 0 _ rfl))).trans rfl)
theorem dk_100 {code : ByteArray} {pc : Nat} (h : DkAt code pc [100]) : decode code pc = .ok (.isub, 1) := dk_of ((dk_bind (dk_u1 (h 0 _ rfl))).trans rfl)
theorem dk_104 {code : ByteArray} {pc : Nat} (h : DkAt code pc [104]) : decode code pc = .ok (.imul, 1) := dk_of ((dk_bind (dk_u1 (h 0 _ rfl))).trans rfl)
theorem dk_105 {code : ByteArray} {pc : Nat} (h : DkAt code pc [105]) : decode code pc = .ok (.lmul, 1) := dk_of ((dk_bind (dk_u1 (h 0 _ rfl))).trans rfl)
theorem dk_108 {code : ByteArray} {pc : Nat} (h : DkAt code pc [108]) : decode code pc = .ok (.idiv, 1) := dk_of ((dk_bind (dk_u1 (h 0 _ rfl))).trans rfl)
theorem dk_109 {code : ByteArray} {pc : Nat} (h : DkAt code pc [109]) : decode code pc = .ok (.ldiv, 1) := dk_of ((dk_bind (dk_u1 (h 0 _ rfl))).trans rfl)
theorem dk_112 {code : ByteArray} {pc : Nat} (h : DkAt code pc [112]) : decode code pc = .ok (.irem, 1) := dk_of ((dk_bind (dk_u1 (h 0 _ rfl))).trans rfl)
theorem dk_113 {code : ByteArray} {pc : Nat} (h : DkAt code pc [113]) : decode code pc = .ok (.lrem, 1) := dk_of ((dk_bind (dk_u1 (h 0 _ rfl))).trans rfl)
theorem dk_116 {code : ByteArray} {pc : Nat} (h : DkAt code pc [116]) : decode code pc = .ok (.ineg, 1) := dk_of ((dk_bind (dk_u1 (h 0 _ rfl))).trans rfl)
theorem dk_120 {code : ByteArray} {pc : Nat} (h : DkAt code pc [120]) : decode code pc = .ok (.ishl, 1) := dk_of ((dk_bind (dk_u1 (h 0 _ rfl))).trans rfl)
theorem dk_122 {code : ByteArray} {pc : Nat} (h : DkAt code pc [122]) : decode code pc = .ok (.ishr, 1) := dk_of ((dk_bind (dk_u1 (h 0 _ rfl))).trans rfl)
theorem dk_124 {code : ByteArray} {pc : Nat} (h : DkAt code pc [124]) : decode code pc = .ok (.iushr, 1) := dk_of ((dk_bind (dk_u1 (h 0 _ rfl))).trans rfl)
theorem dk_126 {code : ByteArray} {pc : Nat} (h : DkAt code pc [126]) : decode code pc = .ok (.iand, 1) := dk_of ((dk_bind (dk_u1 (h 0 _ rfl))).trans rfl)
theorem dk_128 {code : ByteArray} {pc : Nat} (h : DkAt code pc [128]) : decode code pc = .ok (.ior, 1) := dk_of ((dk_bind (dk_u1 (h 0 _ rfl))).trans rfl)
theorem dk_130 {code : ByteArray} {pc : Nat} (h : DkAt code pc [130]) : decode code pc = .ok (.ixor, 1) := dk_of ((dk_bind (dk_u1 (h 0 _ rfl))).trans rfl)
theorem dk_132 {code : ByteArray} {pc : Nat} (a b : UInt8) (h : DkAt code pc [132, a, b]) : decode code pc = .ok (.iinc a.toNat (Reader.signed 8 b.toNat), 3) := dk_of ((dk_bind (dk_u1 (h 0 _ rfl))).trans ((dk_bind (dk_u1 (h 1 _ rfl))).trans ((dk_bind (dk_map (dk_u1 (h 2 _ rfl)))).trans rfl)))
theorem dk_133 {code : ByteArray} {pc : Nat} (h : DkAt code pc [133]) : decode code pc = .ok (.i2l, 1) := dk_of ((dk_bind (dk_u1 (h 0 _ rfl))).trans rfl)
theorem dk_145 {code : ByteArray} {pc : Nat} (h : DkAt code pc [145]) : decode code pc = .ok (.i2b, 1) := dk_of ((dk_bind (dk_u1 (h 0 _ rfl))).trans rfl)
theorem dk_146 {code : ByteArray} {pc : Nat} (h : DkAt code pc [146]) : decode code pc = .ok (.i2c, 1) := dk_of ((dk_bind (dk_u1 (h 0 _ rfl))).trans rfl)
theorem dk_147 {code : ByteArray} {pc : Nat} (h : DkAt code pc [147]) : decode code pc = .ok (.i2s, 1) := dk_of ((dk_bind (dk_u1 (h 0 _ rfl))).trans rfl)
theorem dk_148 {code : ByteArray} {pc : Nat} (h : DkAt code pc [148]) : decode code pc = .ok (.lcmp, 1) := dk_of ((dk_bind (dk_u1 (h 0 _ rfl))).trans rfl)
theorem dk_153 {code : ByteArray} {pc : Nat} (a b : UInt8) (h : DkAt code pc [153, a, b]) : decode code pc = .ok (.ifCond .eq (Reader.signed 16 (a.toNat * 256 + b.toNat)), 3) := dk_of ((dk_bind (dk_u1 (h 0 _ rfl))).trans ((dk_bind (dk_map (dk_u2 (h 1 _ rfl) (h 2 _ rfl)))).trans rfl))
theorem dk_154 {code : ByteArray} {pc : Nat} (a b : UInt8) (h : DkAt code pc [154, a, b]) : decode code pc = .ok (.ifCond .ne (Reader.signed 16 (a.toNat * 256 + b.toNat)), 3) := dk_of ((dk_bind (dk_u1 (h 0 _ rfl))).trans ((dk_bind (dk_map (dk_u2 (h 1 _ rfl) (h 2 _ rfl)))).trans rfl))
theorem dk_155 {code : ByteArray} {pc : Nat} (a b : UInt8) (h : DkAt code pc [155, a, b]) : decode code pc = .ok (.ifCond .lt (Reader.signed 16 (a.toNat * 256 + b.toNat)), 3) := dk_of ((dk_bind (dk_u1 (h 0 _ rfl))).trans ((dk_bind (dk_map (dk_u2 (h 1 _ rfl) (h 2 _ rfl)))).trans rfl))
theorem dk_156 {code : ByteArray} {pc : Nat} (a b : UInt8) (h : DkAt code pc [156, a, b]) : decode code pc = .ok (.ifCond .ge (Reader.signed 16 (a.toNat * 256 + b.toNat)), 3) := dk_of ((dk_bind (dk_u1 (h 0 _ rfl))).trans ((dk_bind (dk_map (dk_u2 (h 1 _ rfl) (h 2 _ rfl)))).trans rfl))
theorem dk_157 {code : ByteArray} {pc : Nat} (a b : UInt8) (h : DkAt code pc [157, a, b]) : decode code pc = .ok (.ifCond .gt (Reader.signed 16 (a.toNat * 256 + b.toNat)), 3) := dk_of ((dk_bind (dk_u1 (h 0 _ rfl))).trans ((dk_bind (dk_map (dk_u2 (h 1 _ rfl) (h 2 _ rfl)))).trans rfl))
theorem dk_158 {code : ByteArray} {pc : Nat} (a b : UInt8) (h : DkAt code pc [158, a, b]) : decode code pc = .ok (.ifCond .le (Reader.signed 16 (a.toNat * 256 + b.toNat)), 3) := dk_of ((dk_bind (dk_u1 (h 0 _ rfl))).trans ((dk_bind (dk_map (dk_u2 (h 1 _ rfl) (h 2 _ rfl)))).trans rfl))
theorem dk_159 {code : ByteArray} {pc : Nat} (a b : UInt8) (h : DkAt code pc [159, a, b]) : decode code pc = .ok (.if_icmp .eq (Reader.signed 16 (a.toNat * 256 + b.toNat)), 3) := dk_of ((dk_bind (dk_u1 (h 0 _ rfl))).trans ((dk_bind (dk_map (dk_u2 (h 1 _ rfl) (h 2 _ rfl)))).trans rfl))
theorem dk_160 {code : ByteArray} {pc : Nat} (a b : UInt8) (h : DkAt code pc [160, a, b]) : decode code pc = .ok (.if_icmp .ne (Reader.signed 16 (a.toNat * 256 + b.toNat)), 3) := dk_of ((dk_bind (dk_u1 (h 0 _ rfl))).trans ((dk_bind (dk_map (dk_u2 (h 1 _ rfl) (h 2 _ rfl)))).trans rfl))
theorem dk_161 {code : ByteArray} {pc : Nat} (a b : UInt8) (h : DkAt code pc [161, a, b]) : decode code pc = .ok (.if_icmp .lt (Reader.signed 16 (a.toNat * 256 + b.toNat)), 3) := dk_of ((dk_bind (dk_u1 (h 0 _ rfl))).trans ((dk_bind (dk_map (dk_u2 (h 1 _ rfl) (h 2 _ rfl)))).trans rfl))
theorem dk_162 {code : ByteArray} {pc : Nat} (a b : UInt8) (h : DkAt code pc [162, a, b]) : decode code pc = .ok (.if_icmp .ge (Reader.signed 16 (a.toNat * 256 + b.toNat)), 3) := dk_of ((dk_bind (dk_u1 (h 0 _ rfl))).trans ((dk_bind (dk_map (dk_u2 (h 1 _ rfl) (h 2 _ rfl)))).trans rfl))
theorem dk_163 {code : ByteArray} {pc : Nat} (a b : UInt8) (h : DkAt code pc [163, a, b]) : decode code pc = .ok (.if_icmp .gt (Reader.signed 16 (a.toNat * 256 + b.toNat)), 3) := dk_of ((dk_bind (dk_u1 (h 0 _ rfl))).trans ((dk_bind (dk_map (dk_u2 (h 1 _ rfl) (h 2 _ rfl)))).trans rfl))
theorem dk_164 {code : ByteArray} {pc : Nat} (a b : UInt8) (h : DkAt code pc [164, a, b]) : decode code pc = .ok (.if_icmp .le (Reader.signed 16 (a.toNat * 256 + b.toNat)), 3) := dk_of ((dk_bind (dk_u1 (h 0 _ rfl))).trans ((dk_bind (dk_map (dk_u2 (h 1 _ rfl) (h 2 _ rfl)))).trans rfl))
theorem dk_167 {code : ByteArray} {pc : Nat} (a b : UInt8) (h : DkAt code pc [167, a, b]) : decode code pc = .ok (.goto (Reader.signed 16 (a.toNat * 256 + b.toNat)), 3) := dk_of ((dk_bind (dk_u1 (h 0 _ rfl))).trans ((dk_bind (dk_map (dk_u2 (h 1 _ rfl) (h 2 _ rfl)))).trans rfl))
theorem dk_172 {code : ByteArray} {pc : Nat} (h : DkAt code pc [172]) : decode code pc = .ok (.ireturn, 1) := dk_of ((dk_bind (dk_u1 (h 0 _ rfl))).trans rfl)
theorem dk_173 {code : ByteArray} {pc : Nat} (h : DkAt code pc [173]) : decode code pc = .ok (.lreturn, 1) := dk_of ((dk_bind (dk_u1 (h 0 _ rfl))).trans rfl)
theorem dk_176 {code : ByteArray} {pc : Nat} (h : DkAt code pc [176]) : decode code pc = .ok (.areturn, 1) := dk_of ((dk_bind (dk_u1 (h 0 _ rfl))).trans rfl)
theorem dk_177 {code : ByteArray} {pc : Nat} (h : DkAt code pc [177]) : decode code pc = .ok (.return_, 1) := dk_of ((dk_bind (dk_u1 (h 0 _ rfl))).trans rfl)
theorem dk_178 {code : ByteArray} {pc : Nat} (a b : UInt8) (h : DkAt code pc [178, a, b]) : decode code pc = .ok (.getstatic (a.toNat * 256 + b.toNat), 3) := dk_of ((dk_bind (dk_u1 (h 0 _ rfl))).trans ((dk_bind (dk_u2 (h 1 _ rfl) (h 2 _ rfl))).trans rfl))
theorem dk_180 {code : ByteArray} {pc : Nat} (a b : UInt8) (h : DkAt code pc [180, a, b]) : decode code pc = .ok (.getfield (a.toNat * 256 + b.toNat), 3) := dk_of ((dk_bind (dk_u1 (h 0 _ rfl))).trans ((dk_bind (dk_u2 (h 1 _ rfl) (h 2 _ rfl))).trans rfl))
theorem dk_181 {code : ByteArray} {pc : Nat} (a b : UInt8) (h : DkAt code pc [181, a, b]) : decode code pc = .ok (.putfield (a.toNat * 256 + b.toNat), 3) := dk_of ((dk_bind (dk_u1 (h 0 _ rfl))).trans ((dk_bind (dk_u2 (h 1 _ rfl) (h 2 _ rfl))).trans rfl))
theorem dk_182 {code : ByteArray} {pc : Nat} (a b : UInt8) (h : DkAt code pc [182, a, b]) : decode code pc = .ok (.invokevirtual (a.toNat * 256 + b.toNat), 3) := dk_of ((dk_bind (dk_u1 (h 0 _ rfl))).trans ((dk_bind (dk_u2 (h 1 _ rfl) (h 2 _ rfl))).trans rfl))
theorem dk_183 {code : ByteArray} {pc : Nat} (a b : UInt8) (h : DkAt code pc [183, a, b]) : decode code pc = .ok (.invokespecial (a.toNat * 256 + b.toNat), 3) := dk_of ((dk_bind (dk_u1 (h 0 _ rfl))).trans ((dk_bind (dk_u2 (h 1 _ rfl) (h 2 _ rfl))).trans rfl))
theorem dk_184 {code : ByteArray} {pc : Nat} (a b : UInt8) (h : DkAt code pc [184, a, b]) : decode code pc = .ok (.invokestatic (a.toNat * 256 + b.toNat), 3) := dk_of ((dk_bind (dk_u1 (h 0 _ rfl))).trans ((dk_bind (dk_u2 (h 1 _ rfl) (h 2 _ rfl))).trans rfl))
theorem dk_187 {code : ByteArray} {pc : Nat} (a b : UInt8) (h : DkAt code pc [187, a, b]) : decode code pc = .ok (.new (a.toNat * 256 + b.toNat), 3) := dk_of ((dk_bind (dk_u1 (h 0 _ rfl))).trans ((dk_bind (dk_u2 (h 1 _ rfl) (h 2 _ rfl))).trans rfl))
theorem dk_188_4 {code : ByteArray} {pc : Nat} (h : DkAt code pc [188, 4]) : decode code pc = .ok (.newarray .boolean, 2) := dk_of ((dk_bind (dk_u1 (h 0 _ rfl))).trans ((dk_bind (dk_u1 (h 1 _ rfl))).trans rfl))
theorem dk_188_8 {code : ByteArray} {pc : Nat} (h : DkAt code pc [188, 8]) : decode code pc = .ok (.newarray .byte, 2) := dk_of ((dk_bind (dk_u1 (h 0 _ rfl))).trans ((dk_bind (dk_u1 (h 1 _ rfl))).trans rfl))
theorem dk_188_10 {code : ByteArray} {pc : Nat} (h : DkAt code pc [188, 10]) : decode code pc = .ok (.newarray .int, 2) := dk_of ((dk_bind (dk_u1 (h 0 _ rfl))).trans ((dk_bind (dk_u1 (h 1 _ rfl))).trans rfl))
theorem dk_188_11 {code : ByteArray} {pc : Nat} (h : DkAt code pc [188, 11]) : decode code pc = .ok (.newarray .long, 2) := dk_of ((dk_bind (dk_u1 (h 0 _ rfl))).trans ((dk_bind (dk_u1 (h 1 _ rfl))).trans rfl))
theorem dk_189 {code : ByteArray} {pc : Nat} (a b : UInt8) (h : DkAt code pc [189, a, b]) : decode code pc = .ok (.anewarray (a.toNat * 256 + b.toNat), 3) := dk_of ((dk_bind (dk_u1 (h 0 _ rfl))).trans ((dk_bind (dk_u2 (h 1 _ rfl) (h 2 _ rfl))).trans rfl))
theorem dk_190 {code : ByteArray} {pc : Nat} (h : DkAt code pc [190]) : decode code pc = .ok (.arraylength, 1) := dk_of ((dk_bind (dk_u1 (h 0 _ rfl))).trans rfl)
theorem dk_191 {code : ByteArray} {pc : Nat} (h : DkAt code pc [191]) : decode code pc = .ok (.athrow, 1) := dk_of ((dk_bind (dk_u1 (h 0 _ rfl))).trans rfl)
theorem dk_198 {code : ByteArray} {pc : Nat} (a b : UInt8) (h : DkAt code pc [198, a, b]) : decode code pc = .ok (.ifnull (Reader.signed 16 (a.toNat * 256 + b.toNat)), 3) := dk_of ((dk_bind (dk_u1 (h 0 _ rfl))).trans ((dk_bind (dk_map (dk_u2 (h 1 _ rfl) (h 2 _ rfl)))).trans rfl))
theorem dk_199 {code : ByteArray} {pc : Nat} (a b : UInt8) (h : DkAt code pc [199, a, b]) : decode code pc = .ok (.ifnonnull (Reader.signed 16 (a.toNat * 256 + b.toNat)), 3) := dk_of ((dk_bind (dk_u1 (h 0 _ rfl))).trans ((dk_bind (dk_map (dk_u2 (h 1 _ rfl) (h 2 _ rfl)))).trans rfl))

/-! java/lang/Math -/
set_option maxRecDepth 100000
def RJ0 : String := "java/lang/Math"
abbrev cJ0_min : ByteArray := prog_16_method_69_code
def yJ0_min : MethodName := ⟨RJ0, "min", "(II)I"⟩
def dkwJ0_min_0 : List UInt8 := [26, 27, 163, 0, 7, 26, 167, 0, 4, 27, 172]
abbrev dktJ0_min_0 : List UInt8 := dkwJ0_min_0 ++ []
theorem dksJ0_min_0 : cJ0_min.data.toList.drop 0 = dktJ0_min_0 := by decide +kernel
theorem dJ0_min_0 : decode cJ0_min 0 = .ok (.iload_n 0, 1) := dk_26 (dk_at dksJ0_min_0 0 rfl rfl)
theorem dJ0_min_1 : decode cJ0_min 1 = .ok (.iload_n 1, 1) := dk_27 (dk_at dksJ0_min_0 1 rfl rfl)
theorem dJ0_min_2 : decode cJ0_min 2 = .ok (.if_icmp .gt 7, 3) := dk_163 0 7 (dk_at dksJ0_min_0 2 rfl rfl)
theorem dJ0_min_5 : decode cJ0_min 5 = .ok (.iload_n 0, 1) := dk_26 (dk_at dksJ0_min_0 5 rfl rfl)
theorem dJ0_min_6 : decode cJ0_min 6 = .ok (.goto 4, 3) := dk_167 0 4 (dk_at dksJ0_min_0 6 rfl rfl)
theorem dJ0_min_9 : decode cJ0_min 9 = .ok (.iload_n 1, 1) := dk_27 (dk_at dksJ0_min_0 9 rfl rfl)
theorem dJ0_min_10 : decode cJ0_min 10 = .ok (.ireturn, 1) := dk_172 (dk_at dksJ0_min_0 10 rfl rfl)
abbrev cJ0_max : ByteArray := prog_16_method_65_code
def yJ0_max : MethodName := ⟨RJ0, "max", "(II)I"⟩
def dkwJ0_max_0 : List UInt8 := [26, 27, 161, 0, 7, 26, 167, 0, 4, 27, 172]
abbrev dktJ0_max_0 : List UInt8 := dkwJ0_max_0 ++ []
theorem dksJ0_max_0 : cJ0_max.data.toList.drop 0 = dktJ0_max_0 := by decide +kernel
theorem dJ0_max_0 : decode cJ0_max 0 = .ok (.iload_n 0, 1) := dk_26 (dk_at dksJ0_max_0 0 rfl rfl)
theorem dJ0_max_1 : decode cJ0_max 1 = .ok (.iload_n 1, 1) := dk_27 (dk_at dksJ0_max_0 1 rfl rfl)
theorem dJ0_max_2 : decode cJ0_max 2 = .ok (.if_icmp .lt 7, 3) := dk_161 0 7 (dk_at dksJ0_max_0 2 rfl rfl)
theorem dJ0_max_5 : decode cJ0_max 5 = .ok (.iload_n 0, 1) := dk_26 (dk_at dksJ0_max_0 5 rfl rfl)
theorem dJ0_max_6 : decode cJ0_max 6 = .ok (.goto 4, 3) := dk_167 0 4 (dk_at dksJ0_max_0 6 rfl rfl)
theorem dJ0_max_9 : decode cJ0_max 9 = .ok (.iload_n 1, 1) := dk_27 (dk_at dksJ0_max_0 9 rfl rfl)
theorem dJ0_max_10 : decode cJ0_max 10 = .ok (.ireturn, 1) := dk_172 (dk_at dksJ0_max_0 10 rfl rfl)
abbrev cJ0_abs : ByteArray := prog_16_method_59_code
def yJ0_abs : MethodName := ⟨RJ0, "abs", "(I)I"⟩
def dkwJ0_abs_0 : List UInt8 := [26, 156, 0, 8, 26, 116, 167, 0, 4, 26, 172]
abbrev dktJ0_abs_0 : List UInt8 := dkwJ0_abs_0 ++ []
theorem dksJ0_abs_0 : cJ0_abs.data.toList.drop 0 = dktJ0_abs_0 := by decide +kernel
theorem dJ0_abs_0 : decode cJ0_abs 0 = .ok (.iload_n 0, 1) := dk_26 (dk_at dksJ0_abs_0 0 rfl rfl)
theorem dJ0_abs_1 : decode cJ0_abs 1 = .ok (.ifCond .ge 8, 3) := dk_156 0 8 (dk_at dksJ0_abs_0 1 rfl rfl)
theorem dJ0_abs_4 : decode cJ0_abs 4 = .ok (.iload_n 0, 1) := dk_26 (dk_at dksJ0_abs_0 4 rfl rfl)
theorem dJ0_abs_5 : decode cJ0_abs 5 = .ok (.ineg, 1) := dk_116 (dk_at dksJ0_abs_0 5 rfl rfl)
theorem dJ0_abs_6 : decode cJ0_abs 6 = .ok (.goto 4, 3) := dk_167 0 4 (dk_at dksJ0_abs_0 6 rfl rfl)
theorem dJ0_abs_9 : decode cJ0_abs 9 = .ok (.iload_n 0, 1) := dk_26 (dk_at dksJ0_abs_0 9 rfl rfl)
theorem dJ0_abs_10 : decode cJ0_abs 10 = .ok (.ireturn, 1) := dk_172 (dk_at dksJ0_abs_0 10 rfl rfl)
theorem q105 : (Jvm.Cond.initialized "java/lang/Math") ∈ lw_all := lw_g (lw_at lw_m1 4 rfl) rfl
theorem q347 : (Jvm.Cond.static ({ cls := "java/lang/Math", name := "min", desc := "(II)I" } : Jvm.MethodName)) ∈ lw_all := lw_g (lw_at lw_m2 6 rfl) rfl
theorem q348 : (Jvm.Cond.code ({ cls := "java/lang/Math", name := "min", desc := "(II)I" } : Jvm.MethodName) prog_16_method_69_code (2 : Nat) (Option.some Jvm.ClassFile.FieldType.int)) ∈ lw_all := lw_g (lw_at lw_m2 7 rfl) rfl
theorem q391 : (Jvm.Cond.static ({ cls := "java/lang/Math", name := "max", desc := "(II)I" } : Jvm.MethodName)) ∈ lw_all := lw_g (lw_at lw_m2 50 rfl) rfl
theorem q392 : (Jvm.Cond.code ({ cls := "java/lang/Math", name := "max", desc := "(II)I" } : Jvm.MethodName) prog_16_method_65_code (2 : Nat) (Option.some Jvm.ClassFile.FieldType.int)) ∈ lw_all := lw_g (lw_at lw_m2 51 rfl) rfl
theorem q662 : (Jvm.Cond.static ({ cls := "java/lang/Math", name := "abs", desc := "(I)I" } : Jvm.MethodName)) ∈ lw_all := lw_g (lw_at lw_m3 81 rfl) rfl
theorem q663 : (Jvm.Cond.code ({ cls := "java/lang/Math", name := "abs", desc := "(I)I" } : Jvm.MethodName) prog_16_method_59_code (1 : Nat) (Option.some Jvm.ClassFile.FieldType.int)) ∈ lw_all := lw_g (lw_at lw_m3 82 rfl) rfl

/-! java/lang/String -/
set_option maxRecDepth 100000
def RJ1 : String := "java/lang/String"
abbrev cJ1_indexOf : ByteArray := prog_18_method_79_code
def yJ1_indexOf : MethodName := ⟨RJ1, "indexOf", "(I)I"⟩
def dkwJ1_indexOf_0 : List UInt8 := [42, 27, 3, 182, 2, 121, 172]
abbrev dktJ1_indexOf_0 : List UInt8 := dkwJ1_indexOf_0 ++ []
theorem dksJ1_indexOf_0 : cJ1_indexOf.data.toList.drop 0 = dktJ1_indexOf_0 := by decide +kernel
theorem dJ1_indexOf_0 : decode cJ1_indexOf 0 = .ok (.aload_n 0, 1) := dk_42 (dk_at dksJ1_indexOf_0 0 rfl rfl)
theorem dJ1_indexOf_1 : decode cJ1_indexOf 1 = .ok (.iload_n 1, 1) := dk_27 (dk_at dksJ1_indexOf_0 1 rfl rfl)
theorem dJ1_indexOf_2 : decode cJ1_indexOf 2 = .ok (.iconst 0, 1) := dk_3 (dk_at dksJ1_indexOf_0 2 rfl rfl)
theorem dJ1_indexOf_3 : decode cJ1_indexOf 3 = .ok (.invokevirtual 633, 3) := dk_182 2 121 (dk_at dksJ1_indexOf_0 3 rfl rfl)
theorem dJ1_indexOf_6 : decode cJ1_indexOf 6 = .ok (.ireturn, 1) := dk_172 (dk_at dksJ1_indexOf_0 6 rfl rfl)
abbrev cJ1_indexOf_2 : ByteArray := prog_18_method_80_code
def yJ1_indexOf_2 : MethodName := ⟨RJ1, "indexOf", "(II)I"⟩
def dkwJ1_indexOf_2_1 : List UInt8 := [180, 0, 9, 27, 28, 42, 182, 1, 249, 184, 2, 128, 172]
abbrev dktJ1_indexOf_2_1 : List UInt8 := dkwJ1_indexOf_2_1 ++ []
def dkwJ1_indexOf_2_0 : List UInt8 := [42, 182, 1, 236, 153, 0, 19, 42, 180, 0, 9, 27, 28, 42, 182, 1, 249, 184, 2, 125, 167, 0, 16, 42]
abbrev dktJ1_indexOf_2_0 : List UInt8 := dkwJ1_indexOf_2_0 ++ dktJ1_indexOf_2_1
theorem dksJ1_indexOf_2_0 : cJ1_indexOf_2.data.toList.drop 0 = dktJ1_indexOf_2_0 := by decide +kernel
theorem dksJ1_indexOf_2_1 : cJ1_indexOf_2.data.toList.drop 24 = dktJ1_indexOf_2_1 := dk_seg dksJ1_indexOf_2_0 24 rfl rfl
theorem dJ1_indexOf_2_0 : decode cJ1_indexOf_2 0 = .ok (.aload_n 0, 1) := dk_42 (dk_at dksJ1_indexOf_2_0 0 rfl rfl)
theorem dJ1_indexOf_2_1 : decode cJ1_indexOf_2 1 = .ok (.invokevirtual 492, 3) := dk_182 1 236 (dk_at dksJ1_indexOf_2_0 1 rfl rfl)
theorem dJ1_indexOf_2_4 : decode cJ1_indexOf_2 4 = .ok (.ifCond .eq 19, 3) := dk_153 0 19 (dk_at dksJ1_indexOf_2_0 4 rfl rfl)
theorem dJ1_indexOf_2_7 : decode cJ1_indexOf_2 7 = .ok (.aload_n 0, 1) := dk_42 (dk_at dksJ1_indexOf_2_0 7 rfl rfl)
theorem dJ1_indexOf_2_8 : decode cJ1_indexOf_2 8 = .ok (.getfield 9, 3) := dk_180 0 9 (dk_at dksJ1_indexOf_2_0 8 rfl rfl)
theorem dJ1_indexOf_2_11 : decode cJ1_indexOf_2 11 = .ok (.iload_n 1, 1) := dk_27 (dk_at dksJ1_indexOf_2_0 11 rfl rfl)
theorem dJ1_indexOf_2_12 : decode cJ1_indexOf_2 12 = .ok (.iload_n 2, 1) := dk_28 (dk_at dksJ1_indexOf_2_0 12 rfl rfl)
theorem dJ1_indexOf_2_13 : decode cJ1_indexOf_2 13 = .ok (.aload_n 0, 1) := dk_42 (dk_at dksJ1_indexOf_2_0 13 rfl rfl)
theorem dJ1_indexOf_2_14 : decode cJ1_indexOf_2 14 = .ok (.invokevirtual 505, 3) := dk_182 1 249 (dk_at dksJ1_indexOf_2_0 14 rfl rfl)
theorem dJ1_indexOf_2_17 : decode cJ1_indexOf_2 17 = .ok (.invokestatic 637, 3) := dk_184 2 125 (dk_at dksJ1_indexOf_2_0 17 rfl rfl)
theorem dJ1_indexOf_2_20 : decode cJ1_indexOf_2 20 = .ok (.goto 16, 3) := dk_167 0 16 (dk_at dksJ1_indexOf_2_0 20 rfl rfl)
theorem dJ1_indexOf_2_23 : decode cJ1_indexOf_2 23 = .ok (.aload_n 0, 1) := dk_42 (dk_at dksJ1_indexOf_2_0 23 rfl rfl)
theorem dJ1_indexOf_2_24 : decode cJ1_indexOf_2 24 = .ok (.getfield 9, 3) := dk_180 0 9 (dk_at dksJ1_indexOf_2_1 0 rfl rfl)
theorem dJ1_indexOf_2_27 : decode cJ1_indexOf_2 27 = .ok (.iload_n 1, 1) := dk_27 (dk_at dksJ1_indexOf_2_1 3 rfl rfl)
theorem dJ1_indexOf_2_28 : decode cJ1_indexOf_2 28 = .ok (.iload_n 2, 1) := dk_28 (dk_at dksJ1_indexOf_2_1 4 rfl rfl)
theorem dJ1_indexOf_2_29 : decode cJ1_indexOf_2 29 = .ok (.aload_n 0, 1) := dk_42 (dk_at dksJ1_indexOf_2_1 5 rfl rfl)
theorem dJ1_indexOf_2_30 : decode cJ1_indexOf_2 30 = .ok (.invokevirtual 505, 3) := dk_182 1 249 (dk_at dksJ1_indexOf_2_1 6 rfl rfl)
theorem dJ1_indexOf_2_33 : decode cJ1_indexOf_2 33 = .ok (.invokestatic 640, 3) := dk_184 2 128 (dk_at dksJ1_indexOf_2_1 9 rfl rfl)
theorem dJ1_indexOf_2_36 : decode cJ1_indexOf_2 36 = .ok (.ireturn, 1) := dk_172 (dk_at dksJ1_indexOf_2_1 12 rfl rfl)
abbrev cJ1_isLatin1 : ByteArray := prog_18_method_154_code
def yJ1_isLatin1 : MethodName := ⟨RJ1, "isLatin1", "()Z"⟩
def dkwJ1_isLatin1_0 : List UInt8 := [178, 0, 38, 153, 0, 14, 42, 180, 0, 15, 154, 0, 7, 4, 167, 0, 4, 3, 172]
abbrev dktJ1_isLatin1_0 : List UInt8 := dkwJ1_isLatin1_0 ++ []
theorem dksJ1_isLatin1_0 : cJ1_isLatin1.data.toList.drop 0 = dktJ1_isLatin1_0 := by decide +kernel
theorem dJ1_isLatin1_0 : decode cJ1_isLatin1 0 = .ok (.getstatic 38, 3) := dk_178 0 38 (dk_at dksJ1_isLatin1_0 0 rfl rfl)
theorem dJ1_isLatin1_3 : decode cJ1_isLatin1 3 = .ok (.ifCond .eq 14, 3) := dk_153 0 14 (dk_at dksJ1_isLatin1_0 3 rfl rfl)
theorem dJ1_isLatin1_6 : decode cJ1_isLatin1 6 = .ok (.aload_n 0, 1) := dk_42 (dk_at dksJ1_isLatin1_0 6 rfl rfl)
theorem dJ1_isLatin1_7 : decode cJ1_isLatin1 7 = .ok (.getfield 15, 3) := dk_180 0 15 (dk_at dksJ1_isLatin1_0 7 rfl rfl)
theorem dJ1_isLatin1_10 : decode cJ1_isLatin1 10 = .ok (.ifCond .ne 7, 3) := dk_154 0 7 (dk_at dksJ1_isLatin1_0 10 rfl rfl)
theorem dJ1_isLatin1_13 : decode cJ1_isLatin1 13 = .ok (.iconst 1, 1) := dk_4 (dk_at dksJ1_isLatin1_0 13 rfl rfl)
theorem dJ1_isLatin1_14 : decode cJ1_isLatin1 14 = .ok (.goto 4, 3) := dk_167 0 4 (dk_at dksJ1_isLatin1_0 14 rfl rfl)
theorem dJ1_isLatin1_17 : decode cJ1_isLatin1 17 = .ok (.iconst 0, 1) := dk_3 (dk_at dksJ1_isLatin1_0 17 rfl rfl)
theorem dJ1_isLatin1_18 : decode cJ1_isLatin1 18 = .ok (.ireturn, 1) := dk_172 (dk_at dksJ1_isLatin1_0 18 rfl rfl)
abbrev cJ1_length : ByteArray := prog_18_method_54_code
def yJ1_length : MethodName := ⟨RJ1, "length", "()I"⟩
def dkwJ1_length_0 : List UInt8 := [42, 180, 0, 9, 190, 42, 182, 1, 79, 122, 172]
abbrev dktJ1_length_0 : List UInt8 := dkwJ1_length_0 ++ []
theorem dksJ1_length_0 : cJ1_length.data.toList.drop 0 = dktJ1_length_0 := by decide +kernel
theorem dJ1_length_0 : decode cJ1_length 0 = .ok (.aload_n 0, 1) := dk_42 (dk_at dksJ1_length_0 0 rfl rfl)
theorem dJ1_length_1 : decode cJ1_length 1 = .ok (.getfield 9, 3) := dk_180 0 9 (dk_at dksJ1_length_0 1 rfl rfl)
theorem dJ1_length_4 : decode cJ1_length 4 = .ok (.arraylength, 1) := dk_190 (dk_at dksJ1_length_0 4 rfl rfl)
theorem dJ1_length_5 : decode cJ1_length 5 = .ok (.aload_n 0, 1) := dk_42 (dk_at dksJ1_length_0 5 rfl rfl)
theorem dJ1_length_6 : decode cJ1_length 6 = .ok (.invokevirtual 335, 3) := dk_182 1 79 (dk_at dksJ1_length_0 6 rfl rfl)
theorem dJ1_length_9 : decode cJ1_length 9 = .ok (.ishr, 1) := dk_122 (dk_at dksJ1_length_0 9 rfl rfl)
theorem dJ1_length_10 : decode cJ1_length 10 = .ok (.ireturn, 1) := dk_172 (dk_at dksJ1_length_0 10 rfl rfl)
abbrev cJ1_coder : ByteArray := prog_18_method_152_code
def yJ1_coder : MethodName := ⟨RJ1, "coder", "()B"⟩
def dkwJ1_coder_0 : List UInt8 := [178, 0, 38, 153, 0, 10, 42, 180, 0, 15, 167, 0, 4, 4, 172]
abbrev dktJ1_coder_0 : List UInt8 := dkwJ1_coder_0 ++ []
theorem dksJ1_coder_0 : cJ1_coder.data.toList.drop 0 = dktJ1_coder_0 := by decide +kernel
theorem dJ1_coder_0 : decode cJ1_coder 0 = .ok (.getstatic 38, 3) := dk_178 0 38 (dk_at dksJ1_coder_0 0 rfl rfl)
theorem dJ1_coder_3 : decode cJ1_coder 3 = .ok (.ifCond .eq 10, 3) := dk_153 0 10 (dk_at dksJ1_coder_0 3 rfl rfl)
theorem dJ1_coder_6 : decode cJ1_coder 6 = .ok (.aload_n 0, 1) := dk_42 (dk_at dksJ1_coder_0 6 rfl rfl)
theorem dJ1_coder_7 : decode cJ1_coder 7 = .ok (.getfield 15, 3) := dk_180 0 15 (dk_at dksJ1_coder_0 7 rfl rfl)
theorem dJ1_coder_10 : decode cJ1_coder 10 = .ok (.goto 4, 3) := dk_167 0 4 (dk_at dksJ1_coder_0 10 rfl rfl)
theorem dJ1_coder_13 : decode cJ1_coder 13 = .ok (.iconst 1, 1) := dk_4 (dk_at dksJ1_coder_0 13 rfl rfl)
theorem dJ1_coder_14 : decode cJ1_coder 14 = .ok (.ireturn, 1) := dk_172 (dk_at dksJ1_coder_0 14 rfl rfl)
abbrev cJ1_checkBoundsBeginEnd : ByteArray := prog_18_method_158_code
def yJ1_checkBoundsBeginEnd : MethodName := ⟨RJ1, "checkBoundsBeginEnd", "(III)V"⟩
def dkwJ1_checkBoundsBeginEnd_0 : List UInt8 := [26, 27, 28, 178, 4, 29, 184, 4, 38, 87, 177]
abbrev dktJ1_checkBoundsBeginEnd_0 : List UInt8 := dkwJ1_checkBoundsBeginEnd_0 ++ []
theorem dksJ1_checkBoundsBeginEnd_0 : cJ1_checkBoundsBeginEnd.data.toList.drop 0 = dktJ1_checkBoundsBeginEnd_0 := by decide +kernel
theorem dJ1_checkBoundsBeginEnd_0 : decode cJ1_checkBoundsBeginEnd 0 = .ok (.iload_n 0, 1) := dk_26 (dk_at dksJ1_checkBoundsBeginEnd_0 0 rfl rfl)
theorem dJ1_checkBoundsBeginEnd_1 : decode cJ1_checkBoundsBeginEnd 1 = .ok (.iload_n 1, 1) := dk_27 (dk_at dksJ1_checkBoundsBeginEnd_0 1 rfl rfl)
theorem dJ1_checkBoundsBeginEnd_2 : decode cJ1_checkBoundsBeginEnd 2 = .ok (.iload_n 2, 1) := dk_28 (dk_at dksJ1_checkBoundsBeginEnd_0 2 rfl rfl)
theorem dJ1_checkBoundsBeginEnd_3 : decode cJ1_checkBoundsBeginEnd 3 = .ok (.getstatic 1053, 3) := dk_178 4 29 (dk_at dksJ1_checkBoundsBeginEnd_0 3 rfl rfl)
theorem dJ1_checkBoundsBeginEnd_6 : decode cJ1_checkBoundsBeginEnd 6 = .ok (.invokestatic 1062, 3) := dk_184 4 38 (dk_at dksJ1_checkBoundsBeginEnd_0 6 rfl rfl)
theorem dJ1_checkBoundsBeginEnd_9 : decode cJ1_checkBoundsBeginEnd 9 = .ok (.pop, 1) := dk_87 (dk_at dksJ1_checkBoundsBeginEnd_0 9 rfl rfl)
theorem dJ1_checkBoundsBeginEnd_10 : decode cJ1_checkBoundsBeginEnd 10 = .ok (.return_, 1) := dk_177 (dk_at dksJ1_checkBoundsBeginEnd_0 10 rfl rfl)
theorem q106 : (Jvm.Cond.initialized "java/lang/String") ∈ lw_all := lw_g (lw_at lw_m1 5 rfl) rfl
theorem q363 : (Jvm.Cond.instanceMethod ({ cls := "java/lang/String", name := "indexOf", desc := "(I)I" } : Jvm.MethodName)) ∈ lw_all := lw_g (lw_at lw_m2 22 rfl) rfl
theorem q364 : (Jvm.Cond.selects "java/lang/String" ({ cls := "java/lang/String", name := "indexOf", desc := "(I)I" } : Jvm.MethodName) ({ cls := "java/lang/String", name := "indexOf", desc := "(I)I" } : Jvm.MethodName)) ∈ lw_all := lw_g (lw_at lw_m2 23 rfl) rfl
theorem q365 : (Jvm.Cond.code ({ cls := "java/lang/String", name := "indexOf", desc := "(I)I" } : Jvm.MethodName) prog_18_method_79_code (2 : Nat) (Option.some Jvm.ClassFile.FieldType.int)) ∈ lw_all := lw_g (lw_at lw_m2 24 rfl) rfl
theorem q366 : (Jvm.Cond.methodLink "java/lang/String" (633 : Nat) ({ cls := "java/lang/String", name := "indexOf", desc := "(II)I" } : Jvm.MethodName)) ∈ lw_all := lw_g (lw_at lw_m2 25 rfl) rfl
theorem q367 : (Jvm.Cond.instanceMethod ({ cls := "java/lang/String", name := "indexOf", desc := "(II)I" } : Jvm.MethodName)) ∈ lw_all := lw_g (lw_at lw_m2 26 rfl) rfl
theorem q368 : (Jvm.Cond.selects "java/lang/String" ({ cls := "java/lang/String", name := "indexOf", desc := "(II)I" } : Jvm.MethodName) ({ cls := "java/lang/String", name := "indexOf", desc := "(II)I" } : Jvm.MethodName)) ∈ lw_all := lw_g (lw_at lw_m2 27 rfl) rfl
theorem q369 : (Jvm.Cond.code ({ cls := "java/lang/String", name := "indexOf", desc := "(II)I" } : Jvm.MethodName) prog_18_method_80_code (3 : Nat) (Option.some Jvm.ClassFile.FieldType.int)) ∈ lw_all := lw_g (lw_at lw_m2 28 rfl) rfl
theorem q370 : (Jvm.Cond.methodLink "java/lang/String" (492 : Nat) ({ cls := "java/lang/String", name := "isLatin1", desc := "()Z" } : Jvm.MethodName)) ∈ lw_all := lw_g (lw_at lw_m2 29 rfl) rfl
theorem q371 : (Jvm.Cond.instanceMethod ({ cls := "java/lang/String", name := "isLatin1", desc := "()Z" } : Jvm.MethodName)) ∈ lw_all := lw_g (lw_at lw_m2 30 rfl) rfl
theorem q372 : (Jvm.Cond.selects "java/lang/String" ({ cls := "java/lang/String", name := "isLatin1", desc := "()Z" } : Jvm.MethodName) ({ cls := "java/lang/String", name := "isLatin1", desc := "()Z" } : Jvm.MethodName)) ∈ lw_all := lw_g (lw_at lw_m2 31 rfl) rfl
theorem q373 : (Jvm.Cond.code ({ cls := "java/lang/String", name := "isLatin1", desc := "()Z" } : Jvm.MethodName) prog_18_method_154_code (1 : Nat) (Option.some Jvm.ClassFile.FieldType.boolean)) ∈ lw_all := lw_g (lw_at lw_m2 32 rfl) rfl
theorem q374 : (Jvm.Cond.fieldLink "java/lang/String" (38 : Nat) "java/lang/String" "COMPACT_STRINGS" "Z") ∈ lw_all := lw_g (lw_at lw_m2 33 rfl) rfl
theorem q375 : (Jvm.Cond.laysStatic "java/lang/String" "COMPACT_STRINGS" "Z") ∈ lw_tbl := lw_at lw_m2 34 rfl
theorem q376 : (Jvm.Cond.methodLink "java/lang/String" (505 : Nat) ({ cls := "java/lang/String", name := "length", desc := "()I" } : Jvm.MethodName)) ∈ lw_all := lw_g (lw_at lw_m2 35 rfl) rfl
theorem q377 : (Jvm.Cond.instanceMethod ({ cls := "java/lang/String", name := "length", desc := "()I" } : Jvm.MethodName)) ∈ lw_all := lw_g (lw_at lw_m2 36 rfl) rfl
theorem q378 : (Jvm.Cond.selects "java/lang/String" ({ cls := "java/lang/String", name := "length", desc := "()I" } : Jvm.MethodName) ({ cls := "java/lang/String", name := "length", desc := "()I" } : Jvm.MethodName)) ∈ lw_all := lw_g (lw_at lw_m2 37 rfl) rfl
theorem q379 : (Jvm.Cond.code ({ cls := "java/lang/String", name := "length", desc := "()I" } : Jvm.MethodName) prog_18_method_54_code (1 : Nat) (Option.some Jvm.ClassFile.FieldType.int)) ∈ lw_all := lw_g (lw_at lw_m2 38 rfl) rfl
theorem q380 : (Jvm.Cond.methodLink "java/lang/String" (335 : Nat) ({ cls := "java/lang/String", name := "coder", desc := "()B" } : Jvm.MethodName)) ∈ lw_all := lw_g (lw_at lw_m2 39 rfl) rfl
theorem q381 : (Jvm.Cond.instanceMethod ({ cls := "java/lang/String", name := "coder", desc := "()B" } : Jvm.MethodName)) ∈ lw_all := lw_g (lw_at lw_m2 40 rfl) rfl
theorem q382 : (Jvm.Cond.selects "java/lang/String" ({ cls := "java/lang/String", name := "coder", desc := "()B" } : Jvm.MethodName) ({ cls := "java/lang/String", name := "coder", desc := "()B" } : Jvm.MethodName)) ∈ lw_all := lw_g (lw_at lw_m2 41 rfl) rfl
theorem q383 : (Jvm.Cond.code ({ cls := "java/lang/String", name := "coder", desc := "()B" } : Jvm.MethodName) prog_18_method_152_code (1 : Nat) (Option.some Jvm.ClassFile.FieldType.byte)) ∈ lw_all := lw_g (lw_at lw_m2 42 rfl) rfl
theorem q384 : (Jvm.Cond.methodLink "java/lang/String" (637 : Nat) ({ cls := "java/lang/StringLatin1", name := "indexOf", desc := "([BIII)I" } : Jvm.MethodName)) ∈ lw_all := lw_g (lw_at lw_m2 43 rfl) rfl
theorem q397 : (Jvm.Cond.methodLink "java/lang/String" (640 : Nat) ({ cls := "java/lang/StringUTF16", name := "indexOf", desc := "([BIII)I" } : Jvm.MethodName)) ∈ lw_all := lw_g (lw_at lw_m2 56 rfl) rfl
theorem q413 : (Jvm.Cond.static ({ cls := "java/lang/String", name := "checkBoundsBeginEnd", desc := "(III)V" } : Jvm.MethodName)) ∈ lw_all := lw_g (lw_at lw_m2 72 rfl) rfl
theorem q414 : (Jvm.Cond.code ({ cls := "java/lang/String", name := "checkBoundsBeginEnd", desc := "(III)V" } : Jvm.MethodName) prog_18_method_158_code (3 : Nat) (Option.none : Option Jvm.ClassFile.FieldType)) ∈ lw_all := lw_g (lw_at lw_m2 73 rfl) rfl
theorem q415 : (Jvm.Cond.fieldLink "java/lang/String" (1053 : Nat) "jdk/internal/util/Preconditions" "SIOOBE_FORMATTER" "Ljava/util/function/BiFunction;") ∈ lw_all := lw_g (lw_at lw_m2 74 rfl) rfl
theorem q417 : (Jvm.Cond.methodLink "java/lang/String" (1062 : Nat) ({ cls := "jdk/internal/util/Preconditions", name := "checkFromToIndex", desc := "(IIILjava/util/function/BiFunction;)I" } : Jvm.MethodName)) ∈ lw_all := lw_g (lw_at lw_m2 76 rfl) rfl
theorem q1651 : (Jvm.Cond.castable "java/lang/String" "java/lang/Object") ∈ lw_tbl := lw_at lw_m7 110 rfl
theorem q1652 : (Jvm.Cond.fieldLink "java/lang/String" (15 : Nat) "java/lang/String" "coder" "B") ∈ lw_all := lw_g (lw_at lw_m7 111 rfl) rfl
theorem q1653 : (Jvm.Cond.fieldLink "java/lang/String" (9 : Nat) "java/lang/String" "value" "[B") ∈ lw_all := lw_g (lw_at lw_m7 112 rfl) rfl

/-! java/lang/StringLatin1 -/
set_option maxRecDepth 100000
def RJ2 : String := "java/lang/StringLatin1"
abbrev cJ2_indexOf : ByteArray := prog_19_method_22_code
def yJ2_indexOf : MethodName := ⟨RJ2, "indexOf", "([BIII)I"⟩
def dkwJ2_indexOf_1 : List UInt8 := [161, 0, 5, 2, 172, 42, 27, 28, 29, 184, 0, 95, 172]
abbrev dktJ2_indexOf_1 : List UInt8 := dkwJ2_indexOf_1 ++ []
def dkwJ2_indexOf_0 : List UInt8 := [27, 184, 0, 88, 154, 0, 5, 2, 172, 28, 3, 184, 0, 92, 61, 29, 42, 190, 184, 0, 38, 62, 28, 29]
abbrev dktJ2_indexOf_0 : List UInt8 := dkwJ2_indexOf_0 ++ dktJ2_indexOf_1
theorem dksJ2_indexOf_0 : cJ2_indexOf.data.toList.drop 0 = dktJ2_indexOf_0 := by decide +kernel
theorem dksJ2_indexOf_1 : cJ2_indexOf.data.toList.drop 24 = dktJ2_indexOf_1 := dk_seg dksJ2_indexOf_0 24 rfl rfl
theorem dJ2_indexOf_0 : decode cJ2_indexOf 0 = .ok (.iload_n 1, 1) := dk_27 (dk_at dksJ2_indexOf_0 0 rfl rfl)
theorem dJ2_indexOf_1 : decode cJ2_indexOf 1 = .ok (.invokestatic 88, 3) := dk_184 0 88 (dk_at dksJ2_indexOf_0 1 rfl rfl)
theorem dJ2_indexOf_4 : decode cJ2_indexOf 4 = .ok (.ifCond .ne 5, 3) := dk_154 0 5 (dk_at dksJ2_indexOf_0 4 rfl rfl)
theorem dJ2_indexOf_7 : decode cJ2_indexOf 7 = .ok (.iconst (-1), 1) := dk_2 (dk_at dksJ2_indexOf_0 7 rfl rfl)
theorem dJ2_indexOf_8 : decode cJ2_indexOf 8 = .ok (.ireturn, 1) := dk_172 (dk_at dksJ2_indexOf_0 8 rfl rfl)
theorem dJ2_indexOf_9 : decode cJ2_indexOf 9 = .ok (.iload_n 2, 1) := dk_28 (dk_at dksJ2_indexOf_0 9 rfl rfl)
theorem dJ2_indexOf_10 : decode cJ2_indexOf 10 = .ok (.iconst 0, 1) := dk_3 (dk_at dksJ2_indexOf_0 10 rfl rfl)
theorem dJ2_indexOf_11 : decode cJ2_indexOf 11 = .ok (.invokestatic 92, 3) := dk_184 0 92 (dk_at dksJ2_indexOf_0 11 rfl rfl)
theorem dJ2_indexOf_14 : decode cJ2_indexOf 14 = .ok (.istore_n 2, 1) := dk_61 (dk_at dksJ2_indexOf_0 14 rfl rfl)
theorem dJ2_indexOf_15 : decode cJ2_indexOf 15 = .ok (.iload_n 3, 1) := dk_29 (dk_at dksJ2_indexOf_0 15 rfl rfl)
theorem dJ2_indexOf_16 : decode cJ2_indexOf 16 = .ok (.aload_n 0, 1) := dk_42 (dk_at dksJ2_indexOf_0 16 rfl rfl)
theorem dJ2_indexOf_17 : decode cJ2_indexOf 17 = .ok (.arraylength, 1) := dk_190 (dk_at dksJ2_indexOf_0 17 rfl rfl)
theorem dJ2_indexOf_18 : decode cJ2_indexOf 18 = .ok (.invokestatic 38, 3) := dk_184 0 38 (dk_at dksJ2_indexOf_0 18 rfl rfl)
theorem dJ2_indexOf_21 : decode cJ2_indexOf 21 = .ok (.istore_n 3, 1) := dk_62 (dk_at dksJ2_indexOf_0 21 rfl rfl)
theorem dJ2_indexOf_22 : decode cJ2_indexOf 22 = .ok (.iload_n 2, 1) := dk_28 (dk_at dksJ2_indexOf_0 22 rfl rfl)
theorem dJ2_indexOf_23 : decode cJ2_indexOf 23 = .ok (.iload_n 3, 1) := dk_29 (dk_at dksJ2_indexOf_0 23 rfl rfl)
theorem dJ2_indexOf_24 : decode cJ2_indexOf 24 = .ok (.if_icmp .lt 5, 3) := dk_161 0 5 (dk_at dksJ2_indexOf_1 0 rfl rfl)
theorem dJ2_indexOf_27 : decode cJ2_indexOf 27 = .ok (.iconst (-1), 1) := dk_2 (dk_at dksJ2_indexOf_1 3 rfl rfl)
theorem dJ2_indexOf_28 : decode cJ2_indexOf 28 = .ok (.ireturn, 1) := dk_172 (dk_at dksJ2_indexOf_1 4 rfl rfl)
theorem dJ2_indexOf_29 : decode cJ2_indexOf 29 = .ok (.aload_n 0, 1) := dk_42 (dk_at dksJ2_indexOf_1 5 rfl rfl)
theorem dJ2_indexOf_30 : decode cJ2_indexOf 30 = .ok (.iload_n 1, 1) := dk_27 (dk_at dksJ2_indexOf_1 6 rfl rfl)
theorem dJ2_indexOf_31 : decode cJ2_indexOf 31 = .ok (.iload_n 2, 1) := dk_28 (dk_at dksJ2_indexOf_1 7 rfl rfl)
theorem dJ2_indexOf_32 : decode cJ2_indexOf 32 = .ok (.iload_n 3, 1) := dk_29 (dk_at dksJ2_indexOf_1 8 rfl rfl)
theorem dJ2_indexOf_33 : decode cJ2_indexOf 33 = .ok (.invokestatic 95, 3) := dk_184 0 95 (dk_at dksJ2_indexOf_1 9 rfl rfl)
theorem dJ2_indexOf_36 : decode cJ2_indexOf 36 = .ok (.ireturn, 1) := dk_172 (dk_at dksJ2_indexOf_1 12 rfl rfl)
abbrev cJ2_canEncode : ByteArray := prog_19_method_4_code
def yJ2_canEncode : MethodName := ⟨RJ2, "canEncode", "(I)Z"⟩
def dkwJ2_canEncode_0 : List UInt8 := [26, 155, 0, 14, 26, 17, 0, 255, 163, 0, 7, 4, 167, 0, 4, 3, 172]
abbrev dktJ2_canEncode_0 : List UInt8 := dkwJ2_canEncode_0 ++ []
theorem dksJ2_canEncode_0 : cJ2_canEncode.data.toList.drop 0 = dktJ2_canEncode_0 := by decide +kernel
theorem dJ2_canEncode_0 : decode cJ2_canEncode 0 = .ok (.iload_n 0, 1) := dk_26 (dk_at dksJ2_canEncode_0 0 rfl rfl)
theorem dJ2_canEncode_1 : decode cJ2_canEncode 1 = .ok (.ifCond .lt 14, 3) := dk_155 0 14 (dk_at dksJ2_canEncode_0 1 rfl rfl)
theorem dJ2_canEncode_4 : decode cJ2_canEncode 4 = .ok (.iload_n 0, 1) := dk_26 (dk_at dksJ2_canEncode_0 4 rfl rfl)
theorem dJ2_canEncode_5 : decode cJ2_canEncode 5 = .ok (.sipush 255, 3) := dk_17 0 255 (dk_at dksJ2_canEncode_0 5 rfl rfl)
theorem dJ2_canEncode_8 : decode cJ2_canEncode 8 = .ok (.if_icmp .gt 7, 3) := dk_163 0 7 (dk_at dksJ2_canEncode_0 8 rfl rfl)
theorem dJ2_canEncode_11 : decode cJ2_canEncode 11 = .ok (.iconst 1, 1) := dk_4 (dk_at dksJ2_canEncode_0 11 rfl rfl)
theorem dJ2_canEncode_12 : decode cJ2_canEncode 12 = .ok (.goto 4, 3) := dk_167 0 4 (dk_at dksJ2_canEncode_0 12 rfl rfl)
theorem dJ2_canEncode_15 : decode cJ2_canEncode 15 = .ok (.iconst 0, 1) := dk_3 (dk_at dksJ2_canEncode_0 15 rfl rfl)
theorem dJ2_canEncode_16 : decode cJ2_canEncode 16 = .ok (.ireturn, 1) := dk_172 (dk_at dksJ2_canEncode_0 16 rfl rfl)
abbrev cJ2_indexOfChar : ByteArray := prog_19_method_23_code
def yJ2_indexOfChar : MethodName := ⟨RJ2, "indexOfChar", "([BIII)I"⟩
def dkwJ2_indexOfChar_1 : List UInt8 := [172, 132, 5, 1, 167, 255, 235, 2, 172]
abbrev dktJ2_indexOfChar_1 : List UInt8 := dkwJ2_indexOfChar_1 ++ []
def dkwJ2_indexOfChar_0 : List UInt8 := [27, 145, 54, 4, 28, 54, 5, 21, 5, 29, 162, 0, 21, 42, 21, 5, 51, 21, 4, 160, 0, 6, 21, 5]
abbrev dktJ2_indexOfChar_0 : List UInt8 := dkwJ2_indexOfChar_0 ++ dktJ2_indexOfChar_1
theorem dksJ2_indexOfChar_0 : cJ2_indexOfChar.data.toList.drop 0 = dktJ2_indexOfChar_0 := by decide +kernel
theorem dksJ2_indexOfChar_1 : cJ2_indexOfChar.data.toList.drop 24 = dktJ2_indexOfChar_1 := dk_seg dksJ2_indexOfChar_0 24 rfl rfl
theorem dJ2_indexOfChar_0 : decode cJ2_indexOfChar 0 = .ok (.iload_n 1, 1) := dk_27 (dk_at dksJ2_indexOfChar_0 0 rfl rfl)
theorem dJ2_indexOfChar_1 : decode cJ2_indexOfChar 1 = .ok (.i2b, 1) := dk_145 (dk_at dksJ2_indexOfChar_0 1 rfl rfl)
theorem dJ2_indexOfChar_2 : decode cJ2_indexOfChar 2 = .ok (.istore 4, 2) := dk_54 4 (dk_at dksJ2_indexOfChar_0 2 rfl rfl)
theorem dJ2_indexOfChar_4 : decode cJ2_indexOfChar 4 = .ok (.iload_n 2, 1) := dk_28 (dk_at dksJ2_indexOfChar_0 4 rfl rfl)
theorem dJ2_indexOfChar_5 : decode cJ2_indexOfChar 5 = .ok (.istore 5, 2) := dk_54 5 (dk_at dksJ2_indexOfChar_0 5 rfl rfl)
theorem dJ2_indexOfChar_7 : decode cJ2_indexOfChar 7 = .ok (.iload 5, 2) := dk_21 5 (dk_at dksJ2_indexOfChar_0 7 rfl rfl)
theorem dJ2_indexOfChar_9 : decode cJ2_indexOfChar 9 = .ok (.iload_n 3, 1) := dk_29 (dk_at dksJ2_indexOfChar_0 9 rfl rfl)
theorem dJ2_indexOfChar_10 : decode cJ2_indexOfChar 10 = .ok (.if_icmp .ge 21, 3) := dk_162 0 21 (dk_at dksJ2_indexOfChar_0 10 rfl rfl)
theorem dJ2_indexOfChar_13 : decode cJ2_indexOfChar 13 = .ok (.aload_n 0, 1) := dk_42 (dk_at dksJ2_indexOfChar_0 13 rfl rfl)
theorem dJ2_indexOfChar_14 : decode cJ2_indexOfChar 14 = .ok (.iload 5, 2) := dk_21 5 (dk_at dksJ2_indexOfChar_0 14 rfl rfl)
theorem dJ2_indexOfChar_16 : decode cJ2_indexOfChar 16 = .ok (.baload, 1) := dk_51 (dk_at dksJ2_indexOfChar_0 16 rfl rfl)
theorem dJ2_indexOfChar_17 : decode cJ2_indexOfChar 17 = .ok (.iload 4, 2) := dk_21 4 (dk_at dksJ2_indexOfChar_0 17 rfl rfl)
theorem dJ2_indexOfChar_19 : decode cJ2_indexOfChar 19 = .ok (.if_icmp .ne 6, 3) := dk_160 0 6 (dk_at dksJ2_indexOfChar_0 19 rfl rfl)
theorem dJ2_indexOfChar_22 : decode cJ2_indexOfChar 22 = .ok (.iload 5, 2) := dk_21 5 (dk_at dksJ2_indexOfChar_0 22 rfl rfl)
theorem dJ2_indexOfChar_24 : decode cJ2_indexOfChar 24 = .ok (.ireturn, 1) := dk_172 (dk_at dksJ2_indexOfChar_1 0 rfl rfl)
theorem dJ2_indexOfChar_25 : decode cJ2_indexOfChar 25 = .ok (.iinc 5 1, 3) := dk_132 5 1 (dk_at dksJ2_indexOfChar_1 1 rfl rfl)
theorem dJ2_indexOfChar_28 : decode cJ2_indexOfChar 28 = .ok (.goto (-21), 3) := dk_167 255 235 (dk_at dksJ2_indexOfChar_1 4 rfl rfl)
theorem dJ2_indexOfChar_31 : decode cJ2_indexOfChar 31 = .ok (.iconst (-1), 1) := dk_2 (dk_at dksJ2_indexOfChar_1 7 rfl rfl)
theorem dJ2_indexOfChar_32 : decode cJ2_indexOfChar 32 = .ok (.ireturn, 1) := dk_172 (dk_at dksJ2_indexOfChar_1 8 rfl rfl)
theorem q107 : (Jvm.Cond.initialized "java/lang/StringLatin1") ∈ lw_all := lw_g (lw_at lw_m1 6 rfl) rfl
theorem q385 : (Jvm.Cond.static ({ cls := "java/lang/StringLatin1", name := "indexOf", desc := "([BIII)I" } : Jvm.MethodName)) ∈ lw_all := lw_g (lw_at lw_m2 44 rfl) rfl
theorem q386 : (Jvm.Cond.code ({ cls := "java/lang/StringLatin1", name := "indexOf", desc := "([BIII)I" } : Jvm.MethodName) prog_19_method_22_code (4 : Nat) (Option.some Jvm.ClassFile.FieldType.int)) ∈ lw_all := lw_g (lw_at lw_m2 45 rfl) rfl
theorem q387 : (Jvm.Cond.methodLink "java/lang/StringLatin1" (88 : Nat) ({ cls := "java/lang/StringLatin1", name := "canEncode", desc := "(I)Z" } : Jvm.MethodName)) ∈ lw_all := lw_g (lw_at lw_m2 46 rfl) rfl
theorem q388 : (Jvm.Cond.static ({ cls := "java/lang/StringLatin1", name := "canEncode", desc := "(I)Z" } : Jvm.MethodName)) ∈ lw_all := lw_g (lw_at lw_m2 47 rfl) rfl
theorem q389 : (Jvm.Cond.code ({ cls := "java/lang/StringLatin1", name := "canEncode", desc := "(I)Z" } : Jvm.MethodName) prog_19_method_4_code (1 : Nat) (Option.some Jvm.ClassFile.FieldType.boolean)) ∈ lw_all := lw_g (lw_at lw_m2 48 rfl) rfl
theorem q390 : (Jvm.Cond.methodLink "java/lang/StringLatin1" (92 : Nat) ({ cls := "java/lang/Math", name := "max", desc := "(II)I" } : Jvm.MethodName)) ∈ lw_all := lw_g (lw_at lw_m2 49 rfl) rfl
theorem q393 : (Jvm.Cond.methodLink "java/lang/StringLatin1" (38 : Nat) ({ cls := "java/lang/Math", name := "min", desc := "(II)I" } : Jvm.MethodName)) ∈ lw_all := lw_g (lw_at lw_m2 52 rfl) rfl
theorem q394 : (Jvm.Cond.methodLink "java/lang/StringLatin1" (95 : Nat) ({ cls := "java/lang/StringLatin1", name := "indexOfChar", desc := "([BIII)I" } : Jvm.MethodName)) ∈ lw_all := lw_g (lw_at lw_m2 53 rfl) rfl
theorem q395 : (Jvm.Cond.static ({ cls := "java/lang/StringLatin1", name := "indexOfChar", desc := "([BIII)I" } : Jvm.MethodName)) ∈ lw_all := lw_g (lw_at lw_m2 54 rfl) rfl
theorem q396 : (Jvm.Cond.code ({ cls := "java/lang/StringLatin1", name := "indexOfChar", desc := "([BIII)I" } : Jvm.MethodName) prog_19_method_23_code (6 : Nat) (Option.some Jvm.ClassFile.FieldType.int)) ∈ lw_all := lw_g (lw_at lw_m2 55 rfl) rfl

/-! java/lang/Integer -/
set_option maxRecDepth 100000
def RJ10 : String := "java/lang/Integer"
abbrev cJ10_bitCount : ByteArray := prog_15_method_49_code
def yJ10_bitCount : MethodName := ⟨RJ10, "bitCount", "(I)I"⟩
def dkwJ10_bitCount_2 : List UInt8 := [26, 16, 63, 126, 172]
abbrev dktJ10_bitCount_2 : List UInt8 := dkwJ10_bitCount_2 ++ []
def dkwJ10_bitCount_1 : List UInt8 := [26, 26, 7, 124, 96, 19, 1, 11, 126, 59, 26, 26, 16, 8, 124, 96, 59, 26, 26, 16, 16, 124, 96, 59]
abbrev dktJ10_bitCount_1 : List UInt8 := dkwJ10_bitCount_1 ++ dktJ10_bitCount_2
def dkwJ10_bitCount_0 : List UInt8 := [26, 26, 4, 124, 19, 1, 9, 126, 100, 59, 26, 19, 1, 10, 126, 26, 5, 124, 19, 1, 10, 126, 96, 59]
abbrev dktJ10_bitCount_0 : List UInt8 := dkwJ10_bitCount_0 ++ dktJ10_bitCount_1
theorem dksJ10_bitCount_0 : cJ10_bitCount.data.toList.drop 0 = dktJ10_bitCount_0 := by decide +kernel
theorem dksJ10_bitCount_1 : cJ10_bitCount.data.toList.drop 24 = dktJ10_bitCount_1 := dk_seg dksJ10_bitCount_0 24 rfl rfl
theorem dksJ10_bitCount_2 : cJ10_bitCount.data.toList.drop 48 = dktJ10_bitCount_2 := dk_seg dksJ10_bitCount_1 24 rfl rfl
theorem dJ10_bitCount_0 : decode cJ10_bitCount 0 = .ok (.iload_n 0, 1) := dk_26 (dk_at dksJ10_bitCount_0 0 rfl rfl)
theorem dJ10_bitCount_1 : decode cJ10_bitCount 1 = .ok (.iload_n 0, 1) := dk_26 (dk_at dksJ10_bitCount_0 1 rfl rfl)
theorem dJ10_bitCount_2 : decode cJ10_bitCount 2 = .ok (.iconst 1, 1) := dk_4 (dk_at dksJ10_bitCount_0 2 rfl rfl)
theorem dJ10_bitCount_3 : decode cJ10_bitCount 3 = .ok (.iushr, 1) := dk_124 (dk_at dksJ10_bitCount_0 3 rfl rfl)
theorem dJ10_bitCount_4 : decode cJ10_bitCount 4 = .ok (.ldc_w 265, 3) := dk_19 1 9 (dk_at dksJ10_bitCount_0 4 rfl rfl)
theorem dJ10_bitCount_7 : decode cJ10_bitCount 7 = .ok (.iand, 1) := dk_126 (dk_at dksJ10_bitCount_0 7 rfl rfl)
theorem dJ10_bitCount_8 : decode cJ10_bitCount 8 = .ok (.isub, 1) := dk_100 (dk_at dksJ10_bitCount_0 8 rfl rfl)
theorem dJ10_bitCount_9 : decode cJ10_bitCount 9 = .ok (.istore_n 0, 1) := dk_59 (dk_at dksJ10_bitCount_0 9 rfl rfl)
theorem dJ10_bitCount_10 : decode cJ10_bitCount 10 = .ok (.iload_n 0, 1) := dk_26 (dk_at dksJ10_bitCount_0 10 rfl rfl)
theorem dJ10_bitCount_11 : decode cJ10_bitCount 11 = .ok (.ldc_w 266, 3) := dk_19 1 10 (dk_at dksJ10_bitCount_0 11 rfl rfl)
theorem dJ10_bitCount_14 : decode cJ10_bitCount 14 = .ok (.iand, 1) := dk_126 (dk_at dksJ10_bitCount_0 14 rfl rfl)
theorem dJ10_bitCount_15 : decode cJ10_bitCount 15 = .ok (.iload_n 0, 1) := dk_26 (dk_at dksJ10_bitCount_0 15 rfl rfl)
theorem dJ10_bitCount_16 : decode cJ10_bitCount 16 = .ok (.iconst 2, 1) := dk_5 (dk_at dksJ10_bitCount_0 16 rfl rfl)
theorem dJ10_bitCount_17 : decode cJ10_bitCount 17 = .ok (.iushr, 1) := dk_124 (dk_at dksJ10_bitCount_0 17 rfl rfl)
theorem dJ10_bitCount_18 : decode cJ10_bitCount 18 = .ok (.ldc_w 266, 3) := dk_19 1 10 (dk_at dksJ10_bitCount_0 18 rfl rfl)
theorem dJ10_bitCount_21 : decode cJ10_bitCount 21 = .ok (.iand, 1) := dk_126 (dk_at dksJ10_bitCount_0 21 rfl rfl)
theorem dJ10_bitCount_22 : decode cJ10_bitCount 22 = .ok (.iadd, 1) := dk_96 (dk_at dksJ10_bitCount_0 22 rfl rfl)
theorem dJ10_bitCount_23 : decode cJ10_bitCount 23 = .ok (.istore_n 0, 1) := dk_59 (dk_at dksJ10_bitCount_0 23 rfl rfl)
theorem dJ10_bitCount_24 : decode cJ10_bitCount 24 = .ok (.iload_n 0, 1) := dk_26 (dk_at dksJ10_bitCount_1 0 rfl rfl)
theorem dJ10_bitCount_25 : decode cJ10_bitCount 25 = .ok (.iload_n 0, 1) := dk_26 (dk_at dksJ10_bitCount_1 1 rfl rfl)
theorem dJ10_bitCount_26 : decode cJ10_bitCount 26 = .ok (.iconst 4, 1) := dk_7 (dk_at dksJ10_bitCount_1 2 rfl rfl)
theorem dJ10_bitCount_27 : decode cJ10_bitCount 27 = .ok (.iushr, 1) := dk_124 (dk_at dksJ10_bitCount_1 3 rfl rfl)
theorem dJ10_bitCount_28 : decode cJ10_bitCount 28 = .ok (.iadd, 1) := dk_96 (dk_at dksJ10_bitCount_1 4 rfl rfl)
theorem dJ10_bitCount_29 : decode cJ10_bitCount 29 = .ok (.ldc_w 267, 3) := dk_19 1 11 (dk_at dksJ10_bitCount_1 5 rfl rfl)
theorem dJ10_bitCount_32 : decode cJ10_bitCount 32 = .ok (.iand, 1) := dk_126 (dk_at dksJ10_bitCount_1 8 rfl rfl)
theorem dJ10_bitCount_33 : decode cJ10_bitCount 33 = .ok (.istore_n 0, 1) := dk_59 (dk_at dksJ10_bitCount_1 9 rfl rfl)
theorem dJ10_bitCount_34 : decode cJ10_bitCount 34 = .ok (.iload_n 0, 1) := dk_26 (dk_at dksJ10_bitCount_1 10 rfl rfl)
theorem dJ10_bitCount_35 : decode cJ10_bitCount 35 = .ok (.iload_n 0, 1) := dk_26 (dk_at dksJ10_bitCount_1 11 rfl rfl)
theorem dJ10_bitCount_36 : decode cJ10_bitCount 36 = .ok (.bipush 8, 2) := dk_16 8 (dk_at dksJ10_bitCount_1 12 rfl rfl)
theorem dJ10_bitCount_38 : decode cJ10_bitCount 38 = .ok (.iushr, 1) := dk_124 (dk_at dksJ10_bitCount_1 14 rfl rfl)
theorem dJ10_bitCount_39 : decode cJ10_bitCount 39 = .ok (.iadd, 1) := dk_96 (dk_at dksJ10_bitCount_1 15 rfl rfl)
theorem dJ10_bitCount_40 : decode cJ10_bitCount 40 = .ok (.istore_n 0, 1) := dk_59 (dk_at dksJ10_bitCount_1 16 rfl rfl)
theorem dJ10_bitCount_41 : decode cJ10_bitCount 41 = .ok (.iload_n 0, 1) := dk_26 (dk_at dksJ10_bitCount_1 17 rfl rfl)
theorem dJ10_bitCount_42 : decode cJ10_bitCount 42 = .ok (.iload_n 0, 1) := dk_26 (dk_at dksJ10_bitCount_1 18 rfl rfl)
theorem dJ10_bitCount_43 : decode cJ10_bitCount 43 = .ok (.bipush 16, 2) := dk_16 16 (dk_at dksJ10_bitCount_1 19 rfl rfl)
theorem dJ10_bitCount_45 : decode cJ10_bitCount 45 = .ok (.iushr, 1) := dk_124 (dk_at dksJ10_bitCount_1 21 rfl rfl)
theorem dJ10_bitCount_46 : decode cJ10_bitCount 46 = .ok (.iadd, 1) := dk_96 (dk_at dksJ10_bitCount_1 22 rfl rfl)
theorem dJ10_bitCount_47 : decode cJ10_bitCount 47 = .ok (.istore_n 0, 1) := dk_59 (dk_at dksJ10_bitCount_1 23 rfl rfl)
theorem dJ10_bitCount_48 : decode cJ10_bitCount 48 = .ok (.iload_n 0, 1) := dk_26 (dk_at dksJ10_bitCount_2 0 rfl rfl)
theorem dJ10_bitCount_49 : decode cJ10_bitCount 49 = .ok (.bipush 63, 2) := dk_16 63 (dk_at dksJ10_bitCount_2 1 rfl rfl)
theorem dJ10_bitCount_51 : decode cJ10_bitCount 51 = .ok (.iand, 1) := dk_126 (dk_at dksJ10_bitCount_2 3 rfl rfl)
theorem dJ10_bitCount_52 : decode cJ10_bitCount 52 = .ok (.ireturn, 1) := dk_172 (dk_at dksJ10_bitCount_2 4 rfl rfl)
abbrev cJ10_numberOfTrailingZeros : ByteArray := prog_15_method_48_code
def yJ10_numberOfTrailingZeros : MethodName := ⟨RJ10, "numberOfTrailingZeros", "(I)I"⟩
def dkwJ10_numberOfTrailingZeros_3 : List UInt8 := [5, 124, 59, 27, 26, 4, 124, 96, 172]
abbrev dktJ10_numberOfTrailingZeros_3 : List UInt8 := dkwJ10_numberOfTrailingZeros_3 ++ []
def dkwJ10_numberOfTrailingZeros_2 : List UInt8 := [124, 59, 26, 16, 16, 164, 0, 10, 132, 1, 4, 26, 7, 124, 59, 26, 7, 164, 0, 10, 132, 1, 2, 26]
abbrev dktJ10_numberOfTrailingZeros_2 : List UInt8 := dkwJ10_numberOfTrailingZeros_2 ++ dktJ10_numberOfTrailingZeros_3
def dkwJ10_numberOfTrailingZeros_1 : List UInt8 := [164, 0, 11, 132, 1, 16, 26, 16, 16, 124, 59, 26, 17, 1, 0, 164, 0, 11, 132, 1, 8, 26, 16, 8]
abbrev dktJ10_numberOfTrailingZeros_1 : List UInt8 := dkwJ10_numberOfTrailingZeros_1 ++ dktJ10_numberOfTrailingZeros_2
def dkwJ10_numberOfTrailingZeros_0 : List UInt8 := [26, 2, 130, 26, 4, 100, 126, 59, 26, 157, 0, 8, 26, 16, 32, 126, 172, 4, 60, 26, 19, 1, 8]
abbrev dktJ10_numberOfTrailingZeros_0 : List UInt8 := dkwJ10_numberOfTrailingZeros_0 ++ dktJ10_numberOfTrailingZeros_1
theorem dksJ10_numberOfTrailingZeros_0 : cJ10_numberOfTrailingZeros.data.toList.drop 0 = dktJ10_numberOfTrailingZeros_0 := by decide +kernel
theorem dksJ10_numberOfTrailingZeros_1 : cJ10_numberOfTrailingZeros.data.toList.drop 23 = dktJ10_numberOfTrailingZeros_1 := dk_seg dksJ10_numberOfTrailingZeros_0 23 rfl rfl
theorem dksJ10_numberOfTrailingZeros_2 : cJ10_numberOfTrailingZeros.data.toList.drop 47 = dktJ10_numberOfTrailingZeros_2 := dk_seg dksJ10_numberOfTrailingZeros_1 24 rfl rfl
theorem dksJ10_numberOfTrailingZeros_3 : cJ10_numberOfTrailingZeros.data.toList.drop 71 = dktJ10_numberOfTrailingZeros_3 := dk_seg dksJ10_numberOfTrailingZeros_2 24 rfl rfl
theorem dJ10_numberOfTrailingZeros_0 : decode cJ10_numberOfTrailingZeros 0 = .ok (.iload_n 0, 1) := dk_26 (dk_at dksJ10_numberOfTrailingZeros_0 0 rfl rfl)
theorem dJ10_numberOfTrailingZeros_1 : decode cJ10_numberOfTrailingZeros 1 = .ok (.iconst (-1), 1) := dk_2 (dk_at dksJ10_numberOfTrailingZeros_0 1 rfl rfl)
theorem dJ10_numberOfTrailingZeros_2 : decode cJ10_numberOfTrailingZeros 2 = .ok (.ixor, 1) := dk_130 (dk_at dksJ10_numberOfTrailingZeros_0 2 rfl rfl)
theorem dJ10_numberOfTrailingZeros_3 : decode cJ10_numberOfTrailingZeros 3 = .ok (.iload_n 0, 1) := dk_26 (dk_at dksJ10_numberOfTrailingZeros_0 3 rfl rfl)
theorem dJ10_numberOfTrailingZeros_4 : decode cJ10_numberOfTrailingZeros 4 = .ok (.iconst 1, 1) := dk_4 (dk_at dksJ10_numberOfTrailingZeros_0 4 rfl rfl)
theorem dJ10_numberOfTrailingZeros_5 : decode cJ10_numberOfTrailingZeros 5 = .ok (.isub, 1) := dk_100 (dk_at dksJ10_numberOfTrailingZeros_0 5 rfl rfl)
theorem dJ10_numberOfTrailingZeros_6 : decode cJ10_numberOfTrailingZeros 6 = .ok (.iand, 1) := dk_126 (dk_at dksJ10_numberOfTrailingZeros_0 6 rfl rfl)
theorem dJ10_numberOfTrailingZeros_7 : decode cJ10_numberOfTrailingZeros 7 = .ok (.istore_n 0, 1) := dk_59 (dk_at dksJ10_numberOfTrailingZeros_0 7 rfl rfl)
theorem dJ10_numberOfTrailingZeros_8 : decode cJ10_numberOfTrailingZeros 8 = .ok (.iload_n 0, 1) := dk_26 (dk_at dksJ10_numberOfTrailingZeros_0 8 rfl rfl)
theorem dJ10_numberOfTrailingZeros_9 : decode cJ10_numberOfTrailingZeros 9 = .ok (.ifCond .gt 8, 3) := dk_157 0 8 (dk_at dksJ10_numberOfTrailingZeros_0 9 rfl rfl)
theorem dJ10_numberOfTrailingZeros_12 : decode cJ10_numberOfTrailingZeros 12 = .ok (.iload_n 0, 1) := dk_26 (dk_at dksJ10_numberOfTrailingZeros_0 12 rfl rfl)
theorem dJ10_numberOfTrailingZeros_13 : decode cJ10_numberOfTrailingZeros 13 = .ok (.bipush 32, 2) := dk_16 32 (dk_at dksJ10_numberOfTrailingZeros_0 13 rfl rfl)
theorem dJ10_numberOfTrailingZeros_15 : decode cJ10_numberOfTrailingZeros 15 = .ok (.iand, 1) := dk_126 (dk_at dksJ10_numberOfTrailingZeros_0 15 rfl rfl)
theorem dJ10_numberOfTrailingZeros_16 : decode cJ10_numberOfTrailingZeros 16 = .ok (.ireturn, 1) := dk_172 (dk_at dksJ10_numberOfTrailingZeros_0 16 rfl rfl)
theorem dJ10_numberOfTrailingZeros_17 : decode cJ10_numberOfTrailingZeros 17 = .ok (.iconst 1, 1) := dk_4 (dk_at dksJ10_numberOfTrailingZeros_0 17 rfl rfl)
theorem dJ10_numberOfTrailingZeros_18 : decode cJ10_numberOfTrailingZeros 18 = .ok (.istore_n 1, 1) := dk_60 (dk_at dksJ10_numberOfTrailingZeros_0 18 rfl rfl)
theorem dJ10_numberOfTrailingZeros_19 : decode cJ10_numberOfTrailingZeros 19 = .ok (.iload_n 0, 1) := dk_26 (dk_at dksJ10_numberOfTrailingZeros_0 19 rfl rfl)
theorem dJ10_numberOfTrailingZeros_20 : decode cJ10_numberOfTrailingZeros 20 = .ok (.ldc_w 264, 3) := dk_19 1 8 (dk_at dksJ10_numberOfTrailingZeros_0 20 rfl rfl)
theorem dJ10_numberOfTrailingZeros_23 : decode cJ10_numberOfTrailingZeros 23 = .ok (.if_icmp .le 11, 3) := dk_164 0 11 (dk_at dksJ10_numberOfTrailingZeros_1 0 rfl rfl)
theorem dJ10_numberOfTrailingZeros_26 : decode cJ10_numberOfTrailingZeros 26 = .ok (.iinc 1 16, 3) := dk_132 1 16 (dk_at dksJ10_numberOfTrailingZeros_1 3 rfl rfl)
theorem dJ10_numberOfTrailingZeros_29 : decode cJ10_numberOfTrailingZeros 29 = .ok (.iload_n 0, 1) := dk_26 (dk_at dksJ10_numberOfTrailingZeros_1 6 rfl rfl)
theorem dJ10_numberOfTrailingZeros_30 : decode cJ10_numberOfTrailingZeros 30 = .ok (.bipush 16, 2) := dk_16 16 (dk_at dksJ10_numberOfTrailingZeros_1 7 rfl rfl)
theorem dJ10_numberOfTrailingZeros_32 : decode cJ10_numberOfTrailingZeros 32 = .ok (.iushr, 1) := dk_124 (dk_at dksJ10_numberOfTrailingZeros_1 9 rfl rfl)
theorem dJ10_numberOfTrailingZeros_33 : decode cJ10_numberOfTrailingZeros 33 = .ok (.istore_n 0, 1) := dk_59 (dk_at dksJ10_numberOfTrailingZeros_1 10 rfl rfl)
theorem dJ10_numberOfTrailingZeros_34 : decode cJ10_numberOfTrailingZeros 34 = .ok (.iload_n 0, 1) := dk_26 (dk_at dksJ10_numberOfTrailingZeros_1 11 rfl rfl)
theorem dJ10_numberOfTrailingZeros_35 : decode cJ10_numberOfTrailingZeros 35 = .ok (.sipush 256, 3) := dk_17 1 0 (dk_at dksJ10_numberOfTrailingZeros_1 12 rfl rfl)
theorem dJ10_numberOfTrailingZeros_38 : decode cJ10_numberOfTrailingZeros 38 = .ok (.if_icmp .le 11, 3) := dk_164 0 11 (dk_at dksJ10_numberOfTrailingZeros_1 15 rfl rfl)
theorem dJ10_numberOfTrailingZeros_41 : decode cJ10_numberOfTrailingZeros 41 = .ok (.iinc 1 8, 3) := dk_132 1 8 (dk_at dksJ10_numberOfTrailingZeros_1 18 rfl rfl)
theorem dJ10_numberOfTrailingZeros_44 : decode cJ10_numberOfTrailingZeros 44 = .ok (.iload_n 0, 1) := dk_26 (dk_at dksJ10_numberOfTrailingZeros_1 21 rfl rfl)
theorem dJ10_numberOfTrailingZeros_45 : decode cJ10_numberOfTrailingZeros 45 = .ok (.bipush 8, 2) := dk_16 8 (dk_at dksJ10_numberOfTrailingZeros_1 22 rfl rfl)
theorem dJ10_numberOfTrailingZeros_47 : decode cJ10_numberOfTrailingZeros 47 = .ok (.iushr, 1) := dk_124 (dk_at dksJ10_numberOfTrailingZeros_2 0 rfl rfl)
theorem dJ10_numberOfTrailingZeros_48 : decode cJ10_numberOfTrailingZeros 48 = .ok (.istore_n 0, 1) := dk_59 (dk_at dksJ10_numberOfTrailingZeros_2 1 rfl rfl)
theorem dJ10_numberOfTrailingZeros_49 : decode cJ10_numberOfTrailingZeros 49 = .ok (.iload_n 0, 1) := dk_26 (dk_at dksJ10_numberOfTrailingZeros_2 2 rfl rfl)
theorem dJ10_numberOfTrailingZeros_50 : decode cJ10_numberOfTrailingZeros 50 = .ok (.bipush 16, 2) := dk_16 16 (dk_at dksJ10_numberOfTrailingZeros_2 3 rfl rfl)
theorem dJ10_numberOfTrailingZeros_52 : decode cJ10_numberOfTrailingZeros 52 = .ok (.if_icmp .le 10, 3) := dk_164 0 10 (dk_at dksJ10_numberOfTrailingZeros_2 5 rfl rfl)
theorem dJ10_numberOfTrailingZeros_55 : decode cJ10_numberOfTrailingZeros 55 = .ok (.iinc 1 4, 3) := dk_132 1 4 (dk_at dksJ10_numberOfTrailingZeros_2 8 rfl rfl)
theorem dJ10_numberOfTrailingZeros_58 : decode cJ10_numberOfTrailingZeros 58 = .ok (.iload_n 0, 1) := dk_26 (dk_at dksJ10_numberOfTrailingZeros_2 11 rfl rfl)
theorem dJ10_numberOfTrailingZeros_59 : decode cJ10_numberOfTrailingZeros 59 = .ok (.iconst 4, 1) := dk_7 (dk_at dksJ10_numberOfTrailingZeros_2 12 rfl rfl)
theorem dJ10_numberOfTrailingZeros_60 : decode cJ10_numberOfTrailingZeros 60 = .ok (.iushr, 1) := dk_124 (dk_at dksJ10_numberOfTrailingZeros_2 13 rfl rfl)
theorem dJ10_numberOfTrailingZeros_61 : decode cJ10_numberOfTrailingZeros 61 = .ok (.istore_n 0, 1) := dk_59 (dk_at dksJ10_numberOfTrailingZeros_2 14 rfl rfl)
theorem dJ10_numberOfTrailingZeros_62 : decode cJ10_numberOfTrailingZeros 62 = .ok (.iload_n 0, 1) := dk_26 (dk_at dksJ10_numberOfTrailingZeros_2 15 rfl rfl)
theorem dJ10_numberOfTrailingZeros_63 : decode cJ10_numberOfTrailingZeros 63 = .ok (.iconst 4, 1) := dk_7 (dk_at dksJ10_numberOfTrailingZeros_2 16 rfl rfl)
theorem dJ10_numberOfTrailingZeros_64 : decode cJ10_numberOfTrailingZeros 64 = .ok (.if_icmp .le 10, 3) := dk_164 0 10 (dk_at dksJ10_numberOfTrailingZeros_2 17 rfl rfl)
theorem dJ10_numberOfTrailingZeros_67 : decode cJ10_numberOfTrailingZeros 67 = .ok (.iinc 1 2, 3) := dk_132 1 2 (dk_at dksJ10_numberOfTrailingZeros_2 20 rfl rfl)
theorem dJ10_numberOfTrailingZeros_70 : decode cJ10_numberOfTrailingZeros 70 = .ok (.iload_n 0, 1) := dk_26 (dk_at dksJ10_numberOfTrailingZeros_2 23 rfl rfl)
theorem dJ10_numberOfTrailingZeros_71 : decode cJ10_numberOfTrailingZeros 71 = .ok (.iconst 2, 1) := dk_5 (dk_at dksJ10_numberOfTrailingZeros_3 0 rfl rfl)
theorem dJ10_numberOfTrailingZeros_72 : decode cJ10_numberOfTrailingZeros 72 = .ok (.iushr, 1) := dk_124 (dk_at dksJ10_numberOfTrailingZeros_3 1 rfl rfl)
theorem dJ10_numberOfTrailingZeros_73 : decode cJ10_numberOfTrailingZeros 73 = .ok (.istore_n 0, 1) := dk_59 (dk_at dksJ10_numberOfTrailingZeros_3 2 rfl rfl)
theorem dJ10_numberOfTrailingZeros_74 : decode cJ10_numberOfTrailingZeros 74 = .ok (.iload_n 1, 1) := dk_27 (dk_at dksJ10_numberOfTrailingZeros_3 3 rfl rfl)
theorem dJ10_numberOfTrailingZeros_75 : decode cJ10_numberOfTrailingZeros 75 = .ok (.iload_n 0, 1) := dk_26 (dk_at dksJ10_numberOfTrailingZeros_3 4 rfl rfl)
theorem dJ10_numberOfTrailingZeros_76 : decode cJ10_numberOfTrailingZeros 76 = .ok (.iconst 1, 1) := dk_4 (dk_at dksJ10_numberOfTrailingZeros_3 5 rfl rfl)
theorem dJ10_numberOfTrailingZeros_77 : decode cJ10_numberOfTrailingZeros 77 = .ok (.iushr, 1) := dk_124 (dk_at dksJ10_numberOfTrailingZeros_3 6 rfl rfl)
theorem dJ10_numberOfTrailingZeros_78 : decode cJ10_numberOfTrailingZeros 78 = .ok (.iadd, 1) := dk_96 (dk_at dksJ10_numberOfTrailingZeros_3 7 rfl rfl)
theorem dJ10_numberOfTrailingZeros_79 : decode cJ10_numberOfTrailingZeros 79 = .ok (.ireturn, 1) := dk_172 (dk_at dksJ10_numberOfTrailingZeros_3 8 rfl rfl)
theorem q120 : (Jvm.Cond.initialized "java/lang/Integer") ∈ lw_all := lw_g (lw_at lw_m1 19 rfl) rfl
theorem q616 : (Jvm.Cond.static ({ cls := "java/lang/Integer", name := "bitCount", desc := "(I)I" } : Jvm.MethodName)) ∈ lw_all := lw_g (lw_at lw_m3 35 rfl) rfl
theorem q617 : (Jvm.Cond.code ({ cls := "java/lang/Integer", name := "bitCount", desc := "(I)I" } : Jvm.MethodName) prog_15_method_49_code (1 : Nat) (Option.some Jvm.ClassFile.FieldType.int)) ∈ lw_all := lw_g (lw_at lw_m3 36 rfl) rfl
theorem q618 : (Jvm.Cond.constant "java/lang/Integer" (265 : Nat) (1431655765 : Int32)) ∈ lw_all := lw_g (lw_at lw_m3 37 rfl) rfl
theorem q619 : (Jvm.Cond.constant "java/lang/Integer" (266 : Nat) (858993459 : Int32)) ∈ lw_all := lw_g (lw_at lw_m3 38 rfl) rfl
theorem q620 : (Jvm.Cond.constant "java/lang/Integer" (267 : Nat) (252645135 : Int32)) ∈ lw_all := lw_g (lw_at lw_m3 39 rfl) rfl
theorem q875 : (Jvm.Cond.static ({ cls := "java/lang/Integer", name := "numberOfTrailingZeros", desc := "(I)I" } : Jvm.MethodName)) ∈ lw_all := lw_g (lw_at lw_m4 54 rfl) rfl
theorem q876 : (Jvm.Cond.code ({ cls := "java/lang/Integer", name := "numberOfTrailingZeros", desc := "(I)I" } : Jvm.MethodName) prog_15_method_48_code (2 : Nat) (Option.some Jvm.ClassFile.FieldType.int)) ∈ lw_all := lw_g (lw_at lw_m4 55 rfl) rfl
theorem q877 : (Jvm.Cond.constant "java/lang/Integer" (264 : Nat) (65536 : Int32)) ∈ lw_all := lw_g (lw_at lw_m4 56 rfl) rfl

/-! java/lang/Object -/
set_option maxRecDepth 100000
def RJ11 : String := "java/lang/Object"
abbrev cJ11_init : ByteArray := object_method_1_code
def yJ11_init : MethodName := ⟨RJ11, "<init>", "()V"⟩
theorem dJ11_init_0 : decode cJ11_init 0 = .ok (.return_, 1) := by decide +kernel
theorem q128 : (Jvm.Cond.instanceMethod ({ cls := "java/lang/Object", name := "<init>", desc := "()V" } : Jvm.MethodName)) ∈ lw_all := lw_g (lw_at lw_m1 27 rfl) rfl
theorem q129 : (Jvm.Cond.code ({ cls := "java/lang/Object", name := "<init>", desc := "()V" } : Jvm.MethodName) object_method_1_code (1 : Nat) (Option.none : Option Jvm.ClassFile.FieldType)) ∈ lw_all := lw_g (lw_at lw_m1 28 rfl) rfl

/-! java/lang/Throwable -/
set_option maxRecDepth 100000
def RJ6 : String := "java/lang/Throwable"
def TJ6 : u_T := fun k => match k with
  | 0 => ("java/lang/Throwable", "cause", "Ljava/lang/Throwable;", false)
  | 1 => ("java/lang/Throwable", "stackTrace", "[Ljava/lang/StackTraceElement;", false)
  | 2 => ("java/lang/Throwable", "suppressedExceptions", "Ljava/util/List;", false)
  | 3 => ("java/lang/Throwable", "detailMessage", "Ljava/lang/String;", false)
  | _ => ("java/lang/Throwable", "backtrace", "Ljava/lang/Object;", false)
def tyJ6 : Nat → FieldType := fun k => match k with
  | 0 => .object "java/lang/Throwable"
  | 1 => .array (.object "java/lang/StackTraceElement")
  | 2 => .object "java/util/List"
  | 3 => .object "java/lang/String"
  | _ => .object "java/lang/Object"
abbrev wsJ60 : List Cond := u_ws RJ6 TJ6 5
theorem nmJ6 : ∀ a, a < 5 → ∀ b, b < 5 → a ≠ b → (TJ6 a).2.1 ≠ (TJ6 b).2.1 := by decide +kernel
theorem tyJ6_ok : ∀ k, k < 5 → parseFieldDescriptor (TJ6 k).2.2.1 = some (tyJ6 k) := by decide +kernel
abbrev cJ6_init : ByteArray := prog_22_method_1_code
def yJ6_init : MethodName := ⟨RJ6, "<init>", "()V"⟩
def dkwJ6_init_1 : List UInt8 := [182, 0, 27, 87, 177]
abbrev dktJ6_init_1 : List UInt8 := dkwJ6_init_1 ++ []
def dkwJ6_init_0 : List UInt8 := [42, 183, 0, 1, 42, 42, 181, 0, 7, 42, 178, 0, 13, 181, 0, 17, 42, 178, 0, 20, 181, 0, 24, 42]
abbrev dktJ6_init_0 : List UInt8 := dkwJ6_init_0 ++ dktJ6_init_1
theorem dksJ6_init_0 : cJ6_init.data.toList.drop 0 = dktJ6_init_0 := by decide +kernel
theorem dksJ6_init_1 : cJ6_init.data.toList.drop 24 = dktJ6_init_1 := dk_seg dksJ6_init_0 24 rfl rfl
theorem dJ6_init_0 : decode cJ6_init 0 = .ok (.aload_n 0, 1) := dk_42 (dk_at dksJ6_init_0 0 rfl rfl)
theorem dJ6_init_1 : decode cJ6_init 1 = .ok (.invokespecial 1, 3) := dk_183 0 1 (dk_at dksJ6_init_0 1 rfl rfl)
theorem dJ6_init_4 : decode cJ6_init 4 = .ok (.aload_n 0, 1) := dk_42 (dk_at dksJ6_init_0 4 rfl rfl)
theorem dJ6_init_5 : decode cJ6_init 5 = .ok (.aload_n 0, 1) := dk_42 (dk_at dksJ6_init_0 5 rfl rfl)
theorem dJ6_init_6 : decode cJ6_init 6 = .ok (.putfield 7, 3) := dk_181 0 7 (dk_at dksJ6_init_0 6 rfl rfl)
theorem dJ6_init_9 : decode cJ6_init 9 = .ok (.aload_n 0, 1) := dk_42 (dk_at dksJ6_init_0 9 rfl rfl)
theorem dJ6_init_10 : decode cJ6_init 10 = .ok (.getstatic 13, 3) := dk_178 0 13 (dk_at dksJ6_init_0 10 rfl rfl)
theorem dJ6_init_13 : decode cJ6_init 13 = .ok (.putfield 17, 3) := dk_181 0 17 (dk_at dksJ6_init_0 13 rfl rfl)
theorem dJ6_init_16 : decode cJ6_init 16 = .ok (.aload_n 0, 1) := dk_42 (dk_at dksJ6_init_0 16 rfl rfl)
theorem dJ6_init_17 : decode cJ6_init 17 = .ok (.getstatic 20, 3) := dk_178 0 20 (dk_at dksJ6_init_0 17 rfl rfl)
theorem dJ6_init_20 : decode cJ6_init 20 = .ok (.putfield 24, 3) := dk_181 0 24 (dk_at dksJ6_init_0 20 rfl rfl)
theorem dJ6_init_23 : decode cJ6_init 23 = .ok (.aload_n 0, 1) := dk_42 (dk_at dksJ6_init_0 23 rfl rfl)
theorem dJ6_init_24 : decode cJ6_init 24 = .ok (.invokevirtual 27, 3) := dk_182 0 27 (dk_at dksJ6_init_1 0 rfl rfl)
theorem dJ6_init_27 : decode cJ6_init 27 = .ok (.pop, 1) := dk_87 (dk_at dksJ6_init_1 3 rfl rfl)
theorem dJ6_init_28 : decode cJ6_init 28 = .ok (.return_, 1) := dk_177 (dk_at dksJ6_init_1 4 rfl rfl)
theorem q116 : (Jvm.Cond.initialized "java/lang/Throwable") ∈ lw_all := lw_g (lw_at lw_m1 15 rfl) rfl
theorem q986 : (Jvm.Cond.declares ({ cls := "java/lang/Throwable", name := "<init>", desc := "()V" } : Jvm.MethodName)) ∈ lw_tbl := lw_at lw_m4 165 rfl
theorem q987 : (Jvm.Cond.declares ({ cls := "java/lang/Throwable", name := "<init>", desc := "(Ljava/lang/String;)V" } : Jvm.MethodName)) ∈ lw_tbl := lw_at lw_m4 166 rfl
theorem q991 : (Jvm.Cond.lays "java/lang/Throwable" "java/lang/Throwable" "cause" "Ljava/lang/Throwable;") ∈ lw_all := lw_g (lw_at lw_m4 170 rfl) rfl
theorem q993 : (Jvm.Cond.lays "java/lang/Throwable" "java/lang/Throwable" "stackTrace" "[Ljava/lang/StackTraceElement;") ∈ lw_all := lw_g (lw_at lw_m4 172 rfl) rfl
theorem q995 : (Jvm.Cond.lays "java/lang/Throwable" "java/lang/Throwable" "suppressedExceptions" "Ljava/util/List;") ∈ lw_all := lw_g (lw_at lw_m4 174 rfl) rfl
theorem q997 : (Jvm.Cond.lays "java/lang/Throwable" "java/lang/Throwable" "detailMessage" "Ljava/lang/String;") ∈ lw_all := lw_g (lw_at lw_m4 176 rfl) rfl
theorem q999 : (Jvm.Cond.lays "java/lang/Throwable" "java/lang/Throwable" "backtrace" "Ljava/lang/Object;") ∈ lw_all := lw_g (lw_at lw_m4 178 rfl) rfl
theorem q1000 : (Jvm.Cond.fieldLink "java/lang/Throwable" (198 : Nat) "java/lang/Throwable" "backtrace" "Ljava/lang/Object;") ∈ lw_all := lw_g (lw_at lw_m4 179 rfl) rfl
theorem q1001 : (Jvm.Cond.superclass "java/lang/Throwable" "java/lang/Object") ∈ lw_all := lw_g (lw_at lw_m4 180 rfl) rfl
theorem q1002 : (Jvm.Cond.instanceMethod ({ cls := "java/lang/Throwable", name := "<init>", desc := "()V" } : Jvm.MethodName)) ∈ lw_all := lw_g (lw_at lw_m4 181 rfl) rfl
theorem q1003 : (Jvm.Cond.code ({ cls := "java/lang/Throwable", name := "<init>", desc := "()V" } : Jvm.MethodName) prog_22_method_1_code (1 : Nat) (Option.none : Option Jvm.ClassFile.FieldType)) ∈ lw_all := lw_g (lw_at lw_m4 182 rfl) rfl
theorem q1004 : (Jvm.Cond.methodLink "java/lang/Throwable" (1 : Nat) ({ cls := "java/lang/Object", name := "<init>", desc := "()V" } : Jvm.MethodName)) ∈ lw_all := lw_g (lw_at lw_m4 183 rfl) rfl
theorem q1005 : (Jvm.Cond.fieldLink "java/lang/Throwable" (13 : Nat) "java/lang/Throwable" "UNASSIGNED_STACK" "[Ljava/lang/StackTraceElement;") ∈ lw_all := lw_g (lw_at lw_m4 184 rfl) rfl
theorem q1006 : (Jvm.Cond.laysStatic "java/lang/Throwable" "UNASSIGNED_STACK" "[Ljava/lang/StackTraceElement;") ∈ lw_tbl := lw_at lw_m4 185 rfl
theorem q1007 : (Jvm.Cond.fieldLink "java/lang/Throwable" (20 : Nat) "java/lang/Throwable" "SUPPRESSED_SENTINEL" "Ljava/util/List;") ∈ lw_all := lw_g (lw_at lw_m4 186 rfl) rfl
theorem q1008 : (Jvm.Cond.laysStatic "java/lang/Throwable" "SUPPRESSED_SENTINEL" "Ljava/util/List;") ∈ lw_tbl := lw_at lw_m4 187 rfl
theorem q1009 : (Jvm.Cond.methodLink "java/lang/Throwable" (27 : Nat) ({ cls := "java/lang/Throwable", name := "fillInStackTrace", desc := "()Ljava/lang/Throwable;" } : Jvm.MethodName)) ∈ lw_all := lw_g (lw_at lw_m4 188 rfl) rfl
theorem q1010 : (Jvm.Cond.instanceMethod ({ cls := "java/lang/Throwable", name := "fillInStackTrace", desc := "()Ljava/lang/Throwable;" } : Jvm.MethodName)) ∈ lw_all := lw_g (lw_at lw_m4 189 rfl) rfl
theorem q1011 : (Jvm.Cond.sameMethod "java/lang/Throwable" "java/lang/Throwable" "fillInStackTrace" "()Ljava/lang/Throwable;") ∈ lw_all := lw_g (lw_at lw_m4 190 rfl) rfl
theorem q1012 : (Jvm.Cond.codeSync ({ cls := "java/lang/Throwable", name := "fillInStackTrace", desc := "()Ljava/lang/Throwable;" } : Jvm.MethodName) prog_22_method_18_code (1 : Nat) (Option.some (Jvm.ClassFile.FieldType.object "java/lang/Throwable"))) ∈ lw_all := lw_g (lw_at lw_m4 191 rfl) rfl
theorem q1013 : (Jvm.Cond.methodLink "java/lang/Throwable" (202 : Nat) ({ cls := "java/lang/Throwable", name := "fillInStackTrace", desc := "(I)Ljava/lang/Throwable;" } : Jvm.MethodName)) ∈ lw_all := lw_g (lw_at lw_m4 192 rfl) rfl
theorem q1014 : (Jvm.Cond.privateMethod ({ cls := "java/lang/Throwable", name := "fillInStackTrace", desc := "(I)Ljava/lang/Throwable;" } : Jvm.MethodName)) ∈ lw_tbl := lw_at lw_m4 193 rfl
theorem q1015 : (Jvm.Cond.instanceMethod ({ cls := "java/lang/Throwable", name := "fillInStackTrace", desc := "(I)Ljava/lang/Throwable;" } : Jvm.MethodName)) ∈ lw_all := lw_g (lw_at lw_m4 194 rfl) rfl
theorem q1016 : (Jvm.Cond.instantiable "java/lang/Throwable" (6 : Nat)) ∈ lw_all := lw_g (lw_at lw_m4 195 rfl) rfl
theorem q1017 : (Jvm.Cond.native ({ cls := "java/lang/Throwable", name := "fillInStackTrace", desc := "(I)Ljava/lang/Throwable;" } : Jvm.MethodName)) ∈ lw_all := lw_g (lw_at lw_m4 196 rfl) rfl
theorem q1028 : (Jvm.Cond.fieldLink "java/lang/Throwable" (198 : Nat) "java/lang/Throwable" "backtrace" "Ljava/lang/Object;") ∈ lw_all := lw_g (lw_at lw_m4 207 rfl) rfl
theorem q1029 : (Jvm.Cond.fieldLink "java/lang/Throwable" (7 : Nat) "java/lang/Throwable" "cause" "Ljava/lang/Throwable;") ∈ lw_all := lw_g (lw_at lw_m4 208 rfl) rfl
theorem q1030 : (Jvm.Cond.fieldLink "java/lang/Throwable" (17 : Nat) "java/lang/Throwable" "stackTrace" "[Ljava/lang/StackTraceElement;") ∈ lw_all := lw_g (lw_at lw_m4 209 rfl) rfl
theorem q1031 : (Jvm.Cond.fieldLink "java/lang/Throwable" (24 : Nat) "java/lang/Throwable" "suppressedExceptions" "Ljava/util/List;") ∈ lw_all := lw_g (lw_at lw_m4 210 rfl) rfl
theorem q1032 : (Jvm.Cond.soleField "java/lang/Throwable" "backtrace") ∈ lw_all := lw_g (lw_at lw_m4 211 rfl) rfl
theorem q1033 : (Jvm.Cond.soleField "java/lang/Throwable" "detailMessage") ∈ lw_all := lw_g (lw_at lw_m4 212 rfl) rfl
theorem q1034 : (Jvm.Cond.soleField "java/lang/Throwable" "cause") ∈ lw_all := lw_g (lw_at lw_m4 213 rfl) rfl
theorem q1035 : (Jvm.Cond.soleField "java/lang/Throwable" "stackTrace") ∈ lw_all := lw_g (lw_at lw_m4 214 rfl) rfl
theorem q1037 : (Jvm.Cond.soleField "java/lang/Throwable" "depth") ∈ lw_all := lw_g (lw_at lw_m4 216 rfl) rfl
theorem q1038 : (Jvm.Cond.soleField "java/lang/Throwable" "suppressedExceptions") ∈ lw_all := lw_g (lw_at lw_m4 217 rfl) rfl
theorem q1641 : (Jvm.Cond.sameMethod "java/lang/Throwable" "java/lang/Throwable" "fillInStackTrace" "(I)Ljava/lang/Throwable;") ∈ lw_all := lw_g (lw_at lw_m7 100 rfl) rfl
theorem q1650 : (Jvm.Cond.castable "java/lang/Throwable" "java/lang/Object") ∈ lw_tbl := lw_at lw_m7 109 rfl
theorem in_J6 : ∀ w ∈ wsJ60, w ∈ lw_all := lw_in wsJ60 [991, 993, 995, 997, 999] (by decide +kernel) (by decide +kernel)

/-! java/lang/Exception -/
set_option maxRecDepth 100000
def RJ7 : String := "java/lang/Exception"
abbrev cJ7_init : ByteArray := prog_14_method_1_code
def yJ7_init : MethodName := ⟨RJ7, "<init>", "()V"⟩
theorem dJ7_init_0 : decode cJ7_init 0 = .ok (.aload_n 0, 1) := by decide +kernel
theorem dJ7_init_1 : decode cJ7_init 1 = .ok (.invokespecial 1, 3) := by decide +kernel
theorem dJ7_init_4 : decode cJ7_init 4 = .ok (.return_, 1) := by decide +kernel
theorem q117 : (Jvm.Cond.initialized "java/lang/Exception") ∈ lw_all := lw_g (lw_at lw_m1 16 rfl) rfl
theorem q984 : (Jvm.Cond.declares ({ cls := "java/lang/Exception", name := "<init>", desc := "()V" } : Jvm.MethodName)) ∈ lw_tbl := lw_at lw_m4 163 rfl
theorem q985 : (Jvm.Cond.declares ({ cls := "java/lang/Exception", name := "<init>", desc := "(Ljava/lang/String;)V" } : Jvm.MethodName)) ∈ lw_tbl := lw_at lw_m4 164 rfl
theorem q1025 : (Jvm.Cond.instanceMethod ({ cls := "java/lang/Exception", name := "<init>", desc := "()V" } : Jvm.MethodName)) ∈ lw_all := lw_g (lw_at lw_m4 204 rfl) rfl
theorem q1026 : (Jvm.Cond.code ({ cls := "java/lang/Exception", name := "<init>", desc := "()V" } : Jvm.MethodName) prog_14_method_1_code (1 : Nat) (Option.none : Option Jvm.ClassFile.FieldType)) ∈ lw_all := lw_g (lw_at lw_m4 205 rfl) rfl
theorem q1027 : (Jvm.Cond.methodLink "java/lang/Exception" (1 : Nat) ({ cls := "java/lang/Throwable", name := "<init>", desc := "()V" } : Jvm.MethodName)) ∈ lw_all := lw_g (lw_at lw_m4 206 rfl) rfl

/-! java/lang/RuntimeException -/
set_option maxRecDepth 100000
def RJ8 : String := "java/lang/RuntimeException"
abbrev cJ8_init : ByteArray := prog_17_method_1_code
def yJ8_init : MethodName := ⟨RJ8, "<init>", "()V"⟩
theorem dJ8_init_0 : decode cJ8_init 0 = .ok (.aload_n 0, 1) := by decide +kernel
theorem dJ8_init_1 : decode cJ8_init 1 = .ok (.invokespecial 1, 3) := by decide +kernel
theorem dJ8_init_4 : decode cJ8_init 4 = .ok (.return_, 1) := by decide +kernel
theorem q118 : (Jvm.Cond.initialized "java/lang/RuntimeException") ∈ lw_all := lw_g (lw_at lw_m1 17 rfl) rfl
theorem q982 : (Jvm.Cond.declares ({ cls := "java/lang/RuntimeException", name := "<init>", desc := "()V" } : Jvm.MethodName)) ∈ lw_tbl := lw_at lw_m4 161 rfl
theorem q983 : (Jvm.Cond.declares ({ cls := "java/lang/RuntimeException", name := "<init>", desc := "(Ljava/lang/String;)V" } : Jvm.MethodName)) ∈ lw_tbl := lw_at lw_m4 162 rfl
theorem q1022 : (Jvm.Cond.instanceMethod ({ cls := "java/lang/RuntimeException", name := "<init>", desc := "()V" } : Jvm.MethodName)) ∈ lw_all := lw_g (lw_at lw_m4 201 rfl) rfl
theorem q1023 : (Jvm.Cond.code ({ cls := "java/lang/RuntimeException", name := "<init>", desc := "()V" } : Jvm.MethodName) prog_17_method_1_code (1 : Nat) (Option.none : Option Jvm.ClassFile.FieldType)) ∈ lw_all := lw_g (lw_at lw_m4 202 rfl) rfl
theorem q1024 : (Jvm.Cond.methodLink "java/lang/RuntimeException" (1 : Nat) ({ cls := "java/lang/Exception", name := "<init>", desc := "()V" } : Jvm.MethodName)) ∈ lw_all := lw_g (lw_at lw_m4 203 rfl) rfl

/-! java/util/NoSuchElementException -/
set_option maxRecDepth 100000
def RJ9 : String := "java/util/NoSuchElementException"
def TJ9 : u_T := fun k => match k with
  | 0 => ("java/lang/Throwable", "cause", "Ljava/lang/Throwable;", false)
  | 1 => ("java/lang/Throwable", "stackTrace", "[Ljava/lang/StackTraceElement;", false)
  | 2 => ("java/lang/Throwable", "suppressedExceptions", "Ljava/util/List;", false)
  | 3 => ("java/lang/Throwable", "detailMessage", "Ljava/lang/String;", false)
  | 4 => ("java/lang/Throwable", "backtrace", "Ljava/lang/Object;", false)
  | _ => ("java/lang/Throwable", "depth", "I", false)
def tyJ9 : Nat → FieldType := fun k => match k with
  | 0 => .object "java/lang/Throwable"
  | 1 => .array (.object "java/lang/StackTraceElement")
  | 2 => .object "java/util/List"
  | 3 => .object "java/lang/String"
  | 4 => .object "java/lang/Object"
  | _ => .int
abbrev wsJ90 : List Cond := u_ws RJ9 TJ9 6
theorem nmJ9 : ∀ a, a < 6 → ∀ b, b < 6 → a ≠ b → (TJ9 a).2.1 ≠ (TJ9 b).2.1 := by decide +kernel
theorem tyJ9_ok : ∀ k, k < 6 → parseFieldDescriptor (TJ9 k).2.2.1 = some (tyJ9 k) := by decide +kernel
abbrev cJ9_init : ByteArray := prog_25_method_1_code
def yJ9_init : MethodName := ⟨RJ9, "<init>", "()V"⟩
theorem dJ9_init_0 : decode cJ9_init 0 = .ok (.aload_n 0, 1) := by decide +kernel
theorem dJ9_init_1 : decode cJ9_init 1 = .ok (.invokespecial 1, 3) := by decide +kernel
theorem dJ9_init_4 : decode cJ9_init 4 = .ok (.return_, 1) := by decide +kernel
theorem q119 : (Jvm.Cond.initialized "java/util/NoSuchElementException") ∈ lw_all := lw_g (lw_at lw_m1 18 rfl) rfl
theorem q980 : (Jvm.Cond.instantiable "java/util/NoSuchElementException" (6 : Nat)) ∈ lw_all := lw_g (lw_at lw_m4 159 rfl) rfl
theorem q981 : (Jvm.Cond.castable "java/util/NoSuchElementException" "java/util/NoSuchElementException") ∈ lw_tbl := lw_at lw_m4 160 rfl
theorem q988 : (Jvm.Cond.selects "java/util/NoSuchElementException" ({ cls := "java/lang/Throwable", name := "fillInStackTrace", desc := "(I)Ljava/lang/Throwable;" } : Jvm.MethodName) ({ cls := "java/lang/Throwable", name := "fillInStackTrace", desc := "(I)Ljava/lang/Throwable;" } : Jvm.MethodName)) ∈ lw_all := lw_g (lw_at lw_m4 167 rfl) rfl
theorem q989 : (Jvm.Cond.selects "java/util/NoSuchElementException" ({ cls := "java/lang/Throwable", name := "fillInStackTrace", desc := "()Ljava/lang/Throwable;" } : Jvm.MethodName) ({ cls := "java/lang/Throwable", name := "fillInStackTrace", desc := "()Ljava/lang/Throwable;" } : Jvm.MethodName)) ∈ lw_all := lw_g (lw_at lw_m4 168 rfl) rfl
theorem q990 : (Jvm.Cond.lays "java/util/NoSuchElementException" "java/lang/Throwable" "cause" "Ljava/lang/Throwable;") ∈ lw_all := lw_g (lw_at lw_m4 169 rfl) rfl
theorem q992 : (Jvm.Cond.lays "java/util/NoSuchElementException" "java/lang/Throwable" "stackTrace" "[Ljava/lang/StackTraceElement;") ∈ lw_all := lw_g (lw_at lw_m4 171 rfl) rfl
theorem q994 : (Jvm.Cond.lays "java/util/NoSuchElementException" "java/lang/Throwable" "suppressedExceptions" "Ljava/util/List;") ∈ lw_all := lw_g (lw_at lw_m4 173 rfl) rfl
theorem q996 : (Jvm.Cond.lays "java/util/NoSuchElementException" "java/lang/Throwable" "detailMessage" "Ljava/lang/String;") ∈ lw_all := lw_g (lw_at lw_m4 175 rfl) rfl
theorem q998 : (Jvm.Cond.lays "java/util/NoSuchElementException" "java/lang/Throwable" "backtrace" "Ljava/lang/Object;") ∈ lw_all := lw_g (lw_at lw_m4 177 rfl) rfl
theorem q1019 : (Jvm.Cond.instanceMethod ({ cls := "java/util/NoSuchElementException", name := "<init>", desc := "()V" } : Jvm.MethodName)) ∈ lw_all := lw_g (lw_at lw_m4 198 rfl) rfl
theorem q1020 : (Jvm.Cond.code ({ cls := "java/util/NoSuchElementException", name := "<init>", desc := "()V" } : Jvm.MethodName) prog_25_method_1_code (1 : Nat) (Option.none : Option Jvm.ClassFile.FieldType)) ∈ lw_all := lw_g (lw_at lw_m4 199 rfl) rfl
theorem q1021 : (Jvm.Cond.methodLink "java/util/NoSuchElementException" (1 : Nat) ({ cls := "java/lang/RuntimeException", name := "<init>", desc := "()V" } : Jvm.MethodName)) ∈ lw_all := lw_g (lw_at lw_m4 200 rfl) rfl
theorem q1036 : (Jvm.Cond.lays "java/util/NoSuchElementException" "java/lang/Throwable" "depth" "I") ∈ lw_all := lw_g (lw_at lw_m4 215 rfl) rfl
theorem q1039 : (Jvm.Cond.superclass "java/util/NoSuchElementException" "java/lang/RuntimeException") ∈ lw_all := lw_g (lw_at lw_m4 218 rfl) rfl
theorem q1649 : (Jvm.Cond.castable "java/util/NoSuchElementException" "java/lang/Object") ∈ lw_tbl := lw_at lw_m7 108 rfl
theorem in_J9 : ∀ w ∈ wsJ90, w ∈ lw_all := lw_in wsJ90 [990, 992, 994, 996, 998, 1036] (by decide +kernel) (by decide +kernel)

/-! CuckooByPostLaw -/
set_option maxRecDepth 100000
def RX0 : String := "CuckooByPostLaw"
abbrev cX0_nest : ByteArray := method_3_code
def yX0_nest : MethodName := ⟨RX0, "nest", "(LCuckooByPost;II[J)I"⟩
def dkwX0_nest_0 : List UInt8 := [45, 3, 42, 27, 28, 182, 0, 7, 133, 80, 167, 0, 7, 58, 4, 4, 172, 3, 172]
abbrev dktX0_nest_0 : List UInt8 := dkwX0_nest_0 ++ []
theorem dksX0_nest_0 : cX0_nest.data.toList.drop 0 = dktX0_nest_0 := by decide +kernel
theorem dX0_nest_0 : decode cX0_nest 0 = .ok (.aload_n 3, 1) := dk_45 (dk_at dksX0_nest_0 0 rfl rfl)
theorem dX0_nest_1 : decode cX0_nest 1 = .ok (.iconst 0, 1) := dk_3 (dk_at dksX0_nest_0 1 rfl rfl)
theorem dX0_nest_2 : decode cX0_nest 2 = .ok (.aload_n 0, 1) := dk_42 (dk_at dksX0_nest_0 2 rfl rfl)
theorem dX0_nest_3 : decode cX0_nest 3 = .ok (.iload_n 1, 1) := dk_27 (dk_at dksX0_nest_0 3 rfl rfl)
theorem dX0_nest_4 : decode cX0_nest 4 = .ok (.iload_n 2, 1) := dk_28 (dk_at dksX0_nest_0 4 rfl rfl)
theorem dX0_nest_5 : decode cX0_nest 5 = .ok (.invokevirtual 7, 3) := dk_182 0 7 (dk_at dksX0_nest_0 5 rfl rfl)
theorem dX0_nest_8 : decode cX0_nest 8 = .ok (.i2l, 1) := dk_133 (dk_at dksX0_nest_0 8 rfl rfl)
theorem dX0_nest_9 : decode cX0_nest 9 = .ok (.lastore, 1) := dk_80 (dk_at dksX0_nest_0 9 rfl rfl)
theorem dX0_nest_10 : decode cX0_nest 10 = .ok (.goto 7, 3) := dk_167 0 7 (dk_at dksX0_nest_0 10 rfl rfl)
theorem dX0_nest_13 : decode cX0_nest 13 = .ok (.astore 4, 2) := dk_58 4 (dk_at dksX0_nest_0 13 rfl rfl)
theorem dX0_nest_15 : decode cX0_nest 15 = .ok (.iconst 1, 1) := dk_4 (dk_at dksX0_nest_0 15 rfl rfl)
theorem dX0_nest_16 : decode cX0_nest 16 = .ok (.ireturn, 1) := dk_172 (dk_at dksX0_nest_0 16 rfl rfl)
theorem dX0_nest_17 : decode cX0_nest 17 = .ok (.iconst 0, 1) := dk_3 (dk_at dksX0_nest_0 17 rfl rfl)
theorem dX0_nest_18 : decode cX0_nest 18 = .ok (.ireturn, 1) := dk_172 (dk_at dksX0_nest_0 18 rfl rfl)
abbrev cX0_guest : ByteArray := method_4_code
def yX0_guest : MethodName := ⟨RX0, "guest", "(LCuckooByPost;II[J)I"⟩
def dkwX0_guest_0 : List UInt8 := [45, 3, 42, 27, 28, 182, 0, 15, 133, 80, 167, 0, 7, 58, 4, 4, 172, 3, 172]
abbrev dktX0_guest_0 : List UInt8 := dkwX0_guest_0 ++ []
theorem dksX0_guest_0 : cX0_guest.data.toList.drop 0 = dktX0_guest_0 := by decide +kernel
theorem dX0_guest_0 : decode cX0_guest 0 = .ok (.aload_n 3, 1) := dk_45 (dk_at dksX0_guest_0 0 rfl rfl)
theorem dX0_guest_1 : decode cX0_guest 1 = .ok (.iconst 0, 1) := dk_3 (dk_at dksX0_guest_0 1 rfl rfl)
theorem dX0_guest_2 : decode cX0_guest 2 = .ok (.aload_n 0, 1) := dk_42 (dk_at dksX0_guest_0 2 rfl rfl)
theorem dX0_guest_3 : decode cX0_guest 3 = .ok (.iload_n 1, 1) := dk_27 (dk_at dksX0_guest_0 3 rfl rfl)
theorem dX0_guest_4 : decode cX0_guest 4 = .ok (.iload_n 2, 1) := dk_28 (dk_at dksX0_guest_0 4 rfl rfl)
theorem dX0_guest_5 : decode cX0_guest 5 = .ok (.invokevirtual 15, 3) := dk_182 0 15 (dk_at dksX0_guest_0 5 rfl rfl)
theorem dX0_guest_8 : decode cX0_guest 8 = .ok (.i2l, 1) := dk_133 (dk_at dksX0_guest_0 8 rfl rfl)
theorem dX0_guest_9 : decode cX0_guest 9 = .ok (.lastore, 1) := dk_80 (dk_at dksX0_guest_0 9 rfl rfl)
theorem dX0_guest_10 : decode cX0_guest 10 = .ok (.goto 7, 3) := dk_167 0 7 (dk_at dksX0_guest_0 10 rfl rfl)
theorem dX0_guest_13 : decode cX0_guest 13 = .ok (.astore 4, 2) := dk_58 4 (dk_at dksX0_guest_0 13 rfl rfl)
theorem dX0_guest_15 : decode cX0_guest 15 = .ok (.iconst 1, 1) := dk_4 (dk_at dksX0_guest_0 15 rfl rfl)
theorem dX0_guest_16 : decode cX0_guest 16 = .ok (.ireturn, 1) := dk_172 (dk_at dksX0_guest_0 16 rfl rfl)
theorem dX0_guest_17 : decode cX0_guest 17 = .ok (.iconst 0, 1) := dk_3 (dk_at dksX0_guest_0 17 rfl rfl)
theorem dX0_guest_18 : decode cX0_guest 18 = .ok (.ireturn, 1) := dk_172 (dk_at dksX0_guest_0 18 rfl rfl)
abbrev cX0_row : ByteArray := method_5_code
def yX0_row : MethodName := ⟨RX0, "row", "(LCuckooByPost;I[J)I"⟩
def dkwX0_row_0 : List UInt8 := [44, 3, 42, 27, 182, 0, 18, 80, 167, 0, 6, 78, 4, 172, 3, 172]
abbrev dktX0_row_0 : List UInt8 := dkwX0_row_0 ++ []
theorem dksX0_row_0 : cX0_row.data.toList.drop 0 = dktX0_row_0 := by decide +kernel
theorem dX0_row_0 : decode cX0_row 0 = .ok (.aload_n 2, 1) := dk_44 (dk_at dksX0_row_0 0 rfl rfl)
theorem dX0_row_1 : decode cX0_row 1 = .ok (.iconst 0, 1) := dk_3 (dk_at dksX0_row_0 1 rfl rfl)
theorem dX0_row_2 : decode cX0_row 2 = .ok (.aload_n 0, 1) := dk_42 (dk_at dksX0_row_0 2 rfl rfl)
theorem dX0_row_3 : decode cX0_row 3 = .ok (.iload_n 1, 1) := dk_27 (dk_at dksX0_row_0 3 rfl rfl)
theorem dX0_row_4 : decode cX0_row 4 = .ok (.invokevirtual 18, 3) := dk_182 0 18 (dk_at dksX0_row_0 4 rfl rfl)
theorem dX0_row_7 : decode cX0_row 7 = .ok (.lastore, 1) := dk_80 (dk_at dksX0_row_0 7 rfl rfl)
theorem dX0_row_8 : decode cX0_row 8 = .ok (.goto 6, 3) := dk_167 0 6 (dk_at dksX0_row_0 8 rfl rfl)
theorem dX0_row_11 : decode cX0_row 11 = .ok (.astore_n 3, 1) := dk_78 (dk_at dksX0_row_0 11 rfl rfl)
theorem dX0_row_12 : decode cX0_row 12 = .ok (.iconst 1, 1) := dk_4 (dk_at dksX0_row_0 12 rfl rfl)
theorem dX0_row_13 : decode cX0_row 13 = .ok (.ireturn, 1) := dk_172 (dk_at dksX0_row_0 13 rfl rfl)
theorem dX0_row_14 : decode cX0_row 14 = .ok (.iconst 0, 1) := dk_3 (dk_at dksX0_row_0 14 rfl rfl)
theorem dX0_row_15 : decode cX0_row 15 = .ok (.ireturn, 1) := dk_172 (dk_at dksX0_row_0 15 rfl rfl)
theorem q101 : (Jvm.Cond.initialized "CuckooByPostLaw") ∈ lw_all := lw_g (lw_at lw_m1 0 rfl) rfl
theorem q122 : (Jvm.Cond.classLink "CuckooByPostLaw" (8 : Nat) "CuckooByPost") ∈ lw_all := lw_g (lw_at lw_m1 21 rfl) rfl
theorem q124 : (Jvm.Cond.methodLink "CuckooByPostLaw" (22 : Nat) ({ cls := "CuckooByPost", name := "<init>", desc := "()V" } : Jvm.MethodName)) ∈ lw_all := lw_g (lw_at lw_m1 23 rfl) rfl
theorem q327 : (Jvm.Cond.methodLink "CuckooByPostLaw" (26 : Nat) ({ cls := "CuckooByPost", name := "sign", desc := "(I)I" } : Jvm.MethodName)) ∈ lw_all := lw_g (lw_at lw_m1 226 rfl) rfl
theorem q331 : (Jvm.Cond.methodLink "CuckooByPostLaw" (31 : Nat) ({ cls := "CuckooByPost", name := "end", desc := "(I)Z" } : Jvm.MethodName)) ∈ lw_all := lw_g (lw_at lw_m1 230 rfl) rfl
theorem q338 : (Jvm.Cond.methodLink "CuckooByPostLaw" (36 : Nat) ({ cls := "CuckooByPost", name := "nests", desc := "()I" } : Jvm.MethodName)) ∈ lw_all := lw_g (lw_at lw_m1 237 rfl) rfl
theorem q479 : (Jvm.Cond.methodLink "CuckooByPostLaw" (41 : Nat) ({ cls := "CuckooByPost", name := "rule", desc := "()I" } : Jvm.MethodName)) ∈ lw_all := lw_g (lw_at lw_m2 138 rfl) rfl
theorem q569 : (Jvm.Cond.methodLink "CuckooByPostLaw" (57 : Nat) ({ cls := "CuckooByPost", name := "clear", desc := "(I)I" } : Jvm.MethodName)) ∈ lw_all := lw_g (lw_at lw_m2 228 rfl) rfl
theorem q574 : (Jvm.Cond.methodLink "CuckooByPostLaw" (61 : Nat) ({ cls := "CuckooByPost", name := "sheet", desc := "(IIII)I" } : Jvm.MethodName)) ∈ lw_all := lw_g (lw_at lw_m2 233 rfl) rfl
theorem q584 : (Jvm.Cond.methodLink "CuckooByPostLaw" (94 : Nat) ({ cls := "CuckooByPost", name := "undo", desc := "()I" } : Jvm.MethodName)) ∈ lw_all := lw_g (lw_at lw_m3 3 rfl) rfl
theorem q595 : (Jvm.Cond.methodLink "CuckooByPostLaw" (66 : Nat) ({ cls := "CuckooByPost", name := "announce", desc := "(I)I" } : Jvm.MethodName)) ∈ lw_all := lw_g (lw_at lw_m3 14 rfl) rfl
theorem q629 : (Jvm.Cond.methodLink "CuckooByPostLaw" (70 : Nat) ({ cls := "CuckooByPost", name := "reply", desc := "(I)I" } : Jvm.MethodName)) ∈ lw_all := lw_g (lw_at lw_m3 48 rfl) rfl
theorem q637 : (Jvm.Cond.methodLink "CuckooByPostLaw" (74 : Nat) ({ cls := "CuckooByPost", name := "lay", desc := "(II)I" } : Jvm.MethodName)) ∈ lw_all := lw_g (lw_at lw_m3 56 rfl) rfl
theorem q688 : (Jvm.Cond.methodLink "CuckooByPostLaw" (78 : Nat) ({ cls := "CuckooByPost", name := "tint", desc := "(II)I" } : Jvm.MethodName)) ∈ lw_all := lw_g (lw_at lw_m3 107 rfl) rfl
theorem q696 : (Jvm.Cond.methodLink "CuckooByPostLaw" (82 : Nat) ({ cls := "CuckooByPost", name := "exchange", desc := "(II)I" } : Jvm.MethodName)) ∈ lw_all := lw_g (lw_at lw_m3 115 rfl) rfl
theorem q711 : (Jvm.Cond.methodLink "CuckooByPostLaw" (86 : Nat) ({ cls := "CuckooByPost", name := "days", desc := "(I)I" } : Jvm.MethodName)) ∈ lw_all := lw_g (lw_at lw_m3 130 rfl) rfl
theorem q733 : (Jvm.Cond.methodLink "CuckooByPostLaw" (90 : Nat) ({ cls := "CuckooByPost", name := "spring", desc := "()I" } : Jvm.MethodName)) ∈ lw_all := lw_g (lw_at lw_m3 152 rfl) rfl
theorem q746 : (Jvm.Cond.methodLink "CuckooByPostLaw" (98 : Nat) ({ cls := "CuckooByPost", name := "odd", desc := "(II)I" } : Jvm.MethodName)) ∈ lw_all := lw_g (lw_at lw_m3 165 rfl) rfl
theorem q757 : (Jvm.Cond.methodLink "CuckooByPostLaw" (102 : Nat) ({ cls := "CuckooByPost", name := "colours", desc := "(I)I" } : Jvm.MethodName)) ∈ lw_all := lw_g (lw_at lw_m3 176 rfl) rfl
theorem q761 : (Jvm.Cond.methodLink "CuckooByPostLaw" (106 : Nat) ({ cls := "CuckooByPost", name := "where", desc := "(I)I" } : Jvm.MethodName)) ∈ lw_all := lw_g (lw_at lw_m3 180 rfl) rfl
theorem q769 : (Jvm.Cond.methodLink "CuckooByPostLaw" (110 : Nat) ({ cls := "CuckooByPost", name := "flies", desc := "(II)I" } : Jvm.MethodName)) ∈ lw_all := lw_g (lw_at lw_m3 188 rfl) rfl
theorem q777 : (Jvm.Cond.methodLink "CuckooByPostLaw" (114 : Nat) ({ cls := "CuckooByPost", name := "later", desc := "(I)I" } : Jvm.MethodName)) ∈ lw_all := lw_g (lw_at lw_m3 196 rfl) rfl
theorem q782 : (Jvm.Cond.methodLink "CuckooByPostLaw" (118 : Nat) ({ cls := "CuckooByPost", name := "place", desc := "()I" } : Jvm.MethodName)) ∈ lw_all := lw_g (lw_at lw_m3 201 rfl) rfl
theorem q791 : (Jvm.Cond.methodLink "CuckooByPostLaw" (122 : Nat) ({ cls := "CuckooByPost", name := "suspects", desc := "()I" } : Jvm.MethodName)) ∈ lw_all := lw_g (lw_at lw_m3 210 rfl) rfl
theorem q795 : (Jvm.Cond.methodLink "CuckooByPostLaw" (126 : Nat) ({ cls := "CuckooByPost", name := "tinting", desc := "(I)I" } : Jvm.MethodName)) ∈ lw_all := lw_g (lw_at lw_m3 214 rfl) rfl
theorem q799 : (Jvm.Cond.methodLink "CuckooByPostLaw" (130 : Nat) ({ cls := "CuckooByPost", name := "waiting", desc := "(II)I" } : Jvm.MethodName)) ∈ lw_all := lw_g (lw_at lw_m3 218 rfl) rfl
theorem q803 : (Jvm.Cond.methodLink "CuckooByPostLaw" (134 : Nat) ({ cls := "CuckooByPost", name := "exchanged", desc := "()I" } : Jvm.MethodName)) ∈ lw_all := lw_g (lw_at lw_m3 222 rfl) rfl
theorem q812 : (Jvm.Cond.methodLink "CuckooByPostLaw" (138 : Nat) ({ cls := "CuckooByPost", name := "eldest", desc := "()I" } : Jvm.MethodName)) ∈ lw_all := lw_g (lw_at lw_m3 231 rfl) rfl
theorem q816 : (Jvm.Cond.methodLink "CuckooByPostLaw" (142 : Nat) ({ cls := "CuckooByPost", name := "waits", desc := "(II)I" } : Jvm.MethodName)) ∈ lw_all := lw_g (lw_at lw_m3 235 rfl) rfl
theorem q824 : (Jvm.Cond.methodLink "CuckooByPostLaw" (146 : Nat) ({ cls := "CuckooByPost", name := "spares", desc := "(II)I" } : Jvm.MethodName)) ∈ lw_all := lw_g (lw_at lw_m4 3 rfl) rfl
theorem q829 : (Jvm.Cond.methodLink "CuckooByPostLaw" (150 : Nat) ({ cls := "CuckooByPost", name := "open", desc := "()I" } : Jvm.MethodName)) ∈ lw_all := lw_g (lw_at lw_m4 8 rfl) rfl
theorem q837 : (Jvm.Cond.methodLink "CuckooByPostLaw" (154 : Nat) ({ cls := "CuckooByPost", name := "kinds", desc := "(I)I" } : Jvm.MethodName)) ∈ lw_all := lw_g (lw_at lw_m4 16 rfl) rfl
theorem q841 : (Jvm.Cond.methodLink "CuckooByPostLaw" (158 : Nat) ({ cls := "CuckooByPost", name := "feeds", desc := "(I)I" } : Jvm.MethodName)) ∈ lw_all := lw_g (lw_at lw_m4 20 rfl) rfl
theorem q858 : (Jvm.Cond.methodLink "CuckooByPostLaw" (162 : Nat) ({ cls := "CuckooByPost", name := "enough", desc := "()I" } : Jvm.MethodName)) ∈ lw_all := lw_g (lw_at lw_m4 37 rfl) rfl
theorem q862 : (Jvm.Cond.methodLink "CuckooByPostLaw" (166 : Nat) ({ cls := "CuckooByPost", name := "needed", desc := "(I)I" } : Jvm.MethodName)) ∈ lw_all := lw_g (lw_at lw_m4 41 rfl) rfl
theorem q866 : (Jvm.Cond.methodLink "CuckooByPostLaw" (170 : Nat) ({ cls := "CuckooByPost", name := "lodgings", desc := "()I" } : Jvm.MethodName)) ∈ lw_all := lw_g (lw_at lw_m4 45 rfl) rfl
theorem q886 : (Jvm.Cond.methodLink "CuckooByPostLaw" (174 : Nat) ({ cls := "CuckooByPost", name := "movers", desc := "()I" } : Jvm.MethodName)) ∈ lw_all := lw_g (lw_at lw_m4 65 rfl) rfl
theorem q890 : (Jvm.Cond.methodLink "CuckooByPostLaw" (178 : Nat) ({ cls := "CuckooByPost", name := "leavers", desc := "()I" } : Jvm.MethodName)) ∈ lw_all := lw_g (lw_at lw_m4 69 rfl) rfl
theorem q898 : (Jvm.Cond.methodLink "CuckooByPostLaw" (182 : Nat) ({ cls := "CuckooByPost", name := "whose", desc := "(IIIII)I" } : Jvm.MethodName)) ∈ lw_all := lw_g (lw_at lw_m4 77 rfl) rfl
theorem q910 : (Jvm.Cond.methodLink "CuckooByPostLaw" (187 : Nat) ({ cls := "CuckooByPost", name := "wrote", desc := "(II)I" } : Jvm.MethodName)) ∈ lw_all := lw_g (lw_at lw_m4 89 rfl) rfl
theorem q915 : (Jvm.Cond.methodLink "CuckooByPostLaw" (191 : Nat) ({ cls := "CuckooByPost", name := "burn", desc := "()I" } : Jvm.MethodName)) ∈ lw_all := lw_g (lw_at lw_m4 94 rfl) rfl
theorem q919 : (Jvm.Cond.methodLink "CuckooByPostLaw" (195 : Nat) ({ cls := "CuckooByPost", name := "fits", desc := "()I" } : Jvm.MethodName)) ∈ lw_all := lw_g (lw_at lw_m4 98 rfl) rfl
theorem q931 : (Jvm.Cond.methodLink "CuckooByPostLaw" (199 : Nat) ({ cls := "CuckooByPost", name := "ask", desc := "()I" } : Jvm.MethodName)) ∈ lw_all := lw_g (lw_at lw_m4 110 rfl) rfl
theorem q935 : (Jvm.Cond.methodLink "CuckooByPostLaw" (203 : Nat) ({ cls := "CuckooByPost", name := "rests", desc := "(I)I" } : Jvm.MethodName)) ∈ lw_all := lw_g (lw_at lw_m4 114 rfl) rfl
theorem q942 : (Jvm.Cond.methodLink "CuckooByPostLaw" (207 : Nat) ({ cls := "CuckooByPost", name := "law", desc := "()I" } : Jvm.MethodName)) ∈ lw_all := lw_g (lw_at lw_m4 121 rfl) rfl
theorem q950 : (Jvm.Cond.methodLink "CuckooByPostLaw" (211 : Nat) ({ cls := "CuckooByPost", name := "years", desc := "(II)I" } : Jvm.MethodName)) ∈ lw_all := lw_g (lw_at lw_m4 129 rfl) rfl
theorem q959 : (Jvm.Cond.methodLink "CuckooByPostLaw" (215 : Nat) ({ cls := "CuckooByPost", name := "keep", desc := "(I)Z" } : Jvm.MethodName)) ∈ lw_all := lw_g (lw_at lw_m4 138 rfl) rfl
theorem q963 : (Jvm.Cond.methodLink "CuckooByPostLaw" (219 : Nat) ({ cls := "CuckooByPost", name := "again", desc := "(I)Z" } : Jvm.MethodName)) ∈ lw_all := lw_g (lw_at lw_m4 142 rfl) rfl
theorem q967 : (Jvm.Cond.methodLink "CuckooByPostLaw" (223 : Nat) ({ cls := "CuckooByPost", name := "count", desc := "(I)I" } : Jvm.MethodName)) ∈ lw_all := lw_g (lw_at lw_m4 146 rfl) rfl
theorem q971 : (Jvm.Cond.methodLink "CuckooByPostLaw" (45 : Nat) ({ cls := "CuckooByPostLaw", name := "nest", desc := "(LCuckooByPost;II[J)I" } : Jvm.MethodName)) ∈ lw_all := lw_g (lw_at lw_m4 150 rfl) rfl
theorem q972 : (Jvm.Cond.static ({ cls := "CuckooByPostLaw", name := "nest", desc := "(LCuckooByPost;II[J)I" } : Jvm.MethodName)) ∈ lw_all := lw_g (lw_at lw_m4 151 rfl) rfl
theorem q973 : (Jvm.Cond.codeWith ({ cls := "CuckooByPostLaw", name := "nest", desc := "(LCuckooByPost;II[J)I" } : Jvm.MethodName) method_3_code (5 : Nat) (Option.some Jvm.ClassFile.FieldType.int) [((0 : Nat), (10 : Nat), (13 : Nat), (13 : Nat))]) ∈ lw_all := lw_g (lw_at lw_m4 152 rfl) rfl
theorem q974 : (Jvm.Cond.classLink "CuckooByPostLaw" (13 : Nat) "java/util/NoSuchElementException") ∈ lw_all := lw_g (lw_at lw_m4 153 rfl) rfl
theorem q975 : (Jvm.Cond.methodLink "CuckooByPostLaw" (7 : Nat) ({ cls := "CuckooByPost", name := "nest", desc := "(II)I" } : Jvm.MethodName)) ∈ lw_all := lw_g (lw_at lw_m4 154 rfl) rfl
theorem q1040 : (Jvm.Cond.methodLink "CuckooByPostLaw" (54 : Nat) ({ cls := "CuckooByPostLaw", name := "guest", desc := "(LCuckooByPost;II[J)I" } : Jvm.MethodName)) ∈ lw_all := lw_g (lw_at lw_m4 219 rfl) rfl
theorem q1041 : (Jvm.Cond.static ({ cls := "CuckooByPostLaw", name := "guest", desc := "(LCuckooByPost;II[J)I" } : Jvm.MethodName)) ∈ lw_all := lw_g (lw_at lw_m4 220 rfl) rfl
theorem q1042 : (Jvm.Cond.codeWith ({ cls := "CuckooByPostLaw", name := "guest", desc := "(LCuckooByPost;II[J)I" } : Jvm.MethodName) method_4_code (5 : Nat) (Option.some Jvm.ClassFile.FieldType.int) [((0 : Nat), (10 : Nat), (13 : Nat), (13 : Nat))]) ∈ lw_all := lw_g (lw_at lw_m4 221 rfl) rfl
theorem q1043 : (Jvm.Cond.methodLink "CuckooByPostLaw" (15 : Nat) ({ cls := "CuckooByPost", name := "guest", desc := "(II)I" } : Jvm.MethodName)) ∈ lw_all := lw_g (lw_at lw_m4 222 rfl) rfl
theorem q1047 : (Jvm.Cond.methodLink "CuckooByPostLaw" (227 : Nat) ({ cls := "CuckooByPostLaw", name := "row", desc := "(LCuckooByPost;I[J)I" } : Jvm.MethodName)) ∈ lw_all := lw_g (lw_at lw_m4 226 rfl) rfl
theorem q1048 : (Jvm.Cond.static ({ cls := "CuckooByPostLaw", name := "row", desc := "(LCuckooByPost;I[J)I" } : Jvm.MethodName)) ∈ lw_all := lw_g (lw_at lw_m4 227 rfl) rfl
theorem q1049 : (Jvm.Cond.codeWith ({ cls := "CuckooByPostLaw", name := "row", desc := "(LCuckooByPost;I[J)I" } : Jvm.MethodName) method_5_code (4 : Nat) (Option.some Jvm.ClassFile.FieldType.int) [((0 : Nat), (8 : Nat), (11 : Nat), (13 : Nat))]) ∈ lw_all := lw_g (lw_at lw_m4 228 rfl) rfl
theorem q1050 : (Jvm.Cond.methodLink "CuckooByPostLaw" (18 : Nat) ({ cls := "CuckooByPost", name := "row", desc := "(I)J" } : Jvm.MethodName)) ∈ lw_all := lw_g (lw_at lw_m4 229 rfl) rfl
theorem q1054 : (Jvm.Cond.classLink "CuckooByPostLaw" (23 : Nat) "CuckooByPostModel") ∈ lw_all := lw_g (lw_at lw_m4 233 rfl) rfl
theorem q1056 : (Jvm.Cond.methodLink "CuckooByPostLaw" (25 : Nat) ({ cls := "CuckooByPostModel", name := "<init>", desc := "()V" } : Jvm.MethodName)) ∈ lw_all := lw_g (lw_at lw_m4 235 rfl) rfl
theorem q1178 : (Jvm.Cond.methodLink "CuckooByPostLaw" (51 : Nat) ({ cls := "CuckooByPostModel", name := "thrown", desc := "()I" } : Jvm.MethodName)) ∈ lw_all := lw_g (lw_at lw_m5 117 rfl) rfl
theorem q1182 : (Jvm.Cond.methodLink "CuckooByPostLaw" (30 : Nat) ({ cls := "CuckooByPostModel", name := "sign", desc := "(I)I" } : Jvm.MethodName)) ∈ lw_all := lw_g (lw_at lw_m5 121 rfl) rfl
theorem q1186 : (Jvm.Cond.methodLink "CuckooByPostLaw" (35 : Nat) ({ cls := "CuckooByPostModel", name := "end", desc := "(I)Z" } : Jvm.MethodName)) ∈ lw_all := lw_g (lw_at lw_m5 125 rfl) rfl
theorem q1193 : (Jvm.Cond.methodLink "CuckooByPostLaw" (40 : Nat) ({ cls := "CuckooByPostModel", name := "nests", desc := "()I" } : Jvm.MethodName)) ∈ lw_all := lw_g (lw_at lw_m5 132 rfl) rfl
theorem q1236 : (Jvm.Cond.methodLink "CuckooByPostLaw" (44 : Nat) ({ cls := "CuckooByPostModel", name := "rule", desc := "()I" } : Jvm.MethodName)) ∈ lw_all := lw_g (lw_at lw_m5 175 rfl) rfl
theorem q1271 : (Jvm.Cond.methodLink "CuckooByPostLaw" (50 : Nat) ({ cls := "CuckooByPostModel", name := "nest", desc := "(II)I" } : Jvm.MethodName)) ∈ lw_all := lw_g (lw_at lw_m5 210 rfl) rfl
theorem q1287 : (Jvm.Cond.methodLink "CuckooByPostLaw" (56 : Nat) ({ cls := "CuckooByPostModel", name := "guest", desc := "(II)I" } : Jvm.MethodName)) ∈ lw_all := lw_g (lw_at lw_m5 226 rfl) rfl
theorem q1306 : (Jvm.Cond.methodLink "CuckooByPostLaw" (60 : Nat) ({ cls := "CuckooByPostModel", name := "clear", desc := "(I)I" } : Jvm.MethodName)) ∈ lw_all := lw_g (lw_at lw_m6 5 rfl) rfl
theorem q1310 : (Jvm.Cond.methodLink "CuckooByPostLaw" (65 : Nat) ({ cls := "CuckooByPostModel", name := "sheet", desc := "(IIII)I" } : Jvm.MethodName)) ∈ lw_all := lw_g (lw_at lw_m6 9 rfl) rfl
theorem q1315 : (Jvm.Cond.methodLink "CuckooByPostLaw" (69 : Nat) ({ cls := "CuckooByPostModel", name := "announce", desc := "(I)I" } : Jvm.MethodName)) ∈ lw_all := lw_g (lw_at lw_m6 14 rfl) rfl
theorem q1337 : (Jvm.Cond.methodLink "CuckooByPostLaw" (73 : Nat) ({ cls := "CuckooByPostModel", name := "reply", desc := "(I)I" } : Jvm.MethodName)) ∈ lw_all := lw_g (lw_at lw_m6 36 rfl) rfl
theorem q1348 : (Jvm.Cond.methodLink "CuckooByPostLaw" (77 : Nat) ({ cls := "CuckooByPostModel", name := "lay", desc := "(II)I" } : Jvm.MethodName)) ∈ lw_all := lw_g (lw_at lw_m6 47 rfl) rfl
theorem q1362 : (Jvm.Cond.methodLink "CuckooByPostLaw" (81 : Nat) ({ cls := "CuckooByPostModel", name := "tint", desc := "(II)I" } : Jvm.MethodName)) ∈ lw_all := lw_g (lw_at lw_m6 61 rfl) rfl
theorem q1370 : (Jvm.Cond.methodLink "CuckooByPostLaw" (85 : Nat) ({ cls := "CuckooByPostModel", name := "exchange", desc := "(II)I" } : Jvm.MethodName)) ∈ lw_all := lw_g (lw_at lw_m6 69 rfl) rfl
theorem q1381 : (Jvm.Cond.methodLink "CuckooByPostLaw" (89 : Nat) ({ cls := "CuckooByPostModel", name := "days", desc := "(I)I" } : Jvm.MethodName)) ∈ lw_all := lw_g (lw_at lw_m6 80 rfl) rfl
theorem q1404 : (Jvm.Cond.methodLink "CuckooByPostLaw" (93 : Nat) ({ cls := "CuckooByPostModel", name := "spring", desc := "()I" } : Jvm.MethodName)) ∈ lw_all := lw_g (lw_at lw_m6 103 rfl) rfl
theorem q1416 : (Jvm.Cond.methodLink "CuckooByPostLaw" (97 : Nat) ({ cls := "CuckooByPostModel", name := "undo", desc := "()I" } : Jvm.MethodName)) ∈ lw_all := lw_g (lw_at lw_m6 115 rfl) rfl
theorem q1420 : (Jvm.Cond.methodLink "CuckooByPostLaw" (101 : Nat) ({ cls := "CuckooByPostModel", name := "odd", desc := "(II)I" } : Jvm.MethodName)) ∈ lw_all := lw_g (lw_at lw_m6 119 rfl) rfl
theorem q1431 : (Jvm.Cond.methodLink "CuckooByPostLaw" (105 : Nat) ({ cls := "CuckooByPostModel", name := "colours", desc := "(I)I" } : Jvm.MethodName)) ∈ lw_all := lw_g (lw_at lw_m6 130 rfl) rfl
theorem q1435 : (Jvm.Cond.methodLink "CuckooByPostLaw" (109 : Nat) ({ cls := "CuckooByPostModel", name := "where", desc := "(I)I" } : Jvm.MethodName)) ∈ lw_all := lw_g (lw_at lw_m6 134 rfl) rfl
theorem q1439 : (Jvm.Cond.methodLink "CuckooByPostLaw" (113 : Nat) ({ cls := "CuckooByPostModel", name := "flies", desc := "(II)I" } : Jvm.MethodName)) ∈ lw_all := lw_g (lw_at lw_m6 138 rfl) rfl
theorem q1447 : (Jvm.Cond.methodLink "CuckooByPostLaw" (117 : Nat) ({ cls := "CuckooByPostModel", name := "later", desc := "(I)I" } : Jvm.MethodName)) ∈ lw_all := lw_g (lw_at lw_m6 146 rfl) rfl
theorem q1451 : (Jvm.Cond.methodLink "CuckooByPostLaw" (121 : Nat) ({ cls := "CuckooByPostModel", name := "place", desc := "()I" } : Jvm.MethodName)) ∈ lw_all := lw_g (lw_at lw_m6 150 rfl) rfl
theorem q1463 : (Jvm.Cond.methodLink "CuckooByPostLaw" (125 : Nat) ({ cls := "CuckooByPostModel", name := "suspects", desc := "()I" } : Jvm.MethodName)) ∈ lw_all := lw_g (lw_at lw_m6 162 rfl) rfl
theorem q1467 : (Jvm.Cond.methodLink "CuckooByPostLaw" (129 : Nat) ({ cls := "CuckooByPostModel", name := "tinting", desc := "(I)I" } : Jvm.MethodName)) ∈ lw_all := lw_g (lw_at lw_m6 166 rfl) rfl
theorem q1475 : (Jvm.Cond.methodLink "CuckooByPostLaw" (133 : Nat) ({ cls := "CuckooByPostModel", name := "waiting", desc := "(II)I" } : Jvm.MethodName)) ∈ lw_all := lw_g (lw_at lw_m6 174 rfl) rfl
theorem q1479 : (Jvm.Cond.methodLink "CuckooByPostLaw" (137 : Nat) ({ cls := "CuckooByPostModel", name := "exchanged", desc := "()I" } : Jvm.MethodName)) ∈ lw_all := lw_g (lw_at lw_m6 178 rfl) rfl
theorem q1484 : (Jvm.Cond.methodLink "CuckooByPostLaw" (141 : Nat) ({ cls := "CuckooByPostModel", name := "eldest", desc := "()I" } : Jvm.MethodName)) ∈ lw_all := lw_g (lw_at lw_m6 183 rfl) rfl
theorem q1489 : (Jvm.Cond.methodLink "CuckooByPostLaw" (145 : Nat) ({ cls := "CuckooByPostModel", name := "waits", desc := "(II)I" } : Jvm.MethodName)) ∈ lw_all := lw_g (lw_at lw_m6 188 rfl) rfl
theorem q1497 : (Jvm.Cond.methodLink "CuckooByPostLaw" (149 : Nat) ({ cls := "CuckooByPostModel", name := "spares", desc := "(II)I" } : Jvm.MethodName)) ∈ lw_all := lw_g (lw_at lw_m6 196 rfl) rfl
theorem q1501 : (Jvm.Cond.methodLink "CuckooByPostLaw" (153 : Nat) ({ cls := "CuckooByPostModel", name := "open", desc := "()I" } : Jvm.MethodName)) ∈ lw_all := lw_g (lw_at lw_m6 200 rfl) rfl
theorem q1505 : (Jvm.Cond.methodLink "CuckooByPostLaw" (157 : Nat) ({ cls := "CuckooByPostModel", name := "kinds", desc := "(I)I" } : Jvm.MethodName)) ∈ lw_all := lw_g (lw_at lw_m6 204 rfl) rfl
theorem q1509 : (Jvm.Cond.methodLink "CuckooByPostLaw" (161 : Nat) ({ cls := "CuckooByPostModel", name := "feeds", desc := "(I)I" } : Jvm.MethodName)) ∈ lw_all := lw_g (lw_at lw_m6 208 rfl) rfl
theorem q1521 : (Jvm.Cond.methodLink "CuckooByPostLaw" (165 : Nat) ({ cls := "CuckooByPostModel", name := "enough", desc := "()I" } : Jvm.MethodName)) ∈ lw_all := lw_g (lw_at lw_m6 220 rfl) rfl
theorem q1525 : (Jvm.Cond.methodLink "CuckooByPostLaw" (169 : Nat) ({ cls := "CuckooByPostModel", name := "needed", desc := "(I)I" } : Jvm.MethodName)) ∈ lw_all := lw_g (lw_at lw_m6 224 rfl) rfl
theorem q1529 : (Jvm.Cond.methodLink "CuckooByPostLaw" (173 : Nat) ({ cls := "CuckooByPostModel", name := "lodgings", desc := "()I" } : Jvm.MethodName)) ∈ lw_all := lw_g (lw_at lw_m6 228 rfl) rfl
theorem q1546 : (Jvm.Cond.methodLink "CuckooByPostLaw" (177 : Nat) ({ cls := "CuckooByPostModel", name := "movers", desc := "()I" } : Jvm.MethodName)) ∈ lw_all := lw_g (lw_at lw_m7 5 rfl) rfl
theorem q1550 : (Jvm.Cond.methodLink "CuckooByPostLaw" (181 : Nat) ({ cls := "CuckooByPostModel", name := "leavers", desc := "()I" } : Jvm.MethodName)) ∈ lw_all := lw_g (lw_at lw_m7 9 rfl) rfl
theorem q1554 : (Jvm.Cond.methodLink "CuckooByPostLaw" (186 : Nat) ({ cls := "CuckooByPostModel", name := "whose", desc := "(IIIII)I" } : Jvm.MethodName)) ∈ lw_all := lw_g (lw_at lw_m7 13 rfl) rfl
theorem q1567 : (Jvm.Cond.methodLink "CuckooByPostLaw" (190 : Nat) ({ cls := "CuckooByPostModel", name := "wrote", desc := "(II)I" } : Jvm.MethodName)) ∈ lw_all := lw_g (lw_at lw_m7 26 rfl) rfl
theorem q1571 : (Jvm.Cond.methodLink "CuckooByPostLaw" (194 : Nat) ({ cls := "CuckooByPostModel", name := "burn", desc := "()I" } : Jvm.MethodName)) ∈ lw_all := lw_g (lw_at lw_m7 30 rfl) rfl
theorem q1575 : (Jvm.Cond.methodLink "CuckooByPostLaw" (198 : Nat) ({ cls := "CuckooByPostModel", name := "fits", desc := "()I" } : Jvm.MethodName)) ∈ lw_all := lw_g (lw_at lw_m7 34 rfl) rfl
theorem q1587 : (Jvm.Cond.methodLink "CuckooByPostLaw" (202 : Nat) ({ cls := "CuckooByPostModel", name := "ask", desc := "()I" } : Jvm.MethodName)) ∈ lw_all := lw_g (lw_at lw_m7 46 rfl) rfl
theorem q1591 : (Jvm.Cond.methodLink "CuckooByPostLaw" (206 : Nat) ({ cls := "CuckooByPostModel", name := "rests", desc := "(I)I" } : Jvm.MethodName)) ∈ lw_all := lw_g (lw_at lw_m7 50 rfl) rfl
theorem q1604 : (Jvm.Cond.methodLink "CuckooByPostLaw" (210 : Nat) ({ cls := "CuckooByPostModel", name := "law", desc := "()I" } : Jvm.MethodName)) ∈ lw_all := lw_g (lw_at lw_m7 63 rfl) rfl
theorem q1612 : (Jvm.Cond.methodLink "CuckooByPostLaw" (214 : Nat) ({ cls := "CuckooByPostModel", name := "years", desc := "(II)I" } : Jvm.MethodName)) ∈ lw_all := lw_g (lw_at lw_m7 71 rfl) rfl
theorem q1621 : (Jvm.Cond.methodLink "CuckooByPostLaw" (218 : Nat) ({ cls := "CuckooByPostModel", name := "keep", desc := "(I)Z" } : Jvm.MethodName)) ∈ lw_all := lw_g (lw_at lw_m7 80 rfl) rfl
theorem q1625 : (Jvm.Cond.methodLink "CuckooByPostLaw" (222 : Nat) ({ cls := "CuckooByPostModel", name := "again", desc := "(I)Z" } : Jvm.MethodName)) ∈ lw_all := lw_g (lw_at lw_m7 84 rfl) rfl
theorem q1629 : (Jvm.Cond.methodLink "CuckooByPostLaw" (226 : Nat) ({ cls := "CuckooByPostModel", name := "count", desc := "(I)I" } : Jvm.MethodName)) ∈ lw_all := lw_g (lw_at lw_m7 88 rfl) rfl
theorem q1637 : (Jvm.Cond.methodLink "CuckooByPostLaw" (230 : Nat) ({ cls := "CuckooByPostModel", name := "row", desc := "(I)J" } : Jvm.MethodName)) ∈ lw_all := lw_g (lw_at lw_m7 96 rfl) rfl

/-! CuckooByPost$Spring -/
set_option maxRecDepth 100000
def RX2 : String := "CuckooByPost$Spring"
def TX2 : u_T := fun k => match k with
  | 0 => ("CuckooByPost$Spring", "kind", "[I", true)
  | 1 => ("CuckooByPost$Spring", "strength", "[I", true)
  | 2 => ("CuckooByPost$Spring", "colour", "[I", true)
  | 3 => ("CuckooByPost$Spring", "own", "[I", true)
  | 4 => ("CuckooByPost$Spring", "notice", "[I", true)
  | 5 => ("CuckooByPost$Spring", "replies", "[I", true)
  | 6 => ("CuckooByPost$Spring", "guest", "[I", true)
  | 7 => ("CuckooByPost$Spring", "tint", "[I", true)
  | 8 => ("CuckooByPost$Spring", "age", "[I", true)
  | 9 => ("CuckooByPost$Spring", "fed", "[I", true)
  | 10 => ("CuckooByPost$Spring", "day", "I", false)
  | 11 => ("CuckooByPost$Spring", "flown", "I", false)
  | _ => ("CuckooByPost$Spring", "turned", "I", false)
def tyX2 : Nat → FieldType := fun k => match k with
  | 0 => .array .int
  | 1 => .array .int
  | 2 => .array .int
  | 3 => .array .int
  | 4 => .array .int
  | 5 => .array .int
  | 6 => .array .int
  | 7 => .array .int
  | 8 => .array .int
  | 9 => .array .int
  | 10 => .int
  | 11 => .int
  | _ => .int
abbrev wsX20 : List Cond := u_ws RX2 TX2 13
set_option maxRecDepth 100000 in
theorem nmX2 : ∀ a, a < 13 → ∀ b, b < 13 → a ≠ b → (TX2 a).2.1 ≠ (TX2 b).2.1 := by decide +kernel
set_option maxRecDepth 100000 in
theorem tyX2_ok : ∀ k, k < 13 → parseFieldDescriptor (TX2 k).2.2.1 = some (tyX2 k) := by decide +kernel
abbrev cX2_init : ByteArray := prog_7_method_1_code
def yX2_init : MethodName := ⟨RX2, "<init>", "()V"⟩
def dkwX2_init_3 : List UInt8 := [188, 10, 181, 0, 36, 42, 16, 8, 188, 10, 181, 0, 39, 177]
abbrev dktX2_init_3 : List UInt8 := dkwX2_init_3 ++ []
def dkwX2_init_2 : List UInt8 := [188, 10, 181, 0, 27, 42, 16, 8, 188, 10, 181, 0, 30, 42, 16, 8, 188, 10, 181, 0, 33, 42, 16, 8]
abbrev dktX2_init_2 : List UInt8 := dkwX2_init_2 ++ dktX2_init_3
def dkwX2_init_1 : List UInt8 := [188, 10, 181, 0, 18, 42, 16, 8, 188, 10, 181, 0, 21, 42, 16, 8, 188, 10, 181, 0, 24, 42, 16, 8]
abbrev dktX2_init_1 : List UInt8 := dkwX2_init_1 ++ dktX2_init_2
def dkwX2_init_0 : List UInt8 := [42, 183, 0, 3, 42, 16, 8, 188, 10, 181, 0, 9, 42, 16, 8, 188, 10, 181, 0, 15, 42, 16, 8]
abbrev dktX2_init_0 : List UInt8 := dkwX2_init_0 ++ dktX2_init_1
theorem dksX2_init_0 : cX2_init.data.toList.drop 0 = dktX2_init_0 := by decide +kernel
theorem dksX2_init_1 : cX2_init.data.toList.drop 23 = dktX2_init_1 := dk_seg dksX2_init_0 23 rfl rfl
theorem dksX2_init_2 : cX2_init.data.toList.drop 47 = dktX2_init_2 := dk_seg dksX2_init_1 24 rfl rfl
theorem dksX2_init_3 : cX2_init.data.toList.drop 71 = dktX2_init_3 := dk_seg dksX2_init_2 24 rfl rfl
theorem dX2_init_0 : decode cX2_init 0 = .ok (.aload_n 0, 1) := dk_42 (dk_at dksX2_init_0 0 rfl rfl)
theorem dX2_init_1 : decode cX2_init 1 = .ok (.invokespecial 3, 3) := dk_183 0 3 (dk_at dksX2_init_0 1 rfl rfl)
theorem dX2_init_4 : decode cX2_init 4 = .ok (.aload_n 0, 1) := dk_42 (dk_at dksX2_init_0 4 rfl rfl)
theorem dX2_init_5 : decode cX2_init 5 = .ok (.bipush 8, 2) := dk_16 8 (dk_at dksX2_init_0 5 rfl rfl)
theorem dX2_init_7 : decode cX2_init 7 = .ok (.newarray .int, 2) := dk_188_10 (dk_at dksX2_init_0 7 rfl rfl)
theorem dX2_init_9 : decode cX2_init 9 = .ok (.putfield 9, 3) := dk_181 0 9 (dk_at dksX2_init_0 9 rfl rfl)
theorem dX2_init_12 : decode cX2_init 12 = .ok (.aload_n 0, 1) := dk_42 (dk_at dksX2_init_0 12 rfl rfl)
theorem dX2_init_13 : decode cX2_init 13 = .ok (.bipush 8, 2) := dk_16 8 (dk_at dksX2_init_0 13 rfl rfl)
theorem dX2_init_15 : decode cX2_init 15 = .ok (.newarray .int, 2) := dk_188_10 (dk_at dksX2_init_0 15 rfl rfl)
theorem dX2_init_17 : decode cX2_init 17 = .ok (.putfield 15, 3) := dk_181 0 15 (dk_at dksX2_init_0 17 rfl rfl)
theorem dX2_init_20 : decode cX2_init 20 = .ok (.aload_n 0, 1) := dk_42 (dk_at dksX2_init_0 20 rfl rfl)
theorem dX2_init_21 : decode cX2_init 21 = .ok (.bipush 8, 2) := dk_16 8 (dk_at dksX2_init_0 21 rfl rfl)
theorem dX2_init_23 : decode cX2_init 23 = .ok (.newarray .int, 2) := dk_188_10 (dk_at dksX2_init_1 0 rfl rfl)
theorem dX2_init_25 : decode cX2_init 25 = .ok (.putfield 18, 3) := dk_181 0 18 (dk_at dksX2_init_1 2 rfl rfl)
theorem dX2_init_28 : decode cX2_init 28 = .ok (.aload_n 0, 1) := dk_42 (dk_at dksX2_init_1 5 rfl rfl)
theorem dX2_init_29 : decode cX2_init 29 = .ok (.bipush 8, 2) := dk_16 8 (dk_at dksX2_init_1 6 rfl rfl)
theorem dX2_init_31 : decode cX2_init 31 = .ok (.newarray .int, 2) := dk_188_10 (dk_at dksX2_init_1 8 rfl rfl)
theorem dX2_init_33 : decode cX2_init 33 = .ok (.putfield 21, 3) := dk_181 0 21 (dk_at dksX2_init_1 10 rfl rfl)
theorem dX2_init_36 : decode cX2_init 36 = .ok (.aload_n 0, 1) := dk_42 (dk_at dksX2_init_1 13 rfl rfl)
theorem dX2_init_37 : decode cX2_init 37 = .ok (.bipush 8, 2) := dk_16 8 (dk_at dksX2_init_1 14 rfl rfl)
theorem dX2_init_39 : decode cX2_init 39 = .ok (.newarray .int, 2) := dk_188_10 (dk_at dksX2_init_1 16 rfl rfl)
theorem dX2_init_41 : decode cX2_init 41 = .ok (.putfield 24, 3) := dk_181 0 24 (dk_at dksX2_init_1 18 rfl rfl)
theorem dX2_init_44 : decode cX2_init 44 = .ok (.aload_n 0, 1) := dk_42 (dk_at dksX2_init_1 21 rfl rfl)
theorem dX2_init_45 : decode cX2_init 45 = .ok (.bipush 8, 2) := dk_16 8 (dk_at dksX2_init_1 22 rfl rfl)
theorem dX2_init_47 : decode cX2_init 47 = .ok (.newarray .int, 2) := dk_188_10 (dk_at dksX2_init_2 0 rfl rfl)
theorem dX2_init_49 : decode cX2_init 49 = .ok (.putfield 27, 3) := dk_181 0 27 (dk_at dksX2_init_2 2 rfl rfl)
theorem dX2_init_52 : decode cX2_init 52 = .ok (.aload_n 0, 1) := dk_42 (dk_at dksX2_init_2 5 rfl rfl)
theorem dX2_init_53 : decode cX2_init 53 = .ok (.bipush 8, 2) := dk_16 8 (dk_at dksX2_init_2 6 rfl rfl)
theorem dX2_init_55 : decode cX2_init 55 = .ok (.newarray .int, 2) := dk_188_10 (dk_at dksX2_init_2 8 rfl rfl)
theorem dX2_init_57 : decode cX2_init 57 = .ok (.putfield 30, 3) := dk_181 0 30 (dk_at dksX2_init_2 10 rfl rfl)
theorem dX2_init_60 : decode cX2_init 60 = .ok (.aload_n 0, 1) := dk_42 (dk_at dksX2_init_2 13 rfl rfl)
theorem dX2_init_61 : decode cX2_init 61 = .ok (.bipush 8, 2) := dk_16 8 (dk_at dksX2_init_2 14 rfl rfl)
theorem dX2_init_63 : decode cX2_init 63 = .ok (.newarray .int, 2) := dk_188_10 (dk_at dksX2_init_2 16 rfl rfl)
theorem dX2_init_65 : decode cX2_init 65 = .ok (.putfield 33, 3) := dk_181 0 33 (dk_at dksX2_init_2 18 rfl rfl)
theorem dX2_init_68 : decode cX2_init 68 = .ok (.aload_n 0, 1) := dk_42 (dk_at dksX2_init_2 21 rfl rfl)
theorem dX2_init_69 : decode cX2_init 69 = .ok (.bipush 8, 2) := dk_16 8 (dk_at dksX2_init_2 22 rfl rfl)
theorem dX2_init_71 : decode cX2_init 71 = .ok (.newarray .int, 2) := dk_188_10 (dk_at dksX2_init_3 0 rfl rfl)
theorem dX2_init_73 : decode cX2_init 73 = .ok (.putfield 36, 3) := dk_181 0 36 (dk_at dksX2_init_3 2 rfl rfl)
theorem dX2_init_76 : decode cX2_init 76 = .ok (.aload_n 0, 1) := dk_42 (dk_at dksX2_init_3 5 rfl rfl)
theorem dX2_init_77 : decode cX2_init 77 = .ok (.bipush 8, 2) := dk_16 8 (dk_at dksX2_init_3 6 rfl rfl)
theorem dX2_init_79 : decode cX2_init 79 = .ok (.newarray .int, 2) := dk_188_10 (dk_at dksX2_init_3 8 rfl rfl)
theorem dX2_init_81 : decode cX2_init 81 = .ok (.putfield 39, 3) := dk_181 0 39 (dk_at dksX2_init_3 10 rfl rfl)
theorem dX2_init_84 : decode cX2_init 84 = .ok (.return_, 1) := dk_177 (dk_at dksX2_init_3 13 rfl rfl)
abbrev cX2_comes : ByteArray := prog_7_method_3_code
def yX2_comes : MethodName := ⟨RX2, "comes", "(I)V"⟩
def dkwX2_comes_0 : List UInt8 := [42, 180, 0, 24, 27, 2, 79, 42, 180, 0, 27, 27, 3, 79, 42, 27, 182, 0, 58, 177]
abbrev dktX2_comes_0 : List UInt8 := dkwX2_comes_0 ++ []
theorem dksX2_comes_0 : cX2_comes.data.toList.drop 0 = dktX2_comes_0 := by decide +kernel
theorem dX2_comes_0 : decode cX2_comes 0 = .ok (.aload_n 0, 1) := dk_42 (dk_at dksX2_comes_0 0 rfl rfl)
theorem dX2_comes_1 : decode cX2_comes 1 = .ok (.getfield 24, 3) := dk_180 0 24 (dk_at dksX2_comes_0 1 rfl rfl)
theorem dX2_comes_4 : decode cX2_comes 4 = .ok (.iload_n 1, 1) := dk_27 (dk_at dksX2_comes_0 4 rfl rfl)
theorem dX2_comes_5 : decode cX2_comes 5 = .ok (.iconst (-1), 1) := dk_2 (dk_at dksX2_comes_0 5 rfl rfl)
theorem dX2_comes_6 : decode cX2_comes 6 = .ok (.iastore, 1) := dk_79 (dk_at dksX2_comes_0 6 rfl rfl)
theorem dX2_comes_7 : decode cX2_comes 7 = .ok (.aload_n 0, 1) := dk_42 (dk_at dksX2_comes_0 7 rfl rfl)
theorem dX2_comes_8 : decode cX2_comes 8 = .ok (.getfield 27, 3) := dk_180 0 27 (dk_at dksX2_comes_0 8 rfl rfl)
theorem dX2_comes_11 : decode cX2_comes 11 = .ok (.iload_n 1, 1) := dk_27 (dk_at dksX2_comes_0 11 rfl rfl)
theorem dX2_comes_12 : decode cX2_comes 12 = .ok (.iconst 0, 1) := dk_3 (dk_at dksX2_comes_0 12 rfl rfl)
theorem dX2_comes_13 : decode cX2_comes 13 = .ok (.iastore, 1) := dk_79 (dk_at dksX2_comes_0 13 rfl rfl)
theorem dX2_comes_14 : decode cX2_comes 14 = .ok (.aload_n 0, 1) := dk_42 (dk_at dksX2_comes_0 14 rfl rfl)
theorem dX2_comes_15 : decode cX2_comes 15 = .ok (.iload_n 1, 1) := dk_27 (dk_at dksX2_comes_0 15 rfl rfl)
theorem dX2_comes_16 : decode cX2_comes 16 = .ok (.invokevirtual 58, 3) := dk_182 0 58 (dk_at dksX2_comes_0 16 rfl rfl)
theorem dX2_comes_19 : decode cX2_comes 19 = .ok (.return_, 1) := dk_177 (dk_at dksX2_comes_0 19 rfl rfl)
abbrev cX2_leaves : ByteArray := prog_7_method_4_code
def yX2_leaves : MethodName := ⟨RX2, "leaves", "(I)V"⟩
def dkwX2_leaves_1 : List UInt8 := [180, 0, 39, 27, 3, 79, 177]
abbrev dktX2_leaves_1 : List UInt8 := dkwX2_leaves_1 ++ []
def dkwX2_leaves_0 : List UInt8 := [42, 180, 0, 30, 27, 3, 79, 42, 180, 0, 33, 27, 3, 79, 42, 180, 0, 36, 27, 3, 79, 42]
abbrev dktX2_leaves_0 : List UInt8 := dkwX2_leaves_0 ++ dktX2_leaves_1
theorem dksX2_leaves_0 : cX2_leaves.data.toList.drop 0 = dktX2_leaves_0 := by decide +kernel
theorem dksX2_leaves_1 : cX2_leaves.data.toList.drop 22 = dktX2_leaves_1 := dk_seg dksX2_leaves_0 22 rfl rfl
theorem dX2_leaves_0 : decode cX2_leaves 0 = .ok (.aload_n 0, 1) := dk_42 (dk_at dksX2_leaves_0 0 rfl rfl)
theorem dX2_leaves_1 : decode cX2_leaves 1 = .ok (.getfield 30, 3) := dk_180 0 30 (dk_at dksX2_leaves_0 1 rfl rfl)
theorem dX2_leaves_4 : decode cX2_leaves 4 = .ok (.iload_n 1, 1) := dk_27 (dk_at dksX2_leaves_0 4 rfl rfl)
theorem dX2_leaves_5 : decode cX2_leaves 5 = .ok (.iconst 0, 1) := dk_3 (dk_at dksX2_leaves_0 5 rfl rfl)
theorem dX2_leaves_6 : decode cX2_leaves 6 = .ok (.iastore, 1) := dk_79 (dk_at dksX2_leaves_0 6 rfl rfl)
theorem dX2_leaves_7 : decode cX2_leaves 7 = .ok (.aload_n 0, 1) := dk_42 (dk_at dksX2_leaves_0 7 rfl rfl)
theorem dX2_leaves_8 : decode cX2_leaves 8 = .ok (.getfield 33, 3) := dk_180 0 33 (dk_at dksX2_leaves_0 8 rfl rfl)
theorem dX2_leaves_11 : decode cX2_leaves 11 = .ok (.iload_n 1, 1) := dk_27 (dk_at dksX2_leaves_0 11 rfl rfl)
theorem dX2_leaves_12 : decode cX2_leaves 12 = .ok (.iconst 0, 1) := dk_3 (dk_at dksX2_leaves_0 12 rfl rfl)
theorem dX2_leaves_13 : decode cX2_leaves 13 = .ok (.iastore, 1) := dk_79 (dk_at dksX2_leaves_0 13 rfl rfl)
theorem dX2_leaves_14 : decode cX2_leaves 14 = .ok (.aload_n 0, 1) := dk_42 (dk_at dksX2_leaves_0 14 rfl rfl)
theorem dX2_leaves_15 : decode cX2_leaves 15 = .ok (.getfield 36, 3) := dk_180 0 36 (dk_at dksX2_leaves_0 15 rfl rfl)
theorem dX2_leaves_18 : decode cX2_leaves 18 = .ok (.iload_n 1, 1) := dk_27 (dk_at dksX2_leaves_0 18 rfl rfl)
theorem dX2_leaves_19 : decode cX2_leaves 19 = .ok (.iconst 0, 1) := dk_3 (dk_at dksX2_leaves_0 19 rfl rfl)
theorem dX2_leaves_20 : decode cX2_leaves 20 = .ok (.iastore, 1) := dk_79 (dk_at dksX2_leaves_0 20 rfl rfl)
theorem dX2_leaves_21 : decode cX2_leaves 21 = .ok (.aload_n 0, 1) := dk_42 (dk_at dksX2_leaves_0 21 rfl rfl)
theorem dX2_leaves_22 : decode cX2_leaves 22 = .ok (.getfield 39, 3) := dk_180 0 39 (dk_at dksX2_leaves_1 0 rfl rfl)
theorem dX2_leaves_25 : decode cX2_leaves 25 = .ok (.iload_n 1, 1) := dk_27 (dk_at dksX2_leaves_1 3 rfl rfl)
theorem dX2_leaves_26 : decode cX2_leaves 26 = .ok (.iconst 0, 1) := dk_3 (dk_at dksX2_leaves_1 4 rfl rfl)
theorem dX2_leaves_27 : decode cX2_leaves 27 = .ok (.iastore, 1) := dk_79 (dk_at dksX2_leaves_1 5 rfl rfl)
theorem dX2_leaves_28 : decode cX2_leaves 28 = .ok (.return_, 1) := dk_177 (dk_at dksX2_leaves_1 6 rfl rfl)
abbrev cX2_becomes : ByteArray := prog_7_method_2_code
def yX2_becomes : MethodName := ⟨RX2, "becomes", "(LCuckooByPost$Spring;)V"⟩
def dkwX2_becomes_7 : List UInt8 := [181, 0, 52, 42, 43, 180, 0, 55, 181, 0, 55, 177]
abbrev dktX2_becomes_7 : List UInt8 := dkwX2_becomes_7 ++ []
def dkwX2_becomes_6 : List UInt8 := [180, 0, 39, 3, 16, 8, 184, 0, 42, 42, 43, 180, 0, 48, 181, 0, 48, 42, 43, 180, 0, 52]
abbrev dktX2_becomes_6 : List UInt8 := dkwX2_becomes_6 ++ dktX2_becomes_7
def dkwX2_becomes_5 : List UInt8 := [184, 0, 42, 43, 180, 0, 36, 3, 42, 180, 0, 36, 3, 16, 8, 184, 0, 42, 43, 180, 0, 39, 3, 42]
abbrev dktX2_becomes_5 : List UInt8 := dkwX2_becomes_5 ++ dktX2_becomes_6
def dkwX2_becomes_4 : List UInt8 := [3, 42, 180, 0, 30, 3, 16, 8, 184, 0, 42, 43, 180, 0, 33, 3, 42, 180, 0, 33, 3, 16, 8]
abbrev dktX2_becomes_4 : List UInt8 := dkwX2_becomes_4 ++ dktX2_becomes_5
def dkwX2_becomes_3 : List UInt8 := [16, 8, 184, 0, 42, 43, 180, 0, 27, 3, 42, 180, 0, 27, 3, 16, 8, 184, 0, 42, 43, 180, 0, 30]
abbrev dktX2_becomes_3 : List UInt8 := dkwX2_becomes_3 ++ dktX2_becomes_4
def dkwX2_becomes_2 : List UInt8 := [180, 0, 21, 3, 42, 180, 0, 21, 3, 16, 8, 184, 0, 42, 43, 180, 0, 24, 3, 42, 180, 0, 24, 3]
abbrev dktX2_becomes_2 : List UInt8 := dkwX2_becomes_2 ++ dktX2_becomes_3
def dkwX2_becomes_1 : List UInt8 := [3, 16, 8, 184, 0, 42, 43, 180, 0, 18, 3, 42, 180, 0, 18, 3, 16, 8, 184, 0, 42, 43]
abbrev dktX2_becomes_1 : List UInt8 := dkwX2_becomes_1 ++ dktX2_becomes_2
def dkwX2_becomes_0 : List UInt8 := [43, 180, 0, 9, 3, 42, 180, 0, 9, 3, 16, 8, 184, 0, 42, 43, 180, 0, 15, 3, 42, 180, 0, 15]
abbrev dktX2_becomes_0 : List UInt8 := dkwX2_becomes_0 ++ dktX2_becomes_1
theorem dksX2_becomes_0 : cX2_becomes.data.toList.drop 0 = dktX2_becomes_0 := by decide +kernel
theorem dksX2_becomes_1 : cX2_becomes.data.toList.drop 24 = dktX2_becomes_1 := dk_seg dksX2_becomes_0 24 rfl rfl
theorem dksX2_becomes_2 : cX2_becomes.data.toList.drop 46 = dktX2_becomes_2 := dk_seg dksX2_becomes_1 22 rfl rfl
theorem dksX2_becomes_3 : cX2_becomes.data.toList.drop 70 = dktX2_becomes_3 := dk_seg dksX2_becomes_2 24 rfl rfl
theorem dksX2_becomes_4 : cX2_becomes.data.toList.drop 94 = dktX2_becomes_4 := dk_seg dksX2_becomes_3 24 rfl rfl
theorem dksX2_becomes_5 : cX2_becomes.data.toList.drop 117 = dktX2_becomes_5 := dk_seg dksX2_becomes_4 23 rfl rfl
theorem dksX2_becomes_6 : cX2_becomes.data.toList.drop 141 = dktX2_becomes_6 := dk_seg dksX2_becomes_5 24 rfl rfl
theorem dksX2_becomes_7 : cX2_becomes.data.toList.drop 163 = dktX2_becomes_7 := dk_seg dksX2_becomes_6 22 rfl rfl
theorem dX2_becomes_0 : decode cX2_becomes 0 = .ok (.aload_n 1, 1) := dk_43 (dk_at dksX2_becomes_0 0 rfl rfl)
theorem dX2_becomes_1 : decode cX2_becomes 1 = .ok (.getfield 9, 3) := dk_180 0 9 (dk_at dksX2_becomes_0 1 rfl rfl)
theorem dX2_becomes_4 : decode cX2_becomes 4 = .ok (.iconst 0, 1) := dk_3 (dk_at dksX2_becomes_0 4 rfl rfl)
theorem dX2_becomes_5 : decode cX2_becomes 5 = .ok (.aload_n 0, 1) := dk_42 (dk_at dksX2_becomes_0 5 rfl rfl)
theorem dX2_becomes_6 : decode cX2_becomes 6 = .ok (.getfield 9, 3) := dk_180 0 9 (dk_at dksX2_becomes_0 6 rfl rfl)
theorem dX2_becomes_9 : decode cX2_becomes 9 = .ok (.iconst 0, 1) := dk_3 (dk_at dksX2_becomes_0 9 rfl rfl)
theorem dX2_becomes_10 : decode cX2_becomes 10 = .ok (.bipush 8, 2) := dk_16 8 (dk_at dksX2_becomes_0 10 rfl rfl)
theorem dX2_becomes_12 : decode cX2_becomes 12 = .ok (.invokestatic 42, 3) := dk_184 0 42 (dk_at dksX2_becomes_0 12 rfl rfl)
theorem dX2_becomes_15 : decode cX2_becomes 15 = .ok (.aload_n 1, 1) := dk_43 (dk_at dksX2_becomes_0 15 rfl rfl)
theorem dX2_becomes_16 : decode cX2_becomes 16 = .ok (.getfield 15, 3) := dk_180 0 15 (dk_at dksX2_becomes_0 16 rfl rfl)
theorem dX2_becomes_19 : decode cX2_becomes 19 = .ok (.iconst 0, 1) := dk_3 (dk_at dksX2_becomes_0 19 rfl rfl)
theorem dX2_becomes_20 : decode cX2_becomes 20 = .ok (.aload_n 0, 1) := dk_42 (dk_at dksX2_becomes_0 20 rfl rfl)
theorem dX2_becomes_21 : decode cX2_becomes 21 = .ok (.getfield 15, 3) := dk_180 0 15 (dk_at dksX2_becomes_0 21 rfl rfl)
theorem dX2_becomes_24 : decode cX2_becomes 24 = .ok (.iconst 0, 1) := dk_3 (dk_at dksX2_becomes_1 0 rfl rfl)
theorem dX2_becomes_25 : decode cX2_becomes 25 = .ok (.bipush 8, 2) := dk_16 8 (dk_at dksX2_becomes_1 1 rfl rfl)
theorem dX2_becomes_27 : decode cX2_becomes 27 = .ok (.invokestatic 42, 3) := dk_184 0 42 (dk_at dksX2_becomes_1 3 rfl rfl)
theorem dX2_becomes_30 : decode cX2_becomes 30 = .ok (.aload_n 1, 1) := dk_43 (dk_at dksX2_becomes_1 6 rfl rfl)
theorem dX2_becomes_31 : decode cX2_becomes 31 = .ok (.getfield 18, 3) := dk_180 0 18 (dk_at dksX2_becomes_1 7 rfl rfl)
theorem dX2_becomes_34 : decode cX2_becomes 34 = .ok (.iconst 0, 1) := dk_3 (dk_at dksX2_becomes_1 10 rfl rfl)
theorem dX2_becomes_35 : decode cX2_becomes 35 = .ok (.aload_n 0, 1) := dk_42 (dk_at dksX2_becomes_1 11 rfl rfl)
theorem dX2_becomes_36 : decode cX2_becomes 36 = .ok (.getfield 18, 3) := dk_180 0 18 (dk_at dksX2_becomes_1 12 rfl rfl)
theorem dX2_becomes_39 : decode cX2_becomes 39 = .ok (.iconst 0, 1) := dk_3 (dk_at dksX2_becomes_1 15 rfl rfl)
theorem dX2_becomes_40 : decode cX2_becomes 40 = .ok (.bipush 8, 2) := dk_16 8 (dk_at dksX2_becomes_1 16 rfl rfl)
theorem dX2_becomes_42 : decode cX2_becomes 42 = .ok (.invokestatic 42, 3) := dk_184 0 42 (dk_at dksX2_becomes_1 18 rfl rfl)
theorem dX2_becomes_45 : decode cX2_becomes 45 = .ok (.aload_n 1, 1) := dk_43 (dk_at dksX2_becomes_1 21 rfl rfl)
theorem dX2_becomes_46 : decode cX2_becomes 46 = .ok (.getfield 21, 3) := dk_180 0 21 (dk_at dksX2_becomes_2 0 rfl rfl)
theorem dX2_becomes_49 : decode cX2_becomes 49 = .ok (.iconst 0, 1) := dk_3 (dk_at dksX2_becomes_2 3 rfl rfl)
theorem dX2_becomes_50 : decode cX2_becomes 50 = .ok (.aload_n 0, 1) := dk_42 (dk_at dksX2_becomes_2 4 rfl rfl)
theorem dX2_becomes_51 : decode cX2_becomes 51 = .ok (.getfield 21, 3) := dk_180 0 21 (dk_at dksX2_becomes_2 5 rfl rfl)
theorem dX2_becomes_54 : decode cX2_becomes 54 = .ok (.iconst 0, 1) := dk_3 (dk_at dksX2_becomes_2 8 rfl rfl)
theorem dX2_becomes_55 : decode cX2_becomes 55 = .ok (.bipush 8, 2) := dk_16 8 (dk_at dksX2_becomes_2 9 rfl rfl)
theorem dX2_becomes_57 : decode cX2_becomes 57 = .ok (.invokestatic 42, 3) := dk_184 0 42 (dk_at dksX2_becomes_2 11 rfl rfl)
theorem dX2_becomes_60 : decode cX2_becomes 60 = .ok (.aload_n 1, 1) := dk_43 (dk_at dksX2_becomes_2 14 rfl rfl)
theorem dX2_becomes_61 : decode cX2_becomes 61 = .ok (.getfield 24, 3) := dk_180 0 24 (dk_at dksX2_becomes_2 15 rfl rfl)
theorem dX2_becomes_64 : decode cX2_becomes 64 = .ok (.iconst 0, 1) := dk_3 (dk_at dksX2_becomes_2 18 rfl rfl)
theorem dX2_becomes_65 : decode cX2_becomes 65 = .ok (.aload_n 0, 1) := dk_42 (dk_at dksX2_becomes_2 19 rfl rfl)
theorem dX2_becomes_66 : decode cX2_becomes 66 = .ok (.getfield 24, 3) := dk_180 0 24 (dk_at dksX2_becomes_2 20 rfl rfl)
theorem dX2_becomes_69 : decode cX2_becomes 69 = .ok (.iconst 0, 1) := dk_3 (dk_at dksX2_becomes_2 23 rfl rfl)
theorem dX2_becomes_70 : decode cX2_becomes 70 = .ok (.bipush 8, 2) := dk_16 8 (dk_at dksX2_becomes_3 0 rfl rfl)
theorem dX2_becomes_72 : decode cX2_becomes 72 = .ok (.invokestatic 42, 3) := dk_184 0 42 (dk_at dksX2_becomes_3 2 rfl rfl)
theorem dX2_becomes_75 : decode cX2_becomes 75 = .ok (.aload_n 1, 1) := dk_43 (dk_at dksX2_becomes_3 5 rfl rfl)
theorem dX2_becomes_76 : decode cX2_becomes 76 = .ok (.getfield 27, 3) := dk_180 0 27 (dk_at dksX2_becomes_3 6 rfl rfl)
theorem dX2_becomes_79 : decode cX2_becomes 79 = .ok (.iconst 0, 1) := dk_3 (dk_at dksX2_becomes_3 9 rfl rfl)
theorem dX2_becomes_80 : decode cX2_becomes 80 = .ok (.aload_n 0, 1) := dk_42 (dk_at dksX2_becomes_3 10 rfl rfl)
theorem dX2_becomes_81 : decode cX2_becomes 81 = .ok (.getfield 27, 3) := dk_180 0 27 (dk_at dksX2_becomes_3 11 rfl rfl)
theorem dX2_becomes_84 : decode cX2_becomes 84 = .ok (.iconst 0, 1) := dk_3 (dk_at dksX2_becomes_3 14 rfl rfl)
theorem dX2_becomes_85 : decode cX2_becomes 85 = .ok (.bipush 8, 2) := dk_16 8 (dk_at dksX2_becomes_3 15 rfl rfl)
theorem dX2_becomes_87 : decode cX2_becomes 87 = .ok (.invokestatic 42, 3) := dk_184 0 42 (dk_at dksX2_becomes_3 17 rfl rfl)
theorem dX2_becomes_90 : decode cX2_becomes 90 = .ok (.aload_n 1, 1) := dk_43 (dk_at dksX2_becomes_3 20 rfl rfl)
theorem dX2_becomes_91 : decode cX2_becomes 91 = .ok (.getfield 30, 3) := dk_180 0 30 (dk_at dksX2_becomes_3 21 rfl rfl)
theorem dX2_becomes_94 : decode cX2_becomes 94 = .ok (.iconst 0, 1) := dk_3 (dk_at dksX2_becomes_4 0 rfl rfl)
theorem dX2_becomes_95 : decode cX2_becomes 95 = .ok (.aload_n 0, 1) := dk_42 (dk_at dksX2_becomes_4 1 rfl rfl)
theorem dX2_becomes_96 : decode cX2_becomes 96 = .ok (.getfield 30, 3) := dk_180 0 30 (dk_at dksX2_becomes_4 2 rfl rfl)
theorem dX2_becomes_99 : decode cX2_becomes 99 = .ok (.iconst 0, 1) := dk_3 (dk_at dksX2_becomes_4 5 rfl rfl)
theorem dX2_becomes_100 : decode cX2_becomes 100 = .ok (.bipush 8, 2) := dk_16 8 (dk_at dksX2_becomes_4 6 rfl rfl)
theorem dX2_becomes_102 : decode cX2_becomes 102 = .ok (.invokestatic 42, 3) := dk_184 0 42 (dk_at dksX2_becomes_4 8 rfl rfl)
theorem dX2_becomes_105 : decode cX2_becomes 105 = .ok (.aload_n 1, 1) := dk_43 (dk_at dksX2_becomes_4 11 rfl rfl)
theorem dX2_becomes_106 : decode cX2_becomes 106 = .ok (.getfield 33, 3) := dk_180 0 33 (dk_at dksX2_becomes_4 12 rfl rfl)
theorem dX2_becomes_109 : decode cX2_becomes 109 = .ok (.iconst 0, 1) := dk_3 (dk_at dksX2_becomes_4 15 rfl rfl)
theorem dX2_becomes_110 : decode cX2_becomes 110 = .ok (.aload_n 0, 1) := dk_42 (dk_at dksX2_becomes_4 16 rfl rfl)
theorem dX2_becomes_111 : decode cX2_becomes 111 = .ok (.getfield 33, 3) := dk_180 0 33 (dk_at dksX2_becomes_4 17 rfl rfl)
theorem dX2_becomes_114 : decode cX2_becomes 114 = .ok (.iconst 0, 1) := dk_3 (dk_at dksX2_becomes_4 20 rfl rfl)
theorem dX2_becomes_115 : decode cX2_becomes 115 = .ok (.bipush 8, 2) := dk_16 8 (dk_at dksX2_becomes_4 21 rfl rfl)
theorem dX2_becomes_117 : decode cX2_becomes 117 = .ok (.invokestatic 42, 3) := dk_184 0 42 (dk_at dksX2_becomes_5 0 rfl rfl)
theorem dX2_becomes_120 : decode cX2_becomes 120 = .ok (.aload_n 1, 1) := dk_43 (dk_at dksX2_becomes_5 3 rfl rfl)
theorem dX2_becomes_121 : decode cX2_becomes 121 = .ok (.getfield 36, 3) := dk_180 0 36 (dk_at dksX2_becomes_5 4 rfl rfl)
theorem dX2_becomes_124 : decode cX2_becomes 124 = .ok (.iconst 0, 1) := dk_3 (dk_at dksX2_becomes_5 7 rfl rfl)
theorem dX2_becomes_125 : decode cX2_becomes 125 = .ok (.aload_n 0, 1) := dk_42 (dk_at dksX2_becomes_5 8 rfl rfl)
theorem dX2_becomes_126 : decode cX2_becomes 126 = .ok (.getfield 36, 3) := dk_180 0 36 (dk_at dksX2_becomes_5 9 rfl rfl)
theorem dX2_becomes_129 : decode cX2_becomes 129 = .ok (.iconst 0, 1) := dk_3 (dk_at dksX2_becomes_5 12 rfl rfl)
theorem dX2_becomes_130 : decode cX2_becomes 130 = .ok (.bipush 8, 2) := dk_16 8 (dk_at dksX2_becomes_5 13 rfl rfl)
theorem dX2_becomes_132 : decode cX2_becomes 132 = .ok (.invokestatic 42, 3) := dk_184 0 42 (dk_at dksX2_becomes_5 15 rfl rfl)
theorem dX2_becomes_135 : decode cX2_becomes 135 = .ok (.aload_n 1, 1) := dk_43 (dk_at dksX2_becomes_5 18 rfl rfl)
theorem dX2_becomes_136 : decode cX2_becomes 136 = .ok (.getfield 39, 3) := dk_180 0 39 (dk_at dksX2_becomes_5 19 rfl rfl)
theorem dX2_becomes_139 : decode cX2_becomes 139 = .ok (.iconst 0, 1) := dk_3 (dk_at dksX2_becomes_5 22 rfl rfl)
theorem dX2_becomes_140 : decode cX2_becomes 140 = .ok (.aload_n 0, 1) := dk_42 (dk_at dksX2_becomes_5 23 rfl rfl)
theorem dX2_becomes_141 : decode cX2_becomes 141 = .ok (.getfield 39, 3) := dk_180 0 39 (dk_at dksX2_becomes_6 0 rfl rfl)
theorem dX2_becomes_144 : decode cX2_becomes 144 = .ok (.iconst 0, 1) := dk_3 (dk_at dksX2_becomes_6 3 rfl rfl)
theorem dX2_becomes_145 : decode cX2_becomes 145 = .ok (.bipush 8, 2) := dk_16 8 (dk_at dksX2_becomes_6 4 rfl rfl)
theorem dX2_becomes_147 : decode cX2_becomes 147 = .ok (.invokestatic 42, 3) := dk_184 0 42 (dk_at dksX2_becomes_6 6 rfl rfl)
theorem dX2_becomes_150 : decode cX2_becomes 150 = .ok (.aload_n 0, 1) := dk_42 (dk_at dksX2_becomes_6 9 rfl rfl)
theorem dX2_becomes_151 : decode cX2_becomes 151 = .ok (.aload_n 1, 1) := dk_43 (dk_at dksX2_becomes_6 10 rfl rfl)
theorem dX2_becomes_152 : decode cX2_becomes 152 = .ok (.getfield 48, 3) := dk_180 0 48 (dk_at dksX2_becomes_6 11 rfl rfl)
theorem dX2_becomes_155 : decode cX2_becomes 155 = .ok (.putfield 48, 3) := dk_181 0 48 (dk_at dksX2_becomes_6 14 rfl rfl)
theorem dX2_becomes_158 : decode cX2_becomes 158 = .ok (.aload_n 0, 1) := dk_42 (dk_at dksX2_becomes_6 17 rfl rfl)
theorem dX2_becomes_159 : decode cX2_becomes 159 = .ok (.aload_n 1, 1) := dk_43 (dk_at dksX2_becomes_6 18 rfl rfl)
theorem dX2_becomes_160 : decode cX2_becomes 160 = .ok (.getfield 52, 3) := dk_180 0 52 (dk_at dksX2_becomes_6 19 rfl rfl)
theorem dX2_becomes_163 : decode cX2_becomes 163 = .ok (.putfield 52, 3) := dk_181 0 52 (dk_at dksX2_becomes_7 0 rfl rfl)
theorem dX2_becomes_166 : decode cX2_becomes 166 = .ok (.aload_n 0, 1) := dk_42 (dk_at dksX2_becomes_7 3 rfl rfl)
theorem dX2_becomes_167 : decode cX2_becomes 167 = .ok (.aload_n 1, 1) := dk_43 (dk_at dksX2_becomes_7 4 rfl rfl)
theorem dX2_becomes_168 : decode cX2_becomes 168 = .ok (.getfield 55, 3) := dk_180 0 55 (dk_at dksX2_becomes_7 5 rfl rfl)
theorem dX2_becomes_171 : decode cX2_becomes 171 = .ok (.putfield 55, 3) := dk_181 0 55 (dk_at dksX2_becomes_7 8 rfl rfl)
theorem dX2_becomes_174 : decode cX2_becomes 174 = .ok (.return_, 1) := dk_177 (dk_at dksX2_becomes_7 11 rfl rfl)
abbrev cX2_isNoticed : ByteArray := prog_7_method_6_code
def yX2_isNoticed : MethodName := ⟨RX2, "isNoticed", "(I)Z"⟩
def dkwX2_isNoticed_0 : List UInt8 := [42, 180, 0, 24, 27, 46, 155, 0, 7, 4, 167, 0, 4, 3, 172]
abbrev dktX2_isNoticed_0 : List UInt8 := dkwX2_isNoticed_0 ++ []
theorem dksX2_isNoticed_0 : cX2_isNoticed.data.toList.drop 0 = dktX2_isNoticed_0 := by decide +kernel
theorem dX2_isNoticed_0 : decode cX2_isNoticed 0 = .ok (.aload_n 0, 1) := dk_42 (dk_at dksX2_isNoticed_0 0 rfl rfl)
theorem dX2_isNoticed_1 : decode cX2_isNoticed 1 = .ok (.getfield 24, 3) := dk_180 0 24 (dk_at dksX2_isNoticed_0 1 rfl rfl)
theorem dX2_isNoticed_4 : decode cX2_isNoticed 4 = .ok (.iload_n 1, 1) := dk_27 (dk_at dksX2_isNoticed_0 4 rfl rfl)
theorem dX2_isNoticed_5 : decode cX2_isNoticed 5 = .ok (.iaload, 1) := dk_46 (dk_at dksX2_isNoticed_0 5 rfl rfl)
theorem dX2_isNoticed_6 : decode cX2_isNoticed 6 = .ok (.ifCond .lt 7, 3) := dk_155 0 7 (dk_at dksX2_isNoticed_0 6 rfl rfl)
theorem dX2_isNoticed_9 : decode cX2_isNoticed 9 = .ok (.iconst 1, 1) := dk_4 (dk_at dksX2_isNoticed_0 9 rfl rfl)
theorem dX2_isNoticed_10 : decode cX2_isNoticed 10 = .ok (.goto 4, 3) := dk_167 0 4 (dk_at dksX2_isNoticed_0 10 rfl rfl)
theorem dX2_isNoticed_13 : decode cX2_isNoticed 13 = .ok (.iconst 0, 1) := dk_3 (dk_at dksX2_isNoticed_0 13 rfl rfl)
theorem dX2_isNoticed_14 : decode cX2_isNoticed 14 = .ok (.ireturn, 1) := dk_172 (dk_at dksX2_isNoticed_0 14 rfl rfl)
abbrev cX2_lies : ByteArray := prog_7_method_5_code
def yX2_lies : MethodName := ⟨RX2, "lies", "(II)V"⟩
def dkwX2_lies_1 : List UInt8 := [3, 42, 180, 0, 21, 27, 46, 4, 100, 184, 0, 62, 79, 177]
abbrev dktX2_lies_1 : List UInt8 := dkwX2_lies_1 ++ []
def dkwX2_lies_0 : List UInt8 := [42, 27, 182, 0, 58, 42, 180, 0, 30, 27, 4, 79, 42, 180, 0, 33, 27, 28, 79, 42, 180, 0, 21, 27]
abbrev dktX2_lies_0 : List UInt8 := dkwX2_lies_0 ++ dktX2_lies_1
theorem dksX2_lies_0 : cX2_lies.data.toList.drop 0 = dktX2_lies_0 := by decide +kernel
theorem dksX2_lies_1 : cX2_lies.data.toList.drop 24 = dktX2_lies_1 := dk_seg dksX2_lies_0 24 rfl rfl
theorem dX2_lies_0 : decode cX2_lies 0 = .ok (.aload_n 0, 1) := dk_42 (dk_at dksX2_lies_0 0 rfl rfl)
theorem dX2_lies_1 : decode cX2_lies 1 = .ok (.iload_n 1, 1) := dk_27 (dk_at dksX2_lies_0 1 rfl rfl)
theorem dX2_lies_2 : decode cX2_lies 2 = .ok (.invokevirtual 58, 3) := dk_182 0 58 (dk_at dksX2_lies_0 2 rfl rfl)
theorem dX2_lies_5 : decode cX2_lies 5 = .ok (.aload_n 0, 1) := dk_42 (dk_at dksX2_lies_0 5 rfl rfl)
theorem dX2_lies_6 : decode cX2_lies 6 = .ok (.getfield 30, 3) := dk_180 0 30 (dk_at dksX2_lies_0 6 rfl rfl)
theorem dX2_lies_9 : decode cX2_lies 9 = .ok (.iload_n 1, 1) := dk_27 (dk_at dksX2_lies_0 9 rfl rfl)
theorem dX2_lies_10 : decode cX2_lies 10 = .ok (.iconst 1, 1) := dk_4 (dk_at dksX2_lies_0 10 rfl rfl)
theorem dX2_lies_11 : decode cX2_lies 11 = .ok (.iastore, 1) := dk_79 (dk_at dksX2_lies_0 11 rfl rfl)
theorem dX2_lies_12 : decode cX2_lies 12 = .ok (.aload_n 0, 1) := dk_42 (dk_at dksX2_lies_0 12 rfl rfl)
theorem dX2_lies_13 : decode cX2_lies 13 = .ok (.getfield 33, 3) := dk_180 0 33 (dk_at dksX2_lies_0 13 rfl rfl)
theorem dX2_lies_16 : decode cX2_lies 16 = .ok (.iload_n 1, 1) := dk_27 (dk_at dksX2_lies_0 16 rfl rfl)
theorem dX2_lies_17 : decode cX2_lies 17 = .ok (.iload_n 2, 1) := dk_28 (dk_at dksX2_lies_0 17 rfl rfl)
theorem dX2_lies_18 : decode cX2_lies 18 = .ok (.iastore, 1) := dk_79 (dk_at dksX2_lies_0 18 rfl rfl)
theorem dX2_lies_19 : decode cX2_lies 19 = .ok (.aload_n 0, 1) := dk_42 (dk_at dksX2_lies_0 19 rfl rfl)
theorem dX2_lies_20 : decode cX2_lies 20 = .ok (.getfield 21, 3) := dk_180 0 21 (dk_at dksX2_lies_0 20 rfl rfl)
theorem dX2_lies_23 : decode cX2_lies 23 = .ok (.iload_n 1, 1) := dk_27 (dk_at dksX2_lies_0 23 rfl rfl)
theorem dX2_lies_24 : decode cX2_lies 24 = .ok (.iconst 0, 1) := dk_3 (dk_at dksX2_lies_1 0 rfl rfl)
theorem dX2_lies_25 : decode cX2_lies 25 = .ok (.aload_n 0, 1) := dk_42 (dk_at dksX2_lies_1 1 rfl rfl)
theorem dX2_lies_26 : decode cX2_lies 26 = .ok (.getfield 21, 3) := dk_180 0 21 (dk_at dksX2_lies_1 2 rfl rfl)
theorem dX2_lies_29 : decode cX2_lies 29 = .ok (.iload_n 1, 1) := dk_27 (dk_at dksX2_lies_1 5 rfl rfl)
theorem dX2_lies_30 : decode cX2_lies 30 = .ok (.iaload, 1) := dk_46 (dk_at dksX2_lies_1 6 rfl rfl)
theorem dX2_lies_31 : decode cX2_lies 31 = .ok (.iconst 1, 1) := dk_4 (dk_at dksX2_lies_1 7 rfl rfl)
theorem dX2_lies_32 : decode cX2_lies 32 = .ok (.isub, 1) := dk_100 (dk_at dksX2_lies_1 8 rfl rfl)
theorem dX2_lies_33 : decode cX2_lies 33 = .ok (.invokestatic 62, 3) := dk_184 0 62 (dk_at dksX2_lies_1 9 rfl rfl)
theorem dX2_lies_36 : decode cX2_lies 36 = .ok (.iastore, 1) := dk_79 (dk_at dksX2_lies_1 12 rfl rfl)
theorem dX2_lies_37 : decode cX2_lies 37 = .ok (.return_, 1) := dk_177 (dk_at dksX2_lies_1 13 rfl rfl)
theorem q103 : (Jvm.Cond.initialized "CuckooByPost$Spring") ∈ lw_all := lw_g (lw_at lw_m1 2 rfl) rfl
theorem q131 : (Jvm.Cond.instantiable "CuckooByPost$Spring" (13 : Nat)) ∈ lw_all := lw_g (lw_at lw_m1 30 rfl) rfl
theorem q133 : (Jvm.Cond.instanceMethod ({ cls := "CuckooByPost$Spring", name := "<init>", desc := "()V" } : Jvm.MethodName)) ∈ lw_all := lw_g (lw_at lw_m1 32 rfl) rfl
theorem q134 : (Jvm.Cond.code ({ cls := "CuckooByPost$Spring", name := "<init>", desc := "()V" } : Jvm.MethodName) prog_7_method_1_code (1 : Nat) (Option.none : Option Jvm.ClassFile.FieldType)) ∈ lw_all := lw_g (lw_at lw_m1 33 rfl) rfl
theorem q135 : (Jvm.Cond.methodLink "CuckooByPost$Spring" (3 : Nat) ({ cls := "java/lang/Object", name := "<init>", desc := "()V" } : Jvm.MethodName)) ∈ lw_all := lw_g (lw_at lw_m1 34 rfl) rfl
theorem q136 : (Jvm.Cond.fieldLink "CuckooByPost$Spring" (9 : Nat) "CuckooByPost$Spring" "kind" "[I") ∈ lw_all := lw_g (lw_at lw_m1 35 rfl) rfl
theorem q139 : (Jvm.Cond.fieldLink "CuckooByPost$Spring" (15 : Nat) "CuckooByPost$Spring" "strength" "[I") ∈ lw_all := lw_g (lw_at lw_m1 38 rfl) rfl
theorem q142 : (Jvm.Cond.fieldLink "CuckooByPost$Spring" (18 : Nat) "CuckooByPost$Spring" "colour" "[I") ∈ lw_all := lw_g (lw_at lw_m1 41 rfl) rfl
theorem q145 : (Jvm.Cond.fieldLink "CuckooByPost$Spring" (21 : Nat) "CuckooByPost$Spring" "own" "[I") ∈ lw_all := lw_g (lw_at lw_m1 44 rfl) rfl
theorem q148 : (Jvm.Cond.fieldLink "CuckooByPost$Spring" (24 : Nat) "CuckooByPost$Spring" "notice" "[I") ∈ lw_all := lw_g (lw_at lw_m1 47 rfl) rfl
theorem q151 : (Jvm.Cond.fieldLink "CuckooByPost$Spring" (27 : Nat) "CuckooByPost$Spring" "replies" "[I") ∈ lw_all := lw_g (lw_at lw_m1 50 rfl) rfl
theorem q153 : (Jvm.Cond.fieldLink "CuckooByPost$Spring" (30 : Nat) "CuckooByPost$Spring" "guest" "[I") ∈ lw_all := lw_g (lw_at lw_m1 52 rfl) rfl
theorem q155 : (Jvm.Cond.fieldLink "CuckooByPost$Spring" (33 : Nat) "CuckooByPost$Spring" "tint" "[I") ∈ lw_all := lw_g (lw_at lw_m1 54 rfl) rfl
theorem q158 : (Jvm.Cond.fieldLink "CuckooByPost$Spring" (36 : Nat) "CuckooByPost$Spring" "age" "[I") ∈ lw_all := lw_g (lw_at lw_m1 57 rfl) rfl
theorem q161 : (Jvm.Cond.fieldLink "CuckooByPost$Spring" (39 : Nat) "CuckooByPost$Spring" "fed" "[I") ∈ lw_all := lw_g (lw_at lw_m1 60 rfl) rfl
theorem q163 : (Jvm.Cond.fieldLink "CuckooByPost$Spring" (48 : Nat) "CuckooByPost$Spring" "day" "I") ∈ lw_all := lw_g (lw_at lw_m1 62 rfl) rfl
theorem q166 : (Jvm.Cond.fieldLink "CuckooByPost$Spring" (52 : Nat) "CuckooByPost$Spring" "flown" "I") ∈ lw_all := lw_g (lw_at lw_m1 65 rfl) rfl
theorem q168 : (Jvm.Cond.fieldLink "CuckooByPost$Spring" (55 : Nat) "CuckooByPost$Spring" "turned" "I") ∈ lw_all := lw_g (lw_at lw_m1 67 rfl) rfl
theorem q170 : (Jvm.Cond.laysFinal "CuckooByPost$Spring" "CuckooByPost$Spring" "kind" "[I") ∈ lw_all := lw_g (lw_at lw_m1 69 rfl) rfl
theorem q171 : (Jvm.Cond.soleField "CuckooByPost$Spring" "kind") ∈ lw_all := lw_g (lw_at lw_m1 70 rfl) rfl
theorem q172 : (Jvm.Cond.laysFinal "CuckooByPost$Spring" "CuckooByPost$Spring" "strength" "[I") ∈ lw_all := lw_g (lw_at lw_m1 71 rfl) rfl
theorem q173 : (Jvm.Cond.soleField "CuckooByPost$Spring" "strength") ∈ lw_all := lw_g (lw_at lw_m1 72 rfl) rfl
theorem q174 : (Jvm.Cond.laysFinal "CuckooByPost$Spring" "CuckooByPost$Spring" "colour" "[I") ∈ lw_all := lw_g (lw_at lw_m1 73 rfl) rfl
theorem q175 : (Jvm.Cond.soleField "CuckooByPost$Spring" "colour") ∈ lw_all := lw_g (lw_at lw_m1 74 rfl) rfl
theorem q176 : (Jvm.Cond.laysFinal "CuckooByPost$Spring" "CuckooByPost$Spring" "own" "[I") ∈ lw_all := lw_g (lw_at lw_m1 75 rfl) rfl
theorem q177 : (Jvm.Cond.soleField "CuckooByPost$Spring" "own") ∈ lw_all := lw_g (lw_at lw_m1 76 rfl) rfl
theorem q178 : (Jvm.Cond.laysFinal "CuckooByPost$Spring" "CuckooByPost$Spring" "notice" "[I") ∈ lw_all := lw_g (lw_at lw_m1 77 rfl) rfl
theorem q179 : (Jvm.Cond.soleField "CuckooByPost$Spring" "notice") ∈ lw_all := lw_g (lw_at lw_m1 78 rfl) rfl
theorem q180 : (Jvm.Cond.laysFinal "CuckooByPost$Spring" "CuckooByPost$Spring" "replies" "[I") ∈ lw_all := lw_g (lw_at lw_m1 79 rfl) rfl
theorem q181 : (Jvm.Cond.soleField "CuckooByPost$Spring" "replies") ∈ lw_all := lw_g (lw_at lw_m1 80 rfl) rfl
theorem q182 : (Jvm.Cond.laysFinal "CuckooByPost$Spring" "CuckooByPost$Spring" "guest" "[I") ∈ lw_all := lw_g (lw_at lw_m1 81 rfl) rfl
theorem q183 : (Jvm.Cond.soleField "CuckooByPost$Spring" "guest") ∈ lw_all := lw_g (lw_at lw_m1 82 rfl) rfl
theorem q184 : (Jvm.Cond.laysFinal "CuckooByPost$Spring" "CuckooByPost$Spring" "tint" "[I") ∈ lw_all := lw_g (lw_at lw_m1 83 rfl) rfl
theorem q185 : (Jvm.Cond.soleField "CuckooByPost$Spring" "tint") ∈ lw_all := lw_g (lw_at lw_m1 84 rfl) rfl
theorem q186 : (Jvm.Cond.laysFinal "CuckooByPost$Spring" "CuckooByPost$Spring" "age" "[I") ∈ lw_all := lw_g (lw_at lw_m1 85 rfl) rfl
theorem q187 : (Jvm.Cond.soleField "CuckooByPost$Spring" "age") ∈ lw_all := lw_g (lw_at lw_m1 86 rfl) rfl
theorem q188 : (Jvm.Cond.laysFinal "CuckooByPost$Spring" "CuckooByPost$Spring" "fed" "[I") ∈ lw_all := lw_g (lw_at lw_m1 87 rfl) rfl
theorem q189 : (Jvm.Cond.soleField "CuckooByPost$Spring" "fed") ∈ lw_all := lw_g (lw_at lw_m1 88 rfl) rfl
theorem q190 : (Jvm.Cond.lays "CuckooByPost$Spring" "CuckooByPost$Spring" "day" "I") ∈ lw_all := lw_g (lw_at lw_m1 89 rfl) rfl
theorem q191 : (Jvm.Cond.soleField "CuckooByPost$Spring" "day") ∈ lw_all := lw_g (lw_at lw_m1 90 rfl) rfl
theorem q192 : (Jvm.Cond.lays "CuckooByPost$Spring" "CuckooByPost$Spring" "flown" "I") ∈ lw_all := lw_g (lw_at lw_m1 91 rfl) rfl
theorem q193 : (Jvm.Cond.soleField "CuckooByPost$Spring" "flown") ∈ lw_all := lw_g (lw_at lw_m1 92 rfl) rfl
theorem q194 : (Jvm.Cond.lays "CuckooByPost$Spring" "CuckooByPost$Spring" "turned" "I") ∈ lw_all := lw_g (lw_at lw_m1 93 rfl) rfl
theorem q195 : (Jvm.Cond.soleField "CuckooByPost$Spring" "turned") ∈ lw_all := lw_g (lw_at lw_m1 94 rfl) rfl
theorem q196 : (Jvm.Cond.superclass "CuckooByPost$Spring" "java/lang/Object") ∈ lw_all := lw_g (lw_at lw_m1 95 rfl) rfl
theorem q471 : (Jvm.Cond.instanceMethod ({ cls := "CuckooByPost$Spring", name := "comes", desc := "(I)V" } : Jvm.MethodName)) ∈ lw_all := lw_g (lw_at lw_m2 130 rfl) rfl
theorem q472 : (Jvm.Cond.selects "CuckooByPost$Spring" ({ cls := "CuckooByPost$Spring", name := "comes", desc := "(I)V" } : Jvm.MethodName) ({ cls := "CuckooByPost$Spring", name := "comes", desc := "(I)V" } : Jvm.MethodName)) ∈ lw_all := lw_g (lw_at lw_m2 131 rfl) rfl
theorem q473 : (Jvm.Cond.code ({ cls := "CuckooByPost$Spring", name := "comes", desc := "(I)V" } : Jvm.MethodName) prog_7_method_3_code (2 : Nat) (Option.none : Option Jvm.ClassFile.FieldType)) ∈ lw_all := lw_g (lw_at lw_m2 132 rfl) rfl
theorem q474 : (Jvm.Cond.methodLink "CuckooByPost$Spring" (58 : Nat) ({ cls := "CuckooByPost$Spring", name := "leaves", desc := "(I)V" } : Jvm.MethodName)) ∈ lw_all := lw_g (lw_at lw_m2 133 rfl) rfl
theorem q475 : (Jvm.Cond.instanceMethod ({ cls := "CuckooByPost$Spring", name := "leaves", desc := "(I)V" } : Jvm.MethodName)) ∈ lw_all := lw_g (lw_at lw_m2 134 rfl) rfl
theorem q476 : (Jvm.Cond.selects "CuckooByPost$Spring" ({ cls := "CuckooByPost$Spring", name := "leaves", desc := "(I)V" } : Jvm.MethodName) ({ cls := "CuckooByPost$Spring", name := "leaves", desc := "(I)V" } : Jvm.MethodName)) ∈ lw_all := lw_g (lw_at lw_m2 135 rfl) rfl
theorem q477 : (Jvm.Cond.code ({ cls := "CuckooByPost$Spring", name := "leaves", desc := "(I)V" } : Jvm.MethodName) prog_7_method_4_code (2 : Nat) (Option.none : Option Jvm.ClassFile.FieldType)) ∈ lw_all := lw_g (lw_at lw_m2 136 rfl) rfl
theorem q589 : (Jvm.Cond.instanceMethod ({ cls := "CuckooByPost$Spring", name := "becomes", desc := "(LCuckooByPost$Spring;)V" } : Jvm.MethodName)) ∈ lw_all := lw_g (lw_at lw_m3 8 rfl) rfl
theorem q590 : (Jvm.Cond.selects "CuckooByPost$Spring" ({ cls := "CuckooByPost$Spring", name := "becomes", desc := "(LCuckooByPost$Spring;)V" } : Jvm.MethodName) ({ cls := "CuckooByPost$Spring", name := "becomes", desc := "(LCuckooByPost$Spring;)V" } : Jvm.MethodName)) ∈ lw_all := lw_g (lw_at lw_m3 9 rfl) rfl
theorem q591 : (Jvm.Cond.code ({ cls := "CuckooByPost$Spring", name := "becomes", desc := "(LCuckooByPost$Spring;)V" } : Jvm.MethodName) prog_7_method_2_code (2 : Nat) (Option.none : Option Jvm.ClassFile.FieldType)) ∈ lw_all := lw_g (lw_at lw_m3 10 rfl) rfl
theorem q592 : (Jvm.Cond.methodLink "CuckooByPost$Spring" (42 : Nat) ({ cls := "java/lang/System", name := "arraycopy", desc := "(Ljava/lang/Object;ILjava/lang/Object;II)V" } : Jvm.MethodName)) ∈ lw_all := lw_g (lw_at lw_m3 11 rfl) rfl
theorem q608 : (Jvm.Cond.instanceMethod ({ cls := "CuckooByPost$Spring", name := "isNoticed", desc := "(I)Z" } : Jvm.MethodName)) ∈ lw_all := lw_g (lw_at lw_m3 27 rfl) rfl
theorem q609 : (Jvm.Cond.selects "CuckooByPost$Spring" ({ cls := "CuckooByPost$Spring", name := "isNoticed", desc := "(I)Z" } : Jvm.MethodName) ({ cls := "CuckooByPost$Spring", name := "isNoticed", desc := "(I)Z" } : Jvm.MethodName)) ∈ lw_all := lw_g (lw_at lw_m3 28 rfl) rfl
theorem q610 : (Jvm.Cond.code ({ cls := "CuckooByPost$Spring", name := "isNoticed", desc := "(I)Z" } : Jvm.MethodName) prog_7_method_6_code (2 : Nat) (Option.some Jvm.ClassFile.FieldType.boolean)) ∈ lw_all := lw_g (lw_at lw_m3 29 rfl) rfl
theorem q653 : (Jvm.Cond.instanceMethod ({ cls := "CuckooByPost$Spring", name := "lies", desc := "(II)V" } : Jvm.MethodName)) ∈ lw_all := lw_g (lw_at lw_m3 72 rfl) rfl
theorem q654 : (Jvm.Cond.selects "CuckooByPost$Spring" ({ cls := "CuckooByPost$Spring", name := "lies", desc := "(II)V" } : Jvm.MethodName) ({ cls := "CuckooByPost$Spring", name := "lies", desc := "(II)V" } : Jvm.MethodName)) ∈ lw_all := lw_g (lw_at lw_m3 73 rfl) rfl
theorem q655 : (Jvm.Cond.code ({ cls := "CuckooByPost$Spring", name := "lies", desc := "(II)V" } : Jvm.MethodName) prog_7_method_5_code (3 : Nat) (Option.none : Option Jvm.ClassFile.FieldType)) ∈ lw_all := lw_g (lw_at lw_m3 74 rfl) rfl
theorem q656 : (Jvm.Cond.methodLink "CuckooByPost$Spring" (62 : Nat) ({ cls := "java/lang/Math", name := "max", desc := "(II)I" } : Jvm.MethodName)) ∈ lw_all := lw_g (lw_at lw_m3 75 rfl) rfl
theorem q1643 : (Jvm.Cond.castable "CuckooByPost$Spring" "java/lang/Object") ∈ lw_tbl := lw_at lw_m7 102 rfl
theorem in_X2 : ∀ w ∈ wsX20, w ∈ lw_all := lw_in wsX20 [170, 172, 174, 176, 178, 180, 182, 184, 186, 188, 190, 192, 194] (by decide +kernel) (by decide +kernel)

/-! CuckooByPost$Node -/
set_option maxRecDepth 100000
def RX4 : String := "CuckooByPost$Node"
abbrev cX4_init : ByteArray := prog_4_method_1_code
def yX4_init : MethodName := ⟨RX4, "<init>", "(LCuckooByPost;)V"⟩
def dkwX4_init_0 : List UInt8 := [42, 43, 181, 0, 1, 42, 183, 0, 7, 177]
abbrev dktX4_init_0 : List UInt8 := dkwX4_init_0 ++ []
theorem dksX4_init_0 : cX4_init.data.toList.drop 0 = dktX4_init_0 := by decide +kernel
theorem dX4_init_0 : decode cX4_init 0 = .ok (.aload_n 0, 1) := dk_42 (dk_at dksX4_init_0 0 rfl rfl)
theorem dX4_init_1 : decode cX4_init 1 = .ok (.aload_n 1, 1) := dk_43 (dk_at dksX4_init_0 1 rfl rfl)
theorem dX4_init_2 : decode cX4_init 2 = .ok (.putfield 1, 3) := dk_181 0 1 (dk_at dksX4_init_0 2 rfl rfl)
theorem dX4_init_5 : decode cX4_init 5 = .ok (.aload_n 0, 1) := dk_42 (dk_at dksX4_init_0 5 rfl rfl)
theorem dX4_init_6 : decode cX4_init 6 = .ok (.invokespecial 7, 3) := dk_183 0 7 (dk_at dksX4_init_0 6 rfl rfl)
theorem dX4_init_9 : decode cX4_init 9 = .ok (.return_, 1) := dk_177 (dk_at dksX4_init_0 9 rfl rfl)
theorem q111 : (Jvm.Cond.initialized "CuckooByPost$Node") ∈ lw_all := lw_g (lw_at lw_m1 10 rfl) rfl
theorem q501 : (Jvm.Cond.instanceMethod ({ cls := "CuckooByPost$Node", name := "<init>", desc := "(LCuckooByPost;)V" } : Jvm.MethodName)) ∈ lw_all := lw_g (lw_at lw_m2 160 rfl) rfl
theorem q502 : (Jvm.Cond.code ({ cls := "CuckooByPost$Node", name := "<init>", desc := "(LCuckooByPost;)V" } : Jvm.MethodName) prog_4_method_1_code (2 : Nat) (Option.none : Option Jvm.ClassFile.FieldType)) ∈ lw_all := lw_g (lw_at lw_m2 161 rfl) rfl
theorem q503 : (Jvm.Cond.methodLink "CuckooByPost$Node" (7 : Nat) ({ cls := "java/lang/Object", name := "<init>", desc := "()V" } : Jvm.MethodName)) ∈ lw_all := lw_g (lw_at lw_m2 162 rfl) rfl
theorem q506 : (Jvm.Cond.fieldLink "CuckooByPost$Node" (1 : Nat) "CuckooByPost$Node" "this$0" "LCuckooByPost;") ∈ lw_all := lw_g (lw_at lw_m2 165 rfl) rfl
theorem q512 : (Jvm.Cond.soleField "CuckooByPost$Node" "this$0") ∈ lw_all := lw_g (lw_at lw_m2 171 rfl) rfl
theorem q665 : (Jvm.Cond.declares ({ cls := "CuckooByPost$Node", name := "value", desc := "()I" } : Jvm.MethodName)) ∈ lw_tbl := lw_at lw_m3 84 rfl
theorem q666 : (Jvm.Cond.sameMethod "CuckooByPost$Node" "CuckooByPost$Node" "value" "()I") ∈ lw_all := lw_g (lw_at lw_m3 85 rfl) rfl

/-! CuckooByPost$Less -/
set_option maxRecDepth 100000
def RX5 : String := "CuckooByPost$Less"
def TX5 : u_T := fun k => match k with
  | 0 => ("CuckooByPost$Node", "this$0", "LCuckooByPost;", true)
  | 1 => ("CuckooByPost$Less", "its", "LCuckooByPost$Node;", true)
  | _ => ("CuckooByPost$Less", "this$0", "LCuckooByPost;", true)
def tyX5 : Nat → FieldType := fun k => match k with
  | 0 => .object "CuckooByPost"
  | 1 => .object "CuckooByPost$Node"
  | _ => .object "CuckooByPost"
abbrev wsX50 : List Cond := u_ws RX5 TX5 3
-- two fields of one name: no nmX5
theorem tyX5_ok : ∀ k, k < 3 → parseFieldDescriptor (TX5 k).2.2.1 = some (tyX5 k) := by decide +kernel
abbrev cX5_init : ByteArray := prog_3_method_1_code
def yX5_init : MethodName := ⟨RX5, "<init>", "(LCuckooByPost;LCuckooByPost$Node;)V"⟩
def dkwX5_init_0 : List UInt8 := [42, 43, 181, 0, 1, 42, 43, 183, 0, 7, 42, 44, 181, 0, 13, 177]
abbrev dktX5_init_0 : List UInt8 := dkwX5_init_0 ++ []
theorem dksX5_init_0 : cX5_init.data.toList.drop 0 = dktX5_init_0 := by decide +kernel
theorem dX5_init_0 : decode cX5_init 0 = .ok (.aload_n 0, 1) := dk_42 (dk_at dksX5_init_0 0 rfl rfl)
theorem dX5_init_1 : decode cX5_init 1 = .ok (.aload_n 1, 1) := dk_43 (dk_at dksX5_init_0 1 rfl rfl)
theorem dX5_init_2 : decode cX5_init 2 = .ok (.putfield 1, 3) := dk_181 0 1 (dk_at dksX5_init_0 2 rfl rfl)
theorem dX5_init_5 : decode cX5_init 5 = .ok (.aload_n 0, 1) := dk_42 (dk_at dksX5_init_0 5 rfl rfl)
theorem dX5_init_6 : decode cX5_init 6 = .ok (.aload_n 1, 1) := dk_43 (dk_at dksX5_init_0 6 rfl rfl)
theorem dX5_init_7 : decode cX5_init 7 = .ok (.invokespecial 7, 3) := dk_183 0 7 (dk_at dksX5_init_0 7 rfl rfl)
theorem dX5_init_10 : decode cX5_init 10 = .ok (.aload_n 0, 1) := dk_42 (dk_at dksX5_init_0 10 rfl rfl)
theorem dX5_init_11 : decode cX5_init 11 = .ok (.aload_n 2, 1) := dk_44 (dk_at dksX5_init_0 11 rfl rfl)
theorem dX5_init_12 : decode cX5_init 12 = .ok (.putfield 13, 3) := dk_181 0 13 (dk_at dksX5_init_0 12 rfl rfl)
theorem dX5_init_15 : decode cX5_init 15 = .ok (.return_, 1) := dk_177 (dk_at dksX5_init_0 15 rfl rfl)
abbrev cX5_value : ByteArray := prog_3_method_2_code
def yX5_value : MethodName := ⟨RX5, "value", "()I"⟩
def dkwX5_value_0 : List UInt8 := [42, 180, 0, 13, 182, 0, 17, 116, 172]
abbrev dktX5_value_0 : List UInt8 := dkwX5_value_0 ++ []
theorem dksX5_value_0 : cX5_value.data.toList.drop 0 = dktX5_value_0 := by decide +kernel
theorem dX5_value_0 : decode cX5_value 0 = .ok (.aload_n 0, 1) := dk_42 (dk_at dksX5_value_0 0 rfl rfl)
theorem dX5_value_1 : decode cX5_value 1 = .ok (.getfield 13, 3) := dk_180 0 13 (dk_at dksX5_value_0 1 rfl rfl)
theorem dX5_value_4 : decode cX5_value 4 = .ok (.invokevirtual 17, 3) := dk_182 0 17 (dk_at dksX5_value_0 4 rfl rfl)
theorem dX5_value_7 : decode cX5_value 7 = .ok (.ineg, 1) := dk_116 (dk_at dksX5_value_0 7 rfl rfl)
theorem dX5_value_8 : decode cX5_value 8 = .ok (.ireturn, 1) := dk_172 (dk_at dksX5_value_0 8 rfl rfl)
theorem q112 : (Jvm.Cond.initialized "CuckooByPost$Less") ∈ lw_all := lw_g (lw_at lw_m1 11 rfl) rfl
theorem q496 : (Jvm.Cond.instantiable "CuckooByPost$Less" (3 : Nat)) ∈ lw_all := lw_g (lw_at lw_m2 155 rfl) rfl
theorem q498 : (Jvm.Cond.instanceMethod ({ cls := "CuckooByPost$Less", name := "<init>", desc := "(LCuckooByPost;LCuckooByPost$Node;)V" } : Jvm.MethodName)) ∈ lw_all := lw_g (lw_at lw_m2 157 rfl) rfl
theorem q499 : (Jvm.Cond.code ({ cls := "CuckooByPost$Less", name := "<init>", desc := "(LCuckooByPost;LCuckooByPost$Node;)V" } : Jvm.MethodName) prog_3_method_1_code (3 : Nat) (Option.none : Option Jvm.ClassFile.FieldType)) ∈ lw_all := lw_g (lw_at lw_m2 158 rfl) rfl
theorem q500 : (Jvm.Cond.methodLinkNest "CuckooByPost$Less" (7 : Nat) ({ cls := "CuckooByPost$Node", name := "<init>", desc := "(LCuckooByPost;)V" } : Jvm.MethodName) "CuckooByPost") ∈ lw_tbl := lw_at lw_m2 159 rfl
theorem q504 : (Jvm.Cond.fieldLink "CuckooByPost$Less" (13 : Nat) "CuckooByPost$Less" "its" "LCuckooByPost$Node;") ∈ lw_all := lw_g (lw_at lw_m2 163 rfl) rfl
theorem q505 : (Jvm.Cond.fieldLink "CuckooByPost$Less" (1 : Nat) "CuckooByPost$Less" "this$0" "LCuckooByPost;") ∈ lw_all := lw_g (lw_at lw_m2 164 rfl) rfl
theorem q507 : (Jvm.Cond.laysFinal "CuckooByPost$Less" "CuckooByPost$Less" "its" "LCuckooByPost$Node;") ∈ lw_all := lw_g (lw_at lw_m2 166 rfl) rfl
theorem q508 : (Jvm.Cond.soleField "CuckooByPost$Less" "its") ∈ lw_all := lw_g (lw_at lw_m2 167 rfl) rfl
theorem q509 : (Jvm.Cond.laysFinal "CuckooByPost$Less" "CuckooByPost$Less" "this$0" "LCuckooByPost;") ∈ lw_all := lw_g (lw_at lw_m2 168 rfl) rfl
theorem q510 : (Jvm.Cond.soleField "CuckooByPost$Less" "this$0") ∈ lw_all := lw_g (lw_at lw_m2 169 rfl) rfl
theorem q511 : (Jvm.Cond.laysFinal "CuckooByPost$Less" "CuckooByPost$Node" "this$0" "LCuckooByPost;") ∈ lw_all := lw_g (lw_at lw_m2 170 rfl) rfl
theorem q513 : (Jvm.Cond.superclass "CuckooByPost$Less" "CuckooByPost$Node") ∈ lw_all := lw_g (lw_at lw_m2 172 rfl) rfl
theorem q671 : (Jvm.Cond.instanceMethod ({ cls := "CuckooByPost$Less", name := "value", desc := "()I" } : Jvm.MethodName)) ∈ lw_all := lw_g (lw_at lw_m3 90 rfl) rfl
theorem q672 : (Jvm.Cond.code ({ cls := "CuckooByPost$Less", name := "value", desc := "()I" } : Jvm.MethodName) prog_3_method_2_code (1 : Nat) (Option.some Jvm.ClassFile.FieldType.int)) ∈ lw_all := lw_g (lw_at lw_m3 91 rfl) rfl
theorem q673 : (Jvm.Cond.methodLink "CuckooByPost$Less" (17 : Nat) ({ cls := "CuckooByPost$Node", name := "value", desc := "()I" } : Jvm.MethodName)) ∈ lw_all := lw_g (lw_at lw_m3 92 rfl) rfl
theorem q685 : (Jvm.Cond.selects "CuckooByPost$Less" ({ cls := "CuckooByPost$Node", name := "value", desc := "()I" } : Jvm.MethodName) ({ cls := "CuckooByPost$Less", name := "value", desc := "()I" } : Jvm.MethodName)) ∈ lw_all := lw_g (lw_at lw_m3 104 rfl) rfl
theorem q1645 : (Jvm.Cond.castable "CuckooByPost$Less" "java/lang/Object") ∈ lw_tbl := lw_at lw_m7 104 rfl
theorem in_X5 : ∀ w ∈ wsX50, w ∈ lw_all := lw_in wsX50 [511, 507, 509] (by decide +kernel) (by decide +kernel)

/-! CuckooByPost$Number -/
set_option maxRecDepth 100000
def RX6 : String := "CuckooByPost$Number"
def TX6 : u_T := fun k => match k with
  | 0 => ("CuckooByPost$Node", "this$0", "LCuckooByPost;", true)
  | 1 => ("CuckooByPost$Number", "v", "I", true)
  | _ => ("CuckooByPost$Number", "this$0", "LCuckooByPost;", true)
def tyX6 : Nat → FieldType := fun k => match k with
  | 0 => .object "CuckooByPost"
  | 1 => .int
  | _ => .object "CuckooByPost"
abbrev wsX60 : List Cond := u_ws RX6 TX6 3
-- two fields of one name: no nmX6
theorem tyX6_ok : ∀ k, k < 3 → parseFieldDescriptor (TX6 k).2.2.1 = some (tyX6 k) := by decide +kernel
abbrev cX6_init : ByteArray := prog_5_method_1_code
def yX6_init : MethodName := ⟨RX6, "<init>", "(LCuckooByPost;I)V"⟩
def dkwX6_init_0 : List UInt8 := [42, 43, 181, 0, 1, 42, 43, 183, 0, 7, 42, 28, 181, 0, 13, 177]
abbrev dktX6_init_0 : List UInt8 := dkwX6_init_0 ++ []
theorem dksX6_init_0 : cX6_init.data.toList.drop 0 = dktX6_init_0 := by decide +kernel
theorem dX6_init_0 : decode cX6_init 0 = .ok (.aload_n 0, 1) := dk_42 (dk_at dksX6_init_0 0 rfl rfl)
theorem dX6_init_1 : decode cX6_init 1 = .ok (.aload_n 1, 1) := dk_43 (dk_at dksX6_init_0 1 rfl rfl)
theorem dX6_init_2 : decode cX6_init 2 = .ok (.putfield 1, 3) := dk_181 0 1 (dk_at dksX6_init_0 2 rfl rfl)
theorem dX6_init_5 : decode cX6_init 5 = .ok (.aload_n 0, 1) := dk_42 (dk_at dksX6_init_0 5 rfl rfl)
theorem dX6_init_6 : decode cX6_init 6 = .ok (.aload_n 1, 1) := dk_43 (dk_at dksX6_init_0 6 rfl rfl)
theorem dX6_init_7 : decode cX6_init 7 = .ok (.invokespecial 7, 3) := dk_183 0 7 (dk_at dksX6_init_0 7 rfl rfl)
theorem dX6_init_10 : decode cX6_init 10 = .ok (.aload_n 0, 1) := dk_42 (dk_at dksX6_init_0 10 rfl rfl)
theorem dX6_init_11 : decode cX6_init 11 = .ok (.iload_n 2, 1) := dk_28 (dk_at dksX6_init_0 11 rfl rfl)
theorem dX6_init_12 : decode cX6_init 12 = .ok (.putfield 13, 3) := dk_181 0 13 (dk_at dksX6_init_0 12 rfl rfl)
theorem dX6_init_15 : decode cX6_init 15 = .ok (.return_, 1) := dk_177 (dk_at dksX6_init_0 15 rfl rfl)
abbrev cX6_value : ByteArray := prog_5_method_2_code
def yX6_value : MethodName := ⟨RX6, "value", "()I"⟩
theorem dX6_value_0 : decode cX6_value 0 = .ok (.aload_n 0, 1) := by decide +kernel
theorem dX6_value_1 : decode cX6_value 1 = .ok (.getfield 13, 3) := by decide +kernel
theorem dX6_value_4 : decode cX6_value 4 = .ok (.ireturn, 1) := by decide +kernel
theorem q113 : (Jvm.Cond.initialized "CuckooByPost$Number") ∈ lw_all := lw_g (lw_at lw_m1 12 rfl) rfl
theorem q515 : (Jvm.Cond.instantiable "CuckooByPost$Number" (3 : Nat)) ∈ lw_all := lw_g (lw_at lw_m2 174 rfl) rfl
theorem q517 : (Jvm.Cond.instanceMethod ({ cls := "CuckooByPost$Number", name := "<init>", desc := "(LCuckooByPost;I)V" } : Jvm.MethodName)) ∈ lw_all := lw_g (lw_at lw_m2 176 rfl) rfl
theorem q518 : (Jvm.Cond.code ({ cls := "CuckooByPost$Number", name := "<init>", desc := "(LCuckooByPost;I)V" } : Jvm.MethodName) prog_5_method_1_code (3 : Nat) (Option.none : Option Jvm.ClassFile.FieldType)) ∈ lw_all := lw_g (lw_at lw_m2 177 rfl) rfl
theorem q519 : (Jvm.Cond.methodLinkNest "CuckooByPost$Number" (7 : Nat) ({ cls := "CuckooByPost$Node", name := "<init>", desc := "(LCuckooByPost;)V" } : Jvm.MethodName) "CuckooByPost") ∈ lw_tbl := lw_at lw_m2 178 rfl
theorem q520 : (Jvm.Cond.fieldLink "CuckooByPost$Number" (13 : Nat) "CuckooByPost$Number" "v" "I") ∈ lw_all := lw_g (lw_at lw_m2 179 rfl) rfl
theorem q521 : (Jvm.Cond.fieldLink "CuckooByPost$Number" (1 : Nat) "CuckooByPost$Number" "this$0" "LCuckooByPost;") ∈ lw_all := lw_g (lw_at lw_m2 180 rfl) rfl
theorem q522 : (Jvm.Cond.laysFinal "CuckooByPost$Number" "CuckooByPost$Number" "v" "I") ∈ lw_all := lw_g (lw_at lw_m2 181 rfl) rfl
theorem q523 : (Jvm.Cond.soleField "CuckooByPost$Number" "v") ∈ lw_all := lw_g (lw_at lw_m2 182 rfl) rfl
theorem q524 : (Jvm.Cond.laysFinal "CuckooByPost$Number" "CuckooByPost$Number" "this$0" "LCuckooByPost;") ∈ lw_all := lw_g (lw_at lw_m2 183 rfl) rfl
theorem q525 : (Jvm.Cond.soleField "CuckooByPost$Number" "this$0") ∈ lw_all := lw_g (lw_at lw_m2 184 rfl) rfl
theorem q526 : (Jvm.Cond.laysFinal "CuckooByPost$Number" "CuckooByPost$Node" "this$0" "LCuckooByPost;") ∈ lw_all := lw_g (lw_at lw_m2 185 rfl) rfl
theorem q527 : (Jvm.Cond.superclass "CuckooByPost$Number" "CuckooByPost$Node") ∈ lw_all := lw_g (lw_at lw_m2 186 rfl) rfl
theorem q674 : (Jvm.Cond.instanceMethod ({ cls := "CuckooByPost$Number", name := "value", desc := "()I" } : Jvm.MethodName)) ∈ lw_all := lw_g (lw_at lw_m3 93 rfl) rfl
theorem q675 : (Jvm.Cond.code ({ cls := "CuckooByPost$Number", name := "value", desc := "()I" } : Jvm.MethodName) prog_5_method_2_code (1 : Nat) (Option.some Jvm.ClassFile.FieldType.int)) ∈ lw_all := lw_g (lw_at lw_m3 94 rfl) rfl
theorem q686 : (Jvm.Cond.selects "CuckooByPost$Number" ({ cls := "CuckooByPost$Node", name := "value", desc := "()I" } : Jvm.MethodName) ({ cls := "CuckooByPost$Number", name := "value", desc := "()I" } : Jvm.MethodName)) ∈ lw_all := lw_g (lw_at lw_m3 105 rfl) rfl
theorem q1646 : (Jvm.Cond.castable "CuckooByPost$Number" "java/lang/Object") ∈ lw_tbl := lw_at lw_m7 105 rfl
theorem in_X6 : ∀ w ∈ wsX60, w ∈ lw_all := lw_in wsX60 [526, 522, 524] (by decide +kernel) (by decide +kernel)

/-! CuckooByPost$Sign -/
set_option maxRecDepth 100000
def RX7 : String := "CuckooByPost$Sign"
def TX7 : u_T := fun k => match k with
  | 0 => ("CuckooByPost$Node", "this$0", "LCuckooByPost;", true)
  | 1 => ("CuckooByPost$Sign", "sign", "I", true)
  | _ => ("CuckooByPost$Sign", "this$0", "LCuckooByPost;", true)
def tyX7 : Nat → FieldType := fun k => match k with
  | 0 => .object "CuckooByPost"
  | 1 => .int
  | _ => .object "CuckooByPost"
abbrev wsX70 : List Cond := u_ws RX7 TX7 3
-- two fields of one name: no nmX7
theorem tyX7_ok : ∀ k, k < 3 → parseFieldDescriptor (TX7 k).2.2.1 = some (tyX7 k) := by decide +kernel
abbrev cX7_init : ByteArray := prog_6_method_1_code
def yX7_init : MethodName := ⟨RX7, "<init>", "(LCuckooByPost;I)V"⟩
def dkwX7_init_0 : List UInt8 := [42, 43, 181, 0, 3, 42, 43, 183, 0, 9, 42, 28, 181, 0, 15, 177]
abbrev dktX7_init_0 : List UInt8 := dkwX7_init_0 ++ []
theorem dksX7_init_0 : cX7_init.data.toList.drop 0 = dktX7_init_0 := by decide +kernel
theorem dX7_init_0 : decode cX7_init 0 = .ok (.aload_n 0, 1) := dk_42 (dk_at dksX7_init_0 0 rfl rfl)
theorem dX7_init_1 : decode cX7_init 1 = .ok (.aload_n 1, 1) := dk_43 (dk_at dksX7_init_0 1 rfl rfl)
theorem dX7_init_2 : decode cX7_init 2 = .ok (.putfield 3, 3) := dk_181 0 3 (dk_at dksX7_init_0 2 rfl rfl)
theorem dX7_init_5 : decode cX7_init 5 = .ok (.aload_n 0, 1) := dk_42 (dk_at dksX7_init_0 5 rfl rfl)
theorem dX7_init_6 : decode cX7_init 6 = .ok (.aload_n 1, 1) := dk_43 (dk_at dksX7_init_0 6 rfl rfl)
theorem dX7_init_7 : decode cX7_init 7 = .ok (.invokespecial 9, 3) := dk_183 0 9 (dk_at dksX7_init_0 7 rfl rfl)
theorem dX7_init_10 : decode cX7_init 10 = .ok (.aload_n 0, 1) := dk_42 (dk_at dksX7_init_0 10 rfl rfl)
theorem dX7_init_11 : decode cX7_init 11 = .ok (.iload_n 2, 1) := dk_28 (dk_at dksX7_init_0 11 rfl rfl)
theorem dX7_init_12 : decode cX7_init 12 = .ok (.putfield 15, 3) := dk_181 0 15 (dk_at dksX7_init_0 12 rfl rfl)
theorem dX7_init_15 : decode cX7_init 15 = .ok (.return_, 1) := dk_177 (dk_at dksX7_init_0 15 rfl rfl)
abbrev cX7_value : ByteArray := prog_6_method_2_code
def yX7_value : MethodName := ⟨RX7, "value", "()I"⟩
def dkwX7_value_9 : List UInt8 := [42, 180, 0, 3, 180, 0, 19, 180, 0, 69, 16, 8, 112, 172]
abbrev dktX7_value_9 : List UInt8 := dkwX7_value_9 ++ []
def dkwX7_value_8 : List UInt8 := [180, 0, 29, 46, 172, 42, 180, 0, 3, 42, 180, 0, 3, 180, 0, 19, 4, 182, 0, 60, 184, 0, 64, 172]
abbrev dktX7_value_8 : List UInt8 := dkwX7_value_8 ++ dktX7_value_9
def dkwX7_value_7 : List UInt8 := [180, 0, 3, 180, 0, 29, 46, 172, 42, 180, 0, 3, 180, 0, 19, 180, 0, 57, 42, 180, 0, 3]
abbrev dktX7_value_7 : List UInt8 := dkwX7_value_7 ++ dktX7_value_8
def dkwX7_value_6 : List UInt8 := [180, 0, 51, 42, 180, 0, 3, 180, 0, 29, 46, 172, 42, 180, 0, 3, 180, 0, 19, 180, 0, 54, 42]
abbrev dktX7_value_6 : List UInt8 := dkwX7_value_6 ++ dktX7_value_7
def dkwX7_value_5 : List UInt8 := [180, 0, 19, 180, 0, 48, 42, 180, 0, 3, 180, 0, 29, 46, 172, 42, 180, 0, 3, 180, 0, 19]
abbrev dktX7_value_5 : List UInt8 := dkwX7_value_5 ++ dktX7_value_6
def dkwX7_value_4 : List UInt8 := [180, 0, 19, 180, 0, 41, 42, 180, 0, 3, 180, 0, 29, 46, 184, 0, 44, 172, 42, 180, 0, 3]
abbrev dktX7_value_4 : List UInt8 := dkwX7_value_4 ++ dktX7_value_5
def dkwX7_value_3 : List UInt8 := [180, 0, 19, 180, 0, 32, 42, 180, 0, 3, 180, 0, 29, 46, 100, 184, 0, 35, 172, 3, 42, 180, 0, 3]
abbrev dktX7_value_3 : List UInt8 := dkwX7_value_3 ++ dktX7_value_4
def dkwX7_value_2 : List UInt8 := [42, 180, 0, 3, 180, 0, 19, 180, 0, 23, 42, 180, 0, 3, 180, 0, 29, 46, 42, 180, 0, 3]
abbrev dktX7_value_2 : List UInt8 := dkwX7_value_2 ++ dktX7_value_3
def dkwX7_value_1 : List UInt8 := [170, 0, 0, 0, 0, 0, 1, 15, 0, 0, 0, 97, 0, 0, 0, 120, 0, 0, 0, 233, 0, 0, 1, 15, 0, 0, 0, 112, 0, 0, 1, 15, 0, 0, 1, 15, 0, 0, 1, 15, 0, 0, 1, 15, 0, 0, 1, 15, 0, 0, 1, 15, 0, 0, 1, 15, 0, 0, 0, 176, 0, 0, 1, 15, 0, 0, 1, 15, 0, 0, 0, 153, 0, 0, 0, 195, 0, 0, 1, 15, 0, 0, 1, 15, 0, 0, 1, 15, 0, 0, 0, 214, 0, 0, 1, 15, 0, 0, 1, 15, 0, 0, 1, 15, 0, 0, 1, 15, 0, 0, 0, 252]
abbrev dktX7_value_1 : List UInt8 := dkwX7_value_1 ++ dktX7_value_2
def dkwX7_value_0 : List UInt8 := [42, 180, 0, 15]
abbrev dktX7_value_0 : List UInt8 := dkwX7_value_0 ++ dktX7_value_1
theorem dksX7_value_0 : cX7_value.data.toList.drop 0 = dktX7_value_0 := by decide +kernel
theorem dksX7_value_1 : cX7_value.data.toList.drop 4 = dktX7_value_1 := dk_seg dksX7_value_0 4 rfl rfl
theorem dksX7_value_2 : cX7_value.data.toList.drop 116 = dktX7_value_2 := dk_seg dksX7_value_1 112 rfl rfl
theorem dksX7_value_3 : cX7_value.data.toList.drop 138 = dktX7_value_3 := dk_seg dksX7_value_2 22 rfl rfl
theorem dksX7_value_4 : cX7_value.data.toList.drop 162 = dktX7_value_4 := dk_seg dksX7_value_3 24 rfl rfl
theorem dksX7_value_5 : cX7_value.data.toList.drop 184 = dktX7_value_5 := dk_seg dksX7_value_4 22 rfl rfl
theorem dksX7_value_6 : cX7_value.data.toList.drop 206 = dktX7_value_6 := dk_seg dksX7_value_5 22 rfl rfl
theorem dksX7_value_7 : cX7_value.data.toList.drop 229 = dktX7_value_7 := dk_seg dksX7_value_6 23 rfl rfl
theorem dksX7_value_8 : cX7_value.data.toList.drop 251 = dktX7_value_8 := dk_seg dksX7_value_7 22 rfl rfl
theorem dksX7_value_9 : cX7_value.data.toList.drop 275 = dktX7_value_9 := dk_seg dksX7_value_8 24 rfl rfl
theorem dX7_value_0 : decode cX7_value 0 = .ok (.aload_n 0, 1) := dk_42 (dk_at dksX7_value_0 0 rfl rfl)
theorem dX7_value_1 : decode cX7_value 1 = .ok (.getfield 15, 3) := dk_180 0 15 (dk_at dksX7_value_0 1 rfl rfl)
theorem dX7_value_4 : decode cX7_value 4 = .ok (.tableswitch 271 97 120 #[233, 271, 112, 271, 271, 271, 271, 271, 271, 271, 176, 271, 271, 153, 195, 271, 271, 271, 214, 271, 271, 271, 271, 252], 112) := by decide +kernel
theorem dX7_value_116 : decode cX7_value 116 = .ok (.aload_n 0, 1) := dk_42 (dk_at dksX7_value_2 0 rfl rfl)
theorem dX7_value_117 : decode cX7_value 117 = .ok (.getfield 3, 3) := dk_180 0 3 (dk_at dksX7_value_2 1 rfl rfl)
theorem dX7_value_120 : decode cX7_value 120 = .ok (.getfield 19, 3) := dk_180 0 19 (dk_at dksX7_value_2 4 rfl rfl)
theorem dX7_value_123 : decode cX7_value 123 = .ok (.getfield 23, 3) := dk_180 0 23 (dk_at dksX7_value_2 7 rfl rfl)
theorem dX7_value_126 : decode cX7_value 126 = .ok (.aload_n 0, 1) := dk_42 (dk_at dksX7_value_2 10 rfl rfl)
theorem dX7_value_127 : decode cX7_value 127 = .ok (.getfield 3, 3) := dk_180 0 3 (dk_at dksX7_value_2 11 rfl rfl)
theorem dX7_value_130 : decode cX7_value 130 = .ok (.getfield 29, 3) := dk_180 0 29 (dk_at dksX7_value_2 14 rfl rfl)
theorem dX7_value_133 : decode cX7_value 133 = .ok (.iaload, 1) := dk_46 (dk_at dksX7_value_2 17 rfl rfl)
theorem dX7_value_134 : decode cX7_value 134 = .ok (.aload_n 0, 1) := dk_42 (dk_at dksX7_value_2 18 rfl rfl)
theorem dX7_value_135 : decode cX7_value 135 = .ok (.getfield 3, 3) := dk_180 0 3 (dk_at dksX7_value_2 19 rfl rfl)
theorem dX7_value_138 : decode cX7_value 138 = .ok (.getfield 19, 3) := dk_180 0 19 (dk_at dksX7_value_3 0 rfl rfl)
theorem dX7_value_141 : decode cX7_value 141 = .ok (.getfield 32, 3) := dk_180 0 32 (dk_at dksX7_value_3 3 rfl rfl)
theorem dX7_value_144 : decode cX7_value 144 = .ok (.aload_n 0, 1) := dk_42 (dk_at dksX7_value_3 6 rfl rfl)
theorem dX7_value_145 : decode cX7_value 145 = .ok (.getfield 3, 3) := dk_180 0 3 (dk_at dksX7_value_3 7 rfl rfl)
theorem dX7_value_148 : decode cX7_value 148 = .ok (.getfield 29, 3) := dk_180 0 29 (dk_at dksX7_value_3 10 rfl rfl)
theorem dX7_value_151 : decode cX7_value 151 = .ok (.iaload, 1) := dk_46 (dk_at dksX7_value_3 13 rfl rfl)
theorem dX7_value_152 : decode cX7_value 152 = .ok (.isub, 1) := dk_100 (dk_at dksX7_value_3 14 rfl rfl)
theorem dX7_value_153 : decode cX7_value 153 = .ok (.invokestatic 35, 3) := dk_184 0 35 (dk_at dksX7_value_3 15 rfl rfl)
theorem dX7_value_156 : decode cX7_value 156 = .ok (.ireturn, 1) := dk_172 (dk_at dksX7_value_3 18 rfl rfl)
theorem dX7_value_157 : decode cX7_value 157 = .ok (.iconst 0, 1) := dk_3 (dk_at dksX7_value_3 19 rfl rfl)
theorem dX7_value_158 : decode cX7_value 158 = .ok (.aload_n 0, 1) := dk_42 (dk_at dksX7_value_3 20 rfl rfl)
theorem dX7_value_159 : decode cX7_value 159 = .ok (.getfield 3, 3) := dk_180 0 3 (dk_at dksX7_value_3 21 rfl rfl)
theorem dX7_value_162 : decode cX7_value 162 = .ok (.getfield 19, 3) := dk_180 0 19 (dk_at dksX7_value_4 0 rfl rfl)
theorem dX7_value_165 : decode cX7_value 165 = .ok (.getfield 41, 3) := dk_180 0 41 (dk_at dksX7_value_4 3 rfl rfl)
theorem dX7_value_168 : decode cX7_value 168 = .ok (.aload_n 0, 1) := dk_42 (dk_at dksX7_value_4 6 rfl rfl)
theorem dX7_value_169 : decode cX7_value 169 = .ok (.getfield 3, 3) := dk_180 0 3 (dk_at dksX7_value_4 7 rfl rfl)
theorem dX7_value_172 : decode cX7_value 172 = .ok (.getfield 29, 3) := dk_180 0 29 (dk_at dksX7_value_4 10 rfl rfl)
theorem dX7_value_175 : decode cX7_value 175 = .ok (.iaload, 1) := dk_46 (dk_at dksX7_value_4 13 rfl rfl)
theorem dX7_value_176 : decode cX7_value 176 = .ok (.invokestatic 44, 3) := dk_184 0 44 (dk_at dksX7_value_4 14 rfl rfl)
theorem dX7_value_179 : decode cX7_value 179 = .ok (.ireturn, 1) := dk_172 (dk_at dksX7_value_4 17 rfl rfl)
theorem dX7_value_180 : decode cX7_value 180 = .ok (.aload_n 0, 1) := dk_42 (dk_at dksX7_value_4 18 rfl rfl)
theorem dX7_value_181 : decode cX7_value 181 = .ok (.getfield 3, 3) := dk_180 0 3 (dk_at dksX7_value_4 19 rfl rfl)
theorem dX7_value_184 : decode cX7_value 184 = .ok (.getfield 19, 3) := dk_180 0 19 (dk_at dksX7_value_5 0 rfl rfl)
theorem dX7_value_187 : decode cX7_value 187 = .ok (.getfield 48, 3) := dk_180 0 48 (dk_at dksX7_value_5 3 rfl rfl)
theorem dX7_value_190 : decode cX7_value 190 = .ok (.aload_n 0, 1) := dk_42 (dk_at dksX7_value_5 6 rfl rfl)
theorem dX7_value_191 : decode cX7_value 191 = .ok (.getfield 3, 3) := dk_180 0 3 (dk_at dksX7_value_5 7 rfl rfl)
theorem dX7_value_194 : decode cX7_value 194 = .ok (.getfield 29, 3) := dk_180 0 29 (dk_at dksX7_value_5 10 rfl rfl)
theorem dX7_value_197 : decode cX7_value 197 = .ok (.iaload, 1) := dk_46 (dk_at dksX7_value_5 13 rfl rfl)
theorem dX7_value_198 : decode cX7_value 198 = .ok (.ireturn, 1) := dk_172 (dk_at dksX7_value_5 14 rfl rfl)
theorem dX7_value_199 : decode cX7_value 199 = .ok (.aload_n 0, 1) := dk_42 (dk_at dksX7_value_5 15 rfl rfl)
theorem dX7_value_200 : decode cX7_value 200 = .ok (.getfield 3, 3) := dk_180 0 3 (dk_at dksX7_value_5 16 rfl rfl)
theorem dX7_value_203 : decode cX7_value 203 = .ok (.getfield 19, 3) := dk_180 0 19 (dk_at dksX7_value_5 19 rfl rfl)
theorem dX7_value_206 : decode cX7_value 206 = .ok (.getfield 51, 3) := dk_180 0 51 (dk_at dksX7_value_6 0 rfl rfl)
theorem dX7_value_209 : decode cX7_value 209 = .ok (.aload_n 0, 1) := dk_42 (dk_at dksX7_value_6 3 rfl rfl)
theorem dX7_value_210 : decode cX7_value 210 = .ok (.getfield 3, 3) := dk_180 0 3 (dk_at dksX7_value_6 4 rfl rfl)
theorem dX7_value_213 : decode cX7_value 213 = .ok (.getfield 29, 3) := dk_180 0 29 (dk_at dksX7_value_6 7 rfl rfl)
theorem dX7_value_216 : decode cX7_value 216 = .ok (.iaload, 1) := dk_46 (dk_at dksX7_value_6 10 rfl rfl)
theorem dX7_value_217 : decode cX7_value 217 = .ok (.ireturn, 1) := dk_172 (dk_at dksX7_value_6 11 rfl rfl)
theorem dX7_value_218 : decode cX7_value 218 = .ok (.aload_n 0, 1) := dk_42 (dk_at dksX7_value_6 12 rfl rfl)
theorem dX7_value_219 : decode cX7_value 219 = .ok (.getfield 3, 3) := dk_180 0 3 (dk_at dksX7_value_6 13 rfl rfl)
theorem dX7_value_222 : decode cX7_value 222 = .ok (.getfield 19, 3) := dk_180 0 19 (dk_at dksX7_value_6 16 rfl rfl)
theorem dX7_value_225 : decode cX7_value 225 = .ok (.getfield 54, 3) := dk_180 0 54 (dk_at dksX7_value_6 19 rfl rfl)
theorem dX7_value_228 : decode cX7_value 228 = .ok (.aload_n 0, 1) := dk_42 (dk_at dksX7_value_6 22 rfl rfl)
theorem dX7_value_229 : decode cX7_value 229 = .ok (.getfield 3, 3) := dk_180 0 3 (dk_at dksX7_value_7 0 rfl rfl)
theorem dX7_value_232 : decode cX7_value 232 = .ok (.getfield 29, 3) := dk_180 0 29 (dk_at dksX7_value_7 3 rfl rfl)
theorem dX7_value_235 : decode cX7_value 235 = .ok (.iaload, 1) := dk_46 (dk_at dksX7_value_7 6 rfl rfl)
theorem dX7_value_236 : decode cX7_value 236 = .ok (.ireturn, 1) := dk_172 (dk_at dksX7_value_7 7 rfl rfl)
theorem dX7_value_237 : decode cX7_value 237 = .ok (.aload_n 0, 1) := dk_42 (dk_at dksX7_value_7 8 rfl rfl)
theorem dX7_value_238 : decode cX7_value 238 = .ok (.getfield 3, 3) := dk_180 0 3 (dk_at dksX7_value_7 9 rfl rfl)
theorem dX7_value_241 : decode cX7_value 241 = .ok (.getfield 19, 3) := dk_180 0 19 (dk_at dksX7_value_7 12 rfl rfl)
theorem dX7_value_244 : decode cX7_value 244 = .ok (.getfield 57, 3) := dk_180 0 57 (dk_at dksX7_value_7 15 rfl rfl)
theorem dX7_value_247 : decode cX7_value 247 = .ok (.aload_n 0, 1) := dk_42 (dk_at dksX7_value_7 18 rfl rfl)
theorem dX7_value_248 : decode cX7_value 248 = .ok (.getfield 3, 3) := dk_180 0 3 (dk_at dksX7_value_7 19 rfl rfl)
theorem dX7_value_251 : decode cX7_value 251 = .ok (.getfield 29, 3) := dk_180 0 29 (dk_at dksX7_value_8 0 rfl rfl)
theorem dX7_value_254 : decode cX7_value 254 = .ok (.iaload, 1) := dk_46 (dk_at dksX7_value_8 3 rfl rfl)
theorem dX7_value_255 : decode cX7_value 255 = .ok (.ireturn, 1) := dk_172 (dk_at dksX7_value_8 4 rfl rfl)
theorem dX7_value_256 : decode cX7_value 256 = .ok (.aload_n 0, 1) := dk_42 (dk_at dksX7_value_8 5 rfl rfl)
theorem dX7_value_257 : decode cX7_value 257 = .ok (.getfield 3, 3) := dk_180 0 3 (dk_at dksX7_value_8 6 rfl rfl)
theorem dX7_value_260 : decode cX7_value 260 = .ok (.aload_n 0, 1) := dk_42 (dk_at dksX7_value_8 9 rfl rfl)
theorem dX7_value_261 : decode cX7_value 261 = .ok (.getfield 3, 3) := dk_180 0 3 (dk_at dksX7_value_8 10 rfl rfl)
theorem dX7_value_264 : decode cX7_value 264 = .ok (.getfield 19, 3) := dk_180 0 19 (dk_at dksX7_value_8 13 rfl rfl)
theorem dX7_value_267 : decode cX7_value 267 = .ok (.iconst 1, 1) := dk_4 (dk_at dksX7_value_8 16 rfl rfl)
theorem dX7_value_268 : decode cX7_value 268 = .ok (.invokevirtual 60, 3) := dk_182 0 60 (dk_at dksX7_value_8 17 rfl rfl)
theorem dX7_value_271 : decode cX7_value 271 = .ok (.invokestatic 64, 3) := dk_184 0 64 (dk_at dksX7_value_8 20 rfl rfl)
theorem dX7_value_274 : decode cX7_value 274 = .ok (.ireturn, 1) := dk_172 (dk_at dksX7_value_8 23 rfl rfl)
theorem dX7_value_275 : decode cX7_value 275 = .ok (.aload_n 0, 1) := dk_42 (dk_at dksX7_value_9 0 rfl rfl)
theorem dX7_value_276 : decode cX7_value 276 = .ok (.getfield 3, 3) := dk_180 0 3 (dk_at dksX7_value_9 1 rfl rfl)
theorem dX7_value_279 : decode cX7_value 279 = .ok (.getfield 19, 3) := dk_180 0 19 (dk_at dksX7_value_9 4 rfl rfl)
theorem dX7_value_282 : decode cX7_value 282 = .ok (.getfield 69, 3) := dk_180 0 69 (dk_at dksX7_value_9 7 rfl rfl)
theorem dX7_value_285 : decode cX7_value 285 = .ok (.bipush 8, 2) := dk_16 8 (dk_at dksX7_value_9 10 rfl rfl)
theorem dX7_value_287 : decode cX7_value 287 = .ok (.irem, 1) := dk_112 (dk_at dksX7_value_9 12 rfl rfl)
theorem dX7_value_288 : decode cX7_value 288 = .ok (.ireturn, 1) := dk_172 (dk_at dksX7_value_9 13 rfl rfl)
theorem q114 : (Jvm.Cond.initialized "CuckooByPost$Sign") ∈ lw_all := lw_g (lw_at lw_m1 13 rfl) rfl
theorem q137 : (Jvm.Cond.fieldLinkNest "CuckooByPost$Sign" (48 : Nat) "CuckooByPost$Spring" "kind" "[I" "CuckooByPost") ∈ lw_tbl := lw_at lw_m1 36 rfl
theorem q140 : (Jvm.Cond.fieldLinkNest "CuckooByPost$Sign" (54 : Nat) "CuckooByPost$Spring" "strength" "[I" "CuckooByPost") ∈ lw_tbl := lw_at lw_m1 39 rfl
theorem q143 : (Jvm.Cond.fieldLinkNest "CuckooByPost$Sign" (32 : Nat) "CuckooByPost$Spring" "colour" "[I" "CuckooByPost") ∈ lw_tbl := lw_at lw_m1 42 rfl
theorem q146 : (Jvm.Cond.fieldLinkNest "CuckooByPost$Sign" (51 : Nat) "CuckooByPost$Spring" "own" "[I" "CuckooByPost") ∈ lw_tbl := lw_at lw_m1 45 rfl
theorem q149 : (Jvm.Cond.fieldLinkNest "CuckooByPost$Sign" (41 : Nat) "CuckooByPost$Spring" "notice" "[I" "CuckooByPost") ∈ lw_tbl := lw_at lw_m1 48 rfl
theorem q156 : (Jvm.Cond.fieldLinkNest "CuckooByPost$Sign" (23 : Nat) "CuckooByPost$Spring" "tint" "[I" "CuckooByPost") ∈ lw_tbl := lw_at lw_m1 55 rfl
theorem q159 : (Jvm.Cond.fieldLinkNest "CuckooByPost$Sign" (57 : Nat) "CuckooByPost$Spring" "age" "[I" "CuckooByPost") ∈ lw_tbl := lw_at lw_m1 58 rfl
theorem q164 : (Jvm.Cond.fieldLinkNest "CuckooByPost$Sign" (69 : Nat) "CuckooByPost$Spring" "day" "I" "CuckooByPost") ∈ lw_tbl := lw_at lw_m1 63 rfl
theorem q214 : (Jvm.Cond.fieldLinkNest "CuckooByPost$Sign" (19 : Nat) "CuckooByPost" "askedSpring" "LCuckooByPost$Spring;" "CuckooByPost") ∈ lw_tbl := lw_at lw_m1 113 rfl
theorem q216 : (Jvm.Cond.fieldLinkNest "CuckooByPost$Sign" (29 : Nat) "CuckooByPost" "askedNest" "I" "CuckooByPost") ∈ lw_tbl := lw_at lw_m1 115 rfl
theorem q530 : (Jvm.Cond.instantiable "CuckooByPost$Sign" (3 : Nat)) ∈ lw_all := lw_g (lw_at lw_m2 189 rfl) rfl
theorem q532 : (Jvm.Cond.instanceMethod ({ cls := "CuckooByPost$Sign", name := "<init>", desc := "(LCuckooByPost;I)V" } : Jvm.MethodName)) ∈ lw_all := lw_g (lw_at lw_m2 191 rfl) rfl
theorem q533 : (Jvm.Cond.code ({ cls := "CuckooByPost$Sign", name := "<init>", desc := "(LCuckooByPost;I)V" } : Jvm.MethodName) prog_6_method_1_code (3 : Nat) (Option.none : Option Jvm.ClassFile.FieldType)) ∈ lw_all := lw_g (lw_at lw_m2 192 rfl) rfl
theorem q534 : (Jvm.Cond.methodLinkNest "CuckooByPost$Sign" (9 : Nat) ({ cls := "CuckooByPost$Node", name := "<init>", desc := "(LCuckooByPost;)V" } : Jvm.MethodName) "CuckooByPost") ∈ lw_tbl := lw_at lw_m2 193 rfl
theorem q535 : (Jvm.Cond.fieldLink "CuckooByPost$Sign" (15 : Nat) "CuckooByPost$Sign" "sign" "I") ∈ lw_all := lw_g (lw_at lw_m2 194 rfl) rfl
theorem q536 : (Jvm.Cond.fieldLink "CuckooByPost$Sign" (3 : Nat) "CuckooByPost$Sign" "this$0" "LCuckooByPost;") ∈ lw_all := lw_g (lw_at lw_m2 195 rfl) rfl
theorem q537 : (Jvm.Cond.laysFinal "CuckooByPost$Sign" "CuckooByPost$Sign" "sign" "I") ∈ lw_all := lw_g (lw_at lw_m2 196 rfl) rfl
theorem q538 : (Jvm.Cond.soleField "CuckooByPost$Sign" "sign") ∈ lw_all := lw_g (lw_at lw_m2 197 rfl) rfl
theorem q539 : (Jvm.Cond.laysFinal "CuckooByPost$Sign" "CuckooByPost$Sign" "this$0" "LCuckooByPost;") ∈ lw_all := lw_g (lw_at lw_m2 198 rfl) rfl
theorem q540 : (Jvm.Cond.soleField "CuckooByPost$Sign" "this$0") ∈ lw_all := lw_g (lw_at lw_m2 199 rfl) rfl
theorem q541 : (Jvm.Cond.laysFinal "CuckooByPost$Sign" "CuckooByPost$Node" "this$0" "LCuckooByPost;") ∈ lw_all := lw_g (lw_at lw_m2 200 rfl) rfl
theorem q542 : (Jvm.Cond.superclass "CuckooByPost$Sign" "CuckooByPost$Node") ∈ lw_all := lw_g (lw_at lw_m2 201 rfl) rfl
theorem q676 : (Jvm.Cond.instanceMethod ({ cls := "CuckooByPost$Sign", name := "value", desc := "()I" } : Jvm.MethodName)) ∈ lw_all := lw_g (lw_at lw_m3 95 rfl) rfl
theorem q677 : (Jvm.Cond.code ({ cls := "CuckooByPost$Sign", name := "value", desc := "()I" } : Jvm.MethodName) prog_6_method_2_code (1 : Nat) (Option.some Jvm.ClassFile.FieldType.int)) ∈ lw_all := lw_g (lw_at lw_m3 96 rfl) rfl
theorem q678 : (Jvm.Cond.methodLink "CuckooByPost$Sign" (35 : Nat) ({ cls := "java/lang/Math", name := "abs", desc := "(I)I" } : Jvm.MethodName)) ∈ lw_all := lw_g (lw_at lw_m3 97 rfl) rfl
theorem q679 : (Jvm.Cond.methodLink "CuckooByPost$Sign" (44 : Nat) ({ cls := "java/lang/Math", name := "max", desc := "(II)I" } : Jvm.MethodName)) ∈ lw_all := lw_g (lw_at lw_m3 98 rfl) rfl
theorem q680 : (Jvm.Cond.methodLinkNest "CuckooByPost$Sign" (60 : Nat) ({ cls := "CuckooByPost", name := "guests", desc := "(LCuckooByPost$Spring;I)I" } : Jvm.MethodName) "CuckooByPost") ∈ lw_tbl := lw_at lw_m3 99 rfl
theorem q684 : (Jvm.Cond.methodLink "CuckooByPost$Sign" (64 : Nat) ({ cls := "java/lang/Integer", name := "bitCount", desc := "(I)I" } : Jvm.MethodName)) ∈ lw_all := lw_g (lw_at lw_m3 103 rfl) rfl
theorem q687 : (Jvm.Cond.selects "CuckooByPost$Sign" ({ cls := "CuckooByPost$Node", name := "value", desc := "()I" } : Jvm.MethodName) ({ cls := "CuckooByPost$Sign", name := "value", desc := "()I" } : Jvm.MethodName)) ∈ lw_all := lw_g (lw_at lw_m3 106 rfl) rfl
theorem q1647 : (Jvm.Cond.castable "CuckooByPost$Sign" "java/lang/Object") ∈ lw_tbl := lw_at lw_m7 106 rfl
theorem in_X7 : ∀ w ∈ wsX70, w ∈ lw_all := lw_in wsX70 [541, 537, 539] (by decide +kernel) (by decide +kernel)

/-! CuckooByPost$Act -/
set_option maxRecDepth 100000
def RX8 : String := "CuckooByPost$Act"
def TX8 : u_T := fun k => match k with
  | 0 => ("CuckooByPost$Node", "this$0", "LCuckooByPost;", true)
  | 1 => ("CuckooByPost$Act", "sign", "C", true)
  | 2 => ("CuckooByPost$Act", "left", "LCuckooByPost$Node;", true)
  | 3 => ("CuckooByPost$Act", "right", "LCuckooByPost$Node;", true)
  | _ => ("CuckooByPost$Act", "this$0", "LCuckooByPost;", true)
def tyX8 : Nat → FieldType := fun k => match k with
  | 0 => .object "CuckooByPost"
  | 1 => .char
  | 2 => .object "CuckooByPost$Node"
  | 3 => .object "CuckooByPost$Node"
  | _ => .object "CuckooByPost"
abbrev wsX80 : List Cond := u_ws RX8 TX8 5
-- two fields of one name: no nmX8
theorem tyX8_ok : ∀ k, k < 5 → parseFieldDescriptor (TX8 k).2.2.1 = some (tyX8 k) := by decide +kernel
abbrev cX8_init : ByteArray := prog_2_method_1_code
def yX8_init : MethodName := ⟨RX8, "<init>", "(LCuckooByPost;CLCuckooByPost$Node;LCuckooByPost$Node;)V"⟩
def dkwX8_init_1 : List UInt8 := [181, 0, 21, 177]
abbrev dktX8_init_1 : List UInt8 := dkwX8_init_1 ++ []
def dkwX8_init_0 : List UInt8 := [42, 43, 181, 0, 1, 42, 43, 183, 0, 7, 42, 28, 181, 0, 13, 42, 45, 181, 0, 17, 42, 25, 4]
abbrev dktX8_init_0 : List UInt8 := dkwX8_init_0 ++ dktX8_init_1
theorem dksX8_init_0 : cX8_init.data.toList.drop 0 = dktX8_init_0 := by decide +kernel
theorem dksX8_init_1 : cX8_init.data.toList.drop 23 = dktX8_init_1 := dk_seg dksX8_init_0 23 rfl rfl
theorem dX8_init_0 : decode cX8_init 0 = .ok (.aload_n 0, 1) := dk_42 (dk_at dksX8_init_0 0 rfl rfl)
theorem dX8_init_1 : decode cX8_init 1 = .ok (.aload_n 1, 1) := dk_43 (dk_at dksX8_init_0 1 rfl rfl)
theorem dX8_init_2 : decode cX8_init 2 = .ok (.putfield 1, 3) := dk_181 0 1 (dk_at dksX8_init_0 2 rfl rfl)
theorem dX8_init_5 : decode cX8_init 5 = .ok (.aload_n 0, 1) := dk_42 (dk_at dksX8_init_0 5 rfl rfl)
theorem dX8_init_6 : decode cX8_init 6 = .ok (.aload_n 1, 1) := dk_43 (dk_at dksX8_init_0 6 rfl rfl)
theorem dX8_init_7 : decode cX8_init 7 = .ok (.invokespecial 7, 3) := dk_183 0 7 (dk_at dksX8_init_0 7 rfl rfl)
theorem dX8_init_10 : decode cX8_init 10 = .ok (.aload_n 0, 1) := dk_42 (dk_at dksX8_init_0 10 rfl rfl)
theorem dX8_init_11 : decode cX8_init 11 = .ok (.iload_n 2, 1) := dk_28 (dk_at dksX8_init_0 11 rfl rfl)
theorem dX8_init_12 : decode cX8_init 12 = .ok (.putfield 13, 3) := dk_181 0 13 (dk_at dksX8_init_0 12 rfl rfl)
theorem dX8_init_15 : decode cX8_init 15 = .ok (.aload_n 0, 1) := dk_42 (dk_at dksX8_init_0 15 rfl rfl)
theorem dX8_init_16 : decode cX8_init 16 = .ok (.aload_n 3, 1) := dk_45 (dk_at dksX8_init_0 16 rfl rfl)
theorem dX8_init_17 : decode cX8_init 17 = .ok (.putfield 17, 3) := dk_181 0 17 (dk_at dksX8_init_0 17 rfl rfl)
theorem dX8_init_20 : decode cX8_init 20 = .ok (.aload_n 0, 1) := dk_42 (dk_at dksX8_init_0 20 rfl rfl)
theorem dX8_init_21 : decode cX8_init 21 = .ok (.aload 4, 2) := dk_25 4 (dk_at dksX8_init_0 21 rfl rfl)
theorem dX8_init_23 : decode cX8_init 23 = .ok (.putfield 21, 3) := dk_181 0 21 (dk_at dksX8_init_1 0 rfl rfl)
theorem dX8_init_26 : decode cX8_init 26 = .ok (.return_, 1) := dk_177 (dk_at dksX8_init_1 3 rfl rfl)
abbrev cX8_value : ByteArray := prog_2_method_2_code
def yX8_value : MethodName := ⟨RX8, "value", "()I"⟩
def dkwX8_value_4 : List UInt8 := [160, 0, 7, 4, 167, 0, 4, 3, 172]
abbrev dktX8_value_4 : List UInt8 := dkwX8_value_4 ++ []
def dkwX8_value_3 : List UInt8 := [27, 28, 162, 0, 7, 4, 167, 0, 4, 3, 172, 27, 28, 164, 0, 7, 4, 167, 0, 4, 3, 172, 27, 28]
abbrev dktX8_value_3 : List UInt8 := dkwX8_value_3 ++ dktX8_value_4
def dkwX8_value_2 : List UInt8 := [27, 28, 96, 172, 27, 28, 100, 172, 27, 28, 104, 172, 28, 154, 0, 7, 3, 167, 0, 6, 27, 28, 108, 172]
abbrev dktX8_value_2 : List UInt8 := dkwX8_value_2 ++ dktX8_value_3
def dkwX8_value_1 : List UInt8 := [171, 0, 0, 0, 0, 0, 0, 106, 0, 0, 0, 6, 0, 0, 0, 42, 0, 0, 0, 68, 0, 0, 0, 43, 0, 0, 0, 60, 0, 0, 0, 45, 0, 0, 0, 64, 0, 0, 0, 47, 0, 0, 0, 72, 0, 0, 0, 60, 0, 0, 0, 84, 0, 0, 0, 62, 0, 0, 0, 95]
abbrev dktX8_value_1 : List UInt8 := dkwX8_value_1 ++ dktX8_value_2
def dkwX8_value_0 : List UInt8 := [42, 180, 0, 17, 182, 0, 24, 60, 42, 180, 0, 21, 182, 0, 24, 61, 42, 180, 0, 13]
abbrev dktX8_value_0 : List UInt8 := dkwX8_value_0 ++ dktX8_value_1
theorem dksX8_value_0 : cX8_value.data.toList.drop 0 = dktX8_value_0 := by decide +kernel
theorem dksX8_value_1 : cX8_value.data.toList.drop 20 = dktX8_value_1 := dk_seg dksX8_value_0 20 rfl rfl
theorem dksX8_value_2 : cX8_value.data.toList.drop 80 = dktX8_value_2 := dk_seg dksX8_value_1 60 rfl rfl
theorem dksX8_value_3 : cX8_value.data.toList.drop 104 = dktX8_value_3 := dk_seg dksX8_value_2 24 rfl rfl
theorem dksX8_value_4 : cX8_value.data.toList.drop 128 = dktX8_value_4 := dk_seg dksX8_value_3 24 rfl rfl
theorem dX8_value_0 : decode cX8_value 0 = .ok (.aload_n 0, 1) := dk_42 (dk_at dksX8_value_0 0 rfl rfl)
theorem dX8_value_1 : decode cX8_value 1 = .ok (.getfield 17, 3) := dk_180 0 17 (dk_at dksX8_value_0 1 rfl rfl)
theorem dX8_value_4 : decode cX8_value 4 = .ok (.invokevirtual 24, 3) := dk_182 0 24 (dk_at dksX8_value_0 4 rfl rfl)
theorem dX8_value_7 : decode cX8_value 7 = .ok (.istore_n 1, 1) := dk_60 (dk_at dksX8_value_0 7 rfl rfl)
theorem dX8_value_8 : decode cX8_value 8 = .ok (.aload_n 0, 1) := dk_42 (dk_at dksX8_value_0 8 rfl rfl)
theorem dX8_value_9 : decode cX8_value 9 = .ok (.getfield 21, 3) := dk_180 0 21 (dk_at dksX8_value_0 9 rfl rfl)
theorem dX8_value_12 : decode cX8_value 12 = .ok (.invokevirtual 24, 3) := dk_182 0 24 (dk_at dksX8_value_0 12 rfl rfl)
theorem dX8_value_15 : decode cX8_value 15 = .ok (.istore_n 2, 1) := dk_61 (dk_at dksX8_value_0 15 rfl rfl)
theorem dX8_value_16 : decode cX8_value 16 = .ok (.aload_n 0, 1) := dk_42 (dk_at dksX8_value_0 16 rfl rfl)
theorem dX8_value_17 : decode cX8_value 17 = .ok (.getfield 13, 3) := dk_180 0 13 (dk_at dksX8_value_0 17 rfl rfl)
theorem dX8_value_20 : decode cX8_value 20 = .ok (.lookupswitch 106 #[(42, 68), (43, 60), (45, 64), (47, 72), (60, 84), (62, 95)], 60) := by decide +kernel
theorem dX8_value_80 : decode cX8_value 80 = .ok (.iload_n 1, 1) := dk_27 (dk_at dksX8_value_2 0 rfl rfl)
theorem dX8_value_81 : decode cX8_value 81 = .ok (.iload_n 2, 1) := dk_28 (dk_at dksX8_value_2 1 rfl rfl)
theorem dX8_value_82 : decode cX8_value 82 = .ok (.iadd, 1) := dk_96 (dk_at dksX8_value_2 2 rfl rfl)
theorem dX8_value_83 : decode cX8_value 83 = .ok (.ireturn, 1) := dk_172 (dk_at dksX8_value_2 3 rfl rfl)
theorem dX8_value_84 : decode cX8_value 84 = .ok (.iload_n 1, 1) := dk_27 (dk_at dksX8_value_2 4 rfl rfl)
theorem dX8_value_85 : decode cX8_value 85 = .ok (.iload_n 2, 1) := dk_28 (dk_at dksX8_value_2 5 rfl rfl)
theorem dX8_value_86 : decode cX8_value 86 = .ok (.isub, 1) := dk_100 (dk_at dksX8_value_2 6 rfl rfl)
theorem dX8_value_87 : decode cX8_value 87 = .ok (.ireturn, 1) := dk_172 (dk_at dksX8_value_2 7 rfl rfl)
theorem dX8_value_88 : decode cX8_value 88 = .ok (.iload_n 1, 1) := dk_27 (dk_at dksX8_value_2 8 rfl rfl)
theorem dX8_value_89 : decode cX8_value 89 = .ok (.iload_n 2, 1) := dk_28 (dk_at dksX8_value_2 9 rfl rfl)
theorem dX8_value_90 : decode cX8_value 90 = .ok (.imul, 1) := dk_104 (dk_at dksX8_value_2 10 rfl rfl)
theorem dX8_value_91 : decode cX8_value 91 = .ok (.ireturn, 1) := dk_172 (dk_at dksX8_value_2 11 rfl rfl)
theorem dX8_value_92 : decode cX8_value 92 = .ok (.iload_n 2, 1) := dk_28 (dk_at dksX8_value_2 12 rfl rfl)
theorem dX8_value_93 : decode cX8_value 93 = .ok (.ifCond .ne 7, 3) := dk_154 0 7 (dk_at dksX8_value_2 13 rfl rfl)
theorem dX8_value_96 : decode cX8_value 96 = .ok (.iconst 0, 1) := dk_3 (dk_at dksX8_value_2 16 rfl rfl)
theorem dX8_value_97 : decode cX8_value 97 = .ok (.goto 6, 3) := dk_167 0 6 (dk_at dksX8_value_2 17 rfl rfl)
theorem dX8_value_100 : decode cX8_value 100 = .ok (.iload_n 1, 1) := dk_27 (dk_at dksX8_value_2 20 rfl rfl)
theorem dX8_value_101 : decode cX8_value 101 = .ok (.iload_n 2, 1) := dk_28 (dk_at dksX8_value_2 21 rfl rfl)
theorem dX8_value_102 : decode cX8_value 102 = .ok (.idiv, 1) := dk_108 (dk_at dksX8_value_2 22 rfl rfl)
theorem dX8_value_103 : decode cX8_value 103 = .ok (.ireturn, 1) := dk_172 (dk_at dksX8_value_2 23 rfl rfl)
theorem dX8_value_104 : decode cX8_value 104 = .ok (.iload_n 1, 1) := dk_27 (dk_at dksX8_value_3 0 rfl rfl)
theorem dX8_value_105 : decode cX8_value 105 = .ok (.iload_n 2, 1) := dk_28 (dk_at dksX8_value_3 1 rfl rfl)
theorem dX8_value_106 : decode cX8_value 106 = .ok (.if_icmp .ge 7, 3) := dk_162 0 7 (dk_at dksX8_value_3 2 rfl rfl)
theorem dX8_value_109 : decode cX8_value 109 = .ok (.iconst 1, 1) := dk_4 (dk_at dksX8_value_3 5 rfl rfl)
theorem dX8_value_110 : decode cX8_value 110 = .ok (.goto 4, 3) := dk_167 0 4 (dk_at dksX8_value_3 6 rfl rfl)
theorem dX8_value_113 : decode cX8_value 113 = .ok (.iconst 0, 1) := dk_3 (dk_at dksX8_value_3 9 rfl rfl)
theorem dX8_value_114 : decode cX8_value 114 = .ok (.ireturn, 1) := dk_172 (dk_at dksX8_value_3 10 rfl rfl)
theorem dX8_value_115 : decode cX8_value 115 = .ok (.iload_n 1, 1) := dk_27 (dk_at dksX8_value_3 11 rfl rfl)
theorem dX8_value_116 : decode cX8_value 116 = .ok (.iload_n 2, 1) := dk_28 (dk_at dksX8_value_3 12 rfl rfl)
theorem dX8_value_117 : decode cX8_value 117 = .ok (.if_icmp .le 7, 3) := dk_164 0 7 (dk_at dksX8_value_3 13 rfl rfl)
theorem dX8_value_120 : decode cX8_value 120 = .ok (.iconst 1, 1) := dk_4 (dk_at dksX8_value_3 16 rfl rfl)
theorem dX8_value_121 : decode cX8_value 121 = .ok (.goto 4, 3) := dk_167 0 4 (dk_at dksX8_value_3 17 rfl rfl)
theorem dX8_value_124 : decode cX8_value 124 = .ok (.iconst 0, 1) := dk_3 (dk_at dksX8_value_3 20 rfl rfl)
theorem dX8_value_125 : decode cX8_value 125 = .ok (.ireturn, 1) := dk_172 (dk_at dksX8_value_3 21 rfl rfl)
theorem dX8_value_126 : decode cX8_value 126 = .ok (.iload_n 1, 1) := dk_27 (dk_at dksX8_value_3 22 rfl rfl)
theorem dX8_value_127 : decode cX8_value 127 = .ok (.iload_n 2, 1) := dk_28 (dk_at dksX8_value_3 23 rfl rfl)
theorem dX8_value_128 : decode cX8_value 128 = .ok (.if_icmp .ne 7, 3) := dk_160 0 7 (dk_at dksX8_value_4 0 rfl rfl)
theorem dX8_value_131 : decode cX8_value 131 = .ok (.iconst 1, 1) := dk_4 (dk_at dksX8_value_4 3 rfl rfl)
theorem dX8_value_132 : decode cX8_value 132 = .ok (.goto 4, 3) := dk_167 0 4 (dk_at dksX8_value_4 4 rfl rfl)
theorem dX8_value_135 : decode cX8_value 135 = .ok (.iconst 0, 1) := dk_3 (dk_at dksX8_value_4 7 rfl rfl)
theorem dX8_value_136 : decode cX8_value 136 = .ok (.ireturn, 1) := dk_172 (dk_at dksX8_value_4 8 rfl rfl)
theorem q115 : (Jvm.Cond.initialized "CuckooByPost$Act") ∈ lw_all := lw_g (lw_at lw_m1 14 rfl) rfl
theorem q550 : (Jvm.Cond.instantiable "CuckooByPost$Act" (5 : Nat)) ∈ lw_all := lw_g (lw_at lw_m2 209 rfl) rfl
theorem q552 : (Jvm.Cond.instanceMethod ({ cls := "CuckooByPost$Act", name := "<init>", desc := "(LCuckooByPost;CLCuckooByPost$Node;LCuckooByPost$Node;)V" } : Jvm.MethodName)) ∈ lw_all := lw_g (lw_at lw_m2 211 rfl) rfl
theorem q553 : (Jvm.Cond.code ({ cls := "CuckooByPost$Act", name := "<init>", desc := "(LCuckooByPost;CLCuckooByPost$Node;LCuckooByPost$Node;)V" } : Jvm.MethodName) prog_2_method_1_code (5 : Nat) (Option.none : Option Jvm.ClassFile.FieldType)) ∈ lw_all := lw_g (lw_at lw_m2 212 rfl) rfl
theorem q554 : (Jvm.Cond.methodLinkNest "CuckooByPost$Act" (7 : Nat) ({ cls := "CuckooByPost$Node", name := "<init>", desc := "(LCuckooByPost;)V" } : Jvm.MethodName) "CuckooByPost") ∈ lw_tbl := lw_at lw_m2 213 rfl
theorem q555 : (Jvm.Cond.fieldLink "CuckooByPost$Act" (13 : Nat) "CuckooByPost$Act" "sign" "C") ∈ lw_all := lw_g (lw_at lw_m2 214 rfl) rfl
theorem q556 : (Jvm.Cond.fieldLink "CuckooByPost$Act" (17 : Nat) "CuckooByPost$Act" "left" "LCuckooByPost$Node;") ∈ lw_all := lw_g (lw_at lw_m2 215 rfl) rfl
theorem q557 : (Jvm.Cond.fieldLink "CuckooByPost$Act" (21 : Nat) "CuckooByPost$Act" "right" "LCuckooByPost$Node;") ∈ lw_all := lw_g (lw_at lw_m2 216 rfl) rfl
theorem q558 : (Jvm.Cond.fieldLink "CuckooByPost$Act" (1 : Nat) "CuckooByPost$Act" "this$0" "LCuckooByPost;") ∈ lw_all := lw_g (lw_at lw_m2 217 rfl) rfl
theorem q559 : (Jvm.Cond.laysFinal "CuckooByPost$Act" "CuckooByPost$Act" "sign" "C") ∈ lw_all := lw_g (lw_at lw_m2 218 rfl) rfl
theorem q560 : (Jvm.Cond.soleField "CuckooByPost$Act" "sign") ∈ lw_all := lw_g (lw_at lw_m2 219 rfl) rfl
theorem q561 : (Jvm.Cond.laysFinal "CuckooByPost$Act" "CuckooByPost$Act" "left" "LCuckooByPost$Node;") ∈ lw_all := lw_g (lw_at lw_m2 220 rfl) rfl
theorem q562 : (Jvm.Cond.soleField "CuckooByPost$Act" "left") ∈ lw_all := lw_g (lw_at lw_m2 221 rfl) rfl
theorem q563 : (Jvm.Cond.laysFinal "CuckooByPost$Act" "CuckooByPost$Act" "right" "LCuckooByPost$Node;") ∈ lw_all := lw_g (lw_at lw_m2 222 rfl) rfl
theorem q564 : (Jvm.Cond.soleField "CuckooByPost$Act" "right") ∈ lw_all := lw_g (lw_at lw_m2 223 rfl) rfl
theorem q565 : (Jvm.Cond.laysFinal "CuckooByPost$Act" "CuckooByPost$Act" "this$0" "LCuckooByPost;") ∈ lw_all := lw_g (lw_at lw_m2 224 rfl) rfl
theorem q566 : (Jvm.Cond.soleField "CuckooByPost$Act" "this$0") ∈ lw_all := lw_g (lw_at lw_m2 225 rfl) rfl
theorem q567 : (Jvm.Cond.laysFinal "CuckooByPost$Act" "CuckooByPost$Node" "this$0" "LCuckooByPost;") ∈ lw_all := lw_g (lw_at lw_m2 226 rfl) rfl
theorem q568 : (Jvm.Cond.superclass "CuckooByPost$Act" "CuckooByPost$Node") ∈ lw_all := lw_g (lw_at lw_m2 227 rfl) rfl
theorem q667 : (Jvm.Cond.selects "CuckooByPost$Act" ({ cls := "CuckooByPost$Node", name := "value", desc := "()I" } : Jvm.MethodName) ({ cls := "CuckooByPost$Act", name := "value", desc := "()I" } : Jvm.MethodName)) ∈ lw_all := lw_g (lw_at lw_m3 86 rfl) rfl
theorem q668 : (Jvm.Cond.instanceMethod ({ cls := "CuckooByPost$Act", name := "value", desc := "()I" } : Jvm.MethodName)) ∈ lw_all := lw_g (lw_at lw_m3 87 rfl) rfl
theorem q669 : (Jvm.Cond.code ({ cls := "CuckooByPost$Act", name := "value", desc := "()I" } : Jvm.MethodName) prog_2_method_2_code (3 : Nat) (Option.some Jvm.ClassFile.FieldType.int)) ∈ lw_all := lw_g (lw_at lw_m3 88 rfl) rfl
theorem q670 : (Jvm.Cond.methodLink "CuckooByPost$Act" (24 : Nat) ({ cls := "CuckooByPost$Node", name := "value", desc := "()I" } : Jvm.MethodName)) ∈ lw_all := lw_g (lw_at lw_m3 89 rfl) rfl
theorem q1648 : (Jvm.Cond.castable "CuckooByPost$Act" "java/lang/Object") ∈ lw_tbl := lw_at lw_m7 107 rfl
theorem in_X8 : ∀ w ∈ wsX80, w ∈ lw_all := lw_in wsX80 [567, 559, 561, 563, 565] (by decide +kernel) (by decide +kernel)

theorem q197 : (Jvm.Cond.arrayClass Jvm.ClassFile.FieldType.int) ∈ lw_all := lw_g (lw_at lw_m1 96 rfl) rfl
set_option maxRecDepth 100000
theorem q198 : (Jvm.Cond.arrayOver (Jvm.ClassFile.FieldType.object "CuckooByPost$Spring")) ∈ lw_tbl := lw_at lw_m1 97 rfl
theorem q325 : (Jvm.Cond.arrayClass Jvm.ClassFile.FieldType.boolean) ∈ lw_all := lw_g (lw_at lw_m1 224 rfl) rfl
theorem q326 : (Jvm.Cond.arrayClass Jvm.ClassFile.FieldType.long) ∈ lw_all := lw_g (lw_at lw_m1 225 rfl) rfl
theorem q478 : (Jvm.Cond.arrayClass Jvm.ClassFile.FieldType.byte) ∈ lw_all := lw_g (lw_at lw_m2 137 rfl) rfl

theorem q121 : (Jvm.Cond.initialized "java/lang/System") ∈ lw_all := lw_g (lw_at lw_m1 20 rfl) rfl
set_option maxRecDepth 100000
theorem q593 : (Jvm.Cond.static ({ cls := "java/lang/System", name := "arraycopy", desc := "(Ljava/lang/Object;ILjava/lang/Object;II)V" } : Jvm.MethodName)) ∈ lw_all := lw_g (lw_at lw_m3 12 rfl) rfl
theorem q594 : (Jvm.Cond.native ({ cls := "java/lang/System", name := "arraycopy", desc := "(Ljava/lang/Object;ILjava/lang/Object;II)V" } : Jvm.MethodName)) ∈ lw_all := lw_g (lw_at lw_m3 13 rfl) rfl
