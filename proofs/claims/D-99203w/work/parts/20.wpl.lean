/-! AM, part 11: the weakest precondition, opcode by opcode -/
set_option maxRecDepth 100000
section WPL
variable {d : Nat} {mi : am_MI} {pc len : Nat} {ls st : List Value} {μ : am_M} {K : Option Value → am_M → Prop}
theorem am_dc {mi : am_MI} {cc : ByteArray} {pc : Nat} {r : Except DecodeError (Instr × Nat)} (h : am_code mi = cc) (hd : decode cc pc = r) : decode (am_code mi) pc = r := h ▸ hd
theorem wp_iconst {n : Int} {v : Int32} (hv : Int32.ofInt n = v) (hd : decode (am_code mi) pc = .ok (.iconst n, 1)) : am_Wp d mi pc ls st μ K ↔ am_Wp d mi (pc + 1) ls (.int v :: st) μ K := by subst hv; exact wp_step hd rfl (fun _ _ _ => rfl)
theorem wp_bipush {n : Int} {v : Int32} (hv : (Int8.ofInt n).toInt32 = v) (hd : decode (am_code mi) pc = .ok (.bipush n, 2)) : am_Wp d mi pc ls st μ K ↔ am_Wp d mi (pc + 2) ls (.int v :: st) μ K := by subst hv; exact wp_step hd rfl (fun _ _ _ => rfl)
theorem wp_sipush {n : Int} {v : Int32} (hv : (Int16.ofInt n).toInt32 = v) (hd : decode (am_code mi) pc = .ok (.sipush n, 3)) : am_Wp d mi pc ls st μ K ↔ am_Wp d mi (pc + 3) ls (.int v :: st) μ K := by subst hv; exact wp_step hd rfl (fun _ _ _ => rfl)
theorem wp_lconst {n : Fin 2} {v : Int64} (hv : Int64.ofNat (n : Nat) = v) (hd : decode (am_code mi) pc = .ok (.lconst n, 1)) : am_Wp d mi pc ls st μ K ↔ am_Wp d mi (pc + 1) ls (.long v :: st) μ K := by subst hv; exact wp_step hd rfl (fun _ _ _ => rfl)
theorem wp_null  (hd : decode (am_code mi) pc = .ok (.aconst_null, 1)) : am_Wp d mi pc ls (st) μ K ↔ am_Wp d mi (pc + 1) ls (.null :: st) μ K := wp_step hd rfl (fun _ _ _ => rfl)
theorem wp_ldc {idx : Nat} {v : Int32} (hv : am_KI (am_own mi) idx = some v) (hd : decode (am_code mi) pc = .ok (.ldc idx, 2)) : am_Wp d mi pc ls st μ K ↔ am_Wp d mi (pc + 2) ls (.int v :: st) μ K := wp_step hd rfl (fun _ _ _ => by simp only [am_stp, hv])
theorem wp_ldcw {idx : Nat} {v : Int32} (hv : am_KI (am_own mi) idx = some v) (hd : decode (am_code mi) pc = .ok (.ldc_w idx, 3)) : am_Wp d mi pc ls st μ K ↔ am_Wp d mi (pc + 3) ls (.int v :: st) μ K := wp_step hd rfl (fun _ _ _ => by simp only [am_stp, hv])
theorem wp_ldc2 {idx : Nat} {v : Int64} (hv : am_KL (am_own mi) idx = some v) (hd : decode (am_code mi) pc = .ok (.ldc2_w idx, 3)) : am_Wp d mi pc ls st μ K ↔ am_Wp d mi (pc + 3) ls (.long v :: st) μ K := wp_step hd rfl (fun _ _ _ => by simp only [am_stp, hv])
theorem wp_ldcS {idx j : Nat} (hn : am_KI (am_own mi) idx = none) (hv : am_KS (am_own mi) idx = some j) (hd : decode (am_code mi) pc = .ok (.ldc idx, 2)) : am_Wp d mi pc ls st μ K ↔ am_Wp d mi (pc + 2) ls (.ref (am_B + 2 * j) :: st) μ K := wp_step hd rfl (fun _ _ _ => by simp only [am_stp, hn, hv])
theorem wp_ldcwS {idx j : Nat} (hn : am_KI (am_own mi) idx = none) (hv : am_KS (am_own mi) idx = some j) (hd : decode (am_code mi) pc = .ok (.ldc_w idx, 3)) : am_Wp d mi pc ls st μ K ↔ am_Wp d mi (pc + 3) ls (.ref (am_B + 2 * j) :: st) μ K := wp_step hd rfl (fun _ _ _ => by simp only [am_stp, hn, hv])
theorem wp_iload_n {j : Fin 4} {x : Int32} (hj : ls[(j : Nat)]? = some (.int x)) (hd : decode (am_code mi) pc = .ok (.iload_n j, 1)) : am_Wp d mi pc ls st μ K ↔ am_Wp d mi (pc + 1) ls (.int x :: st) μ K := wp_step hd rfl (fun _ _ _ => by simp only [am_stp, am_ldI, hj])
theorem wp_iload {j : Nat} {x : Int32} (hj : ls[j]? = some (.int x)) (hd : decode (am_code mi) pc = .ok (.iload j, 2)) : am_Wp d mi pc ls st μ K ↔ am_Wp d mi (pc + 2) ls (.int x :: st) μ K := wp_step hd rfl (fun _ _ _ => by simp only [am_stp, am_ldI, hj])
theorem wp_lload_n {j : Fin 4} {x : Int64} (hj : ls[(j : Nat)]? = some (.long x)) (hd : decode (am_code mi) pc = .ok (.lload_n j, 1)) : am_Wp d mi pc ls st μ K ↔ am_Wp d mi (pc + 1) ls (.long x :: st) μ K := wp_step hd rfl (fun _ _ _ => by simp only [am_stp, am_ldL, hj])
theorem wp_lload {j : Nat} {x : Int64} (hj : ls[j]? = some (.long x)) (hd : decode (am_code mi) pc = .ok (.lload j, 2)) : am_Wp d mi pc ls st μ K ↔ am_Wp d mi (pc + 2) ls (.long x :: st) μ K := wp_step hd rfl (fun _ _ _ => by simp only [am_stp, am_ldL, hj])
theorem wp_aload_n {j : Fin 4} {x : Nat} (hj : ls[(j : Nat)]? = some (.ref x)) (hd : decode (am_code mi) pc = .ok (.aload_n j, 1)) : am_Wp d mi pc ls st μ K ↔ am_Wp d mi (pc + 1) ls (.ref x :: st) μ K := wp_step hd rfl (fun _ _ _ => by simp only [am_stp, am_ldA, hj])
theorem wp_aload {j : Nat} {x : Nat} (hj : ls[j]? = some (.ref x)) (hd : decode (am_code mi) pc = .ok (.aload j, 2)) : am_Wp d mi pc ls st μ K ↔ am_Wp d mi (pc + 2) ls (.ref x :: st) μ K := wp_step hd rfl (fun _ _ _ => by simp only [am_stp, am_ldA, hj])
theorem wp_aload_nN {j : Fin 4} (hj : ls[(j : Nat)]? = some (.null)) (hd : decode (am_code mi) pc = .ok (.aload_n j, 1)) : am_Wp d mi pc ls st μ K ↔ am_Wp d mi (pc + 1) ls (.null :: st) μ K := wp_step hd rfl (fun _ _ _ => by simp only [am_stp, am_ldA, hj])
theorem wp_aloadN {j : Nat} (hj : ls[j]? = some (.null)) (hd : decode (am_code mi) pc = .ok (.aload j, 2)) : am_Wp d mi pc ls st μ K ↔ am_Wp d mi (pc + 2) ls (.null :: st) μ K := wp_step hd rfl (fun _ _ _ => by simp only [am_stp, am_ldA, hj])
theorem wp_istore_n {j : Fin 4} {x : Int32} (hj : (j : Nat) < ls.length) (hd : decode (am_code mi) pc = .ok (.istore_n j, 1)) : am_Wp d mi pc ls (.int x :: st) μ K ↔ am_Wp d mi (pc + 1) (am_st1 ls j (.int x)) st μ K := wp_step hd rfl (fun _ _ _ => by simp only [am_stp, am_toI, if_pos hj])
theorem wp_istore {j : Nat} {x : Int32} (hj : j < ls.length) (hd : decode (am_code mi) pc = .ok (.istore j, 2)) : am_Wp d mi pc ls (.int x :: st) μ K ↔ am_Wp d mi (pc + 2) (am_st1 ls j (.int x)) st μ K := wp_step hd rfl (fun _ _ _ => by simp only [am_stp, am_toI, if_pos hj])
theorem wp_astore_n {j : Fin 4} {x : Nat} (hj : (j : Nat) < ls.length) (hd : decode (am_code mi) pc = .ok (.astore_n j, 1)) : am_Wp d mi pc ls (.ref x :: st) μ K ↔ am_Wp d mi (pc + 1) (am_st1 ls j (.ref x)) st μ K := wp_step hd rfl (fun _ _ _ => by simp only [am_stp, am_toA, if_pos hj])
theorem wp_astore {j : Nat} {x : Nat} (hj : j < ls.length) (hd : decode (am_code mi) pc = .ok (.astore j, 2)) : am_Wp d mi pc ls (.ref x :: st) μ K ↔ am_Wp d mi (pc + 2) (am_st1 ls j (.ref x)) st μ K := wp_step hd rfl (fun _ _ _ => by simp only [am_stp, am_toA, if_pos hj])
theorem wp_astore_nN {j : Fin 4} (hj : (j : Nat) < ls.length) (hd : decode (am_code mi) pc = .ok (.astore_n j, 1)) : am_Wp d mi pc ls (.null :: st) μ K ↔ am_Wp d mi (pc + 1) (am_st1 ls j (.null)) st μ K := wp_step hd rfl (fun _ _ _ => by simp only [am_stp, am_toA, if_pos hj])
theorem wp_astoreN {j : Nat} (hj : j < ls.length) (hd : decode (am_code mi) pc = .ok (.astore j, 2)) : am_Wp d mi pc ls (.null :: st) μ K ↔ am_Wp d mi (pc + 2) (am_st1 ls j (.null)) st μ K := wp_step hd rfl (fun _ _ _ => by simp only [am_stp, am_toA, if_pos hj])
theorem wp_lstore_n {j : Fin 4} {x : Int64} (hj : (j : Nat) + 1 < ls.length) (hd : decode (am_code mi) pc = .ok (.lstore_n j, 1)) : am_Wp d mi pc ls (.long x :: st) μ K ↔ am_Wp d mi (pc + 1) (am_st2 ls j (.long x)) st μ K := wp_step hd rfl (fun _ _ _ => by simp only [am_stp, am_toL, if_pos hj])
theorem wp_lstore {j : Nat} {x : Int64} (hj : j + 1 < ls.length) (hd : decode (am_code mi) pc = .ok (.lstore j, 2)) : am_Wp d mi pc ls (.long x :: st) μ K ↔ am_Wp d mi (pc + 2) (am_st2 ls j (.long x)) st μ K := wp_step hd rfl (fun _ _ _ => by simp only [am_stp, am_toL, if_pos hj])
theorem wp_iinc {j : Nat} {n : Int} {x v : Int32} (hv : Int32.ofInt n = v) (hj : ls[j]? = some (.int x)) (hd : decode (am_code mi) pc = .ok (.iinc j n, 3)) : am_Wp d mi pc ls st μ K ↔ am_Wp d mi (pc + 3) (am_st1 ls j (.int (x + v))) st μ K := by subst hv; exact wp_step hd rfl (fun _ _ _ => by simp only [am_stp, hj])
theorem wp_iadd {x y : Int32} (hd : decode (am_code mi) pc = .ok (.iadd, 1)) : am_Wp d mi pc ls (.int y :: .int x :: st) μ K ↔ am_Wp d mi (pc + 1) ls (.int (x + y) :: st) μ K := wp_step hd rfl (fun _ _ _ => rfl)
theorem wp_isub {x y : Int32} (hd : decode (am_code mi) pc = .ok (.isub, 1)) : am_Wp d mi pc ls (.int y :: .int x :: st) μ K ↔ am_Wp d mi (pc + 1) ls (.int (x - y) :: st) μ K := wp_step hd rfl (fun _ _ _ => rfl)
theorem wp_imul {x y : Int32} (hd : decode (am_code mi) pc = .ok (.imul, 1)) : am_Wp d mi pc ls (.int y :: .int x :: st) μ K ↔ am_Wp d mi (pc + 1) ls (.int (x * y) :: st) μ K := wp_step hd rfl (fun _ _ _ => rfl)
theorem wp_iand {x y : Int32} (hd : decode (am_code mi) pc = .ok (.iand, 1)) : am_Wp d mi pc ls (.int y :: .int x :: st) μ K ↔ am_Wp d mi (pc + 1) ls (.int (x &&& y) :: st) μ K := wp_step hd rfl (fun _ _ _ => rfl)
theorem wp_ior {x y : Int32} (hd : decode (am_code mi) pc = .ok (.ior, 1)) : am_Wp d mi pc ls (.int y :: .int x :: st) μ K ↔ am_Wp d mi (pc + 1) ls (.int (x ||| y) :: st) μ K := wp_step hd rfl (fun _ _ _ => rfl)
theorem wp_ixor {x y : Int32} (hd : decode (am_code mi) pc = .ok (.ixor, 1)) : am_Wp d mi pc ls (.int y :: .int x :: st) μ K ↔ am_Wp d mi (pc + 1) ls (.int (x ^^^ y) :: st) μ K := wp_step hd rfl (fun _ _ _ => rfl)
theorem wp_ishl {x y : Int32} (hd : decode (am_code mi) pc = .ok (.ishl, 1)) : am_Wp d mi pc ls (.int y :: .int x :: st) μ K ↔ am_Wp d mi (pc + 1) ls (.int (x <<< (y &&& 31)) :: st) μ K := wp_step hd rfl (fun _ _ _ => rfl)
theorem wp_ishr {x y : Int32} (hd : decode (am_code mi) pc = .ok (.ishr, 1)) : am_Wp d mi pc ls (.int y :: .int x :: st) μ K ↔ am_Wp d mi (pc + 1) ls (.int (x >>> (y &&& 31)) :: st) μ K := wp_step hd rfl (fun _ _ _ => rfl)
theorem wp_iushr {x y : Int32} (hd : decode (am_code mi) pc = .ok (.iushr, 1)) : am_Wp d mi pc ls (.int y :: .int x :: st) μ K ↔ am_Wp d mi (pc + 1) ls (.int ((x.toUInt32 >>> (y.toUInt32 &&& Int32.toUInt32 31)).toInt32) :: st) μ K := wp_step hd rfl (fun _ _ _ => rfl)
theorem wp_ineg {x : Int32} (hd : decode (am_code mi) pc = .ok (.ineg, 1)) : am_Wp d mi pc ls (.int x :: st) μ K ↔ am_Wp d mi (pc + 1) ls (.int (-x) :: st) μ K := wp_step hd rfl (fun _ _ _ => rfl)
theorem wp_i2l {x : Int32} (hd : decode (am_code mi) pc = .ok (.i2l, 1)) : am_Wp d mi pc ls (.int x :: st) μ K ↔ am_Wp d mi (pc + 1) ls (.long x.toInt64 :: st) μ K := wp_step hd rfl (fun _ _ _ => rfl)
theorem wp_i2b {x : Int32} (hd : decode (am_code mi) pc = .ok (.i2b, 1)) : am_Wp d mi pc ls (.int x :: st) μ K ↔ am_Wp d mi (pc + 1) ls (.int x.toInt8.toInt32 :: st) μ K := wp_step hd rfl (fun _ _ _ => rfl)
theorem wp_i2s {x : Int32} (hd : decode (am_code mi) pc = .ok (.i2s, 1)) : am_Wp d mi pc ls (.int x :: st) μ K ↔ am_Wp d mi (pc + 1) ls (.int x.toInt16.toInt32 :: st) μ K := wp_step hd rfl (fun _ _ _ => rfl)
theorem wp_i2c {x : Int32} (hd : decode (am_code mi) pc = .ok (.i2c, 1)) : am_Wp d mi pc ls (.int x :: st) μ K ↔ am_Wp d mi (pc + 1) ls (.int (x.toUInt32 % 65536).toInt32 :: st) μ K := wp_step hd rfl (fun _ _ _ => rfl)
theorem wp_ladd {x y : Int64} (hd : decode (am_code mi) pc = .ok (.ladd, 1)) : am_Wp d mi pc ls (.long y :: .long x :: st) μ K ↔ am_Wp d mi (pc + 1) ls (.long (x + y) :: st) μ K := wp_step hd rfl (fun _ _ _ => rfl)
theorem wp_lmul {x y : Int64} (hd : decode (am_code mi) pc = .ok (.lmul, 1)) : am_Wp d mi pc ls (.long y :: .long x :: st) μ K ↔ am_Wp d mi (pc + 1) ls (.long (x * y) :: st) μ K := wp_step hd rfl (fun _ _ _ => rfl)
theorem wp_lcmp {x y : Int64} (hd : decode (am_code mi) pc = .ok (.lcmp, 1)) : am_Wp d mi pc ls (.long y :: .long x :: st) μ K ↔ am_Wp d mi (pc + 1) ls (.int (lg_cmp x y) :: st) μ K := wp_step hd rfl (fun _ _ _ => rfl)
theorem wp_idiv {x y : Int32} (hd : decode (am_code mi) pc = .ok (.idiv, 1)) : am_Wp d mi pc ls (.int y :: .int x :: st) μ K ↔ ¬ y = 0 ∧ am_Wp d mi (pc + 1) ls (.int (x / y) :: st) μ K := wp_stepn hd rfl (fun _ _ _ => rfl)
theorem wp_irem {x y : Int32} (hd : decode (am_code mi) pc = .ok (.irem, 1)) : am_Wp d mi pc ls (.int y :: .int x :: st) μ K ↔ ¬ y = 0 ∧ am_Wp d mi (pc + 1) ls (.int (x - x / y * y) :: st) μ K := wp_stepn hd rfl (fun _ _ _ => rfl)
theorem wp_ldiv {x y : Int64} (hd : decode (am_code mi) pc = .ok (.ldiv, 1)) : am_Wp d mi pc ls (.long y :: .long x :: st) μ K ↔ ¬ y = 0 ∧ am_Wp d mi (pc + 1) ls (.long (x / y) :: st) μ K := wp_stepn hd rfl (fun _ _ _ => rfl)
theorem wp_lrem {x y : Int64} (hd : decode (am_code mi) pc = .ok (.lrem, 1)) : am_Wp d mi pc ls (.long y :: .long x :: st) μ K ↔ ¬ y = 0 ∧ am_Wp d mi (pc + 1) ls (.long (x - x / y * y) :: st) μ K := wp_stepn hd rfl (fun _ _ _ => rfl)
theorem wp_dup {v : Value} (hv : v.category = 1) (hd : decode (am_code mi) pc = .ok (.dup, 1)) : am_Wp d mi pc ls (v :: st) μ K ↔ am_Wp d mi (pc + 1) ls (v :: v :: st) μ K := wp_step hd rfl (fun _ _ _ => by simp only [am_stp, if_pos hv])
theorem wp_pop {v : Value} (hv : v.category = 1) (hd : decode (am_code mi) pc = .ok (.pop, 1)) : am_Wp d mi pc ls (v :: st) μ K ↔ am_Wp d mi (pc + 1) ls st μ K := wp_step hd rfl (fun _ _ _ => by simp only [am_stp, if_pos hv])
theorem wp_dup_x1 {v w : Value} (hv : v.category = 1) (hw : w.category = 1) (hd : decode (am_code mi) pc = .ok (.dup_x1, 1)) : am_Wp d mi pc ls (v :: w :: st) μ K ↔ am_Wp d mi (pc + 1) ls (v :: w :: v :: st) μ K := wp_step hd rfl (fun _ _ _ => by simp only [am_stp, if_pos (And.intro hv hw)])
theorem wp_dup2 {v w : Value} (hv : v.category = 1) (hw : w.category = 1) (hd : decode (am_code mi) pc = .ok (.dup2, 1)) : am_Wp d mi pc ls (v :: w :: st) μ K ↔ am_Wp d mi (pc + 1) ls (v :: w :: v :: w :: st) μ K := wp_step hd rfl (fun _ _ _ => by simp only [am_stp, if_pos (And.intro hv hw)])
theorem wp_goto {off : Int} {tgt : Nat} (ht : (pc : Int) + off = (tgt : Int)) (hd : decode (am_code mi) pc = .ok (.goto off, 3)) : am_Wp d mi pc ls st μ K ↔ am_Wp d mi tgt ls st μ K := wp_step hd rfl (fun _ _ _ => by simp only [am_stp, am_jmp_eq ht])
theorem wp_if_eq {x : Int32} {off : Int} {tgt : Nat} (ht : (pc : Int) + off = (tgt : Int)) (hd : decode (am_code mi) pc = .ok (.ifCond .eq off, 3)) : am_Wp d mi pc ls (.int x :: st) μ K ↔ if x = 0 then am_Wp d mi tgt ls st μ K else am_Wp d mi (pc + 3) ls st μ K := wp_br hd rfl (fun _ _ _ => by simp only [am_stp, am_if, am_jmp_eq ht, if_pos (show (0 : Int) ≤ (pc : Int) + off by omega)])
theorem wp_icmp_eq {x y : Int32} {off : Int} {tgt : Nat} (ht : (pc : Int) + off = (tgt : Int)) (hd : decode (am_code mi) pc = .ok (.if_icmp .eq off, 3)) : am_Wp d mi pc ls (.int y :: .int x :: st) μ K ↔ if x = y then am_Wp d mi tgt ls st μ K else am_Wp d mi (pc + 3) ls st μ K := wp_br hd rfl (fun _ _ _ => by simp only [am_stp, am_if, am_jmp_eq ht, if_pos (show (0 : Int) ≤ (pc : Int) + off by omega)])
theorem wp_if_ne {x : Int32} {off : Int} {tgt : Nat} (ht : (pc : Int) + off = (tgt : Int)) (hd : decode (am_code mi) pc = .ok (.ifCond .ne off, 3)) : am_Wp d mi pc ls (.int x :: st) μ K ↔ if x = 0 then am_Wp d mi (pc + 3) ls st μ K else am_Wp d mi tgt ls st μ K := wp_br hd rfl (fun _ _ _ => by simp only [am_stp, am_if, am_jmp_eq ht, if_pos (show (0 : Int) ≤ (pc : Int) + off by omega)])
theorem wp_icmp_ne {x y : Int32} {off : Int} {tgt : Nat} (ht : (pc : Int) + off = (tgt : Int)) (hd : decode (am_code mi) pc = .ok (.if_icmp .ne off, 3)) : am_Wp d mi pc ls (.int y :: .int x :: st) μ K ↔ if x = y then am_Wp d mi (pc + 3) ls st μ K else am_Wp d mi tgt ls st μ K := wp_br hd rfl (fun _ _ _ => by simp only [am_stp, am_if, am_jmp_eq ht, if_pos (show (0 : Int) ≤ (pc : Int) + off by omega)])
theorem wp_if_lt {x : Int32} {off : Int} {tgt : Nat} (ht : (pc : Int) + off = (tgt : Int)) (hd : decode (am_code mi) pc = .ok (.ifCond .lt off, 3)) : am_Wp d mi pc ls (.int x :: st) μ K ↔ if x < 0 then am_Wp d mi tgt ls st μ K else am_Wp d mi (pc + 3) ls st μ K := wp_br hd rfl (fun _ _ _ => by simp only [am_stp, am_if, am_jmp_eq ht, if_pos (show (0 : Int) ≤ (pc : Int) + off by omega)])
theorem wp_icmp_lt {x y : Int32} {off : Int} {tgt : Nat} (ht : (pc : Int) + off = (tgt : Int)) (hd : decode (am_code mi) pc = .ok (.if_icmp .lt off, 3)) : am_Wp d mi pc ls (.int y :: .int x :: st) μ K ↔ if x < y then am_Wp d mi tgt ls st μ K else am_Wp d mi (pc + 3) ls st μ K := wp_br hd rfl (fun _ _ _ => by simp only [am_stp, am_if, am_jmp_eq ht, if_pos (show (0 : Int) ≤ (pc : Int) + off by omega)])
theorem wp_if_ge {x : Int32} {off : Int} {tgt : Nat} (ht : (pc : Int) + off = (tgt : Int)) (hd : decode (am_code mi) pc = .ok (.ifCond .ge off, 3)) : am_Wp d mi pc ls (.int x :: st) μ K ↔ if 0 ≤ x then am_Wp d mi tgt ls st μ K else am_Wp d mi (pc + 3) ls st μ K := wp_br hd rfl (fun _ _ _ => by simp only [am_stp, am_if, am_jmp_eq ht, if_pos (show (0 : Int) ≤ (pc : Int) + off by omega)])
theorem wp_icmp_ge {x y : Int32} {off : Int} {tgt : Nat} (ht : (pc : Int) + off = (tgt : Int)) (hd : decode (am_code mi) pc = .ok (.if_icmp .ge off, 3)) : am_Wp d mi pc ls (.int y :: .int x :: st) μ K ↔ if y ≤ x then am_Wp d mi tgt ls st μ K else am_Wp d mi (pc + 3) ls st μ K := wp_br hd rfl (fun _ _ _ => by simp only [am_stp, am_if, am_jmp_eq ht, if_pos (show (0 : Int) ≤ (pc : Int) + off by omega)])
theorem wp_if_gt {x : Int32} {off : Int} {tgt : Nat} (ht : (pc : Int) + off = (tgt : Int)) (hd : decode (am_code mi) pc = .ok (.ifCond .gt off, 3)) : am_Wp d mi pc ls (.int x :: st) μ K ↔ if 0 < x then am_Wp d mi tgt ls st μ K else am_Wp d mi (pc + 3) ls st μ K := wp_br hd rfl (fun _ _ _ => by simp only [am_stp, am_if, am_jmp_eq ht, if_pos (show (0 : Int) ≤ (pc : Int) + off by omega)])
theorem wp_icmp_gt {x y : Int32} {off : Int} {tgt : Nat} (ht : (pc : Int) + off = (tgt : Int)) (hd : decode (am_code mi) pc = .ok (.if_icmp .gt off, 3)) : am_Wp d mi pc ls (.int y :: .int x :: st) μ K ↔ if y < x then am_Wp d mi tgt ls st μ K else am_Wp d mi (pc + 3) ls st μ K := wp_br hd rfl (fun _ _ _ => by simp only [am_stp, am_if, am_jmp_eq ht, if_pos (show (0 : Int) ≤ (pc : Int) + off by omega)])
theorem wp_if_le {x : Int32} {off : Int} {tgt : Nat} (ht : (pc : Int) + off = (tgt : Int)) (hd : decode (am_code mi) pc = .ok (.ifCond .le off, 3)) : am_Wp d mi pc ls (.int x :: st) μ K ↔ if x ≤ 0 then am_Wp d mi tgt ls st μ K else am_Wp d mi (pc + 3) ls st μ K := wp_br hd rfl (fun _ _ _ => by simp only [am_stp, am_if, am_jmp_eq ht, if_pos (show (0 : Int) ≤ (pc : Int) + off by omega)])
theorem wp_icmp_le {x y : Int32} {off : Int} {tgt : Nat} (ht : (pc : Int) + off = (tgt : Int)) (hd : decode (am_code mi) pc = .ok (.if_icmp .le off, 3)) : am_Wp d mi pc ls (.int y :: .int x :: st) μ K ↔ if x ≤ y then am_Wp d mi tgt ls st μ K else am_Wp d mi (pc + 3) ls st μ K := wp_br hd rfl (fun _ _ _ => by simp only [am_stp, am_if, am_jmp_eq ht, if_pos (show (0 : Int) ≤ (pc : Int) + off by omega)])
theorem wp_ifnull {x : Nat} {off : Int} (hd : decode (am_code mi) pc = .ok (.ifnull off, 3)) : am_Wp d mi pc ls (.ref x :: st) μ K ↔ am_Wp d mi (pc + 3) ls st μ K := wp_step hd rfl (fun _ _ _ => rfl)
theorem wp_ifnullN {off : Int} {tgt : Nat} (ht : (pc : Int) + off = (tgt : Int)) (hd : decode (am_code mi) pc = .ok (.ifnull off, 3)) : am_Wp d mi pc ls (.null :: st) μ K ↔ am_Wp d mi tgt ls st μ K := wp_step hd rfl (fun _ _ _ => by simp only [am_stp, am_jmp_eq ht])
theorem wp_ifnonnull {x : Nat} {off : Int} {tgt : Nat} (ht : (pc : Int) + off = (tgt : Int)) (hd : decode (am_code mi) pc = .ok (.ifnonnull off, 3)) : am_Wp d mi pc ls (.ref x :: st) μ K ↔ am_Wp d mi tgt ls st μ K := wp_step hd rfl (fun _ _ _ => by simp only [am_stp, am_jmp_eq ht])
theorem wp_ifnonnullN {off : Int} (hd : decode (am_code mi) pc = .ok (.ifnonnull off, 3)) : am_Wp d mi pc ls (.null :: st) μ K ↔ am_Wp d mi (pc + 3) ls st μ K := wp_step hd rfl (fun _ _ _ => rfl)
theorem wp_getI {idx acc ci k h : Nat} (hf : am_FT (am_own mi) idx = some (acc, ci, k)) (ha : acc = 0 ∨ acc = 1 ∨ acc = 2 ∨ acc = 4 ∨ acc = 5) (hr : am_isr ci k = false) (hd : decode (am_code mi) pc = .ok (.getfield idx, 3)) : am_Wp d mi pc ls (.ref h :: st) μ K ↔ (am_k μ h).1 = ci ∧ am_Wp d mi (pc + 3) ls (.int (am_I μ h k) :: st) μ K := wp_stepc hd rfl (fun _ _ _ => by simp only [am_stp, hf, am_fv, hr, and_iff_left ha]; rfl)
theorem wp_getR {idx acc ci k h : Nat} (hf : am_FT (am_own mi) idx = some (acc, ci, k)) (ha : acc = 0 ∨ acc = 1 ∨ acc = 2 ∨ acc = 4 ∨ acc = 5) (hr : am_isr ci k = true) (hd : decode (am_code mi) pc = .ok (.getfield idx, 3)) : am_Wp d mi pc ls (.ref h :: st) μ K ↔ (am_k μ h).1 = ci ∧ am_Wp d mi (pc + 3) ls (va_rf (am_R μ h k) :: st) μ K := wp_stepc hd rfl (fun _ _ _ => by simp only [am_stp, hf, am_fv, hr, and_iff_left ha]; rfl)
theorem wp_gets {idx ci k : Nat} (hf : am_FT (am_own mi) idx = some (6, ci, k)) (hd : decode (am_code mi) pc = .ok (.getstatic idx, 3)) : am_Wp d mi pc ls st μ K ↔ am_Wp d mi (pc + 3) ls (.int 1 :: st) μ K := wp_step hd rfl (fun _ _ _ => by simp only [am_stp, hf]; rfl)
theorem wp_putI {idx acc ci k h : Nat} {x : Int32} (hf : am_FT (am_own mi) idx = some (acc, ci, k)) (ha3 : acc ≠ 3) (ha : acc = 0 ∨ acc = 4 ∨ (acc = 2 ∧ am_flg mi = 1)) (hk : am_fk ci k = 0) (hd : decode (am_code mi) pc = .ok (.putfield idx, 3)) : am_Wp d mi pc ls (.int x :: .ref h :: st) μ K ↔ (am_k μ h).1 = ci ∧ am_Wp d mi (pc + 3) ls st (am_sI μ h k x) K := wp_stepc hd rfl (fun _ _ _ => by simp only [am_stp, hf, am_put, hk, if_neg ha3, if_pos ha])
theorem wp_putZ {idx acc ci k h : Nat} {x : Int32} (hf : am_FT (am_own mi) idx = some (acc, ci, k)) (ha3 : acc ≠ 3) (ha : acc = 0 ∨ acc = 4 ∨ (acc = 2 ∧ am_flg mi = 1)) (hk : am_fk ci k = 1) (hd : decode (am_code mi) pc = .ok (.putfield idx, 3)) : am_Wp d mi pc ls (.int x :: .ref h :: st) μ K ↔ ((am_k μ h).1 = ci ∧ narrow .boolean (.int x) = .int x ∧ fits .boolean (.int x) = true) ∧ am_Wp d mi (pc + 3) ls st (am_sI μ h k x) K := wp_stepc hd rfl (fun _ _ _ => by simp only [am_stp, hf, am_put, hk, if_neg ha3, if_pos ha])
theorem wp_putC {idx acc ci k h : Nat} {x : Int32} (hf : am_FT (am_own mi) idx = some (acc, ci, k)) (ha3 : acc ≠ 3) (ha : acc = 0 ∨ acc = 4 ∨ (acc = 2 ∧ am_flg mi = 1)) (hk : am_fk ci k = 2) (hd : decode (am_code mi) pc = .ok (.putfield idx, 3)) : am_Wp d mi pc ls (.int x :: .ref h :: st) μ K ↔ ((am_k μ h).1 = ci ∧ narrow .char (.int x) = .int x ∧ fits .char (.int x) = true) ∧ am_Wp d mi (pc + 3) ls st (am_sI μ h k x) K := wp_stepc hd rfl (fun _ _ _ => by simp only [am_stp, hf, am_put, hk, if_neg ha3, if_pos ha])
theorem wp_putR {idx acc ci k h v : Nat} (hf : am_FT (am_own mi) idx = some (acc, ci, k)) (ha3 : acc ≠ 3) (ha : acc = 0 ∨ acc = 4 ∨ (acc = 2 ∧ am_flg mi = 1)) (hk : am_fk ci k = 3) (hd : decode (am_code mi) pc = .ok (.putfield idx, 3)) : am_Wp d mi pc ls (.ref v :: .ref h :: st) μ K ↔ ((am_k μ h).1 = ci ∧ v < am_B) ∧ am_Wp d mi (pc + 3) ls st (am_sR μ h k (some v)) K := wp_stepc hd rfl (fun _ _ _ => by simp only [am_stp, hf, am_put, hk, if_neg ha3, if_pos ha])
theorem wp_putN {idx acc ci k h : Nat} (hf : am_FT (am_own mi) idx = some (acc, ci, k)) (ha3 : acc ≠ 3) (ha : acc = 0 ∨ acc = 4 ∨ (acc = 2 ∧ am_flg mi = 1)) (hk : am_fk ci k = 3) (hd : decode (am_code mi) pc = .ok (.putfield idx, 3)) : am_Wp d mi pc ls (.null :: .ref h :: st) μ K ↔ ((am_k μ h).1 = ci ∧ ci < 3) ∧ am_Wp d mi (pc + 3) ls st (am_sR μ h k none) K := wp_stepc hd rfl (fun _ _ _ => by simp only [am_stp, hf, am_put, hk, if_neg ha3, if_pos ha])
theorem wp_putT {idx ci k h v : Nat} (hf : am_FT (am_own mi) idx = some (3, ci, k)) (hd : decode (am_code mi) pc = .ok (.putfield idx, 3)) : am_Wp d mi pc ls (.ref v :: .ref h :: st) μ K ↔ (3 ≤ (am_k μ h).1 ∧ (am_k μ h).1 < 7 ∧ am_flg mi = 1 ∧ am_R μ h (am_N (am_k μ h).1 - 2) = some v) ∧ am_Wp d mi (pc + 3) ls st μ K := wp_stepc hd rfl (fun _ _ _ => by simp only [am_stp, hf]; rfl)
theorem wp_iaload {h : Nat} {i : Int32} (hd : decode (am_code mi) pc = .ok (.iaload, 1)) : am_Wp d mi pc ls (.int i :: .ref h :: st) μ K ↔ (((am_k μ h).1 = 10 ∨ (am_k μ h).1 = 15) ∧ vp_in i (am_k μ h).2) ∧ am_Wp d mi (pc + 1) ls (.int (am_I μ h i.toNatClampNeg) :: st) μ K := by
  unfold vp_in
  exact wp_stepc hd rfl (fun _ _ _ => rfl)
theorem wp_baload {h : Nat} {i : Int32} (hd : decode (am_code mi) pc = .ok (.baload, 1)) : am_Wp d mi pc ls (.int i :: .ref h :: st) μ K ↔ (((am_k μ h).1 = 11 ∨ (am_k μ h).1 = 13 ∨ (am_k μ h).1 = 17) ∧ vp_in i (am_k μ h).2) ∧ am_Wp d mi (pc + 1) ls (.int (am_I μ h i.toNatClampNeg) :: st) μ K := by
  unfold vp_in
  exact wp_stepc hd rfl (fun _ _ _ => rfl)
theorem wp_laload {h : Nat} {i : Int32} (hd : decode (am_code mi) pc = .ok (.laload, 1)) : am_Wp d mi pc ls (.int i :: .ref h :: st) μ K ↔ ((am_k μ h).1 = 12 ∧ vp_in i (am_k μ h).2) ∧ am_Wp d mi (pc + 1) ls (.long (am_L μ h i.toNatClampNeg) :: st) μ K := by
  unfold vp_in
  exact wp_stepc hd rfl (fun _ _ _ => rfl)
theorem wp_aaload {h : Nat} {i : Int32} (hd : decode (am_code mi) pc = .ok (.aaload, 1)) : am_Wp d mi pc ls (.int i :: .ref h :: st) μ K ↔ ((am_k μ h).1 = 14 ∧ vp_in i (am_k μ h).2) ∧ am_Wp d mi (pc + 1) ls (va_rf (am_R μ h i.toNatClampNeg) :: st) μ K := by
  unfold vp_in
  exact wp_stepc hd rfl (fun _ _ _ => rfl)
theorem wp_iastore {h : Nat} {i x : Int32} (hd : decode (am_code mi) pc = .ok (.iastore, 1)) : am_Wp d mi pc ls (.int x :: .int i :: .ref h :: st) μ K ↔ ((am_k μ h).1 = 10 ∧ vp_in i (am_k μ h).2) ∧ am_Wp d mi (pc + 1) ls st (am_sI μ h i.toNatClampNeg x) K := by
  unfold vp_in
  exact wp_stepc hd rfl (fun _ _ _ => rfl)
theorem wp_lastore {h : Nat} {i : Int32} {x : Int64} (hd : decode (am_code mi) pc = .ok (.lastore, 1)) : am_Wp d mi pc ls (.long x :: .int i :: .ref h :: st) μ K ↔ ((am_k μ h).1 = 12 ∧ vp_in i (am_k μ h).2) ∧ am_Wp d mi (pc + 1) ls st (am_sL μ h i.toNatClampNeg x) K := by
  unfold vp_in
  exact wp_stepc hd rfl (fun _ _ _ => rfl)
theorem wp_bastore {h : Nat} {i x : Int32} (hk : (am_k μ h).1 = 11) (hi : vp_in i (am_k μ h).2) (hd : decode (am_code mi) pc = .ok (.bastore, 1)) : am_Wp d mi pc ls (.int x :: .int i :: .ref h :: st) μ K ↔ am_Wp d mi (pc + 1) ls st (am_sI μ h i.toNatClampNeg (vp_nar .byte x)) K := wp_step hd rfl (fun _ _ _ => if_pos ⟨hk, hi⟩)
theorem wp_zastore {h : Nat} {i x : Int32} (hk : (am_k μ h).1 = 13) (hi : vp_in i (am_k μ h).2) (hd : decode (am_code mi) pc = .ok (.bastore, 1)) : am_Wp d mi pc ls (.int x :: .int i :: .ref h :: st) μ K ↔ am_Wp d mi (pc + 1) ls st (am_sI μ h i.toNatClampNeg (vp_nar .boolean x)) K := wp_step hd rfl (fun _ _ _ => (if_neg (fun q => absurd q.1 (by omega))).trans (if_pos ⟨hk, hi⟩))
theorem wp_aastore {h v : Nat} {i : Int32} (hd : decode (am_code mi) pc = .ok (.aastore, 1)) : am_Wp d mi pc ls (.ref v :: .int i :: .ref h :: st) μ K ↔ ((am_k μ h).1 = 14 ∧ (am_k μ v).1 = 1 ∧ vp_in i (am_k μ h).2) ∧ am_Wp d mi (pc + 1) ls st (am_sR μ h i.toNatClampNeg (some v)) K := by
  unfold vp_in
  exact wp_stepc hd rfl (fun _ _ _ => rfl)
theorem wp_alen {h : Nat} (hd : decode (am_code mi) pc = .ok (.arraylength, 1)) : am_Wp d mi pc ls (.ref h :: st) μ K ↔ (10 ≤ (am_k μ h).1 ∧ (am_k μ h).1 ≤ 17 ∧ (am_k μ h).1 ≠ 16) ∧ am_Wp d mi (pc + 1) ls (.int (Int32.ofNat (am_k μ h).2) :: st) μ K := wp_stepc hd rfl (fun _ _ _ => rfl)
theorem wp_newarray {n : Int32} {t : ArrayType} {tg : Nat} (ht : am_AT t = some tg) (hd : decode (am_code mi) pc = .ok (.newarray t, 2)) : am_Wp d mi pc ls (.int n :: st) μ K ↔ (¬ n < 0 ∧ n.toNatClampNeg ≤ 100000 ∧ am_n μ < 400000) ∧ am_Wp d mi (pc + 2) ls (.ref (am_n μ) :: st) (am_new μ (tg, n.toNatClampNeg) n.toNatClampNeg) K := wp_stepc hd rfl (fun _ _ _ => by simp only [am_stp, ht])
theorem wp_anewarray {n : Int32} (ho : am_own mi = 1) (hd : decode (am_code mi) pc = .ok (.anewarray 7, 3)) : am_Wp d mi pc ls (.int n :: st) μ K ↔ (¬ n < 0 ∧ n.toNatClampNeg ≤ 100000 ∧ am_n μ < 400000) ∧ am_Wp d mi (pc + 3) ls (.ref (am_n μ) :: st) (am_new μ (14, n.toNatClampNeg) n.toNatClampNeg) K := wp_stepc hd rfl (fun _ _ _ => by simp only [am_stp, ho, true_and])
theorem wp_new {idx t : Nat} (ht : am_NT (am_own mi) idx = some t) (hd : decode (am_code mi) pc = .ok (.new idx, 3)) : am_Wp d mi pc ls st μ K ↔ am_n μ < 400000 ∧ am_Wp d mi (pc + 3) ls (.ref (am_n μ) :: st) (am_new μ (t, 0) (am_NS t)) K := wp_stepc hd rfl (fun _ _ _ => by simp only [am_stp, ht])
theorem wp_throw (hn : am_NT 1 279 = none) (ho : am_own mi = 1) (h3 : decode (am_code mi) (pc + 3) = .ok (.dup, 1)) (h4 : decode (am_code mi) (pc + 4) = .ok (.invokespecial 281, 3)) (h7 : decode (am_code mi) (pc + 7) = .ok (.athrow, 1)) (hd : decode (am_code mi) pc = .ok (.new 279, 3)) : am_Wp d mi pc ls st μ K ↔ (12 ≤ d ∧ am_cat st ≤ 8) ∧ K (some (.retAddr 1)) (am_bump μ) := by
  have e : ∀ f, am_run (f + 1) d mi pc ls st μ = if 12 ≤ d ∧ am_cat st ≤ 8 then some (some (.retAddr 1), am_bump μ) else none := fun f => by
    rw [am_run_i hd rfl]
    simp only [am_stp, hn, ho, h3, h4, h7, true_and]
    congr 1
    simp [am_isT]
  constructor
  · rintro ⟨f, r, μ', h1, h2⟩
    cases f with
    | zero => cases h1
    | succ f =>
      rw [e] at h1
      obtain ⟨c, h1⟩ := am_ifs h1
      cases h1
      exact ⟨c, h2⟩
  · rintro ⟨c, h⟩
    exact ⟨1, _, _, by rw [e, if_pos c], h⟩
theorem wp_S {idx tag n : Nat} {mi1 : am_MI} {As rest : List Value} (hct : am_CT (am_own mi) idx = some (0, tag, n, mi1)) (htk : am_tk n st [] = some (As, rest)) (hlen : (am_exp As).length ≤ am_mL mi1) (hd : decode (am_code mi) pc = .ok (.invokestatic idx, 3)) : am_Wp d mi pc ls st μ K ↔ am_cat rest ≤ 8 ∧ 0 < d ∧ am_Wp (d - 1) mi1 0 (am_ent (am_mL mi1) (As)) [] μ (fun r1 μ1 => am_nr r1 ∧ am_Wp d mi (pc + 3) ls (r1.toList ++ rest) μ1 K) := wp_call hd rfl (fun _ _ _ => by simp only [am_stp, hct, htk]) hlen
theorem wp_V {idx kind tag n b : Nat} {mi1 : am_MI} {As rest : List Value} (hct : am_CT (am_own mi) idx = some (kind, tag, n, mi1)) (hk : kind = 1 ∨ kind = 2) (htk : am_tk n st [] = some (As, .ref b :: rest)) (hlen : (am_exp (.ref b :: As)).length ≤ am_mL mi1) (hd : decode (am_code mi) pc = .ok (.invokevirtual idx, 3)) : am_Wp d mi pc ls st μ K ↔ (am_cat rest ≤ 8 ∧ (am_k μ b).1 = tag) ∧ 0 < d ∧ am_Wp (d - 1) mi1 0 (am_ent (am_mL mi1) (.ref b :: As)) [] μ (fun r1 μ1 => am_nr r1 ∧ am_Wp d mi (pc + 3) ls (r1.toList ++ rest) μ1 K) := wp_call hd rfl (fun _ _ _ => by rcases hk with rfl | rfl <;> simp [am_stp, hct, htk]) hlen
theorem wp_I {idx kind tag n b : Nat} {mi1 : am_MI} {As rest : List Value} (hct : am_CT (am_own mi) idx = some (kind, tag, n, mi1)) (hk : kind = 3 ∨ kind = 4) (htk : am_tk n st [] = some (As, .ref b :: rest)) (hlen : (am_exp (.ref b :: As)).length ≤ am_mL mi1) (hd : decode (am_code mi) pc = .ok (.invokespecial idx, 3)) : am_Wp d mi pc ls st μ K ↔ am_cat rest ≤ 8 ∧ 0 < d ∧ am_Wp (d - 1) mi1 0 (am_ent (am_mL mi1) (.ref b :: As)) [] μ (fun r1 μ1 => am_nr r1 ∧ am_Wp d mi (pc + 3) ls (r1.toList ++ rest) μ1 K) := wp_call hd rfl (fun _ _ _ => by rcases hk with rfl | rfl <;> simp [am_stp, hct, htk]) hlen
theorem wp_A {idx tag n b : Nat} {mi1 : am_MI} {rest : List Value} (hct : am_CT (am_own mi) idx = some (6, tag, n, mi1)) (hlen : (am_exp [.ref b]).length ≤ am_mL (am_vm (am_k μ b).1)) (hd : decode (am_code mi) pc = .ok (.invokevirtual idx, 3)) : am_Wp d mi pc ls (.ref b :: rest) μ K ↔ (am_cat rest ≤ 8 ∧ 3 ≤ (am_k μ b).1 ∧ (am_k μ b).1 < 7) ∧ 0 < d ∧ am_Wp (d - 1) (am_vm (am_k μ b).1) 0 (am_ent (am_mL (am_vm (am_k μ b).1)) [.ref b]) [] μ (fun r1 μ1 => am_nr r1 ∧ am_Wp d mi (pc + 3) ls (r1.toList ++ rest) μ1 K) := wp_call hd rfl (fun _ _ _ => by simp only [am_stp, hct]) hlen
theorem wp_O {idx tag n x : Nat} {mi1 : am_MI} (hct : am_CT (am_own mi) idx = some (5, tag, n, mi1)) (hd : decode (am_code mi) pc = .ok (.invokespecial idx, 3)) : am_Wp d mi pc ls (.ref x :: st) μ K ↔ (am_cat st ≤ 8 ∧ 1 ≤ d) ∧ am_Wp d mi (pc + 3) ls st μ K := wp_stepc hd rfl (fun _ _ _ => by simp only [am_stp, hct])
theorem wp_max {idx n : Nat} {mi1 : am_MI} {x y : Int32} (hct : am_CT (am_own mi) idx = some (9, 0, n, mi1)) (hd : decode (am_code mi) pc = .ok (.invokestatic idx, 3)) : am_Wp d mi pc ls (.int y :: .int x :: st) μ K ↔ (am_cat st ≤ 8 ∧ 1 ≤ d) ∧ am_Wp d mi (pc + 3) ls (.int (if x < y then y else x) :: st) μ K := wp_stepc hd rfl (fun _ _ _ => by simp only [am_stp, hct])
theorem wp_min {idx n : Nat} {mi1 : am_MI} {x y : Int32} (hct : am_CT (am_own mi) idx = some (9, 1, n, mi1)) (hd : decode (am_code mi) pc = .ok (.invokestatic idx, 3)) : am_Wp d mi pc ls (.int y :: .int x :: st) μ K ↔ (am_cat st ≤ 8 ∧ 1 ≤ d) ∧ am_Wp d mi (pc + 3) ls (.int (if y < x then y else x) :: st) μ K := wp_stepc hd rfl (fun _ _ _ => by simp only [am_stp, hct])
theorem wp_abs {idx n : Nat} {mi1 : am_MI} {x : Int32} (hct : am_CT (am_own mi) idx = some (9, 2, n, mi1)) (hd : decode (am_code mi) pc = .ok (.invokestatic idx, 3)) : am_Wp d mi pc ls (.int x :: st) μ K ↔ (am_cat st ≤ 8 ∧ 1 ≤ d) ∧ am_Wp d mi (pc + 3) ls (.int (if 0 ≤ x then x else 0 - x) :: st) μ K := wp_stepc hd rfl (fun _ _ _ => by simp only [am_stp, hct])
theorem wp_copy {idx tag n0 a a0 : Nat} {mi1 : am_MI} {n dp sp : Int32} (hct : am_CT (am_own mi) idx = some (7, tag, n0, mi1)) (hd : decode (am_code mi) pc = .ok (.invokestatic idx, 3)) : am_Wp d mi pc ls (.int n :: .int dp :: .ref a :: .int sp :: .ref a0 :: st) μ K ↔ ((am_k μ a).1 = 10 ∧ (am_k μ a0).1 = 10 ∧ am_cat st ≤ 8 ∧ 1 ≤ d ∧ ¬ sp < 0 ∧ ¬ dp < 0 ∧ ¬ n < 0 ∧ sp.toNatClampNeg + n.toNatClampNeg ≤ (am_k μ a0).2 ∧ dp.toNatClampNeg + n.toNatClampNeg ≤ (am_k μ a).2) ∧ am_Wp d mi (pc + 3) ls st (am_cp μ a0 a sp.toNatClampNeg dp.toNatClampNeg n.toNatClampNeg) K := wp_stepc hd rfl (fun _ _ _ => by simp only [am_stp, hct])
theorem wp_ireturn {x : Int32} (hr : am_ret mi = some .int) (hd : decode (am_code mi) pc = .ok (.ireturn, 1)) : am_Wp d mi pc ls [.int x] μ K ↔ K (some (.int x)) μ := wp_ret hd rfl (fun _ _ _ => by simp only [am_stp, hr])
theorem wp_zreturn {x : Int32} (hr : am_ret mi = some .boolean) (hd : decode (am_code mi) pc = .ok (.ireturn, 1)) : am_Wp d mi pc ls [.int x] μ K ↔ narrow .boolean (.int x) = .int x ∧ K (some (.int x)) μ := wp_retc hd rfl (fun _ _ _ => by simp only [am_stp, hr])
theorem wp_breturn {x : Int32} (hr : am_ret mi = some .byte) (hd : decode (am_code mi) pc = .ok (.ireturn, 1)) : am_Wp d mi pc ls [.int x] μ K ↔ narrow .byte (.int x) = .int x ∧ K (some (.int x)) μ := wp_retc hd rfl (fun _ _ _ => by simp only [am_stp, hr])
theorem wp_lreturn {x : Int64} (hr : am_ret mi = some .long) (hd : decode (am_code mi) pc = .ok (.lreturn, 1)) : am_Wp d mi pc ls [.long x] μ K ↔ K (some (.long x)) μ := wp_ret hd rfl (fun _ _ _ => by simp only [am_stp, hr])
theorem wp_areturn {x : Nat} {nm : String} (hr : am_ret mi = some (.object nm)) (hd : decode (am_code mi) pc = .ok (.areturn, 1)) : am_Wp d mi pc ls [.ref x] μ K ↔ K (some (.ref x)) μ := wp_ret hd rfl (fun _ _ _ => by simp only [am_stp, hr])
theorem wp_areturnN {nm : String} (hr : am_ret mi = some (.object nm)) (hd : decode (am_code mi) pc = .ok (.areturn, 1)) : am_Wp d mi pc ls [.null] μ K ↔ K (some .null) μ := wp_ret hd rfl (fun _ _ _ => by simp only [am_stp, hr])
theorem wp_return (hr : am_ret mi = none) (hd : decode (am_code mi) pc = .ok (.return_, 1)) : am_Wp d mi pc ls [] μ K ↔ K none μ := wp_ret hd rfl (fun _ _ _ => by simp only [am_stp, hr])
/-- a switch, by its keys -/
def am_swQ (Q : Nat → Prop) (x : Int32) : List (Int32 × Nat) → Nat → Prop
  | [], t => Q t
  | (a, t) :: l, t0 => if x = a then Q t else am_swQ Q x l t0
def am_swB (pc : Nat) : Int → List Int → List (Int32 × Nat) → Bool
  | _, [], [] => true
  | lo, o :: os, (a, t) :: l => decide (a = Int32.ofInt lo) && (decide ((pc : Int) + o = (t : Int)) && am_swB pc (lo + 1) os l)
  | _, _, _ => false
def am_lkB (pc : Nat) : List (Int × Int) → List (Int32 × Nat) → Bool
  | [], [] => true
  | (b, o) :: os, (a, t) :: l => decide (a = Int32.ofInt b) && (decide ((pc : Int) + o = (t : Int)) && am_lkB pc os l)
  | _, _ => false
theorem am_swK_Q {k : Nat → am_Res} {x : Int32} {dflt : Int} {t0 : Nat} (h0 : (pc : Int) + dflt = (t0 : Int)) : ∀ (keys : List (Int32 × Nat)) (os : List Int) (lo : Int), am_swB pc lo os keys = true → (∃ t, am_swK (fun o => am_jmp k pc o) x lo os dflt = k t ∧ ∀ Q : Nat → Prop, am_swQ Q x keys t0 ↔ Q t) := by
  intro keys
  induction keys with
  | nil =>
    intro os lo h
    cases os with
    | nil => exact ⟨t0, am_jmp_eq h0, fun Q => Iff.rfl⟩
    | cons o os => cases h
  | cons a keys ih =>
    obtain ⟨a, t⟩ := a
    intro os lo h
    cases os with
    | nil => cases h
    | cons o os =>
      simp only [am_swB, Bool.and_eq_true, decide_eq_true_eq] at h
      obtain ⟨h1, h2, h3⟩ := h
      by_cases hx : x = a
      · refine ⟨t, ?_, fun Q => ?_⟩
        · unfold am_swK
          rw [if_pos (by rw [hx, h1])]
          exact am_jmp_eq h2
        · unfold am_swQ
          rw [if_pos hx]
      · obtain ⟨t', g1, g2⟩ := ih os (lo + 1) h3
        refine ⟨t', ?_, fun Q => ?_⟩
        · unfold am_swK
          rw [if_neg (by rw [← h1]; exact hx)]
          exact g1
        · unfold am_swQ
          rw [if_neg hx]
          exact g2 Q
theorem am_lkK_Q {k : Nat → am_Res} {x : Int32} {dflt : Int} {t0 : Nat} (h0 : (pc : Int) + dflt = (t0 : Int)) : ∀ (keys : List (Int32 × Nat)) (os : List (Int × Int)), am_lkB pc os keys = true → (∃ t, am_lkK (fun o => am_jmp k pc o) x os dflt = k t ∧ ∀ Q : Nat → Prop, am_swQ Q x keys t0 ↔ Q t) := by
  intro keys
  induction keys with
  | nil =>
    intro os h
    cases os with
    | nil => exact ⟨t0, am_jmp_eq h0, fun Q => Iff.rfl⟩
    | cons o os => obtain ⟨b, o⟩ := o; cases h
  | cons a keys ih =>
    obtain ⟨a, t⟩ := a
    intro os h
    cases os with
    | nil => cases h
    | cons o os =>
      obtain ⟨b, o⟩ := o
      simp only [am_lkB, Bool.and_eq_true, decide_eq_true_eq] at h
      obtain ⟨h1, h2, h3⟩ := h
      by_cases hx : x = a
      · refine ⟨t, ?_, fun Q => ?_⟩
        · unfold am_lkK
          rw [if_pos (by rw [hx, h1])]
          exact am_jmp_eq h2
        · unfold am_swQ
          rw [if_pos hx]
      · obtain ⟨t', g1, g2⟩ := ih os h3
        refine ⟨t', ?_, fun Q => ?_⟩
        · unfold am_lkK
          rw [if_neg (by rw [← h1]; exact hx)]
          exact g1
        · unfold am_swQ
          rw [if_neg hx]
          exact g2 Q
theorem wp_goes {i : Instr} {n pc1 : Nat} {st1 : List Value} (hd : decode (am_code mi) pc = .ok (i, n)) (hl : am_lnok i n = true) (hs : ∀ (f : Nat) (call call2 : am_MI → List Value → am_M → am_Res), am_stp (am_run f d mi) call call2 d mi pc n ls st μ i = am_run f d mi pc1 ls st1 μ) : am_Wp d mi pc ls st μ K ↔ am_Wp d mi pc1 ls st1 μ K := by
  constructor
  · rintro ⟨f, r, μ', h1, h2⟩
    cases f with
    | zero => cases h1
    | succ f =>
      rw [am_run_i hd hl, hs] at h1
      exact ⟨f, r, μ', h1, h2⟩
  · rintro ⟨f, r, μ', h1, h2⟩
    exact ⟨f + 1, r, μ', by rw [am_run_i hd hl, hs]; exact h1, h2⟩
theorem wp_tsw {dflt lo hi : Int} {offs : Array Int} {n t0 : Nat} {x : Int32} (keys : List (Int32 × Nat)) (hc : hi - lo + 1 = (offs.toList.length : Int) ∧ -2147483648 ≤ lo ∧ hi < 2147483648) (h0 : (pc : Int) + dflt = (t0 : Int)) (hb : am_swB pc lo offs.toList keys = true) (hd : decode (am_code mi) pc = .ok (.tableswitch dflt lo hi offs, n)) : am_Wp d mi pc ls (.int x :: st) μ K ↔ am_swQ (fun q => am_Wp d mi q ls st μ K) x keys t0 := by
  obtain ⟨t, -, g2⟩ := am_swK_Q (k := fun _ => none) (x := x) h0 keys offs.toList lo hb
  rw [g2]
  refine wp_goes hd rfl (fun f _ _ => ?_)
  simp only [am_stp, if_pos hc]
  obtain ⟨t', g3, g4⟩ := am_swK_Q (k := fun q => am_run f d mi q ls st μ) (x := x) h0 keys offs.toList lo hb
  rw [g3]
  have : t' = t := by
    have h1 := (g2 (fun q => q = t)).mpr rfl
    exact (g4 (fun q => q = t)).mp h1
  rw [this]
theorem wp_lsw {dflt : Int} {ps : Array (Int × Int)} {n t0 : Nat} {x : Int32} (keys : List (Int32 × Nat)) (hc : ((ps.toList.zip (ps.toList.drop 1)).all (fun (a, next) => a.1 < next.1) = true) ∧ (ps.toList.all (fun a => decide (-2147483648 ≤ a.1) && decide (a.1 < 2147483648)) = true)) (h0 : (pc : Int) + dflt = (t0 : Int)) (hb : am_lkB pc ps.toList keys = true) (hd : decode (am_code mi) pc = .ok (.lookupswitch dflt ps, n)) : am_Wp d mi pc ls (.int x :: st) μ K ↔ am_swQ (fun q => am_Wp d mi q ls st μ K) x keys t0 := by
  obtain ⟨t, -, g2⟩ := am_lkK_Q (k := fun _ => none) (x := x) h0 keys ps.toList hb
  rw [g2]
  refine wp_goes hd rfl (fun f _ _ => ?_)
  simp only [am_stp, if_pos hc]
  obtain ⟨t', g3, g4⟩ := am_lkK_Q (k := fun q => am_run f d mi q ls st μ) (x := x) h0 keys ps.toList hb
  rw [g3]
  have : t' = t := by
    have h1 := (g2 (fun q => q = t)).mpr rfl
    exact (g4 (fun q => q = t)).mp h1
  rw [this]
end WPL
