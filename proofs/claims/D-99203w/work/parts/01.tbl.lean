-- ===== PART A: goes FIRST, ahead of the names: the tables' words, and 'selects' of the private methods out of them =====
/-- a private method of a class that the tables say can be made, by its rows of tables_1 -/
def lw_okq (q : MethodName × Nat) : Prop := (q.1.cls ≠ "java/lang/invoke/MethodHandle" ∧ q.1.cls ≠ "java/lang/invoke/VarHandle") ∧ Cond.instantiable q.1.cls q.2 ∈ tables_1 ∧ Cond.privateMethod q.1 ∈ tables_1 ∧ Cond.instanceMethod q.1 ∈ tables_1
set_option maxRecDepth 100000
theorem lw_t1 {w : Cond} (h : w ∈ tables_1_1) : w ∈ tables_1 := List.mem_append_left _ h
theorem lw_t2 {w : Cond} (h : w ∈ tables_1_2) : w ∈ tables_1 := List.mem_append_right _ (List.mem_append_left _ h)
theorem lw_t3 {w : Cond} (h : w ∈ tables_1_3) : w ∈ tables_1 := List.mem_append_right _ (List.mem_append_right _ (List.mem_append_left _ h))
theorem lw_t4 {w : Cond} (h : w ∈ tables_1_4) : w ∈ tables_1 := List.mem_append_right _ (List.mem_append_right _ (List.mem_append_right _ (List.mem_append_left _ h)))
theorem lw_t5 {w : Cond} (h : w ∈ tables_1_5) : w ∈ tables_1 := List.mem_append_right _ (List.mem_append_right _ (List.mem_append_right _ (List.mem_append_right _ (List.mem_append_left _ h))))
theorem lw_t6 {w : Cond} (h : w ∈ tables_1_6) : w ∈ tables_1 := List.mem_append_right _ (List.mem_append_right _ (List.mem_append_right _ (List.mem_append_right _ (List.mem_append_right _ (List.mem_append_left _ h)))))
theorem lw_t7 {w : Cond} (h : w ∈ tables_1_7) : w ∈ tables_1 := List.mem_append_right _ (List.mem_append_right _ (List.mem_append_right _ (List.mem_append_right _ (List.mem_append_right _ (List.mem_append_right _ h)))))
theorem lw_p0 : lw_okq (⟨"CuckooByPost", "begins", "(I)I"⟩, 41) := ⟨⟨by decide +kernel, by decide +kernel⟩, lw_t1 (List.mem_of_getElem? (i := 22) rfl), lw_t2 (List.mem_of_getElem? (i := 2) rfl), lw_t2 (List.mem_of_getElem? (i := 3) rfl)⟩
theorem lw_p1 : lw_okq (⟨"CuckooByPost", "readsNest", "()Z"⟩, 41) := ⟨⟨by decide +kernel, by decide +kernel⟩, lw_t1 (List.mem_of_getElem? (i := 22) rfl), lw_t2 (List.mem_of_getElem? (i := 9) rfl), lw_t2 (List.mem_of_getElem? (i := 10) rfl)⟩
theorem lw_p2 : lw_okq (⟨"CuckooByPost", "takesOf", "(Ljava/lang/String;)I"⟩, 41) := ⟨⟨by decide +kernel, by decide +kernel⟩, lw_t1 (List.mem_of_getElem? (i := 22) rfl), lw_t2 (List.mem_of_getElem? (i := 14) rfl), lw_t2 (List.mem_of_getElem? (i := 15) rfl)⟩
theorem lw_p3 : lw_okq (⟨"CuckooByPost", "among", "(Ljava/lang/String;)I"⟩, 41) := ⟨⟨by decide +kernel, by decide +kernel⟩, lw_t1 (List.mem_of_getElem? (i := 22) rfl), lw_t2 (List.mem_of_getElem? (i := 18) rfl), lw_t2 (List.mem_of_getElem? (i := 19) rfl)⟩
theorem lw_p4 : lw_okq (⟨"CuckooByPost", "number", "(I)I"⟩, 41) := ⟨⟨by decide +kernel, by decide +kernel⟩, lw_t1 (List.mem_of_getElem? (i := 22) rfl), lw_t2 (List.mem_of_getElem? (i := 107) rfl), lw_t2 (List.mem_of_getElem? (i := 108) rfl)⟩
theorem lw_p5 : lw_okq (⟨"CuckooByPost", "isDigit", "()Z"⟩, 41) := ⟨⟨by decide +kernel, by decide +kernel⟩, lw_t1 (List.mem_of_getElem? (i := 22) rfl), lw_t2 (List.mem_of_getElem? (i := 111) rfl), lw_t2 (List.mem_of_getElem? (i := 112) rfl)⟩
theorem lw_p6 : lw_okq (⟨"CuckooByPost", "takes", "(C)Z"⟩, 41) := ⟨⟨by decide +kernel, by decide +kernel⟩, lw_t1 (List.mem_of_getElem? (i := 22) rfl), lw_t2 (List.mem_of_getElem? (i := 118) rfl), lw_t2 (List.mem_of_getElem? (i := 119) rfl)⟩
theorem lw_p7 : lw_okq (⟨"CuckooByPost", "isAt", "(C)Z"⟩, 41) := ⟨⟨by decide +kernel, by decide +kernel⟩, lw_t1 (List.mem_of_getElem? (i := 22) rfl), lw_t2 (List.mem_of_getElem? (i := 122) rfl), lw_t2 (List.mem_of_getElem? (i := 123) rfl)⟩
theorem lw_p8 : lw_okq (⟨"CuckooByPost", "faultOf", "(IZ)I"⟩, 41) := ⟨⟨by decide +kernel, by decide +kernel⟩, lw_t1 (List.mem_of_getElem? (i := 22) rfl), lw_t2 (List.mem_of_getElem? (i := 126) rfl), lw_t2 (List.mem_of_getElem? (i := 127) rfl)⟩
theorem lw_p9 : lw_okq (⟨"CuckooByPost", "readsRule", "()I"⟩, 41) := ⟨⟨by decide +kernel, by decide +kernel⟩, lw_t1 (List.mem_of_getElem? (i := 22) rfl), lw_t2 (List.mem_of_getElem? (i := 143) rfl), lw_t2 (List.mem_of_getElem? (i := 144) rfl)⟩
theorem lw_p10 : lw_okq (⟨"CuckooByPost", "reads", "(I)LCuckooByPost$Node;"⟩, 41) := ⟨⟨by decide +kernel, by decide +kernel⟩, lw_t1 (List.mem_of_getElem? (i := 22) rfl), lw_t2 (List.mem_of_getElem? (i := 147) rfl), lw_t2 (List.mem_of_getElem? (i := 148) rfl)⟩
theorem lw_p11 : lw_okq (⟨"CuckooByPost", "readsThing", "()LCuckooByPost$Node;"⟩, 41) := ⟨⟨by decide +kernel, by decide +kernel⟩, lw_t1 (List.mem_of_getElem? (i := 22) rfl), lw_t2 (List.mem_of_getElem? (i := 151) rfl), lw_t2 (List.mem_of_getElem? (i := 152) rfl)⟩
theorem lw_p12 : lw_okq (⟨"CuckooByPost", "sumOf", "([I)I"⟩, 41) := ⟨⟨by decide +kernel, by decide +kernel⟩, lw_t1 (List.mem_of_getElem? (i := 22) rfl), lw_t3 (List.mem_of_getElem? (i := 0) rfl), lw_t3 (List.mem_of_getElem? (i := 1) rfl)⟩
theorem lw_p13 : lw_okq (⟨"CuckooByPost", "announces", "(LCuckooByPost$Spring;I)I"⟩, 41) := ⟨⟨by decide +kernel, by decide +kernel⟩, lw_t1 (List.mem_of_getElem? (i := 22) rfl), lw_t3 (List.mem_of_getElem? (i := 19) rfl), lw_t3 (List.mem_of_getElem? (i := 20) rfl)⟩
theorem lw_p14 : lw_okq (⟨"CuckooByPost", "isNest", "(I)Z"⟩, 41) := ⟨⟨by decide +kernel, by decide +kernel⟩, lw_t1 (List.mem_of_getElem? (i := 22) rfl), lw_t3 (List.mem_of_getElem? (i := 23) rfl), lw_t3 (List.mem_of_getElem? (i := 24) rfl)⟩
theorem lw_p15 : lw_okq (⟨"CuckooByPost", "noticed", "(LCuckooByPost$Spring;)I"⟩, 41) := ⟨⟨by decide +kernel, by decide +kernel⟩, lw_t1 (List.mem_of_getElem? (i := 22) rfl), lw_t3 (List.mem_of_getElem? (i := 31) rfl), lw_t3 (List.mem_of_getElem? (i := 32) rfl)⟩
def lw_privs_1 : List (MethodName × Nat) := [(⟨"CuckooByPost", "begins", "(I)I"⟩, 41), (⟨"CuckooByPost", "readsNest", "()Z"⟩, 41), (⟨"CuckooByPost", "takesOf", "(Ljava/lang/String;)I"⟩, 41), (⟨"CuckooByPost", "among", "(Ljava/lang/String;)I"⟩, 41), (⟨"CuckooByPost", "number", "(I)I"⟩, 41), (⟨"CuckooByPost", "isDigit", "()Z"⟩, 41), (⟨"CuckooByPost", "takes", "(C)Z"⟩, 41), (⟨"CuckooByPost", "isAt", "(C)Z"⟩, 41), (⟨"CuckooByPost", "faultOf", "(IZ)I"⟩, 41), (⟨"CuckooByPost", "readsRule", "()I"⟩, 41), (⟨"CuckooByPost", "reads", "(I)LCuckooByPost$Node;"⟩, 41), (⟨"CuckooByPost", "readsThing", "()LCuckooByPost$Node;"⟩, 41), (⟨"CuckooByPost", "sumOf", "([I)I"⟩, 41), (⟨"CuckooByPost", "announces", "(LCuckooByPost$Spring;I)I"⟩, 41), (⟨"CuckooByPost", "isNest", "(I)Z"⟩, 41), (⟨"CuckooByPost", "noticed", "(LCuckooByPost$Spring;)I"⟩, 41)]
theorem lw_r1 : ∀ q ∈ lw_privs_1, lw_okq q := List.forall_mem_cons.mpr ⟨lw_p0, List.forall_mem_cons.mpr ⟨lw_p1, List.forall_mem_cons.mpr ⟨lw_p2, List.forall_mem_cons.mpr ⟨lw_p3, List.forall_mem_cons.mpr ⟨lw_p4, List.forall_mem_cons.mpr ⟨lw_p5, List.forall_mem_cons.mpr ⟨lw_p6, List.forall_mem_cons.mpr ⟨lw_p7, List.forall_mem_cons.mpr ⟨lw_p8, List.forall_mem_cons.mpr ⟨lw_p9, List.forall_mem_cons.mpr ⟨lw_p10, List.forall_mem_cons.mpr ⟨lw_p11, List.forall_mem_cons.mpr ⟨lw_p12, List.forall_mem_cons.mpr ⟨lw_p13, List.forall_mem_cons.mpr ⟨lw_p14, List.forall_mem_cons.mpr ⟨lw_p15, fun _ h => absurd h List.not_mem_nil⟩⟩⟩⟩⟩⟩⟩⟩⟩⟩⟩⟩⟩⟩⟩⟩
theorem lw_p16 : lw_okq (⟨"CuckooByPost", "counts", "(I)I"⟩, 41) := ⟨⟨by decide +kernel, by decide +kernel⟩, lw_t1 (List.mem_of_getElem? (i := 22) rfl), lw_t3 (List.mem_of_getElem? (i := 41) rfl), lw_t3 (List.mem_of_getElem? (i := 42) rfl)⟩
theorem lw_p17 : lw_okq (⟨"CuckooByPost", "putsBy", "(LCuckooByPost$Spring;)V"⟩, 41) := ⟨⟨by decide +kernel, by decide +kernel⟩, lw_t1 (List.mem_of_getElem? (i := 22) rfl), lw_t3 (List.mem_of_getElem? (i := 45) rfl), lw_t3 (List.mem_of_getElem? (i := 46) rfl)⟩
theorem lw_p18 : lw_okq (⟨"CuckooByPost", "repliesTo", "(LCuckooByPost$Spring;I)I"⟩, 41) := ⟨⟨by decide +kernel, by decide +kernel⟩, lw_t1 (List.mem_of_getElem? (i := 22) rfl), lw_t3 (List.mem_of_getElem? (i := 53) rfl), lw_t3 (List.mem_of_getElem? (i := 54) rfl)⟩
theorem lw_p19 : lw_okq (⟨"CuckooByPost", "lays", "(LCuckooByPost$Spring;II)I"⟩, 41) := ⟨⟨by decide +kernel, by decide +kernel⟩, lw_t1 (List.mem_of_getElem? (i := 22) rfl), lw_t3 (List.mem_of_getElem? (i := 61) rfl), lw_t3 (List.mem_of_getElem? (i := 62) rfl)⟩
theorem lw_p20 : lw_okq (⟨"CuckooByPost", "isInTime", "(LCuckooByPost$Spring;I)Z"⟩, 41) := ⟨⟨by decide +kernel, by decide +kernel⟩, lw_t1 (List.mem_of_getElem? (i := 22) rfl), lw_t3 (List.mem_of_getElem? (i := 68) rfl), lw_t3 (List.mem_of_getElem? (i := 69) rfl)⟩
theorem lw_p21 : lw_okq (⟨"CuckooByPost", "oddOf", "(LCuckooByPost$Spring;I)I"⟩, 41) := ⟨⟨by decide +kernel, by decide +kernel⟩, lw_t1 (List.mem_of_getElem? (i := 22) rfl), lw_t3 (List.mem_of_getElem? (i := 77) rfl), lw_t3 (List.mem_of_getElem? (i := 78) rfl)⟩
theorem lw_p22 : lw_okq (⟨"CuckooByPost", "guests", "(LCuckooByPost$Spring;I)I"⟩, 41) := ⟨⟨by decide +kernel, by decide +kernel⟩, lw_t1 (List.mem_of_getElem? (i := 22) rfl), lw_t3 (List.mem_of_getElem? (i := 100) rfl), lw_t3 (List.mem_of_getElem? (i := 101) rfl)⟩
theorem lw_p23 : lw_okq (⟨"CuckooByPost", "tints", "(LCuckooByPost$Spring;II)I"⟩, 41) := ⟨⟨by decide +kernel, by decide +kernel⟩, lw_t1 (List.mem_of_getElem? (i := 22) rfl), lw_t3 (List.mem_of_getElem? (i := 112) rfl), lw_t3 (List.mem_of_getElem? (i := 113) rfl)⟩
theorem lw_p24 : lw_okq (⟨"CuckooByPost", "exchanges", "(LCuckooByPost$Spring;II)I"⟩, 41) := ⟨⟨by decide +kernel, by decide +kernel⟩, lw_t1 (List.mem_of_getElem? (i := 22) rfl), lw_t3 (List.mem_of_getElem? (i := 120) rfl), lw_t3 (List.mem_of_getElem? (i := 121) rfl)⟩
theorem lw_p25 : lw_okq (⟨"CuckooByPost", "isPair", "(II)Z"⟩, 41) := ⟨⟨by decide +kernel, by decide +kernel⟩, lw_t1 (List.mem_of_getElem? (i := 22) rfl), lw_t3 (List.mem_of_getElem? (i := 124) rfl), lw_t3 (List.mem_of_getElem? (i := 125) rfl)⟩
theorem lw_p26 : lw_okq (⟨"CuckooByPost", "daysGo", "(LCuckooByPost$Spring;I)V"⟩, 41) := ⟨⟨by decide +kernel, by decide +kernel⟩, lw_t1 (List.mem_of_getElem? (i := 22) rfl), lw_t3 (List.mem_of_getElem? (i := 136) rfl), lw_t3 (List.mem_of_getElem? (i := 137) rfl)⟩
theorem lw_p27 : lw_okq (⟨"CuckooByPost", "dayGoes", "(LCuckooByPost$Spring;)V"⟩, 41) := ⟨⟨by decide +kernel, by decide +kernel⟩, lw_t1 (List.mem_of_getElem? (i := 22) rfl), lw_t3 (List.mem_of_getElem? (i := 140) rfl), lw_t3 (List.mem_of_getElem? (i := 141) rfl)⟩
theorem lw_p28 : lw_okq (⟨"CuckooByPost", "tells", "(J)V"⟩, 41) := ⟨⟨by decide +kernel, by decide +kernel⟩, lw_t1 (List.mem_of_getElem? (i := 22) rfl), lw_t3 (List.mem_of_getElem? (i := 149) rfl), lw_t3 (List.mem_of_getElem? (i := 150) rfl)⟩
theorem lw_p29 : lw_okq (⟨"CuckooByPost", "readsAct", "()Z"⟩, 41) := ⟨⟨by decide +kernel, by decide +kernel⟩, lw_t1 (List.mem_of_getElem? (i := 22) rfl), lw_t3 (List.mem_of_getElem? (i := 157) rfl), lw_t3 (List.mem_of_getElem? (i := 158) rfl)⟩
theorem lw_p30 : lw_okq (⟨"CuckooByPost", "does", "(I)Z"⟩, 41) := ⟨⟨by decide +kernel, by decide +kernel⟩, lw_t1 (List.mem_of_getElem? (i := 22) rfl), lw_t3 (List.mem_of_getElem? (i := 162) rfl), lw_t3 (List.mem_of_getElem? (i := 163) rfl)⟩
theorem lw_p31 : lw_okq (⟨"CuckooByPost", "oddIf", "(II)I"⟩, 41) := ⟨⟨by decide +kernel, by decide +kernel⟩, lw_t1 (List.mem_of_getElem? (i := 22) rfl), lw_t3 (List.mem_of_getElem? (i := 170) rfl), lw_t3 (List.mem_of_getElem? (i := 171) rfl)⟩
def lw_privs_2 : List (MethodName × Nat) := [(⟨"CuckooByPost", "counts", "(I)I"⟩, 41), (⟨"CuckooByPost", "putsBy", "(LCuckooByPost$Spring;)V"⟩, 41), (⟨"CuckooByPost", "repliesTo", "(LCuckooByPost$Spring;I)I"⟩, 41), (⟨"CuckooByPost", "lays", "(LCuckooByPost$Spring;II)I"⟩, 41), (⟨"CuckooByPost", "isInTime", "(LCuckooByPost$Spring;I)Z"⟩, 41), (⟨"CuckooByPost", "oddOf", "(LCuckooByPost$Spring;I)I"⟩, 41), (⟨"CuckooByPost", "guests", "(LCuckooByPost$Spring;I)I"⟩, 41), (⟨"CuckooByPost", "tints", "(LCuckooByPost$Spring;II)I"⟩, 41), (⟨"CuckooByPost", "exchanges", "(LCuckooByPost$Spring;II)I"⟩, 41), (⟨"CuckooByPost", "isPair", "(II)Z"⟩, 41), (⟨"CuckooByPost", "daysGo", "(LCuckooByPost$Spring;I)V"⟩, 41), (⟨"CuckooByPost", "dayGoes", "(LCuckooByPost$Spring;)V"⟩, 41), (⟨"CuckooByPost", "tells", "(J)V"⟩, 41), (⟨"CuckooByPost", "readsAct", "()Z"⟩, 41), (⟨"CuckooByPost", "does", "(I)Z"⟩, 41), (⟨"CuckooByPost", "oddIf", "(II)I"⟩, 41)]
theorem lw_r2 : ∀ q ∈ lw_privs_2, lw_okq q := List.forall_mem_cons.mpr ⟨lw_p16, List.forall_mem_cons.mpr ⟨lw_p17, List.forall_mem_cons.mpr ⟨lw_p18, List.forall_mem_cons.mpr ⟨lw_p19, List.forall_mem_cons.mpr ⟨lw_p20, List.forall_mem_cons.mpr ⟨lw_p21, List.forall_mem_cons.mpr ⟨lw_p22, List.forall_mem_cons.mpr ⟨lw_p23, List.forall_mem_cons.mpr ⟨lw_p24, List.forall_mem_cons.mpr ⟨lw_p25, List.forall_mem_cons.mpr ⟨lw_p26, List.forall_mem_cons.mpr ⟨lw_p27, List.forall_mem_cons.mpr ⟨lw_p28, List.forall_mem_cons.mpr ⟨lw_p29, List.forall_mem_cons.mpr ⟨lw_p30, List.forall_mem_cons.mpr ⟨lw_p31, fun _ h => absurd h List.not_mem_nil⟩⟩⟩⟩⟩⟩⟩⟩⟩⟩⟩⟩⟩⟩⟩⟩
theorem lw_p32 : lw_okq (⟨"CuckooByPost", "isFree", "(LCuckooByPost$Spring;I)Z"⟩, 41) := ⟨⟨by decide +kernel, by decide +kernel⟩, lw_t1 (List.mem_of_getElem? (i := 22) rfl), lw_t3 (List.mem_of_getElem? (i := 185) rfl), lw_t3 (List.mem_of_getElem? (i := 186) rfl)⟩
theorem lw_p33 : lw_okq (⟨"CuckooByPost", "fliesIn", "(I)I"⟩, 41) := ⟨⟨by decide +kernel, by decide +kernel⟩, lw_t1 (List.mem_of_getElem? (i := 22) rfl), lw_t3 (List.mem_of_getElem? (i := 193) rfl), lw_t3 (List.mem_of_getElem? (i := 194) rfl)⟩
theorem lw_p34 : lw_okq (⟨"CuckooByPost", "placesFrom", "(III)V"⟩, 41) := ⟨⟨by decide +kernel, by decide +kernel⟩, lw_t1 (List.mem_of_getElem? (i := 22) rfl), lw_t3 (List.mem_of_getElem? (i := 206) rfl), lw_t3 (List.mem_of_getElem? (i := 207) rfl)⟩
theorem lw_p35 : lw_okq (⟨"CuckooByPost", "turnedNow", "()I"⟩, 41) := ⟨⟨by decide +kernel, by decide +kernel⟩, lw_t1 (List.mem_of_getElem? (i := 22) rfl), lw_t3 (List.mem_of_getElem? (i := 228) rfl), lw_t3 (List.mem_of_getElem? (i := 229) rfl)⟩
theorem lw_p36 : lw_okq (⟨"CuckooByPost", "waitsFor", "(II)I"⟩, 41) := ⟨⟨by decide +kernel, by decide +kernel⟩, lw_t1 (List.mem_of_getElem? (i := 22) rfl), lw_t4 (List.mem_of_getElem? (i := 0) rfl), lw_t4 (List.mem_of_getElem? (i := 1) rfl)⟩
theorem lw_p37 : lw_okq (⟨"CuckooByPost", "inTime", "(LCuckooByPost$Spring;)I"⟩, 41) := ⟨⟨by decide +kernel, by decide +kernel⟩, lw_t1 (List.mem_of_getElem? (i := 22) rfl), lw_t4 (List.mem_of_getElem? (i := 13) rfl), lw_t4 (List.mem_of_getElem? (i := 14) rfl)⟩
theorem lw_p38 : lw_okq (⟨"CuckooByPost", "wanted", "(I)I"⟩, 41) := ⟨⟨by decide +kernel, by decide +kernel⟩, lw_t1 (List.mem_of_getElem? (i := 22) rfl), lw_t4 (List.mem_of_getElem? (i := 26) rfl), lw_t4 (List.mem_of_getElem? (i := 27) rfl)⟩
theorem lw_p39 : lw_okq (⟨"CuckooByPost", "fedBy", "(II)I"⟩, 41) := ⟨⟨by decide +kernel, by decide +kernel⟩, lw_t1 (List.mem_of_getElem? (i := 22) rfl), lw_t4 (List.mem_of_getElem? (i := 30) rfl), lw_t4 (List.mem_of_getElem? (i := 31) rfl)⟩
theorem lw_p40 : lw_okq (⟨"CuckooByPost", "beside", "(I)I"⟩, 41) := ⟨⟨by decide +kernel, by decide +kernel⟩, lw_t1 (List.mem_of_getElem? (i := 22) rfl), lw_t4 (List.mem_of_getElem? (i := 34) rfl), lw_t4 (List.mem_of_getElem? (i := 35) rfl)⟩
theorem lw_p41 : lw_okq (⟨"CuckooByPost", "laysLodgings", "()V"⟩, 41) := ⟨⟨by decide +kernel, by decide +kernel⟩, lw_t1 (List.mem_of_getElem? (i := 22) rfl), lw_t4 (List.mem_of_getElem? (i := 50) rfl), lw_t4 (List.mem_of_getElem? (i := 51) rfl)⟩
theorem lw_p42 : lw_okq (⟨"CuckooByPost", "pointsTo", "(II)I"⟩, 41) := ⟨⟨by decide +kernel, by decide +kernel⟩, lw_t1 (List.mem_of_getElem? (i := 22) rfl), lw_t4 (List.mem_of_getElem? (i := 58) rfl), lw_t4 (List.mem_of_getElem? (i := 59) rfl)⟩
theorem lw_p43 : lw_okq (⟨"CuckooByPost", "dislikes", "(II)I"⟩, 41) := ⟨⟨by decide +kernel, by decide +kernel⟩, lw_t1 (List.mem_of_getElem? (i := 22) rfl), lw_t4 (List.mem_of_getElem? (i := 62) rfl), lw_t4 (List.mem_of_getElem? (i := 63) rfl)⟩
theorem lw_p44 : lw_okq (⟨"CuckooByPost", "wouldHave", "(II)Z"⟩, 41) := ⟨⟨by decide +kernel, by decide +kernel⟩, lw_t1 (List.mem_of_getElem? (i := 22) rfl), lw_t4 (List.mem_of_getElem? (i := 74) rfl), lw_t4 (List.mem_of_getElem? (i := 75) rfl)⟩
theorem lw_p45 : lw_okq (⟨"CuckooByPost", "fitting", "()I"⟩, 41) := ⟨⟨by decide +kernel, by decide +kernel⟩, lw_t1 (List.mem_of_getElem? (i := 22) rfl), lw_t4 (List.mem_of_getElem? (i := 103) rfl), lw_t4 (List.mem_of_getElem? (i := 104) rfl)⟩
theorem lw_p46 : lw_okq (⟨"CuckooByPost", "isSo", "(III)Z"⟩, 41) := ⟨⟨by decide +kernel, by decide +kernel⟩, lw_t1 (List.mem_of_getElem? (i := 22) rfl), lw_t4 (List.mem_of_getElem? (i := 107) rfl), lw_t4 (List.mem_of_getElem? (i := 108) rfl)⟩
theorem lw_p47 : lw_okq (⟨"CuckooByPost", "flownIn", "(I)I"⟩, 41) := ⟨⟨by decide +kernel, by decide +kernel⟩, lw_t1 (List.mem_of_getElem? (i := 22) rfl), lw_t4 (List.mem_of_getElem? (i := 126) rfl), lw_t4 (List.mem_of_getElem? (i := 127) rfl)⟩
def lw_privs_3 : List (MethodName × Nat) := [(⟨"CuckooByPost", "isFree", "(LCuckooByPost$Spring;I)Z"⟩, 41), (⟨"CuckooByPost", "fliesIn", "(I)I"⟩, 41), (⟨"CuckooByPost", "placesFrom", "(III)V"⟩, 41), (⟨"CuckooByPost", "turnedNow", "()I"⟩, 41), (⟨"CuckooByPost", "waitsFor", "(II)I"⟩, 41), (⟨"CuckooByPost", "inTime", "(LCuckooByPost$Spring;)I"⟩, 41), (⟨"CuckooByPost", "wanted", "(I)I"⟩, 41), (⟨"CuckooByPost", "fedBy", "(II)I"⟩, 41), (⟨"CuckooByPost", "beside", "(I)I"⟩, 41), (⟨"CuckooByPost", "laysLodgings", "()V"⟩, 41), (⟨"CuckooByPost", "pointsTo", "(II)I"⟩, 41), (⟨"CuckooByPost", "dislikes", "(II)I"⟩, 41), (⟨"CuckooByPost", "wouldHave", "(II)Z"⟩, 41), (⟨"CuckooByPost", "fitting", "()I"⟩, 41), (⟨"CuckooByPost", "isSo", "(III)Z"⟩, 41), (⟨"CuckooByPost", "flownIn", "(I)I"⟩, 41)]
theorem lw_r3 : ∀ q ∈ lw_privs_3, lw_okq q := List.forall_mem_cons.mpr ⟨lw_p32, List.forall_mem_cons.mpr ⟨lw_p33, List.forall_mem_cons.mpr ⟨lw_p34, List.forall_mem_cons.mpr ⟨lw_p35, List.forall_mem_cons.mpr ⟨lw_p36, List.forall_mem_cons.mpr ⟨lw_p37, List.forall_mem_cons.mpr ⟨lw_p38, List.forall_mem_cons.mpr ⟨lw_p39, List.forall_mem_cons.mpr ⟨lw_p40, List.forall_mem_cons.mpr ⟨lw_p41, List.forall_mem_cons.mpr ⟨lw_p42, List.forall_mem_cons.mpr ⟨lw_p43, List.forall_mem_cons.mpr ⟨lw_p44, List.forall_mem_cons.mpr ⟨lw_p45, List.forall_mem_cons.mpr ⟨lw_p46, List.forall_mem_cons.mpr ⟨lw_p47, fun _ h => absurd h List.not_mem_nil⟩⟩⟩⟩⟩⟩⟩⟩⟩⟩⟩⟩⟩⟩⟩⟩
theorem lw_p48 : lw_okq (⟨"CuckooByPost", "draws", "(I)I"⟩, 41) := ⟨⟨by decide +kernel, by decide +kernel⟩, lw_t1 (List.mem_of_getElem? (i := 22) rfl), lw_t4 (List.mem_of_getElem? (i := 134) rfl), lw_t4 (List.mem_of_getElem? (i := 135) rfl)⟩
theorem lw_p49 : lw_okq (⟨"java/lang/Throwable", "fillInStackTrace", "(I)Ljava/lang/Throwable;"⟩, 6) := ⟨⟨by decide +kernel, by decide +kernel⟩, lw_t4 (List.mem_of_getElem? (i := 195) rfl), lw_t4 (List.mem_of_getElem? (i := 193) rfl), lw_t4 (List.mem_of_getElem? (i := 194) rfl)⟩
theorem lw_p50 : lw_okq (⟨"CuckooByPostModel", "beginText", "(I)V"⟩, 39) := ⟨⟨by decide +kernel, by decide +kernel⟩, lw_t4 (List.mem_of_getElem? (i := 234) rfl), lw_t5 (List.mem_of_getElem? (i := 137) rfl), lw_t5 (List.mem_of_getElem? (i := 138) rfl)⟩
theorem lw_p51 : lw_okq (⟨"CuckooByPostModel", "begin", "([BII)V"⟩, 39) := ⟨⟨by decide +kernel, by decide +kernel⟩, lw_t4 (List.mem_of_getElem? (i := 234) rfl), lw_t5 (List.mem_of_getElem? (i := 141) rfl), lw_t5 (List.mem_of_getElem? (i := 142) rfl)⟩
theorem lw_p52 : lw_okq (⟨"CuckooByPostModel", "fine", "()Z"⟩, 39) := ⟨⟨by decide +kernel, by decide +kernel⟩, lw_t4 (List.mem_of_getElem? (i := 234) rfl), lw_t5 (List.mem_of_getElem? (i := 145) rfl), lw_t5 (List.mem_of_getElem? (i := 146) rfl)⟩
theorem lw_p53 : lw_okq (⟨"CuckooByPostModel", "fault", "(I)V"⟩, 39) := ⟨⟨by decide +kernel, by decide +kernel⟩, lw_t4 (List.mem_of_getElem? (i := 234) rfl), lw_t5 (List.mem_of_getElem? (i := 149) rfl), lw_t5 (List.mem_of_getElem? (i := 150) rfl)⟩
theorem lw_p54 : lw_okq (⟨"CuckooByPostModel", "readNest", "(I)V"⟩, 39) := ⟨⟨by decide +kernel, by decide +kernel⟩, lw_t4 (List.mem_of_getElem? (i := 234) rfl), lw_t5 (List.mem_of_getElem? (i := 153) rfl), lw_t5 (List.mem_of_getElem? (i := 154) rfl)⟩
theorem lw_p55 : lw_okq (⟨"CuckooByPostModel", "here", "()I"⟩, 39) := ⟨⟨by decide +kernel, by decide +kernel⟩, lw_t4 (List.mem_of_getElem? (i := 234) rfl), lw_t5 (List.mem_of_getElem? (i := 157) rfl), lw_t5 (List.mem_of_getElem? (i := 158) rfl)⟩
theorem lw_p56 : lw_okq (⟨"CuckooByPostModel", "oneOf", "(CI)I"⟩, 39) := ⟨⟨by decide +kernel, by decide +kernel⟩, lw_t4 (List.mem_of_getElem? (i := 234) rfl), lw_t5 (List.mem_of_getElem? (i := 164) rfl), lw_t5 (List.mem_of_getElem? (i := 165) rfl)⟩
theorem lw_p57 : lw_okq (⟨"CuckooByPostModel", "passes", "(C)Z"⟩, 39) := ⟨⟨by decide +kernel, by decide +kernel⟩, lw_t4 (List.mem_of_getElem? (i := 234) rfl), lw_t5 (List.mem_of_getElem? (i := 168) rfl), lw_t5 (List.mem_of_getElem? (i := 169) rfl)⟩
theorem lw_p58 : lw_okq (⟨"CuckooByPostModel", "wasRight", "()Z"⟩, 39) := ⟨⟨by decide +kernel, by decide +kernel⟩, lw_t4 (List.mem_of_getElem? (i := 234) rfl), lw_t5 (List.mem_of_getElem? (i := 172) rfl), lw_t5 (List.mem_of_getElem? (i := 173) rfl)⟩
theorem lw_p59 : lw_okq (⟨"CuckooByPostModel", "readRule", "()Z"⟩, 39) := ⟨⟨by decide +kernel, by decide +kernel⟩, lw_t4 (List.mem_of_getElem? (i := 234) rfl), lw_t5 (List.mem_of_getElem? (i := 180) rfl), lw_t5 (List.mem_of_getElem? (i := 181) rfl)⟩
theorem lw_p60 : lw_okq (⟨"CuckooByPostModel", "held", "(I)I"⟩, 39) := ⟨⟨by decide +kernel, by decide +kernel⟩, lw_t4 (List.mem_of_getElem? (i := 234) rfl), lw_t5 (List.mem_of_getElem? (i := 184) rfl), lw_t5 (List.mem_of_getElem? (i := 185) rfl)⟩
theorem lw_p61 : lw_okq (⟨"CuckooByPostModel", "sum", "(I)I"⟩, 39) := ⟨⟨by decide +kernel, by decide +kernel⟩, lw_t4 (List.mem_of_getElem? (i := 234) rfl), lw_t5 (List.mem_of_getElem? (i := 188) rfl), lw_t5 (List.mem_of_getElem? (i := 189) rfl)⟩
theorem lw_p62 : lw_okq (⟨"CuckooByPostModel", "product", "(I)I"⟩, 39) := ⟨⟨by decide +kernel, by decide +kernel⟩, lw_t4 (List.mem_of_getElem? (i := 234) rfl), lw_t5 (List.mem_of_getElem? (i := 192) rfl), lw_t5 (List.mem_of_getElem? (i := 193) rfl)⟩
theorem lw_p63 : lw_okq (⟨"CuckooByPostModel", "thing", "(I)I"⟩, 39) := ⟨⟨by decide +kernel, by decide +kernel⟩, lw_t4 (List.mem_of_getElem? (i := 234) rfl), lw_t5 (List.mem_of_getElem? (i := 196) rfl), lw_t5 (List.mem_of_getElem? (i := 197) rfl)⟩
def lw_privs_4 : List (MethodName × Nat) := [(⟨"CuckooByPost", "draws", "(I)I"⟩, 41), (⟨"java/lang/Throwable", "fillInStackTrace", "(I)Ljava/lang/Throwable;"⟩, 6), (⟨"CuckooByPostModel", "beginText", "(I)V"⟩, 39), (⟨"CuckooByPostModel", "begin", "([BII)V"⟩, 39), (⟨"CuckooByPostModel", "fine", "()Z"⟩, 39), (⟨"CuckooByPostModel", "fault", "(I)V"⟩, 39), (⟨"CuckooByPostModel", "readNest", "(I)V"⟩, 39), (⟨"CuckooByPostModel", "here", "()I"⟩, 39), (⟨"CuckooByPostModel", "oneOf", "(CI)I"⟩, 39), (⟨"CuckooByPostModel", "passes", "(C)Z"⟩, 39), (⟨"CuckooByPostModel", "wasRight", "()Z"⟩, 39), (⟨"CuckooByPostModel", "readRule", "()Z"⟩, 39), (⟨"CuckooByPostModel", "held", "(I)I"⟩, 39), (⟨"CuckooByPostModel", "sum", "(I)I"⟩, 39), (⟨"CuckooByPostModel", "product", "(I)I"⟩, 39), (⟨"CuckooByPostModel", "thing", "(I)I"⟩, 39)]
theorem lw_r4 : ∀ q ∈ lw_privs_4, lw_okq q := List.forall_mem_cons.mpr ⟨lw_p48, List.forall_mem_cons.mpr ⟨lw_p49, List.forall_mem_cons.mpr ⟨lw_p50, List.forall_mem_cons.mpr ⟨lw_p51, List.forall_mem_cons.mpr ⟨lw_p52, List.forall_mem_cons.mpr ⟨lw_p53, List.forall_mem_cons.mpr ⟨lw_p54, List.forall_mem_cons.mpr ⟨lw_p55, List.forall_mem_cons.mpr ⟨lw_p56, List.forall_mem_cons.mpr ⟨lw_p57, List.forall_mem_cons.mpr ⟨lw_p58, List.forall_mem_cons.mpr ⟨lw_p59, List.forall_mem_cons.mpr ⟨lw_p60, List.forall_mem_cons.mpr ⟨lw_p61, List.forall_mem_cons.mpr ⟨lw_p62, List.forall_mem_cons.mpr ⟨lw_p63, fun _ h => absurd h List.not_mem_nil⟩⟩⟩⟩⟩⟩⟩⟩⟩⟩⟩⟩⟩⟩⟩⟩
theorem lw_p64 : lw_okq (⟨"CuckooByPostModel", "need", "(C)V"⟩, 39) := ⟨⟨by decide +kernel, by decide +kernel⟩, lw_t4 (List.mem_of_getElem? (i := 234) rfl), lw_t5 (List.mem_of_getElem? (i := 200) rfl), lw_t5 (List.mem_of_getElem? (i := 201) rfl)⟩
theorem lw_p65 : lw_okq (⟨"CuckooByPostModel", "number", "(I)I"⟩, 39) := ⟨⟨by decide +kernel, by decide +kernel⟩, lw_t4 (List.mem_of_getElem? (i := 234) rfl), lw_t5 (List.mem_of_getElem? (i := 204) rfl), lw_t5 (List.mem_of_getElem? (i := 205) rfl)⟩
theorem lw_p66 : lw_okq (⟨"CuckooByPostModel", "isNest", "(I)Z"⟩, 39) := ⟨⟨by decide +kernel, by decide +kernel⟩, lw_t4 (List.mem_of_getElem? (i := 234) rfl), lw_t5 (List.mem_of_getElem? (i := 215) rfl), lw_t5 (List.mem_of_getElem? (i := 216) rfl)⟩
theorem lw_p67 : lw_okq (⟨"CuckooByPostModel", "lost", "()I"⟩, 39) := ⟨⟨by decide +kernel, by decide +kernel⟩, lw_t4 (List.mem_of_getElem? (i := 234) rfl), lw_t5 (List.mem_of_getElem? (i := 219) rfl), lw_t5 (List.mem_of_getElem? (i := 220) rfl)⟩
theorem lw_p68 : lw_okq (⟨"CuckooByPostModel", "isInTime", "([II)Z"⟩, 39) := ⟨⟨by decide +kernel, by decide +kernel⟩, lw_t4 (List.mem_of_getElem? (i := 234) rfl), lw_t5 (List.mem_of_getElem? (i := 223) rfl), lw_t5 (List.mem_of_getElem? (i := 224) rfl)⟩
theorem lw_p69 : lw_okq (⟨"CuckooByPostModel", "oddNow", "([II)I"⟩, 39) := ⟨⟨by decide +kernel, by decide +kernel⟩, lw_t4 (List.mem_of_getElem? (i := 234) rfl), lw_t5 (List.mem_of_getElem? (i := 231) rfl), lw_t5 (List.mem_of_getElem? (i := 232) rfl)⟩
theorem lw_p70 : lw_okq (⟨"CuckooByPostModel", "guests", "([I)I"⟩, 39) := ⟨⟨by decide +kernel, by decide +kernel⟩, lw_t4 (List.mem_of_getElem? (i := 234) rfl), lw_t5 (List.mem_of_getElem? (i := 235) rfl), lw_t5 (List.mem_of_getElem? (i := 236) rfl)⟩
theorem lw_p71 : lw_okq (⟨"CuckooByPostModel", "oddOf", "([IIIIII)I"⟩, 39) := ⟨⟨by decide +kernel, by decide +kernel⟩, lw_t4 (List.mem_of_getElem? (i := 234) rfl), lw_t6 (List.mem_of_getElem? (i := 0) rfl), lw_t6 (List.mem_of_getElem? (i := 1) rfl)⟩
theorem lw_p72 : lw_okq (⟨"CuckooByPostModel", "refusesAnnounce", "([II)I"⟩, 39) := ⟨⟨by decide +kernel, by decide +kernel⟩, lw_t4 (List.mem_of_getElem? (i := 234) rfl), lw_t6 (List.mem_of_getElem? (i := 19) rfl), lw_t6 (List.mem_of_getElem? (i := 20) rfl)⟩
theorem lw_p73 : lw_okq (⟨"CuckooByPostModel", "remember", "([I)V"⟩, 39) := ⟨⟨by decide +kernel, by decide +kernel⟩, lw_t4 (List.mem_of_getElem? (i := 234) rfl), lw_t6 (List.mem_of_getElem? (i := 23) rfl), lw_t6 (List.mem_of_getElem? (i := 24) rfl)⟩
theorem lw_p74 : lw_okq (⟨"CuckooByPostModel", "notices", "([I)I"⟩, 39) := ⟨⟨by decide +kernel, by decide +kernel⟩, lw_t4 (List.mem_of_getElem? (i := 234) rfl), lw_t6 (List.mem_of_getElem? (i := 33) rfl), lw_t6 (List.mem_of_getElem? (i := 34) rfl)⟩
theorem lw_p75 : lw_okq (⟨"CuckooByPostModel", "refusesReply", "([II)I"⟩, 39) := ⟨⟨by decide +kernel, by decide +kernel⟩, lw_t4 (List.mem_of_getElem? (i := 234) rfl), lw_t6 (List.mem_of_getElem? (i := 41) rfl), lw_t6 (List.mem_of_getElem? (i := 42) rfl)⟩
theorem lw_p76 : lw_okq (⟨"CuckooByPostModel", "refusesLay", "([III)I"⟩, 39) := ⟨⟨by decide +kernel, by decide +kernel⟩, lw_t4 (List.mem_of_getElem? (i := 234) rfl), lw_t6 (List.mem_of_getElem? (i := 52) rfl), lw_t6 (List.mem_of_getElem? (i := 53) rfl)⟩
theorem lw_p77 : lw_okq (⟨"CuckooByPostModel", "refusesTint", "(II)I"⟩, 39) := ⟨⟨by decide +kernel, by decide +kernel⟩, lw_t4 (List.mem_of_getElem? (i := 234) rfl), lw_t6 (List.mem_of_getElem? (i := 66) rfl), lw_t6 (List.mem_of_getElem? (i := 67) rfl)⟩
theorem lw_p78 : lw_okq (⟨"CuckooByPostModel", "areTwo", "(II)Z"⟩, 39) := ⟨⟨by decide +kernel, by decide +kernel⟩, lw_t4 (List.mem_of_getElem? (i := 234) rfl), lw_t6 (List.mem_of_getElem? (i := 74) rfl), lw_t6 (List.mem_of_getElem? (i := 75) rfl)⟩
theorem lw_p79 : lw_okq (⟨"CuckooByPostModel", "goDays", "([II)V"⟩, 39) := ⟨⟨by decide +kernel, by decide +kernel⟩, lw_t4 (List.mem_of_getElem? (i := 234) rfl), lw_t6 (List.mem_of_getElem? (i := 85) rfl), lw_t6 (List.mem_of_getElem? (i := 86) rfl)⟩
def lw_privs_5 : List (MethodName × Nat) := [(⟨"CuckooByPostModel", "need", "(C)V"⟩, 39), (⟨"CuckooByPostModel", "number", "(I)I"⟩, 39), (⟨"CuckooByPostModel", "isNest", "(I)Z"⟩, 39), (⟨"CuckooByPostModel", "lost", "()I"⟩, 39), (⟨"CuckooByPostModel", "isInTime", "([II)Z"⟩, 39), (⟨"CuckooByPostModel", "oddNow", "([II)I"⟩, 39), (⟨"CuckooByPostModel", "guests", "([I)I"⟩, 39), (⟨"CuckooByPostModel", "oddOf", "([IIIIII)I"⟩, 39), (⟨"CuckooByPostModel", "refusesAnnounce", "([II)I"⟩, 39), (⟨"CuckooByPostModel", "remember", "([I)V"⟩, 39), (⟨"CuckooByPostModel", "notices", "([I)I"⟩, 39), (⟨"CuckooByPostModel", "refusesReply", "([II)I"⟩, 39), (⟨"CuckooByPostModel", "refusesLay", "([III)I"⟩, 39), (⟨"CuckooByPostModel", "refusesTint", "(II)I"⟩, 39), (⟨"CuckooByPostModel", "areTwo", "(II)Z"⟩, 39), (⟨"CuckooByPostModel", "goDays", "([II)V"⟩, 39)]
theorem lw_r5 : ∀ q ∈ lw_privs_5, lw_okq q := List.forall_mem_cons.mpr ⟨lw_p64, List.forall_mem_cons.mpr ⟨lw_p65, List.forall_mem_cons.mpr ⟨lw_p66, List.forall_mem_cons.mpr ⟨lw_p67, List.forall_mem_cons.mpr ⟨lw_p68, List.forall_mem_cons.mpr ⟨lw_p69, List.forall_mem_cons.mpr ⟨lw_p70, List.forall_mem_cons.mpr ⟨lw_p71, List.forall_mem_cons.mpr ⟨lw_p72, List.forall_mem_cons.mpr ⟨lw_p73, List.forall_mem_cons.mpr ⟨lw_p74, List.forall_mem_cons.mpr ⟨lw_p75, List.forall_mem_cons.mpr ⟨lw_p76, List.forall_mem_cons.mpr ⟨lw_p77, List.forall_mem_cons.mpr ⟨lw_p78, List.forall_mem_cons.mpr ⟨lw_p79, fun _ h => absurd h List.not_mem_nil⟩⟩⟩⟩⟩⟩⟩⟩⟩⟩⟩⟩⟩⟩⟩⟩
theorem lw_p80 : lw_okq (⟨"CuckooByPostModel", "goDay", "([I)V"⟩, 39) := ⟨⟨by decide +kernel, by decide +kernel⟩, lw_t4 (List.mem_of_getElem? (i := 234) rfl), lw_t6 (List.mem_of_getElem? (i := 89) rfl), lw_t6 (List.mem_of_getElem? (i := 90) rfl)⟩
theorem lw_p81 : lw_okq (⟨"CuckooByPostModel", "outs", "([I)I"⟩, 39) := ⟨⟨by decide +kernel, by decide +kernel⟩, lw_t4 (List.mem_of_getElem? (i := 234) rfl), lw_t6 (List.mem_of_getElem? (i := 93) rfl), lw_t6 (List.mem_of_getElem? (i := 94) rfl)⟩
theorem lw_p82 : lw_okq (⟨"CuckooByPostModel", "tell", "(J)V"⟩, 39) := ⟨⟨by decide +kernel, by decide +kernel⟩, lw_t4 (List.mem_of_getElem? (i := 234) rfl), lw_t6 (List.mem_of_getElem? (i := 100) rfl), lw_t6 (List.mem_of_getElem? (i := 101) rfl)⟩
theorem lw_p83 : lw_okq (⟨"CuckooByPostModel", "readAct", "(I)V"⟩, 39) := ⟨⟨by decide +kernel, by decide +kernel⟩, lw_t4 (List.mem_of_getElem? (i := 234) rfl), lw_t6 (List.mem_of_getElem? (i := 108) rfl), lw_t6 (List.mem_of_getElem? (i := 109) rfl)⟩
theorem lw_p84 : lw_okq (⟨"CuckooByPostModel", "act", "(III)Z"⟩, 39) := ⟨⟨by decide +kernel, by decide +kernel⟩, lw_t4 (List.mem_of_getElem? (i := 234) rfl), lw_t6 (List.mem_of_getElem? (i := 112) rfl), lw_t6 (List.mem_of_getElem? (i := 113) rfl)⟩
theorem lw_p85 : lw_okq (⟨"CuckooByPostModel", "oddLaid", "([III)I"⟩, 39) := ⟨⟨by decide +kernel, by decide +kernel⟩, lw_t4 (List.mem_of_getElem? (i := 234) rfl), lw_t6 (List.mem_of_getElem? (i := 124) rfl), lw_t6 (List.mem_of_getElem? (i := 125) rfl)⟩
theorem lw_p86 : lw_okq (⟨"CuckooByPostModel", "fliesIn", "([II)I"⟩, 39) := ⟨⟨by decide +kernel, by decide +kernel⟩, lw_t4 (List.mem_of_getElem? (i := 234) rfl), lw_t6 (List.mem_of_getElem? (i := 143) rfl), lw_t6 (List.mem_of_getElem? (i := 144) rfl)⟩
theorem lw_p87 : lw_okq (⟨"CuckooByPostModel", "openFree", "()I"⟩, 39) := ⟨⟨by decide +kernel, by decide +kernel⟩, lw_t4 (List.mem_of_getElem? (i := 234) rfl), lw_t6 (List.mem_of_getElem? (i := 155) rfl), lw_t6 (List.mem_of_getElem? (i := 156) rfl)⟩
theorem lw_p88 : lw_okq (⟨"CuckooByPostModel", "goPlace", "(III)V"⟩, 39) := ⟨⟨by decide +kernel, by decide +kernel⟩, lw_t4 (List.mem_of_getElem? (i := 234) rfl), lw_t6 (List.mem_of_getElem? (i := 159) rfl), lw_t6 (List.mem_of_getElem? (i := 160) rfl)⟩
theorem lw_p89 : lw_okq (⟨"CuckooByPostModel", "oddTinted", "(II)I"⟩, 39) := ⟨⟨by decide +kernel, by decide +kernel⟩, lw_t4 (List.mem_of_getElem? (i := 234) rfl), lw_t6 (List.mem_of_getElem? (i := 171) rfl), lw_t6 (List.mem_of_getElem? (i := 172) rfl)⟩
theorem lw_p90 : lw_okq (⟨"CuckooByPostModel", "daysBy", "(II)I"⟩, 39) := ⟨⟨by decide +kernel, by decide +kernel⟩, lw_t4 (List.mem_of_getElem? (i := 234) rfl), lw_t6 (List.mem_of_getElem? (i := 193) rfl), lw_t6 (List.mem_of_getElem? (i := 194) rfl)⟩
theorem lw_p91 : lw_okq (⟨"CuckooByPostModel", "young", "()I"⟩, 39) := ⟨⟨by decide +kernel, by decide +kernel⟩, lw_t4 (List.mem_of_getElem? (i := 234) rfl), lw_t6 (List.mem_of_getElem? (i := 213) rfl), lw_t6 (List.mem_of_getElem? (i := 214) rfl)⟩
theorem lw_p92 : lw_okq (⟨"CuckooByPostModel", "givenBy", "(II)I"⟩, 39) := ⟨⟨by decide +kernel, by decide +kernel⟩, lw_t4 (List.mem_of_getElem? (i := 234) rfl), lw_t6 (List.mem_of_getElem? (i := 217) rfl), lw_t6 (List.mem_of_getElem? (i := 218) rfl)⟩
theorem lw_p93 : lw_okq (⟨"CuckooByPostModel", "layLodgings", "()V"⟩, 39) := ⟨⟨by decide +kernel, by decide +kernel⟩, lw_t4 (List.mem_of_getElem? (i := 234) rfl), lw_t6 (List.mem_of_getElem? (i := 233) rfl), lw_t6 (List.mem_of_getElem? (i := 234) rfl)⟩
theorem lw_p94 : lw_okq (⟨"CuckooByPostModel", "wish", "(II)I"⟩, 39) := ⟨⟨by decide +kernel, by decide +kernel⟩, lw_t4 (List.mem_of_getElem? (i := 234) rfl), lw_t6 (List.mem_of_getElem? (i := 238) rfl), lw_t6 (List.mem_of_getElem? (i := 239) rfl)⟩
theorem lw_p95 : lw_okq (⟨"CuckooByPostModel", "worse", "(II)I"⟩, 39) := ⟨⟨by decide +kernel, by decide +kernel⟩, lw_t4 (List.mem_of_getElem? (i := 234) rfl), lw_t7 (List.mem_of_getElem? (i := 2) rfl), lw_t7 (List.mem_of_getElem? (i := 3) rfl)⟩
def lw_privs_6 : List (MethodName × Nat) := [(⟨"CuckooByPostModel", "goDay", "([I)V"⟩, 39), (⟨"CuckooByPostModel", "outs", "([I)I"⟩, 39), (⟨"CuckooByPostModel", "tell", "(J)V"⟩, 39), (⟨"CuckooByPostModel", "readAct", "(I)V"⟩, 39), (⟨"CuckooByPostModel", "act", "(III)Z"⟩, 39), (⟨"CuckooByPostModel", "oddLaid", "([III)I"⟩, 39), (⟨"CuckooByPostModel", "fliesIn", "([II)I"⟩, 39), (⟨"CuckooByPostModel", "openFree", "()I"⟩, 39), (⟨"CuckooByPostModel", "goPlace", "(III)V"⟩, 39), (⟨"CuckooByPostModel", "oddTinted", "(II)I"⟩, 39), (⟨"CuckooByPostModel", "daysBy", "(II)I"⟩, 39), (⟨"CuckooByPostModel", "young", "()I"⟩, 39), (⟨"CuckooByPostModel", "givenBy", "(II)I"⟩, 39), (⟨"CuckooByPostModel", "layLodgings", "()V"⟩, 39), (⟨"CuckooByPostModel", "wish", "(II)I"⟩, 39), (⟨"CuckooByPostModel", "worse", "(II)I"⟩, 39)]
theorem lw_r6 : ∀ q ∈ lw_privs_6, lw_okq q := List.forall_mem_cons.mpr ⟨lw_p80, List.forall_mem_cons.mpr ⟨lw_p81, List.forall_mem_cons.mpr ⟨lw_p82, List.forall_mem_cons.mpr ⟨lw_p83, List.forall_mem_cons.mpr ⟨lw_p84, List.forall_mem_cons.mpr ⟨lw_p85, List.forall_mem_cons.mpr ⟨lw_p86, List.forall_mem_cons.mpr ⟨lw_p87, List.forall_mem_cons.mpr ⟨lw_p88, List.forall_mem_cons.mpr ⟨lw_p89, List.forall_mem_cons.mpr ⟨lw_p90, List.forall_mem_cons.mpr ⟨lw_p91, List.forall_mem_cons.mpr ⟨lw_p92, List.forall_mem_cons.mpr ⟨lw_p93, List.forall_mem_cons.mpr ⟨lw_p94, List.forall_mem_cons.mpr ⟨lw_p95, fun _ h => absurd h List.not_mem_nil⟩⟩⟩⟩⟩⟩⟩⟩⟩⟩⟩⟩⟩⟩⟩⟩
theorem lw_p96 : lw_okq (⟨"CuckooByPostModel", "fitting", "()I"⟩, 39) := ⟨⟨by decide +kernel, by decide +kernel⟩, lw_t4 (List.mem_of_getElem? (i := 234) rfl), lw_t7 (List.mem_of_getElem? (i := 39) rfl), lw_t7 (List.mem_of_getElem? (i := 40) rfl)⟩
theorem lw_p97 : lw_okq (⟨"CuckooByPostModel", "fits", "(III)Z"⟩, 39) := ⟨⟨by decide +kernel, by decide +kernel⟩, lw_t4 (List.mem_of_getElem? (i := 234) rfl), lw_t7 (List.mem_of_getElem? (i := 43) rfl), lw_t7 (List.mem_of_getElem? (i := 44) rfl)⟩
theorem lw_p98 : lw_okq (⟨"CuckooByPostModel", "flownIn60", "()I"⟩, 39) := ⟨⟨by decide +kernel, by decide +kernel⟩, lw_t4 (List.mem_of_getElem? (i := 234) rfl), lw_t7 (List.mem_of_getElem? (i := 68) rfl), lw_t7 (List.mem_of_getElem? (i := 69) rfl)⟩
theorem lw_p99 : lw_okq (⟨"CuckooByPostModel", "draw", "(I)I"⟩, 39) := ⟨⟨by decide +kernel, by decide +kernel⟩, lw_t4 (List.mem_of_getElem? (i := 234) rfl), lw_t7 (List.mem_of_getElem? (i := 76) rfl), lw_t7 (List.mem_of_getElem? (i := 77) rfl)⟩
theorem lw_p100 : lw_okq (⟨"CuckooByPostModel", "allOwn", "()I"⟩, 39) := ⟨⟨by decide +kernel, by decide +kernel⟩, lw_t4 (List.mem_of_getElem? (i := 234) rfl), lw_t7 (List.mem_of_getElem? (i := 93) rfl), lw_t7 (List.mem_of_getElem? (i := 94) rfl)⟩
def lw_privs_7 : List (MethodName × Nat) := [(⟨"CuckooByPostModel", "fitting", "()I"⟩, 39), (⟨"CuckooByPostModel", "fits", "(III)Z"⟩, 39), (⟨"CuckooByPostModel", "flownIn60", "()I"⟩, 39), (⟨"CuckooByPostModel", "draw", "(I)I"⟩, 39), (⟨"CuckooByPostModel", "allOwn", "()I"⟩, 39)]
theorem lw_r7 : ∀ q ∈ lw_privs_7, lw_okq q := List.forall_mem_cons.mpr ⟨lw_p96, List.forall_mem_cons.mpr ⟨lw_p97, List.forall_mem_cons.mpr ⟨lw_p98, List.forall_mem_cons.mpr ⟨lw_p99, List.forall_mem_cons.mpr ⟨lw_p100, fun _ h => absurd h List.not_mem_nil⟩⟩⟩⟩⟩
def lw_privs : List (MethodName × Nat) := lw_privs_1 ++ (lw_privs_2 ++ (lw_privs_3 ++ (lw_privs_4 ++ (lw_privs_5 ++ (lw_privs_6 ++ (lw_privs_7))))))
def lw_tbl : List Cond := k2_sels lw_privs ++ tables_1
theorem lw_privs_ok : ∀ q ∈ lw_privs, lw_okq q := by
  show ∀ q ∈ lw_privs_1 ++ (lw_privs_2 ++ (lw_privs_3 ++ (lw_privs_4 ++ (lw_privs_5 ++ (lw_privs_6 ++ (lw_privs_7)))))), lw_okq q
  exact List.forall_mem_append.mpr ⟨lw_r1, List.forall_mem_append.mpr ⟨lw_r2, List.forall_mem_append.mpr ⟨lw_r3, List.forall_mem_append.mpr ⟨lw_r4, List.forall_mem_append.mpr ⟨lw_r5, List.forall_mem_append.mpr ⟨lw_r6, lw_r7⟩⟩⟩⟩⟩⟩
-- ===== ONE list of words for every method: the tables' words that hold all through a run =====
def lw_all : List Cond := lw_tbl.filter goodWord
/-- a word of the tables by its place: claim/WORDS.tsv -/
theorem lw_w {w : Cond} (i : Nat) (h : lw_tbl[i]? = some w) (g : goodWord w = true) : w ∈ lw_all := List.mem_filter.mpr ⟨List.mem_of_getElem? h, g⟩
theorem lw_all_tbl {w : Cond} (h : w ∈ lw_all) : w ∈ lw_tbl := (List.mem_filter.mp h).1
theorem lw_self : GoodIn lw_all lw_all := fun w h => ⟨h, good_of_word (List.mem_filter.mp h).2⟩
/-- a class's field words, by their places -/
theorem lw_in (ws : List Cond) (ps : List Nat) (hp : ws = ps.filterMap (fun i => lw_tbl[i]?)) (hg : ws.all goodWord = true) : ∀ w ∈ ws, w ∈ lw_all := by
  intro w h
  have h1 := List.all_eq_true.mp hg w h
  rw [hp] at h
  obtain ⟨i, -, hi⟩ := List.mem_filterMap.mp h
  exact lw_w i hi h1
/-- the words of a contract for the method y with code b, L locals, answer r -/
abbrev ws_ (y : MethodName) (b : ByteArray) (L : Nat) (r : Option FieldType) : List Cond := Cond.code y b L r :: lw_all
theorem lw_meth {y : MethodName} {b : ByteArray} {L : Nat} {r : Option FieldType} (h : Cond.code y b L r ∈ lw_all) : GoodIn lw_all (ws_ y b L r) := by
  intro w hw
  rcases List.mem_cons.mp hw with e | e
  · rw [e]
    exact lw_self _ h
  · exact lw_self _ e
theorem lw_app {a c : List Cond} (ha : ∀ w ∈ a, w ∈ lw_all) (hc : GoodIn lw_all c) : GoodIn lw_all (a ++ c) := by
  intro w hw
  rcases List.mem_append.mp hw with e | e
  · exact lw_self w (ha w e)
  · exact hc w e
/-- what a call through an object asks: cwV n hts (lw_V ..) -/
theorem lw_V {own : String} {idx : Nat} {C : String} {y : MethodName} {b : ByteArray} {L : Nat} {r : Option FieldType} (h1 : Cond.methodLink own idx y ∈ lw_all) (h2 : Cond.instanceMethod y ∈ lw_all) (h3 : Cond.selects C y y ∈ lw_all) (h4 : Cond.initialized C ∈ lw_all) (h5 : Cond.code y b L r ∈ lw_all) : GoodIn lw_all (wsV own idx C y (ws_ y b L r)) := by
  refine lw_app ?_ (lw_meth h5)
  intro w hw
  simp only [List.mem_cons, List.not_mem_nil, or_false] at hw
  rcases hw with e | e | e | e
  · rw [e]; exact h1
  · rw [e]; exact h2
  · rw [e]; exact h3
  · rw [e]; exact h4
/-- what a static call asks: va_cwS n hts (lw_S ..) -/
theorem lw_S {own : String} {idx : Nat} {y : MethodName} {b : ByteArray} {L : Nat} {r : Option FieldType} (h1 : Cond.methodLink own idx y ∈ lw_all) (h2 : Cond.static y ∈ lw_all) (h3 : Cond.initialized y.cls ∈ lw_all) (h4 : Cond.code y b L r ∈ lw_all) : GoodIn lw_all (va_wsS own idx y (ws_ y b L r)) := by
  refine lw_app ?_ (lw_meth h4)
  intro w hw
  simp only [List.mem_cons, List.not_mem_nil, or_false] at hw
  rcases hw with e | e | e
  · rw [e]; exact h1
  · rw [e]; exact h2
  · rw [e]; exact h3
/-- the words of a contract for a method WITH HANDLERS (hh: its table) -/
abbrev wsW_ (y : MethodName) (b : ByteArray) (L : Nat) (r : Option FieldType) (hh : List (Nat × Nat × Nat × Nat)) : List Cond := Cond.codeWith y b L r hh :: lw_all
theorem lw_methW {y : MethodName} {b : ByteArray} {L : Nat} {r : Option FieldType} {hh : List (Nat × Nat × Nat × Nat)} (h : Cond.codeWith y b L r hh ∈ lw_all) : GoodIn lw_all (wsW_ y b L r hh) := by
  intro w hw
  rcases List.mem_cons.mp hw with e | e
  · rw [e]
    exact lw_self _ h
  · exact lw_self _ e
/-- any list of words by their places (lw_in), good -/
theorem lw_good {ws : List Cond} (h : ∀ w ∈ ws, w ∈ lw_all) : GoodIn lw_all ws := fun w hw => lw_self w (h w hw)
/-- what a call of a method with handlers asks: vx_cwVW n hts (lw_VW ..), vx_cwSW n hts (lw_SW ..) -/
theorem lw_VW {own : String} {idx : Nat} {C : String} {y : MethodName} {b : ByteArray} {L : Nat} {r : Option FieldType} {hh : List (Nat × Nat × Nat × Nat)} (h1 : Cond.methodLink own idx y ∈ lw_all) (h2 : Cond.instanceMethod y ∈ lw_all) (h3 : Cond.selects C y y ∈ lw_all) (h4 : Cond.initialized C ∈ lw_all) (h5 : Cond.codeWith y b L r hh ∈ lw_all) : GoodIn lw_all (wsV own idx C y (wsW_ y b L r hh)) := by
  refine lw_app ?_ (lw_methW h5)
  intro w hw
  simp only [List.mem_cons, List.not_mem_nil, or_false] at hw
  rcases hw with e | e | e | e
  · rw [e]; exact h1
  · rw [e]; exact h2
  · rw [e]; exact h3
  · rw [e]; exact h4
theorem lw_SW {own : String} {idx : Nat} {y : MethodName} {b : ByteArray} {L : Nat} {r : Option FieldType} {hh : List (Nat × Nat × Nat × Nat)} (h1 : Cond.methodLink own idx y ∈ lw_all) (h2 : Cond.static y ∈ lw_all) (h3 : Cond.initialized y.cls ∈ lw_all) (h4 : Cond.codeWith y b L r hh ∈ lw_all) : GoodIn lw_all (va_wsS own idx y (wsW_ y b L r hh)) := by
  refine lw_app ?_ (lw_methW h4)
  intro w hw
  simp only [List.mem_cons, List.not_mem_nil, or_false] at hw
  rcases hw with e | e | e
  · rw [e]; exact h1
  · rw [e]; exact h2
  · rw [e]; exact h3
/-- a word by its place in its run of the tables -/
theorem lw_at {r : List Cond} (hr : ∀ w ∈ r, w ∈ lw_tbl) {w : Cond} (i : Nat) (h : r[i]? = some w) : w ∈ lw_tbl := hr w (List.mem_of_getElem? h)
theorem lw_g {w : Cond} (h : w ∈ lw_tbl) (g : goodWord w = true) : w ∈ lw_all := List.mem_filter.mpr ⟨h, g⟩
theorem lw_ms : ∀ w ∈ k2_sels lw_privs, w ∈ lw_tbl := fun w h => show w ∈ k2_sels lw_privs ++ tables_1 from List.mem_append_left _ h
theorem lw_m1 : ∀ w ∈ tables_1_1, w ∈ lw_tbl := fun w h => show w ∈ k2_sels lw_privs ++ tables_1 from List.mem_append_right (k2_sels lw_privs) (show w ∈ tables_1 from List.mem_append_left _ h)
theorem lw_m2 : ∀ w ∈ tables_1_2, w ∈ lw_tbl := fun w h => show w ∈ k2_sels lw_privs ++ tables_1 from List.mem_append_right (k2_sels lw_privs) (show w ∈ tables_1 from List.mem_append_right _ (List.mem_append_left _ h))
theorem lw_m3 : ∀ w ∈ tables_1_3, w ∈ lw_tbl := fun w h => show w ∈ k2_sels lw_privs ++ tables_1 from List.mem_append_right (k2_sels lw_privs) (show w ∈ tables_1 from List.mem_append_right _ (List.mem_append_right _ (List.mem_append_left _ h)))
theorem lw_m4 : ∀ w ∈ tables_1_4, w ∈ lw_tbl := fun w h => show w ∈ k2_sels lw_privs ++ tables_1 from List.mem_append_right (k2_sels lw_privs) (show w ∈ tables_1 from List.mem_append_right _ (List.mem_append_right _ (List.mem_append_right _ (List.mem_append_left _ h))))
theorem lw_m5 : ∀ w ∈ tables_1_5, w ∈ lw_tbl := fun w h => show w ∈ k2_sels lw_privs ++ tables_1 from List.mem_append_right (k2_sels lw_privs) (show w ∈ tables_1 from List.mem_append_right _ (List.mem_append_right _ (List.mem_append_right _ (List.mem_append_right _ (List.mem_append_left _ h)))))
theorem lw_m6 : ∀ w ∈ tables_1_6, w ∈ lw_tbl := fun w h => show w ∈ k2_sels lw_privs ++ tables_1 from List.mem_append_right (k2_sels lw_privs) (show w ∈ tables_1 from List.mem_append_right _ (List.mem_append_right _ (List.mem_append_right _ (List.mem_append_right _ (List.mem_append_right _ (List.mem_append_left _ h))))))
theorem lw_m7 : ∀ w ∈ tables_1_7, w ∈ lw_tbl := fun w h => show w ∈ k2_sels lw_privs ++ tables_1 from List.mem_append_right (k2_sels lw_privs) (show w ∈ tables_1 from List.mem_append_right _ (List.mem_append_right _ (List.mem_append_right _ (List.mem_append_right _ (List.mem_append_right _ (List.mem_append_right _ h))))))
theorem qs0 : (Cond.selects "CuckooByPost" ⟨"CuckooByPost", "begins", "(I)I"⟩ ⟨"CuckooByPost", "begins", "(I)I"⟩) ∈ lw_all := lw_g (lw_at lw_ms 0 rfl) rfl
theorem qs1 : (Cond.selects "CuckooByPost" ⟨"CuckooByPost", "readsNest", "()Z"⟩ ⟨"CuckooByPost", "readsNest", "()Z"⟩) ∈ lw_all := lw_g (lw_at lw_ms 1 rfl) rfl
theorem qs2 : (Cond.selects "CuckooByPost" ⟨"CuckooByPost", "takesOf", "(Ljava/lang/String;)I"⟩ ⟨"CuckooByPost", "takesOf", "(Ljava/lang/String;)I"⟩) ∈ lw_all := lw_g (lw_at lw_ms 2 rfl) rfl
theorem qs3 : (Cond.selects "CuckooByPost" ⟨"CuckooByPost", "among", "(Ljava/lang/String;)I"⟩ ⟨"CuckooByPost", "among", "(Ljava/lang/String;)I"⟩) ∈ lw_all := lw_g (lw_at lw_ms 3 rfl) rfl
theorem qs4 : (Cond.selects "CuckooByPost" ⟨"CuckooByPost", "number", "(I)I"⟩ ⟨"CuckooByPost", "number", "(I)I"⟩) ∈ lw_all := lw_g (lw_at lw_ms 4 rfl) rfl
theorem qs5 : (Cond.selects "CuckooByPost" ⟨"CuckooByPost", "isDigit", "()Z"⟩ ⟨"CuckooByPost", "isDigit", "()Z"⟩) ∈ lw_all := lw_g (lw_at lw_ms 5 rfl) rfl
theorem qs6 : (Cond.selects "CuckooByPost" ⟨"CuckooByPost", "takes", "(C)Z"⟩ ⟨"CuckooByPost", "takes", "(C)Z"⟩) ∈ lw_all := lw_g (lw_at lw_ms 6 rfl) rfl
theorem qs7 : (Cond.selects "CuckooByPost" ⟨"CuckooByPost", "isAt", "(C)Z"⟩ ⟨"CuckooByPost", "isAt", "(C)Z"⟩) ∈ lw_all := lw_g (lw_at lw_ms 7 rfl) rfl
theorem qs8 : (Cond.selects "CuckooByPost" ⟨"CuckooByPost", "faultOf", "(IZ)I"⟩ ⟨"CuckooByPost", "faultOf", "(IZ)I"⟩) ∈ lw_all := lw_g (lw_at lw_ms 8 rfl) rfl
theorem qs9 : (Cond.selects "CuckooByPost" ⟨"CuckooByPost", "readsRule", "()I"⟩ ⟨"CuckooByPost", "readsRule", "()I"⟩) ∈ lw_all := lw_g (lw_at lw_ms 9 rfl) rfl
theorem qs10 : (Cond.selects "CuckooByPost" ⟨"CuckooByPost", "reads", "(I)LCuckooByPost$Node;"⟩ ⟨"CuckooByPost", "reads", "(I)LCuckooByPost$Node;"⟩) ∈ lw_all := lw_g (lw_at lw_ms 10 rfl) rfl
theorem qs11 : (Cond.selects "CuckooByPost" ⟨"CuckooByPost", "readsThing", "()LCuckooByPost$Node;"⟩ ⟨"CuckooByPost", "readsThing", "()LCuckooByPost$Node;"⟩) ∈ lw_all := lw_g (lw_at lw_ms 11 rfl) rfl
theorem qs12 : (Cond.selects "CuckooByPost" ⟨"CuckooByPost", "sumOf", "([I)I"⟩ ⟨"CuckooByPost", "sumOf", "([I)I"⟩) ∈ lw_all := lw_g (lw_at lw_ms 12 rfl) rfl
theorem qs13 : (Cond.selects "CuckooByPost" ⟨"CuckooByPost", "announces", "(LCuckooByPost$Spring;I)I"⟩ ⟨"CuckooByPost", "announces", "(LCuckooByPost$Spring;I)I"⟩) ∈ lw_all := lw_g (lw_at lw_ms 13 rfl) rfl
theorem qs14 : (Cond.selects "CuckooByPost" ⟨"CuckooByPost", "isNest", "(I)Z"⟩ ⟨"CuckooByPost", "isNest", "(I)Z"⟩) ∈ lw_all := lw_g (lw_at lw_ms 14 rfl) rfl
theorem qs15 : (Cond.selects "CuckooByPost" ⟨"CuckooByPost", "noticed", "(LCuckooByPost$Spring;)I"⟩ ⟨"CuckooByPost", "noticed", "(LCuckooByPost$Spring;)I"⟩) ∈ lw_all := lw_g (lw_at lw_ms 15 rfl) rfl
theorem qs16 : (Cond.selects "CuckooByPost" ⟨"CuckooByPost", "counts", "(I)I"⟩ ⟨"CuckooByPost", "counts", "(I)I"⟩) ∈ lw_all := lw_g (lw_at lw_ms 16 rfl) rfl
theorem qs17 : (Cond.selects "CuckooByPost" ⟨"CuckooByPost", "putsBy", "(LCuckooByPost$Spring;)V"⟩ ⟨"CuckooByPost", "putsBy", "(LCuckooByPost$Spring;)V"⟩) ∈ lw_all := lw_g (lw_at lw_ms 17 rfl) rfl
theorem qs18 : (Cond.selects "CuckooByPost" ⟨"CuckooByPost", "repliesTo", "(LCuckooByPost$Spring;I)I"⟩ ⟨"CuckooByPost", "repliesTo", "(LCuckooByPost$Spring;I)I"⟩) ∈ lw_all := lw_g (lw_at lw_ms 18 rfl) rfl
theorem qs19 : (Cond.selects "CuckooByPost" ⟨"CuckooByPost", "lays", "(LCuckooByPost$Spring;II)I"⟩ ⟨"CuckooByPost", "lays", "(LCuckooByPost$Spring;II)I"⟩) ∈ lw_all := lw_g (lw_at lw_ms 19 rfl) rfl
theorem qs20 : (Cond.selects "CuckooByPost" ⟨"CuckooByPost", "isInTime", "(LCuckooByPost$Spring;I)Z"⟩ ⟨"CuckooByPost", "isInTime", "(LCuckooByPost$Spring;I)Z"⟩) ∈ lw_all := lw_g (lw_at lw_ms 20 rfl) rfl
theorem qs21 : (Cond.selects "CuckooByPost" ⟨"CuckooByPost", "oddOf", "(LCuckooByPost$Spring;I)I"⟩ ⟨"CuckooByPost", "oddOf", "(LCuckooByPost$Spring;I)I"⟩) ∈ lw_all := lw_g (lw_at lw_ms 21 rfl) rfl
theorem qs22 : (Cond.selects "CuckooByPost" ⟨"CuckooByPost", "guests", "(LCuckooByPost$Spring;I)I"⟩ ⟨"CuckooByPost", "guests", "(LCuckooByPost$Spring;I)I"⟩) ∈ lw_all := lw_g (lw_at lw_ms 22 rfl) rfl
theorem qs23 : (Cond.selects "CuckooByPost" ⟨"CuckooByPost", "tints", "(LCuckooByPost$Spring;II)I"⟩ ⟨"CuckooByPost", "tints", "(LCuckooByPost$Spring;II)I"⟩) ∈ lw_all := lw_g (lw_at lw_ms 23 rfl) rfl
theorem qs24 : (Cond.selects "CuckooByPost" ⟨"CuckooByPost", "exchanges", "(LCuckooByPost$Spring;II)I"⟩ ⟨"CuckooByPost", "exchanges", "(LCuckooByPost$Spring;II)I"⟩) ∈ lw_all := lw_g (lw_at lw_ms 24 rfl) rfl
theorem qs25 : (Cond.selects "CuckooByPost" ⟨"CuckooByPost", "isPair", "(II)Z"⟩ ⟨"CuckooByPost", "isPair", "(II)Z"⟩) ∈ lw_all := lw_g (lw_at lw_ms 25 rfl) rfl
theorem qs26 : (Cond.selects "CuckooByPost" ⟨"CuckooByPost", "daysGo", "(LCuckooByPost$Spring;I)V"⟩ ⟨"CuckooByPost", "daysGo", "(LCuckooByPost$Spring;I)V"⟩) ∈ lw_all := lw_g (lw_at lw_ms 26 rfl) rfl
theorem qs27 : (Cond.selects "CuckooByPost" ⟨"CuckooByPost", "dayGoes", "(LCuckooByPost$Spring;)V"⟩ ⟨"CuckooByPost", "dayGoes", "(LCuckooByPost$Spring;)V"⟩) ∈ lw_all := lw_g (lw_at lw_ms 27 rfl) rfl
theorem qs28 : (Cond.selects "CuckooByPost" ⟨"CuckooByPost", "tells", "(J)V"⟩ ⟨"CuckooByPost", "tells", "(J)V"⟩) ∈ lw_all := lw_g (lw_at lw_ms 28 rfl) rfl
theorem qs29 : (Cond.selects "CuckooByPost" ⟨"CuckooByPost", "readsAct", "()Z"⟩ ⟨"CuckooByPost", "readsAct", "()Z"⟩) ∈ lw_all := lw_g (lw_at lw_ms 29 rfl) rfl
theorem qs30 : (Cond.selects "CuckooByPost" ⟨"CuckooByPost", "does", "(I)Z"⟩ ⟨"CuckooByPost", "does", "(I)Z"⟩) ∈ lw_all := lw_g (lw_at lw_ms 30 rfl) rfl
theorem qs31 : (Cond.selects "CuckooByPost" ⟨"CuckooByPost", "oddIf", "(II)I"⟩ ⟨"CuckooByPost", "oddIf", "(II)I"⟩) ∈ lw_all := lw_g (lw_at lw_ms 31 rfl) rfl
theorem qs32 : (Cond.selects "CuckooByPost" ⟨"CuckooByPost", "isFree", "(LCuckooByPost$Spring;I)Z"⟩ ⟨"CuckooByPost", "isFree", "(LCuckooByPost$Spring;I)Z"⟩) ∈ lw_all := lw_g (lw_at lw_ms 32 rfl) rfl
theorem qs33 : (Cond.selects "CuckooByPost" ⟨"CuckooByPost", "fliesIn", "(I)I"⟩ ⟨"CuckooByPost", "fliesIn", "(I)I"⟩) ∈ lw_all := lw_g (lw_at lw_ms 33 rfl) rfl
theorem qs34 : (Cond.selects "CuckooByPost" ⟨"CuckooByPost", "placesFrom", "(III)V"⟩ ⟨"CuckooByPost", "placesFrom", "(III)V"⟩) ∈ lw_all := lw_g (lw_at lw_ms 34 rfl) rfl
theorem qs35 : (Cond.selects "CuckooByPost" ⟨"CuckooByPost", "turnedNow", "()I"⟩ ⟨"CuckooByPost", "turnedNow", "()I"⟩) ∈ lw_all := lw_g (lw_at lw_ms 35 rfl) rfl
theorem qs36 : (Cond.selects "CuckooByPost" ⟨"CuckooByPost", "waitsFor", "(II)I"⟩ ⟨"CuckooByPost", "waitsFor", "(II)I"⟩) ∈ lw_all := lw_g (lw_at lw_ms 36 rfl) rfl
theorem qs37 : (Cond.selects "CuckooByPost" ⟨"CuckooByPost", "inTime", "(LCuckooByPost$Spring;)I"⟩ ⟨"CuckooByPost", "inTime", "(LCuckooByPost$Spring;)I"⟩) ∈ lw_all := lw_g (lw_at lw_ms 37 rfl) rfl
theorem qs38 : (Cond.selects "CuckooByPost" ⟨"CuckooByPost", "wanted", "(I)I"⟩ ⟨"CuckooByPost", "wanted", "(I)I"⟩) ∈ lw_all := lw_g (lw_at lw_ms 38 rfl) rfl
theorem qs39 : (Cond.selects "CuckooByPost" ⟨"CuckooByPost", "fedBy", "(II)I"⟩ ⟨"CuckooByPost", "fedBy", "(II)I"⟩) ∈ lw_all := lw_g (lw_at lw_ms 39 rfl) rfl
theorem qs40 : (Cond.selects "CuckooByPost" ⟨"CuckooByPost", "beside", "(I)I"⟩ ⟨"CuckooByPost", "beside", "(I)I"⟩) ∈ lw_all := lw_g (lw_at lw_ms 40 rfl) rfl
theorem qs41 : (Cond.selects "CuckooByPost" ⟨"CuckooByPost", "laysLodgings", "()V"⟩ ⟨"CuckooByPost", "laysLodgings", "()V"⟩) ∈ lw_all := lw_g (lw_at lw_ms 41 rfl) rfl
theorem qs42 : (Cond.selects "CuckooByPost" ⟨"CuckooByPost", "pointsTo", "(II)I"⟩ ⟨"CuckooByPost", "pointsTo", "(II)I"⟩) ∈ lw_all := lw_g (lw_at lw_ms 42 rfl) rfl
theorem qs43 : (Cond.selects "CuckooByPost" ⟨"CuckooByPost", "dislikes", "(II)I"⟩ ⟨"CuckooByPost", "dislikes", "(II)I"⟩) ∈ lw_all := lw_g (lw_at lw_ms 43 rfl) rfl
theorem qs44 : (Cond.selects "CuckooByPost" ⟨"CuckooByPost", "wouldHave", "(II)Z"⟩ ⟨"CuckooByPost", "wouldHave", "(II)Z"⟩) ∈ lw_all := lw_g (lw_at lw_ms 44 rfl) rfl
theorem qs45 : (Cond.selects "CuckooByPost" ⟨"CuckooByPost", "fitting", "()I"⟩ ⟨"CuckooByPost", "fitting", "()I"⟩) ∈ lw_all := lw_g (lw_at lw_ms 45 rfl) rfl
theorem qs46 : (Cond.selects "CuckooByPost" ⟨"CuckooByPost", "isSo", "(III)Z"⟩ ⟨"CuckooByPost", "isSo", "(III)Z"⟩) ∈ lw_all := lw_g (lw_at lw_ms 46 rfl) rfl
theorem qs47 : (Cond.selects "CuckooByPost" ⟨"CuckooByPost", "flownIn", "(I)I"⟩ ⟨"CuckooByPost", "flownIn", "(I)I"⟩) ∈ lw_all := lw_g (lw_at lw_ms 47 rfl) rfl
theorem qs48 : (Cond.selects "CuckooByPost" ⟨"CuckooByPost", "draws", "(I)I"⟩ ⟨"CuckooByPost", "draws", "(I)I"⟩) ∈ lw_all := lw_g (lw_at lw_ms 48 rfl) rfl
theorem qs49 : (Cond.selects "java/lang/Throwable" ⟨"java/lang/Throwable", "fillInStackTrace", "(I)Ljava/lang/Throwable;"⟩ ⟨"java/lang/Throwable", "fillInStackTrace", "(I)Ljava/lang/Throwable;"⟩) ∈ lw_all := lw_g (lw_at lw_ms 49 rfl) rfl
theorem qs50 : (Cond.selects "CuckooByPostModel" ⟨"CuckooByPostModel", "beginText", "(I)V"⟩ ⟨"CuckooByPostModel", "beginText", "(I)V"⟩) ∈ lw_all := lw_g (lw_at lw_ms 50 rfl) rfl
theorem qs51 : (Cond.selects "CuckooByPostModel" ⟨"CuckooByPostModel", "begin", "([BII)V"⟩ ⟨"CuckooByPostModel", "begin", "([BII)V"⟩) ∈ lw_all := lw_g (lw_at lw_ms 51 rfl) rfl
theorem qs52 : (Cond.selects "CuckooByPostModel" ⟨"CuckooByPostModel", "fine", "()Z"⟩ ⟨"CuckooByPostModel", "fine", "()Z"⟩) ∈ lw_all := lw_g (lw_at lw_ms 52 rfl) rfl
theorem qs53 : (Cond.selects "CuckooByPostModel" ⟨"CuckooByPostModel", "fault", "(I)V"⟩ ⟨"CuckooByPostModel", "fault", "(I)V"⟩) ∈ lw_all := lw_g (lw_at lw_ms 53 rfl) rfl
theorem qs54 : (Cond.selects "CuckooByPostModel" ⟨"CuckooByPostModel", "readNest", "(I)V"⟩ ⟨"CuckooByPostModel", "readNest", "(I)V"⟩) ∈ lw_all := lw_g (lw_at lw_ms 54 rfl) rfl
theorem qs55 : (Cond.selects "CuckooByPostModel" ⟨"CuckooByPostModel", "here", "()I"⟩ ⟨"CuckooByPostModel", "here", "()I"⟩) ∈ lw_all := lw_g (lw_at lw_ms 55 rfl) rfl
theorem qs56 : (Cond.selects "CuckooByPostModel" ⟨"CuckooByPostModel", "oneOf", "(CI)I"⟩ ⟨"CuckooByPostModel", "oneOf", "(CI)I"⟩) ∈ lw_all := lw_g (lw_at lw_ms 56 rfl) rfl
theorem qs57 : (Cond.selects "CuckooByPostModel" ⟨"CuckooByPostModel", "passes", "(C)Z"⟩ ⟨"CuckooByPostModel", "passes", "(C)Z"⟩) ∈ lw_all := lw_g (lw_at lw_ms 57 rfl) rfl
theorem qs58 : (Cond.selects "CuckooByPostModel" ⟨"CuckooByPostModel", "wasRight", "()Z"⟩ ⟨"CuckooByPostModel", "wasRight", "()Z"⟩) ∈ lw_all := lw_g (lw_at lw_ms 58 rfl) rfl
theorem qs59 : (Cond.selects "CuckooByPostModel" ⟨"CuckooByPostModel", "readRule", "()Z"⟩ ⟨"CuckooByPostModel", "readRule", "()Z"⟩) ∈ lw_all := lw_g (lw_at lw_ms 59 rfl) rfl
theorem qs60 : (Cond.selects "CuckooByPostModel" ⟨"CuckooByPostModel", "held", "(I)I"⟩ ⟨"CuckooByPostModel", "held", "(I)I"⟩) ∈ lw_all := lw_g (lw_at lw_ms 60 rfl) rfl
theorem qs61 : (Cond.selects "CuckooByPostModel" ⟨"CuckooByPostModel", "sum", "(I)I"⟩ ⟨"CuckooByPostModel", "sum", "(I)I"⟩) ∈ lw_all := lw_g (lw_at lw_ms 61 rfl) rfl
theorem qs62 : (Cond.selects "CuckooByPostModel" ⟨"CuckooByPostModel", "product", "(I)I"⟩ ⟨"CuckooByPostModel", "product", "(I)I"⟩) ∈ lw_all := lw_g (lw_at lw_ms 62 rfl) rfl
theorem qs63 : (Cond.selects "CuckooByPostModel" ⟨"CuckooByPostModel", "thing", "(I)I"⟩ ⟨"CuckooByPostModel", "thing", "(I)I"⟩) ∈ lw_all := lw_g (lw_at lw_ms 63 rfl) rfl
theorem qs64 : (Cond.selects "CuckooByPostModel" ⟨"CuckooByPostModel", "need", "(C)V"⟩ ⟨"CuckooByPostModel", "need", "(C)V"⟩) ∈ lw_all := lw_g (lw_at lw_ms 64 rfl) rfl
theorem qs65 : (Cond.selects "CuckooByPostModel" ⟨"CuckooByPostModel", "number", "(I)I"⟩ ⟨"CuckooByPostModel", "number", "(I)I"⟩) ∈ lw_all := lw_g (lw_at lw_ms 65 rfl) rfl
theorem qs66 : (Cond.selects "CuckooByPostModel" ⟨"CuckooByPostModel", "isNest", "(I)Z"⟩ ⟨"CuckooByPostModel", "isNest", "(I)Z"⟩) ∈ lw_all := lw_g (lw_at lw_ms 66 rfl) rfl
theorem qs67 : (Cond.selects "CuckooByPostModel" ⟨"CuckooByPostModel", "lost", "()I"⟩ ⟨"CuckooByPostModel", "lost", "()I"⟩) ∈ lw_all := lw_g (lw_at lw_ms 67 rfl) rfl
theorem qs68 : (Cond.selects "CuckooByPostModel" ⟨"CuckooByPostModel", "isInTime", "([II)Z"⟩ ⟨"CuckooByPostModel", "isInTime", "([II)Z"⟩) ∈ lw_all := lw_g (lw_at lw_ms 68 rfl) rfl
theorem qs69 : (Cond.selects "CuckooByPostModel" ⟨"CuckooByPostModel", "oddNow", "([II)I"⟩ ⟨"CuckooByPostModel", "oddNow", "([II)I"⟩) ∈ lw_all := lw_g (lw_at lw_ms 69 rfl) rfl
theorem qs70 : (Cond.selects "CuckooByPostModel" ⟨"CuckooByPostModel", "guests", "([I)I"⟩ ⟨"CuckooByPostModel", "guests", "([I)I"⟩) ∈ lw_all := lw_g (lw_at lw_ms 70 rfl) rfl
theorem qs71 : (Cond.selects "CuckooByPostModel" ⟨"CuckooByPostModel", "oddOf", "([IIIIII)I"⟩ ⟨"CuckooByPostModel", "oddOf", "([IIIIII)I"⟩) ∈ lw_all := lw_g (lw_at lw_ms 71 rfl) rfl
theorem qs72 : (Cond.selects "CuckooByPostModel" ⟨"CuckooByPostModel", "refusesAnnounce", "([II)I"⟩ ⟨"CuckooByPostModel", "refusesAnnounce", "([II)I"⟩) ∈ lw_all := lw_g (lw_at lw_ms 72 rfl) rfl
theorem qs73 : (Cond.selects "CuckooByPostModel" ⟨"CuckooByPostModel", "remember", "([I)V"⟩ ⟨"CuckooByPostModel", "remember", "([I)V"⟩) ∈ lw_all := lw_g (lw_at lw_ms 73 rfl) rfl
theorem qs74 : (Cond.selects "CuckooByPostModel" ⟨"CuckooByPostModel", "notices", "([I)I"⟩ ⟨"CuckooByPostModel", "notices", "([I)I"⟩) ∈ lw_all := lw_g (lw_at lw_ms 74 rfl) rfl
theorem qs75 : (Cond.selects "CuckooByPostModel" ⟨"CuckooByPostModel", "refusesReply", "([II)I"⟩ ⟨"CuckooByPostModel", "refusesReply", "([II)I"⟩) ∈ lw_all := lw_g (lw_at lw_ms 75 rfl) rfl
theorem qs76 : (Cond.selects "CuckooByPostModel" ⟨"CuckooByPostModel", "refusesLay", "([III)I"⟩ ⟨"CuckooByPostModel", "refusesLay", "([III)I"⟩) ∈ lw_all := lw_g (lw_at lw_ms 76 rfl) rfl
theorem qs77 : (Cond.selects "CuckooByPostModel" ⟨"CuckooByPostModel", "refusesTint", "(II)I"⟩ ⟨"CuckooByPostModel", "refusesTint", "(II)I"⟩) ∈ lw_all := lw_g (lw_at lw_ms 77 rfl) rfl
theorem qs78 : (Cond.selects "CuckooByPostModel" ⟨"CuckooByPostModel", "areTwo", "(II)Z"⟩ ⟨"CuckooByPostModel", "areTwo", "(II)Z"⟩) ∈ lw_all := lw_g (lw_at lw_ms 78 rfl) rfl
theorem qs79 : (Cond.selects "CuckooByPostModel" ⟨"CuckooByPostModel", "goDays", "([II)V"⟩ ⟨"CuckooByPostModel", "goDays", "([II)V"⟩) ∈ lw_all := lw_g (lw_at lw_ms 79 rfl) rfl
theorem qs80 : (Cond.selects "CuckooByPostModel" ⟨"CuckooByPostModel", "goDay", "([I)V"⟩ ⟨"CuckooByPostModel", "goDay", "([I)V"⟩) ∈ lw_all := lw_g (lw_at lw_ms 80 rfl) rfl
theorem qs81 : (Cond.selects "CuckooByPostModel" ⟨"CuckooByPostModel", "outs", "([I)I"⟩ ⟨"CuckooByPostModel", "outs", "([I)I"⟩) ∈ lw_all := lw_g (lw_at lw_ms 81 rfl) rfl
theorem qs82 : (Cond.selects "CuckooByPostModel" ⟨"CuckooByPostModel", "tell", "(J)V"⟩ ⟨"CuckooByPostModel", "tell", "(J)V"⟩) ∈ lw_all := lw_g (lw_at lw_ms 82 rfl) rfl
theorem qs83 : (Cond.selects "CuckooByPostModel" ⟨"CuckooByPostModel", "readAct", "(I)V"⟩ ⟨"CuckooByPostModel", "readAct", "(I)V"⟩) ∈ lw_all := lw_g (lw_at lw_ms 83 rfl) rfl
theorem qs84 : (Cond.selects "CuckooByPostModel" ⟨"CuckooByPostModel", "act", "(III)Z"⟩ ⟨"CuckooByPostModel", "act", "(III)Z"⟩) ∈ lw_all := lw_g (lw_at lw_ms 84 rfl) rfl
theorem qs85 : (Cond.selects "CuckooByPostModel" ⟨"CuckooByPostModel", "oddLaid", "([III)I"⟩ ⟨"CuckooByPostModel", "oddLaid", "([III)I"⟩) ∈ lw_all := lw_g (lw_at lw_ms 85 rfl) rfl
theorem qs86 : (Cond.selects "CuckooByPostModel" ⟨"CuckooByPostModel", "fliesIn", "([II)I"⟩ ⟨"CuckooByPostModel", "fliesIn", "([II)I"⟩) ∈ lw_all := lw_g (lw_at lw_ms 86 rfl) rfl
theorem qs87 : (Cond.selects "CuckooByPostModel" ⟨"CuckooByPostModel", "openFree", "()I"⟩ ⟨"CuckooByPostModel", "openFree", "()I"⟩) ∈ lw_all := lw_g (lw_at lw_ms 87 rfl) rfl
theorem qs88 : (Cond.selects "CuckooByPostModel" ⟨"CuckooByPostModel", "goPlace", "(III)V"⟩ ⟨"CuckooByPostModel", "goPlace", "(III)V"⟩) ∈ lw_all := lw_g (lw_at lw_ms 88 rfl) rfl
theorem qs89 : (Cond.selects "CuckooByPostModel" ⟨"CuckooByPostModel", "oddTinted", "(II)I"⟩ ⟨"CuckooByPostModel", "oddTinted", "(II)I"⟩) ∈ lw_all := lw_g (lw_at lw_ms 89 rfl) rfl
theorem qs90 : (Cond.selects "CuckooByPostModel" ⟨"CuckooByPostModel", "daysBy", "(II)I"⟩ ⟨"CuckooByPostModel", "daysBy", "(II)I"⟩) ∈ lw_all := lw_g (lw_at lw_ms 90 rfl) rfl
theorem qs91 : (Cond.selects "CuckooByPostModel" ⟨"CuckooByPostModel", "young", "()I"⟩ ⟨"CuckooByPostModel", "young", "()I"⟩) ∈ lw_all := lw_g (lw_at lw_ms 91 rfl) rfl
theorem qs92 : (Cond.selects "CuckooByPostModel" ⟨"CuckooByPostModel", "givenBy", "(II)I"⟩ ⟨"CuckooByPostModel", "givenBy", "(II)I"⟩) ∈ lw_all := lw_g (lw_at lw_ms 92 rfl) rfl
theorem qs93 : (Cond.selects "CuckooByPostModel" ⟨"CuckooByPostModel", "layLodgings", "()V"⟩ ⟨"CuckooByPostModel", "layLodgings", "()V"⟩) ∈ lw_all := lw_g (lw_at lw_ms 93 rfl) rfl
theorem qs94 : (Cond.selects "CuckooByPostModel" ⟨"CuckooByPostModel", "wish", "(II)I"⟩ ⟨"CuckooByPostModel", "wish", "(II)I"⟩) ∈ lw_all := lw_g (lw_at lw_ms 94 rfl) rfl
theorem qs95 : (Cond.selects "CuckooByPostModel" ⟨"CuckooByPostModel", "worse", "(II)I"⟩ ⟨"CuckooByPostModel", "worse", "(II)I"⟩) ∈ lw_all := lw_g (lw_at lw_ms 95 rfl) rfl
theorem qs96 : (Cond.selects "CuckooByPostModel" ⟨"CuckooByPostModel", "fitting", "()I"⟩ ⟨"CuckooByPostModel", "fitting", "()I"⟩) ∈ lw_all := lw_g (lw_at lw_ms 96 rfl) rfl
theorem qs97 : (Cond.selects "CuckooByPostModel" ⟨"CuckooByPostModel", "fits", "(III)Z"⟩ ⟨"CuckooByPostModel", "fits", "(III)Z"⟩) ∈ lw_all := lw_g (lw_at lw_ms 97 rfl) rfl
theorem qs98 : (Cond.selects "CuckooByPostModel" ⟨"CuckooByPostModel", "flownIn60", "()I"⟩ ⟨"CuckooByPostModel", "flownIn60", "()I"⟩) ∈ lw_all := lw_g (lw_at lw_ms 98 rfl) rfl
theorem qs99 : (Cond.selects "CuckooByPostModel" ⟨"CuckooByPostModel", "draw", "(I)I"⟩ ⟨"CuckooByPostModel", "draw", "(I)I"⟩) ∈ lw_all := lw_g (lw_at lw_ms 99 rfl) rfl
theorem qs100 : (Cond.selects "CuckooByPostModel" ⟨"CuckooByPostModel", "allOwn", "()I"⟩ ⟨"CuckooByPostModel", "allOwn", "()I"⟩) ∈ lw_all := lw_g (lw_at lw_ms 100 rfl) rfl
