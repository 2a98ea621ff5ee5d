/-! AM, part 3: what a memory of the abstract machine says of a heap -/
set_option maxRecDepth 100000
def am_A (z0 : Nat) : Nat → Prop := fun q => z0 ≤ q
/-- what a Node's own this$0 holds: the addresses tell it, beyond the handles -/
def am_gv (ρ : Nat → Nat) (h : Nat) : Value := if ρ (500000 + h) = 0 then .null else .ref (ρ (500000 + h) - 1)
def am_fval (μ : am_M) (ρ : Nat → Nat) (ci h k : Nat) : Value := if am_fk ci k = 3 then va_rf ((am_R μ h k).map ρ) else if am_fk ci k = 4 then am_gv ρ h else .int (am_I μ h k)
def am_cell (μ : am_M) (ρ : Nat → Nat) (Ch : Nat → ClassId) (h : Nat) : va_E :=
  if (am_k μ h).1 < 7 then .inr ((am_k μ h).1, (List.range (am_N (am_k μ h).1)).map (am_fval μ ρ (am_k μ h).1 h))
  else if (am_k μ h).1 = 12 then .inl (Ch h, (am_k μ h).2, .inr (.inl (am_L μ h)))
  else if (am_k μ h).1 = 14 then .inl (Ch h, (am_k μ h).2, .inr (.inr (.inr (.inr (fun k => (am_R μ h k).map ρ)))))
  else .inl (Ch h, (am_k μ h).2, .inl (am_I μ h))
def am_w (μ : am_M) (ρ : Nat → Nat) (Ch : Nat → ClassId) : va_W := (List.range (am_n μ)).map (fun h => (ρ h, am_cell μ ρ Ch h))
def am_cv (ρ : Nat → Nat) (v : Value) : Value := match v with
  | .ref h => .ref (ρ h)
  | v => v
def am_Ok (n : Nat) (v : Value) : Prop := match v with
  | .ref h => h < n ∨ am_B ≤ h
  | .double _ => False
  | _ => True
def am_OkL (n : Nat) (l : List Value) : Prop := ∀ v ∈ l, am_Ok n v
def am_k0 (L h : Nat) : Nat × Nat := if h = am_SC then (15, L) else if h < am_B + 16 then (if (h - am_B) % 2 = 0 then (16, 0) else (17, am_len.getD ((h - am_B) / 2) 0)) else (99, 0)
def am_I0 (xs : Nat → Int32) (h k : Nat) : Int32 := if h = am_SC then xs k else if h < am_B + 16 then (if (h - am_B) % 2 = 0 then 0 else (am_byt.getD ((h - am_B) / 2) []).getD k 0) else 0
def am_R0 (h k : Nat) : Option Nat := if h < am_B + 16 ∧ (h - am_B) % 2 = 0 ∧ k = 0 then some (h + 1) else none
def am_WF (L : Nat) (xs : Nat → Int32) (μ : am_M) : Prop :=
  (am_n μ ≤ 400001 ∧ ∀ h, h < am_n μ → (am_k μ h).1 < 15) ∧ (∀ h, am_n μ ≤ h → h < am_B → am_k μ h = (99, 0)) ∧ (∀ h k v, h < am_B → am_R μ h k = some v → v < am_n μ) ∧
  ∀ h, am_B ≤ h → am_k μ h = am_k0 L h ∧ (∀ k, am_I μ h k = am_I0 xs h k) ∧ ∀ k, am_R μ h k = am_R0 h k
def am_Rep (D : va_G) (z0 L : Nat) (xs : Nat → Int32) (adS : Nat → Nat) (μ : am_M) (ρ : Nat → Nat) (Ch : Nat → ClassId) (s : State) (H : Heap) : Prop :=
  va_P D am_cl (am_w μ ρ Ch) H ∧ va_D (am_A z0) (am_w μ ρ Ch) ∧ (∀ h, h < am_n μ → ∀ ty, am_aty (am_k μ h).1 = some ty → ArrOfT s (Ch h) ty ∧ va_RA s (Ch h) ty) ∧ am_WF L xs μ ∧ ∀ j, ρ (am_B + j) = adS j
def am_agr (n : Nat) (ρ ρ1 : Nat → Nat) : Prop := ∀ h, h < n → ρ1 h = ρ h
def am_LV (lsA : Array Slot) (nL : Nat) (ls : List Value) (ρ : Nat → Nat) : Prop := lsA.size = nL ∧ ls.length ≤ nL ∧ lv_wf lsA ∧ ∀ (i : Nat) (v : Value), ls[i]? = some v → (∀ q, v ≠ .retAddr q) → lsA[i]? = some (.val (am_cv ρ v))
theorem am_k0_tag {L h : Nat} : 15 ≤ (am_k0 L h).1 := by
  unfold am_k0
  split
  · exact Nat.le_refl 15
  · split
    · split
      · exact Nat.le_succ 15
      · exact Nat.le_add_right 15 2
    · exact Nat.le_add_right 15 84
theorem am_lt {L : Nat} {xs : Nat → Int32} {μ : am_M} (hW : am_WF L xs μ) {h : Nat} (ht : (am_k μ h).1 < 15) : h < am_n μ := by
  rcases Nat.lt_or_ge h (am_n μ) with q | q
  · exact q
  · rcases Nat.lt_or_ge h am_B with q2 | q2
    · rw [hW.2.1 h q q2] at ht
      exact absurd ht (by decide)
    · rw [(hW.2.2.2 h q2).1] at ht
      exact absurd ht (Nat.not_lt.mpr am_k0_tag)
theorem am_nB {L : Nat} {xs : Nat → Int32} {μ : am_M} (hW : am_WF L xs μ) {h : Nat} (ht : h < am_n μ) : h < am_B := Nat.lt_of_lt_of_le ht (Nat.le_trans hW.1.1 (by decide))
theorem am_w_get {μ : am_M} {ρ : Nat → Nat} {Ch : Nat → ClassId} {h : Nat} (hh : h < am_n μ) : (am_w μ ρ Ch)[h]? = some (ρ h, am_cell μ ρ Ch h) := by
  unfold am_w
  rw [List.getElem?_map, List.getElem?_range hh]
  rfl
theorem am_w_len {μ : am_M} {ρ : Nat → Nat} {Ch : Nat → ClassId} : (am_w μ ρ Ch).length = am_n μ := by simp [am_w]
theorem am_w_set {μ μ' : am_M} {ρ : Nat → Nat} {Ch : Nat → ClassId} {h : Nat} (hn : am_n μ' = am_n μ) (hc : ∀ j, j ≠ h → am_cell μ' ρ Ch j = am_cell μ ρ Ch j) : (am_w μ ρ Ch).set h (ρ h, am_cell μ' ρ Ch h) = am_w μ' ρ Ch := by
  apply List.ext_getElem?
  intro j
  by_cases hj : j < am_n μ
  · rw [am_w_get (by rw [hn]; exact hj)]
    by_cases hjh : j = h
    · subst hjh
      rw [List.getElem?_set_self (by rw [am_w_len]; exact hj)]
    · rw [List.getElem?_set_ne (Ne.symm hjh), am_w_get hj, hc j hjh]
  · rw [List.getElem?_eq_none (by rw [List.length_set, am_w_len]; omega), List.getElem?_eq_none (by rw [am_w_len, hn]; omega)]
theorem am_w_push {μ μ' : am_M} {ρ ρ' : Nat → Nat} {Ch Ch' : Nat → ClassId} {a : Nat} {e : va_E} (hn : am_n μ' = am_n μ + 1) (hc : ∀ j, j < am_n μ → ρ' j = ρ j ∧ am_cell μ' ρ' Ch' j = am_cell μ ρ Ch j) (ha : ρ' (am_n μ) = a) (he : am_cell μ' ρ' Ch' (am_n μ) = e) : am_w μ ρ Ch ++ [(a, e)] = am_w μ' ρ' Ch' := by
  unfold am_w
  rw [hn, List.range_succ, List.map_append]
  congr 1
  · apply List.map_congr_left
    intro j hj
    obtain ⟨h1, h2⟩ := hc j (List.mem_range.mp hj)
    rw [h1, h2]
  · simp only [List.map_cons, List.map_nil]
    rw [ha, he]
theorem am_cv_agr {n : Nat} {ρ ρ1 adS : Nat → Nat} (h : am_agr n ρ ρ1) (e : ∀ j, ρ (am_B + j) = adS j) (e1 : ∀ j, ρ1 (am_B + j) = adS j) {v : Value} (hv : am_Ok n v) : am_cv ρ1 v = am_cv ρ v := by
  cases v with
  | ref x =>
    show Value.ref (ρ1 x) = Value.ref (ρ x)
    rcases hv with q | q
    · rw [h x q]
    · obtain ⟨j, rfl⟩ := Nat.exists_eq_add_of_le q
      rw [e j, e1 j]
  | _ => rfl
theorem am_map_agr {n : Nat} {ρ ρ1 adS : Nat → Nat} (h : am_agr n ρ ρ1) (e : ∀ j, ρ (am_B + j) = adS j) (e1 : ∀ j, ρ1 (am_B + j) = adS j) {l : List Value} (hv : am_OkL n l) : l.map (am_cv ρ1) = l.map (am_cv ρ) := List.map_congr_left (fun v hm => am_cv_agr h e e1 (hv v hm))
theorem am_Ok.mono {n n1 : Nat} (h : n ≤ n1) {v : Value} (hv : am_Ok n v) : am_Ok n1 v := by
  cases v with
  | ref x => exact hv.imp (fun q => Nat.lt_of_lt_of_le q h) id
  | double x => exact hv
  | _ => trivial
theorem am_OkL.mono {n n1 : Nat} (h : n ≤ n1) {l : List Value} (hv : am_OkL n l) : am_OkL n1 l := fun v hm => (hv v hm).mono h
theorem am_OkL.cons {n : Nat} {v : Value} {l : List Value} (h : am_Ok n v) (hl : am_OkL n l) : am_OkL n (v :: l) := fun w hw => by
  rcases List.mem_cons.mp hw with e | e
  · rw [e]; exact h
  · exact hl w e
theorem am_OkL.tail {n : Nat} {v : Value} {l : List Value} (h : am_OkL n (v :: l)) : am_OkL n l := fun w hw => h w (List.mem_cons_of_mem _ hw)
theorem am_OkL.head {n : Nat} {v : Value} {l : List Value} (h : am_OkL n (v :: l)) : am_Ok n v := h v List.mem_cons_self
theorem am_OkL.nil {n : Nat} : am_OkL n [] := fun _ h => by cases h
theorem am_cat_map {ρ : Nat → Nat} (l : List Value) : ((l.map (am_cv ρ)).map fun v => v.category).sum = am_cat l := by
  unfold am_cat
  rw [List.map_map]
  congr 1
  apply List.map_congr_left
  intro v _
  cases v <;> rfl
theorem am_cv_cat {ρ : Nat → Nat} (v : Value) : (am_cv ρ v).category = v.category := by cases v <;> rfl
theorem am_cv_rf {ρ : Nat → Nat} (r : Option Nat) : am_cv ρ (va_rf r) = va_rf (r.map ρ) := by cases r <;> rfl
theorem am_LV.agr {lsA : Array Slot} {nL n : Nat} {ls : List Value} {ρ ρ1 adS : Nat → Nat} (h : am_LV lsA nL ls ρ) (ha : am_agr n ρ ρ1) (e : ∀ j, ρ (am_B + j) = adS j) (e1 : ∀ j, ρ1 (am_B + j) = adS j) (hv : am_OkL n ls) : am_LV lsA nL ls ρ1 := ⟨h.1, h.2.1, h.2.2.1, fun i v hi hr => by rw [am_cv_agr ha e e1 (hv v (List.mem_of_getElem? hi))]; exact h.2.2.2 i v hi hr⟩
theorem am_agr.trans {n n1 : Nat} {ρ ρ1 ρ2 : Nat → Nat} (h : am_agr n ρ ρ1) (h1 : am_agr n1 ρ1 ρ2) (hn : n ≤ n1) : am_agr n ρ ρ2 := fun x hx => by rw [h1 x (Nat.lt_of_lt_of_le hx hn), h x hx]
theorem am_agr.rf {n : Nat} {ρ : Nat → Nat} : am_agr n ρ ρ := fun _ _ => rfl
theorem am_Rep.moved {D : va_G} {z0 L : Nat} {xs : Nat → Int32} {adS : Nat → Nat} {μ : am_M} {ρ : Nat → Nat} {Ch : Nat → ClassId} {u U : State} {H : Heap} (hvm : u.vm.Alike U.vm) (h : am_Rep D z0 L xs adS μ ρ Ch u H) : am_Rep D z0 L xs adS μ ρ Ch U H :=
  ⟨h.1, h.2.1, fun x hx ty ht => ⟨arrOfT_moved hvm (h.2.2.1 x hx ty ht).1, (h.2.2.1 x hx ty ht).2.moved hvm⟩, h.2.2.2⟩
/-- locals as the rows list them -/
def am_ll (ρ : Nat → Nat) : Nat → List Value → List (Nat × Value)
  | _, [] => []
  | i, v :: l => (match v with
    | .retAddr _ => am_ll ρ (i + 1) l
    | v => (i, am_cv ρ v) :: am_ll ρ (i + 1) l)
theorem am_ll_mem {ρ : Nat → Nat} {q : Nat × Value} : ∀ (l : List Value) (i : Nat), q ∈ am_ll ρ i l ↔ ∃ (j : Nat) (v : Value), l[j]? = some v ∧ (∀ x, v ≠ .retAddr x) ∧ q = (i + j, am_cv ρ v) := by
  intro l
  induction l with
  | nil =>
    intro i
    constructor
    · intro h; cases h
    · rintro ⟨j, v, h, -⟩; cases h
  | cons w l ih =>
    intro i
    have key : ∀ (P : Prop), (P ↔ ∃ (j : Nat) (v : Value), l[j]? = some v ∧ (∀ x, v ≠ .retAddr x) ∧ q = (i + 1 + j, am_cv ρ v)) → (((∀ x, w ≠ .retAddr x) ∧ q = (i, am_cv ρ w)) ∨ P ↔ ∃ (j : Nat) (v : Value), (w :: l)[j]? = some v ∧ (∀ x, v ≠ .retAddr x) ∧ q = (i + j, am_cv ρ v)) := by
      intro P hP
      rw [hP]
      constructor
      · rintro (⟨h1, h2⟩ | ⟨j, v, h1, h2, h3⟩)
        · exact ⟨0, w, rfl, h1, h2⟩
        · exact ⟨j + 1, v, h1, h2, by rw [h3]; congr 1; omega⟩
      · rintro ⟨j, v, h1, h2, h3⟩
        cases j with
        | zero => cases h1; exact Or.inl ⟨h2, h3⟩
        | succ j => exact Or.inr ⟨j, v, h1, h2, by rw [h3]; congr 1; omega⟩
    have k2 := key _ (ih (i + 1))
    rw [← k2]
    cases w <;> simp [am_ll]
theorem am_LV.has {lsA : Array Slot} {nL : Nat} {ls : List Value} {ρ : Nat → Nat} (h : am_LV lsA nL ls ρ) : lv_has lsA nL (am_ll ρ 0 ls) := ⟨h.1, h.2.2.1, fun q hq => by
  obtain ⟨j, v, h1, h2, rfl⟩ := (am_ll_mem ls 0).mp hq
  rw [Nat.zero_add]
  exact h.2.2.2 j v h1 h2⟩
theorem am_LV.of {lsA : Array Slot} {nL : Nat} {ls : List Value} {ρ : Nat → Nat} {lv : List (Nat × Value)} (h : lv_has lsA nL lv) (hl : ls.length ≤ nL) (hs : ∀ (j : Nat) (v : Value), ls[j]? = some v → (∀ x, v ≠ .retAddr x) → (j, am_cv ρ v) ∈ lv) : am_LV lsA nL ls ρ :=
  ⟨h.1, hl, h.2.1, fun i v h1 h2 => h.2.2 _ (hs i v h1 h2)⟩
theorem am_kp_len : ∀ (l : List Value) (i : Nat), (am_kp l i).length = l.length := by
  intro l i
  induction l, i using am_kp.induct <;> simp_all [am_kp]
theorem am_kp_get : ∀ (l : List Value) (i j : Nat), (am_kp l i)[j]? = if j + 1 = i then (l[j]?).map am_kill else l[j]? := by
  intro l
  induction l with
  | nil => intro i j; cases i <;> simp [am_kp]
  | cons x l ih =>
    intro i j
    match i with
    | 0 => simp [am_kp]
    | 1 =>
      cases j with
      | zero => simp [am_kp]
      | succ j => simp [am_kp]
    | i + 2 =>
      cases j with
      | zero => simp [am_kp]
      | succ j => simpa [am_kp] using ih (i + 1) j
theorem am_kill_of {v w : Value} (h : am_kill v = w) (hr : ∀ x, w ≠ .retAddr x) : v = w ∧ ¬ w.category = 2 := by
  cases v <;> simp only [am_kill] at h <;> first | exact absurd h.symm (hr 0) | (subst h; exact ⟨rfl, by simp [Value.category]⟩)
theorem am_kp_of {w : Value} {l : List Value} {i j : Nat} (h : (am_kp l i)[j]? = some w) (hr : ∀ x, w ≠ .retAddr x) : l[j]? = some w ∧ ¬ (j + 1 = i ∧ w.category = 2) := by
  rw [am_kp_get] at h
  by_cases hj : j + 1 = i
  · rw [if_pos hj, Option.map_eq_some_iff] at h
    obtain ⟨v, h1, h2⟩ := h
    obtain ⟨rfl, h3⟩ := am_kill_of h2 hr
    exact ⟨h1, fun q => h3 q.2⟩
  · rw [if_neg hj] at h
    exact ⟨h, fun q => hj q.1⟩
theorem am_st1_get {v w : Value} {l : List Value} {i j : Nat} (h : (am_st1 l i v)[j]? = some w) (hr : ∀ x, w ≠ .retAddr x) : (j = i ∧ w = v) ∨ (j ≠ i ∧ l[j]? = some w ∧ ¬ (j + 1 = i ∧ w.category = 2)) := by
  unfold am_st1 at h
  by_cases hj : j = i
  · subst hj
    rw [List.getElem?_set] at h
    simp at h
    exact Or.inl ⟨rfl, h.2.symm⟩
  · rw [List.getElem?_set_ne (Ne.symm hj)] at h
    exact Or.inr ⟨hj, am_kp_of h hr⟩
theorem am_st2_get {v w : Value} {l : List Value} {i j : Nat} (h : (am_st2 l i v)[j]? = some w) (hr : ∀ x, w ≠ .retAddr x) : (j = i ∧ w = v) ∨ (j ≠ i ∧ j ≠ i + 1 ∧ l[j]? = some w ∧ ¬ (j + 1 = i ∧ w.category = 2)) := by
  unfold am_st2 at h
  by_cases hj1 : j = i + 1
  · subst hj1
    rw [List.getElem?_set] at h
    simp at h
    exact absurd h.2.symm (hr 0)
  · rw [List.getElem?_set_ne (Ne.symm hj1)] at h
    by_cases hj : j = i
    · subst hj
      rw [List.getElem?_set] at h
      simp at h
      exact Or.inl ⟨rfl, h.2.symm⟩
    · rw [List.getElem?_set_ne (Ne.symm hj)] at h
      exact Or.inr ⟨hj, hj1, am_kp_of h hr⟩
theorem am_LV.st1 {lsA ls' : Array Slot} {nL i : Nat} {ls : List Value} {ρ : Nat → Nat} {v : Value} (hl : ls.length ≤ nL) (h : lv_has ls' nL ((i, am_cv ρ v) :: (am_ll ρ 0 ls).filter (fun q => !(q.1 == i) && !(q.1 + 1 == i && q.2.category == 2)))) : am_LV ls' nL (am_st1 ls i v) ρ := by
  refine am_LV.of h (by unfold am_st1; rw [List.length_set, am_kp_len]; exact hl) (fun j w h1 h2 => ?_)
  rcases am_st1_get h1 h2 with ⟨rfl, rfl⟩ | ⟨a, b, c⟩
  · exact List.mem_cons_self
  · refine List.mem_cons_of_mem _ (List.mem_filter.mpr ⟨(am_ll_mem ls 0).mpr ⟨j, w, b, h2, by rw [Nat.zero_add]⟩, ?_⟩)
    rw [am_cv_cat]
    by_cases hji : j + 1 = i
    · have : ¬ w.category = 2 := fun q => c ⟨hji, q⟩
      simp [a, this]
    · simp [a, hji]
theorem am_LV.st2 {lsA ls' : Array Slot} {nL i : Nat} {ls : List Value} {ρ : Nat → Nat} {v : Value} (hl : ls.length ≤ nL) (h : lv_has ls' nL ((i, am_cv ρ v) :: (am_ll ρ 0 ls).filter (fun q => !(q.1 == i) && (!(q.1 == i + 1) && !(q.1 + 1 == i && q.2.category == 2))))) : am_LV ls' nL (am_st2 ls i v) ρ := by
  refine am_LV.of h (by unfold am_st2; rw [List.length_set, List.length_set, am_kp_len]; exact hl) (fun j w h1 h2 => ?_)
  rcases am_st2_get h1 h2 with ⟨rfl, rfl⟩ | ⟨a, a1, b, c⟩
  · exact List.mem_cons_self
  · refine List.mem_cons_of_mem _ (List.mem_filter.mpr ⟨(am_ll_mem ls 0).mpr ⟨j, w, b, h2, by rw [Nat.zero_add]⟩, ?_⟩)
    rw [am_cv_cat]
    by_cases hji : j + 1 = i
    · have : ¬ w.category = 2 := fun q => c ⟨hji, q⟩
      simp [a, a1, this]
    · simp [a, a1, hji]
theorem am_OkL.st1 {n i : Nat} {l : List Value} {v : Value} (h : am_OkL n l) (hv : am_Ok n v) : am_OkL n (am_st1 l i v) := by
  intro w hw
  by_cases hr : ∀ x, w ≠ .retAddr x
  · obtain ⟨j, hj⟩ := List.getElem?_of_mem hw
    rcases am_st1_get hj hr with ⟨-, rfl⟩ | ⟨-, b, -⟩
    · exact hv
    · exact h w (List.mem_of_getElem? b)
  · obtain ⟨x, hx⟩ := Classical.not_forall.mp hr
    rw [Classical.not_not.mp hx]
    trivial
theorem am_OkL.st2 {n i : Nat} {l : List Value} {v : Value} (h : am_OkL n l) (hv : am_Ok n v) : am_OkL n (am_st2 l i v) := by
  intro w hw
  by_cases hr : ∀ x, w ≠ .retAddr x
  · obtain ⟨j, hj⟩ := List.getElem?_of_mem hw
    rcases am_st2_get hj hr with ⟨-, rfl⟩ | ⟨-, -, b, -⟩
    · exact hv
    · exact h w (List.mem_of_getElem? b)
  · obtain ⟨x, hx⟩ := Classical.not_forall.mp hr
    rw [Classical.not_not.mp hx]
    trivial
/-- the locals at a method's entry -/
theorem am_exp_args {n : Nat} {ρ : Nat → Nat} : ∀ (As : List Value), am_OkL n As → ∀ (i0 i : Nat) (v : Value), (am_exp As)[i]? = some v → (∀ x, v ≠ .retAddr x) → (i0 + i, am_cv ρ v) ∈ lv_args i0 (As.map (am_cv ρ)) := by
  intro As
  induction As with
  | nil => intro _ i0 i v h; simp [am_exp] at h
  | cons a As ih =>
    intro hok i0 i v h hr
    have key : ∀ (hc : a.category ≠ 2) (he : am_exp (a :: As) = a :: am_exp As), (i0 + i, am_cv ρ v) ∈ lv_args i0 ((a :: As).map (am_cv ρ)) := by
      intro hc he
      rw [he] at h
      rw [List.map_cons]
      unfold lv_args
      rw [am_cv_cat, if_neg hc]
      cases i with
      | zero =>
        simp at h
        rw [h]
        exact List.mem_cons_self
      | succ i =>
        simp at h
        refine List.mem_cons_of_mem _ ?_
        have := ih hok.tail (i0 + 1) i v h hr
        rwa [show i0 + (i + 1) = i0 + 1 + i by omega]
    cases a with
    | long x =>
      rw [show am_exp (.long x :: As) = .long x :: am_F :: am_exp As from rfl] at h
      rw [List.map_cons]
      unfold lv_args
      rw [am_cv_cat, if_pos (by rfl)]
      match i, h with
      | 0, h =>
        simp at h
        rw [← h]
        exact List.mem_cons_self
      | 1, h =>
        simp at h
        exact absurd h.symm (hr 0)
      | i + 2, h =>
        simp at h
        refine List.mem_cons_of_mem _ ?_
        have := ih hok.tail (i0 + 2) i v h hr
        rwa [show i0 + (i + 2) = i0 + 2 + i by omega]
    | double x => exact (hok.head).elim
    | int x => exact key (by simp [Value.category]) rfl
    | float x => exact key (by simp [Value.category]) rfl
    | null => exact key (by simp [Value.category]) rfl
    | ref x => exact key (by simp [Value.category]) rfl
    | retAddr x => exact key (by simp [Value.category]) rfl
theorem am_exp_len {n : Nat} {ρ : Nat → Nat} : ∀ (As : List Value), am_OkL n As → (lg_sl (As.map (am_cv ρ))).length = (am_exp As).length := by
  intro As
  induction As with
  | nil => intro _; rfl
  | cons a As ih =>
    intro hok
    have h := ih hok.tail
    unfold lg_sl at h ⊢
    rw [List.map_cons, List.flatMap_cons, List.length_append, h, am_cv_cat]
    cases a <;> first | exact (hok.head).elim | (simp [Value.category, am_exp]; try omega)
theorem am_entry {n nL : Nat} {ρ : Nat → Nat} {As : List Value} (hok : am_OkL n As) (hl : (am_exp As).length ≤ nL) : am_LV ((lg_sl (As.map (am_cv ρ)) ++ List.replicate (nL - (lg_sl (As.map (am_cv ρ))).length) Slot.unset).toArray) nL (am_ent nL As) ρ := by
  have hlen := am_exp_len (ρ := ρ) As hok
  have h := lv_entry (As.map (am_cv ρ)) (n := nL) (by rw [hlen]; exact hl)
  refine am_LV.of h (by unfold am_ent; rw [List.length_append, List.length_replicate]; omega) (fun j v h1 h2 => ?_)
  unfold am_ent at h1
  by_cases hj : j < (am_exp As).length
  · rw [List.getElem?_append_left hj] at h1
    have := am_exp_args (ρ := ρ) As hok 0 j v h1 h2
    rwa [Nat.zero_add] at this
  · rw [List.getElem?_append_right (by omega)] at h1
    have := List.mem_of_getElem? h1
    exact absurd (List.eq_of_mem_replicate this) (h2 0)
theorem am_OkL.ent {n nL : Nat} {As : List Value} (hok : am_OkL n As) : am_OkL n (am_ent nL As) := by
  have h1 : am_OkL n (am_exp As) := by
    induction As with
    | nil => exact am_OkL.nil
    | cons a As ih =>
      have h := ih hok.tail
      cases a <;> first | exact (hok.head).elim | exact am_OkL.cons hok.head h | exact am_OkL.cons trivial (am_OkL.cons trivial h)
  intro v hv
  unfold am_ent at hv
  rcases List.mem_append.mp hv with q | q
  · exact h1 v q
  · rw [List.eq_of_mem_replicate q]; trivial
