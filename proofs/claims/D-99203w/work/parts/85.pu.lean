/-! calls that ask: years -/
set_option maxRecDepth 100000
section PUV
variable {d : Nat} {μ ν ξ : am_M} {K : Option Value → am_M → Prop} {x y z c : Int32} {h N C j i k r n M b q w u : Nat} {v : Int32} {ru : Option PF} {F G : Nat → Nat → Prop} {S T row a a' : Nat → Int32} {p : Int64}
def drN (r : Int32) : Int32 := r * 1103515245 + 12345
def drV (r m : Int32) : Int32 := usI r 16 - usI r 16 / m * m
theorem us16 (x : Int32) : ∃ k : Nat, k < 65536 ∧ usI x 16 = nI k := by
  refine ⟨(x.toUInt32 >>> 16).toNat, ?_, ?_⟩
  · rw [UInt32.toNat_shiftRight]
    have h := x.toUInt32.toNat_lt
    show x.toUInt32.toNat >>> 16 < 65536
    rw [Nat.shiftRight_eq_div_pow]
    omega
  · show (x.toUInt32 >>> 16).toInt32 = Int32.ofNat (x.toUInt32 >>> 16).toNat
    rw [← Int32.toBitVec_inj]
    show (x.toUInt32 >>> 16).toBitVec = BitVec.ofNat 32 (x.toUInt32 >>> 16).toNat
    exact (BitVec.ofNat_toNat _ _).symm ▸ by simp
theorem nI_div {a b : Nat} (ha : a < 100000) (hb : b < 100000) : nI a / nI b = nI (a / b) := by
  rw [← Int32.toInt_inj, Int32.toInt_div, nI_toInt (by omega), nI_toInt (by omega), nI_toInt (by have := Nat.div_le_self a b; omega)]
  have e : (a : Int).tdiv b = ((a / b : Nat) : Int) := by
    rw [Int.ofNat_tdiv]
  rw [e]
  have hle := Nat.div_le_self a b
  generalize a / b = q at hle ⊢
  exact Int.bmod_eq_of_le (by omega) (by omega)
theorem drV_5 (x : Int32) : drV x 5 = 0 ∨ drV x 5 = 1 ∨ drV x 5 = 2 ∨ drV x 5 = 3 ∨ drV x 5 = 4 := by
  obtain ⟨k, hk, e⟩ := us16 x
  unfold drV
  rw [e, show (5 : Int32) = nI 5 from rfl, nI_div (by omega) (by omega), nI_mul, nI_subN (by omega)]
  rcases (by omega : k - k / 5 * 5 = 0 ∨ k - k / 5 * 5 = 1 ∨ k - k / 5 * 5 = 2 ∨ k - k / 5 * 5 = 3 ∨ k - k / 5 * 5 = 4) with f | f | f | f | f <;> rw [f]
  · exact Or.inl rfl
  · exact Or.inr (Or.inl rfl)
  · exact Or.inr (Or.inr (Or.inl rfl))
  · exact Or.inr (Or.inr (Or.inr (Or.inl rfl)))
  · exact Or.inr (Or.inr (Or.inr (Or.inr rfl)))
theorem wX1_draws (hk : am_k μ 0 = (0, 0)) (hm : ¬ x = 0) : am_Wp d mX1_draws 0 [.ref 0, .int x] [] μ K ↔ K (some (.int (drV (drN (am_I μ 0 36)) x))) (am_sI μ 0 36 (drN (am_I μ 0 36))) := by
  simp only [gX1_draws_0, gX1_draws_1, gX1_draws_2, gX1_draws_5, gX1_draws_8, gX1_draws_9, gX1_draws_12, gX1_draws_13, gX1_draws_16, gX1_draws_17, gX1_draws_20, gX1_draws_22, gX1_draws_23, gX1_draws_24, gX1_draws_25, am_kill_int, am_kill_ref, am_kill_null, am_kill_F, am_kill_long, am_cat_n, am_cat_i, am_cat_r, am_cat_0, am_cat_l, am_nr_n, am_nr_i, am_nr_r, am_nr_0, am_nr_l, Option.toList_some, Option.toList_none, List.nil_append, List.cons_append, va_rf_s, va_rf_n, am_II, am_I_sR, am_I_sL, am_R_sI, am_RR, am_R_sL, am_L_sI, am_L_sR, am_LL, am_k_sI, am_k_sR, am_k_sL, am_n_sI, am_n_sR, am_n_sL, true_and, and_true, true_or, or_true, or_false, false_or, not_true_eq_false, not_false_eq_true, Nat.reduceLT, am_dS, am_dP, am_d1, Nat.reduceSub, Nat.reduceMul, ne_eq, Nat.reduceBEq, Nat.reduceAdd, Nat.reduceLeDiff, Nat.reduceEqDiff, and_self, and_false, false_and, if_true, if_false, am_nb, am_nb0, am_nb1, am_lc1, am_lc2, am_lc3, am_b0, am_b1, am_10, am_c8, am_c16, am_c24, am_c32, am_c40, am_c48, am_c56, am_c64, am_c72, Nat.add_zero, Bool.false_eq_true, Nat.zero_le, hk, hm, drV, drN, usI]
theorem wX3_draw (hk : am_k μ 54 = (2, 0)) (hm : ¬ x = 0) : am_Wp d mX3_draw 0 [.ref 54, .int x] [] μ K ↔ K (some (.int (drV (drN (am_I μ 54 34)) x))) (am_sI μ 54 34 (drN (am_I μ 54 34))) := by
  simp only [gX3_draw_0, gX3_draw_1, gX3_draw_2, gX3_draw_5, gX3_draw_8, gX3_draw_9, gX3_draw_12, gX3_draw_13, gX3_draw_16, gX3_draw_17, gX3_draw_20, gX3_draw_22, gX3_draw_23, gX3_draw_24, gX3_draw_25, am_kill_int, am_kill_ref, am_kill_null, am_kill_F, am_kill_long, am_cat_n, am_cat_i, am_cat_r, am_cat_0, am_cat_l, am_nr_n, am_nr_i, am_nr_r, am_nr_0, am_nr_l, Option.toList_some, Option.toList_none, List.nil_append, List.cons_append, va_rf_s, va_rf_n, am_II, am_I_sR, am_I_sL, am_R_sI, am_RR, am_R_sL, am_L_sI, am_L_sR, am_LL, am_k_sI, am_k_sR, am_k_sL, am_n_sI, am_n_sR, am_n_sL, true_and, and_true, true_or, or_true, or_false, false_or, not_true_eq_false, not_false_eq_true, Nat.reduceLT, am_dS, am_dP, am_d1, Nat.reduceSub, Nat.reduceMul, ne_eq, Nat.reduceBEq, Nat.reduceAdd, Nat.reduceLeDiff, Nat.reduceEqDiff, and_self, and_false, false_and, if_true, if_false, am_nb, am_nb0, am_nb1, am_lc1, am_lc2, am_lc3, am_b0, am_b1, am_10, am_c8, am_c16, am_c24, am_c32, am_c40, am_c48, am_c56, am_c64, am_c72, Nat.add_zero, Bool.false_eq_true, Nat.zero_le, hk, hm, drV, drN, usI]
theorem ann_t (hs : Sim N T row) (h8 : N ≤ 8) (h : rAn N row x = 0) : ∃ j, j < N ∧ x = nI j ∧ Sim N (annO N T x).2 (annT row j) := by
  unfold rAn at h
  by_cases hx : isN x N = true
  · rw [if_pos hx] at h
    obtain ⟨j, hj, rfl⟩ := isN_of (by omega) hx
    have hcl : (nI j).toNatClampNeg = j := nI_clamp (by omega)
    rw [hcl] at h
    have hno := (hs.cg hj).no
    rw [col4, hs.r4 hj] at hno
    refine ⟨j, hj, rfl, ?_⟩
    unfold annO
    rw [if_pos hx, hcl]
    by_cases f : row (32 + j) = -1
    · rw [if_neg (by rw [hs.r4 hj, hno]; exact fun e => e f)]
      exact hs.ann h8 hj
    · rw [if_neg f] at h; exact absurd h (by decide)
  · rw [if_neg hx] at h; exact absurd h (by decide)
theorem ann_n (hs : Sim N T row) (h8 : N ≤ 8) (h : ¬ rAn N row x = 0) : (annO N T x).2 = T := by
  unfold rAn at h
  unfold annO
  by_cases hx : isN x N = true
  · rw [if_pos hx] at h ⊢
    obtain ⟨j, hj, rfl⟩ := isN_of (by omega) hx
    have hcl : (nI j).toNatClampNeg = j := nI_clamp (by omega)
    rw [hcl] at h ⊢
    have hno := (hs.cg hj).no
    rw [col4, hs.r4 hj] at hno
    by_cases f : row (32 + j) = -1
    · rw [if_pos f] at h; exact absurd rfl h
    · rw [if_pos (by rw [hs.r4 hj, hno]; exact f)]
  · rw [if_neg hx]
theorem rep_t (hs : Sim N T row) (h8 : N ≤ 8) (h : rRe N row x = 0) : ∃ j, j < N ∧ x = nI j ∧ Sim N (repO N T x).2 (repT row j) := by
  unfold rRe at h
  by_cases hx : isN x N = true
  · rw [if_pos hx] at h
    obtain ⟨j, hj, rfl⟩ := isN_of (by omega) hx
    have hcl : (nI j).toNatClampNeg = j := nI_clamp (by omega)
    rw [hcl] at h
    have hno := (hs.cg hj).no
    rw [col4, hs.r4 hj] at hno
    refine ⟨j, hj, rfl, ?_⟩
    unfold repO
    rw [if_pos hx, hcl]
    by_cases f : row (32 + j) = -1
    · rw [if_pos f] at h; exact absurd h (by decide)
    · rw [if_neg f] at h
      have h0 : 0 ≤ T (32 + j) := by rw [hs.r4 hj, hno]; exact f
      by_cases f3 : row (40 + j) = 3
      · rw [if_pos f3] at h; exact absurd h (by decide)
      · rw [if_pos h0, if_neg (by rw [hs.r5 hj]; exact f3)]
        exact hs.rep h8 hj h0 (by rw [hs.r5 hj]; exact f3)
  · rw [if_neg hx] at h; exact absurd h (by decide)
theorem rep_n (hs : Sim N T row) (h8 : N ≤ 8) (h : ¬ rRe N row x = 0) : (repO N T x).2 = T := by
  unfold rRe at h
  unfold repO
  by_cases hx : isN x N = true
  · rw [if_pos hx] at h ⊢
    obtain ⟨j, hj, rfl⟩ := isN_of (by omega) hx
    have hcl : (nI j).toNatClampNeg = j := nI_clamp (by omega)
    rw [hcl] at h ⊢
    have hno := (hs.cg hj).no
    rw [col4, hs.r4 hj] at hno
    by_cases f : row (32 + j) = -1
    · rw [if_neg (by rw [hs.r4 hj, hno]; exact fun e => e f)]
    · rw [if_neg f] at h
      by_cases f3 : row (40 + j) = 3
      · rw [if_pos (by rw [hs.r4 hj, hno]; exact f), if_pos (by rw [hs.r5 hj]; exact f3)]
      · rw [if_neg f3] at h; exact absurd rfl h
  · rw [if_neg hx]
theorem lay_t (hs : Sim N T row) (h8 : N ≤ 8) (h : rLa N c row x y = 0) : ∃ j, j < N ∧ x = nI j ∧ (0 ≤ y ∧ y ≤ 9) ∧ Sim N (layO N ru c T x y).2 (layM row j y) := by
  unfold rLa at h
  by_cases hxy : isN x N = true ∧ isN y 10 = true
  · rw [if_pos hxy] at h
    obtain ⟨j, hj, rfl⟩ := isN_of (by omega) hxy.1
    have hcl : (nI j).toNatClampNeg = j := nI_clamp (by omega)
    rw [hcl] at h
    refine ⟨j, hj, rfl, isC_r hxy.2, ?_⟩
    unfold layO
    rw [if_pos hxy, hcl]
    by_cases f : row (48 + j) = 0
    · rw [if_pos f] at h
      by_cases f2 : ¬ row (32 + j) = -1 ∧ c ≤ row (32 + j)
      · rw [if_pos (by rw [hs.r6 hj]; exact f), if_pos (by rw [hs.inTm hj, decide_eq_true f2])]
        exact hs.lie h8 hj (isC_r hxy.2)
      · rw [if_neg f2] at h; exact absurd h (by decide)
    · rw [if_neg f] at h; exact absurd h (by decide)
  · rw [if_neg hxy] at h; exact absurd h (by decide)
theorem lay_n (hs : Sim N T row) (h8 : N ≤ 8) (h : ¬ rLa N c row x y = 0) : (layO N ru c T x y).2 = T := by
  unfold rLa at h
  unfold layO
  by_cases hxy : isN x N = true ∧ isN y 10 = true
  · rw [if_pos hxy] at h ⊢
    obtain ⟨j, hj, rfl⟩ := isN_of (by omega) hxy.1
    have hcl : (nI j).toNatClampNeg = j := nI_clamp (by omega)
    rw [hcl] at h ⊢
    by_cases f : row (48 + j) = 0
    · rw [if_pos f] at h
      by_cases f2 : ¬ row (32 + j) = -1 ∧ c ≤ row (32 + j)
      · rw [if_pos f2] at h; exact absurd rfl h
      · rw [if_pos (by rw [hs.r6 hj]; exact f), if_neg (by rw [hs.inTm hj, decide_eq_false f2]; decide)]
    · rw [if_neg (by rw [hs.r6 hj]; exact f)]
  · rw [if_neg hxy]
/-- one step of the years: the number drawn from, the spring -/
def ySt (dn : Int32 → Int32) (dv : Int32 → Int32 → Int32) (N : Nat) (ru : Option PF) (c : Int32) (s : Int32 × (Nat → Int32)) : Int32 × (Nat → Int32) :=
  if dv (dn s.1) 5 < 2 then (dn s.1, dayC N ru s.2)
  else if N = 0 then (dn s.1, s.2)
  else if dv (dn s.1) 5 = 2 then (dn (dn s.1), (annO N s.2 (dv (dn (dn s.1)) (nI N))).2)
  else if dv (dn s.1) 5 = 3 then (dn (dn s.1), (repO N s.2 (dv (dn (dn s.1)) (nI N))).2)
  else (dn (dn (dn s.1)), (layO N ru c s.2 (dv (dn (dn s.1)) (nI N)) (dv (dn (dn (dn s.1))) 10)).2)
def yIt (dn : Int32 → Int32) (dv : Int32 → Int32 → Int32) (N : Nat) (ru : Option PF) (c : Int32) (s : Int32 × (Nat → Int32)) : Nat → Int32 × (Nat → Int32)
  | 0 => s
  | k + 1 => ySt dn dv N ru c (yIt dn dv N ru c s k)
/-- what the years write in the component -/
def jY (a b : Nat) : Prop := jS 12 a b ∨ (a = 0 ∧ b = 36)
theorem jY_qc (hf : Fr jY μ ν) : Fw sC μ ν ∧ TC μ ν none ∧ ∀ i, am_L ν 57 i = am_L μ 57 i := hf.qc fun a b h => by
  unfold jY jS inSp jO at h
  unfold sC
  omega
theorem jY_1 (hf : Fr jY μ ν) : cS ν 1 = cS μ 1 := cS_Fr hf fun a b z1 z2 z3 => by unfold jY jS inSp jO at z3; omega
theorem CC.jY (hC : CC N ru c μ) (hF : Fr jY μ ν) : CC N ru c ν := hC.fr hF (fun a b q => by unfold Jvm.Pilot.CCuckooByPostLaw_law_r3932_936dbd.jY jS inSp jO at q; omega)
theorem jY_S (hf : Fr (jS 12) μ ν) : Fr jY μ ν := hf.le fun a b q => Or.inl q
theorem jY_36 : Fr jY μ (am_sI μ 0 36 x) := Fr.I Fr.refl (Or.inr ⟨rfl, rfl⟩)
theorem qcL_years {dn : Int32 → Int32} {dv : Int32 → Int32 → Int32} (hdr : ∀ (d : Nat) (K : Option Value → am_M → Prop) (μ : am_M) (x : Int32), am_k μ 0 = (0, 0) → ¬ x = 0 → (am_Wp d mX1_draws 0 [.ref 0, .int x] [] μ K ↔ K (some (.int (dv (dn (am_I μ 0 36)) x))) (am_sI μ 0 36 (dn (am_I μ 0 36))))) (hn : n ≤ 1000) : ∀ (m k : Nat) (μ : am_M) (s : Int32 × (Nat → Int32)) (z4 z5 : Value), k + m = n → CC N ru c μ → am_I μ 0 36 = (yIt dn dv N ru c s k).1 → cS μ 12 = (yIt dn dv N ru c s k).2 → (∀ ν z4 z5, Fr jY μ ν → cS ν 12 = (yIt dn dv N ru c s n).2 → am_Wp (d + 200) mX1_years 141 [.ref 0, .int x, .int (nI n), .int (nI n), z4, z5] [] ν K) →
    am_Wp (d + 200) mX1_years 32 [.ref 0, .int x, .int (nI n), .int (nI k), z4, z5] [] μ K := by
  intro m
  induction m with
  | zero =>
    intro k μ s z4 z5 hk hC h36 h12 hK
    have e : k = n := hk
    subst e
    rw [gX1_years_32]
    simp only [gX1_years_33, gX1_years_34, am_kill_int, am_kill_ref, am_kill_null, am_kill_F, am_kill_long, am_cat_n, am_cat_i, am_cat_r, am_cat_0, am_cat_l, am_nr_n, am_nr_i, am_nr_r, am_nr_0, am_nr_l, Option.toList_some, Option.toList_none, List.nil_append, List.cons_append, va_rf_s, va_rf_n, am_II, am_I_sR, am_I_sL, am_R_sI, am_RR, am_R_sL, am_L_sI, am_L_sR, am_LL, am_k_sI, am_k_sR, am_k_sL, am_n_sI, am_n_sR, am_n_sL, true_and, and_true, true_or, or_true, or_false, false_or, not_true_eq_false, not_false_eq_true, Nat.reduceLT, am_dS, am_dP, am_d1, Nat.reduceSub, Nat.reduceMul, ne_eq, Nat.reduceBEq, Nat.reduceAdd, Nat.reduceLeDiff, Nat.reduceEqDiff, and_self, and_false, false_and, if_true, if_false, am_nb, am_nb0, am_nb1, am_lc1, am_lc2, am_lc3, am_b0, am_b1, am_10, am_c8, am_c16, am_c24, am_c32, am_c40, am_c48, am_c56, am_c64, am_c72, Nat.add_zero, Bool.false_eq_true, Nat.zero_le, Int32.le_refl]
    exact hK μ z4 z5 Fr.refl h12
  | succ m ih =>
    intro k μ s z4 z5 hk hC h36 h12 hK
    have hlt : ¬ nI n ≤ nI k := nI_ge (by omega) (by omega)
    have hcu := hC.1
    simp only [cL, spL, Nat.reduceAdd] at hcu
    have h8 := hC.2.2.1
    have n5 : ¬ (5 : Int32) = 0 := by decide
    have n10 : ¬ (10 : Int32) = 0 := by decide
    generalize hs : yIt dn dv N ru c s k = sk at h36 h12
    have hst : yIt dn dv N ru c s (k + 1) = ySt dn dv N ru c sk := by rw [← hs]; rfl
    have next : ∀ ν z4 z5, Fr jY μ ν → am_I ν 0 36 = (ySt dn dv N ru c sk).1 → cS ν 12 = (ySt dn dv N ru c sk).2 → am_Wp (d + 200) mX1_years 135 [.ref 0, .int x, .int (nI n), .int (nI k), z4, z5] [] ν K := fun ν z4 z5 hF g1 g2 => by
      simp only [gX1_years_135, gX1_years_138, am_kill_int, am_kill_ref, am_kill_null, am_kill_F, am_kill_long, am_cat_n, am_cat_i, am_cat_r, am_cat_0, am_cat_l, am_nr_n, am_nr_i, am_nr_r, am_nr_0, am_nr_l, Option.toList_some, Option.toList_none, List.nil_append, List.cons_append, va_rf_s, va_rf_n, am_II, am_I_sR, am_I_sL, am_R_sI, am_RR, am_R_sL, am_L_sI, am_L_sR, am_LL, am_k_sI, am_k_sR, am_k_sL, am_n_sI, am_n_sR, am_n_sL, true_and, and_true, true_or, or_true, or_false, false_or, not_true_eq_false, not_false_eq_true, Nat.reduceLT, am_dS, am_dP, am_d1, Nat.reduceSub, Nat.reduceMul, ne_eq, Nat.reduceBEq, Nat.reduceAdd, Nat.reduceLeDiff, Nat.reduceEqDiff, and_self, and_false, false_and, if_true, if_false, am_nb, am_nb0, am_nb1, am_lc1, am_lc2, am_lc3, am_b0, am_b1, am_10, am_c8, am_c16, am_c24, am_c32, am_c40, am_c48, am_c56, am_c64, am_c72, Nat.add_zero, Bool.false_eq_true, Nat.zero_le, nI_1]
      refine ih (k + 1) ν s z4 z5 (by omega) (hC.jY hF) (by rw [hst]; exact g1) (by rw [hst]; exact g2) (fun ξ z4 z5 hF2 h => hK ξ z4 z5 (hF.trans hF2) h)
    unfold ySt at next
    have hC1 : CC N ru c (am_sI μ 0 36 (dn sk.1)) := hC.jY jY_36
    have h12' : cS (am_sI μ 0 36 (dn sk.1)) 12 = sk.2 := by rw [cS_o (by omega)]; exact h12
    have hd1 := fun K => hdr (d + 199) K (μ) (5) hcu.1.1 n5
    rw [h36] at hd1
    rw [gX1_years_32]
    simp only [gX1_years_33, gX1_years_34, gX1_years_37, gX1_years_38, gX1_years_39, am_kill_int, am_kill_ref, am_kill_null, am_kill_F, am_kill_long, am_cat_n, am_cat_i, am_cat_r, am_cat_0, am_cat_l, am_nr_n, am_nr_i, am_nr_r, am_nr_0, am_nr_l, Option.toList_some, Option.toList_none, List.nil_append, List.cons_append, va_rf_s, va_rf_n, am_II, am_I_sR, am_I_sL, am_R_sI, am_RR, am_R_sL, am_L_sI, am_L_sR, am_LL, am_k_sI, am_k_sR, am_k_sL, am_n_sI, am_n_sR, am_n_sL, true_and, and_true, true_or, or_true, or_false, false_or, not_true_eq_false, not_false_eq_true, Nat.reduceLT, am_dS, am_dP, am_d1, Nat.reduceSub, Nat.reduceMul, ne_eq, Nat.reduceBEq, Nat.reduceAdd, Nat.reduceLeDiff, Nat.reduceEqDiff, and_self, and_false, false_and, if_true, if_false, am_nb, am_nb0, am_nb1, am_lc1, am_lc2, am_lc3, am_b0, am_b1, am_10, am_c8, am_c16, am_c24, am_c32, am_c40, am_c48, am_c56, am_c64, am_c72, Nat.add_zero, Bool.false_eq_true, Nat.zero_le, hlt, hcu]
    rw [hd1]
    by_cases f2 : dv (dn sk.1) 5 < 2
    · simp only [if_pos f2] at next
      simp only [gX1_years_42, gX1_years_44, gX1_years_46, gX1_years_47, gX1_years_50, gX1_years_51, gX1_years_52, gX1_years_55, am_kill_int, am_kill_ref, am_kill_null, am_kill_F, am_kill_long, am_cat_n, am_cat_i, am_cat_r, am_cat_0, am_cat_l, am_nr_n, am_nr_i, am_nr_r, am_nr_0, am_nr_l, Option.toList_some, Option.toList_none, List.nil_append, List.cons_append, va_rf_s, va_rf_n, am_II, am_I_sR, am_I_sL, am_R_sI, am_RR, am_R_sL, am_L_sI, am_L_sR, am_LL, am_k_sI, am_k_sR, am_k_sL, am_n_sI, am_n_sR, am_n_sL, true_and, and_true, true_or, or_true, or_false, false_or, not_true_eq_false, not_false_eq_true, Nat.reduceLT, am_dS, am_dP, am_d1, Nat.reduceSub, Nat.reduceMul, ne_eq, Nat.reduceBEq, Nat.reduceAdd, Nat.reduceLeDiff, Nat.reduceEqDiff, and_self, and_false, false_and, if_true, if_false, am_nb, am_nb0, am_nb1, am_lc1, am_lc2, am_lc3, am_b0, am_b1, am_10, am_c8, am_c16, am_c24, am_c32, am_c40, am_c48, am_c56, am_c64, am_c72, Nat.add_zero, Bool.false_eq_true, Nat.zero_le, Int32.not_le.mpr f2, hcu]
      refine wX1_dayGoes (d := d + 131) hC1 hC1.1.s2 (by decide) (by decide) (fun ν hF hT => ?_)
      simp only [gX1_years_58, am_kill_int, am_kill_ref, am_kill_null, am_kill_F, am_kill_long, am_cat_n, am_cat_i, am_cat_r, am_cat_0, am_cat_l, am_nr_n, am_nr_i, am_nr_r, am_nr_0, am_nr_l, Option.toList_some, Option.toList_none, List.nil_append, List.cons_append, va_rf_s, va_rf_n, am_II, am_I_sR, am_I_sL, am_R_sI, am_RR, am_R_sL, am_L_sI, am_L_sR, am_LL, am_k_sI, am_k_sR, am_k_sL, am_n_sI, am_n_sR, am_n_sL, true_and, and_true, true_or, or_true, or_false, false_or, not_true_eq_false, not_false_eq_true, Nat.reduceLT, am_dS, am_dP, am_d1, Nat.reduceSub, Nat.reduceMul, ne_eq, Nat.reduceBEq, Nat.reduceAdd, Nat.reduceLeDiff, Nat.reduceEqDiff, and_self, and_false, false_and, if_true, if_false, am_nb, am_nb0, am_nb1, am_lc1, am_lc2, am_lc3, am_b0, am_b1, am_10, am_c8, am_c16, am_c24, am_c32, am_c40, am_c48, am_c56, am_c64, am_c72, Nat.add_zero, Bool.false_eq_true, Nat.zero_le]
      refine next ν _ _ (jY_36.trans (jY_S hF)) ?_ (by rw [hT, h12'])
      rw [hF.1 0 36 (by unfold jS inSp jO; omega), am_I_sI, if_pos ⟨rfl, rfl⟩]
    · simp only [if_neg f2] at next
      by_cases f0 : N = 0
      · simp only [if_pos f0] at next
        have hN0 : am_I μ 0 2 = 0 := by rw [hC.2.1, f0]; rfl
        simp only [gX1_years_42, gX1_years_44, gX1_years_46, gX1_years_47, gX1_years_50, gX1_years_51, gX1_years_52, gX1_years_55, gX1_years_58, gX1_years_61, gX1_years_62, gX1_years_65, am_kill_int, am_kill_ref, am_kill_null, am_kill_F, am_kill_long, am_cat_n, am_cat_i, am_cat_r, am_cat_0, am_cat_l, am_nr_n, am_nr_i, am_nr_r, am_nr_0, am_nr_l, Option.toList_some, Option.toList_none, List.nil_append, List.cons_append, va_rf_s, va_rf_n, am_II, am_I_sR, am_I_sL, am_R_sI, am_RR, am_R_sL, am_L_sI, am_L_sR, am_LL, am_k_sI, am_k_sR, am_k_sL, am_n_sI, am_n_sR, am_n_sL, true_and, and_true, true_or, or_true, or_false, false_or, not_true_eq_false, not_false_eq_true, Nat.reduceLT, am_dS, am_dP, am_d1, Nat.reduceSub, Nat.reduceMul, ne_eq, Nat.reduceBEq, Nat.reduceAdd, Nat.reduceLeDiff, Nat.reduceEqDiff, and_self, and_false, false_and, if_true, if_false, am_nb, am_nb0, am_nb1, am_lc1, am_lc2, am_lc3, am_b0, am_b1, am_10, am_c8, am_c16, am_c24, am_c32, am_c40, am_c48, am_c56, am_c64, am_c72, Nat.add_zero, Bool.false_eq_true, Nat.zero_le, Int32.not_lt.mp f2, hcu, hN0, Int32.le_refl]
        exact next _ _ _ jY_36 (by rw [am_I_sI, if_pos ⟨rfl, rfl⟩]) h12'
      · simp only [if_neg f0] at next
        have hNle : ¬ nI N ≤ 0 := by rw [← nI_0]; exact nI_ge (by omega) (by omega)
        have hNne : ¬ nI N = 0 := fun e => hNle (by rw [e]; exact Int32.le_refl _)
        have hC2 : CC N ru c (am_sI (am_sI μ 0 36 (dn sk.1)) 0 36 (dn (dn sk.1))) := hC1.jY jY_36
        have h12'' : cS (am_sI (am_sI μ 0 36 (dn sk.1)) 0 36 (dn (dn sk.1))) 12 = sk.2 := by rw [cS_o (by omega)]; exact h12'
        have F2 : Fr jY μ (am_sI (am_sI μ 0 36 (dn sk.1)) 0 36 (dn (dn sk.1))) := jY_36.trans jY_36
        have hd2 := fun K => hdr (d + 199) K (am_sI μ 0 36 (dn sk.1)) (nI N) hcu.1.1 hNne
        rw [am_I_sI, if_pos ⟨rfl, rfl⟩] at hd2
        simp only [gX1_years_42, gX1_years_44, gX1_years_46, gX1_years_47, gX1_years_50, gX1_years_51, gX1_years_52, gX1_years_55, gX1_years_58, gX1_years_61, gX1_years_62, gX1_years_65, gX1_years_68, gX1_years_69, gX1_years_70, gX1_years_73, am_kill_int, am_kill_ref, am_kill_null, am_kill_F, am_kill_long, am_cat_n, am_cat_i, am_cat_r, am_cat_0, am_cat_l, am_nr_n, am_nr_i, am_nr_r, am_nr_0, am_nr_l, Option.toList_some, Option.toList_none, List.nil_append, List.cons_append, va_rf_s, va_rf_n, am_II, am_I_sR, am_I_sL, am_R_sI, am_RR, am_R_sL, am_L_sI, am_L_sR, am_LL, am_k_sI, am_k_sR, am_k_sL, am_n_sI, am_n_sR, am_n_sL, true_and, and_true, true_or, or_true, or_false, false_or, not_true_eq_false, not_false_eq_true, Nat.reduceLT, am_dS, am_dP, am_d1, Nat.reduceSub, Nat.reduceMul, ne_eq, Nat.reduceBEq, Nat.reduceAdd, Nat.reduceLeDiff, Nat.reduceEqDiff, and_self, and_false, false_and, if_true, if_false, am_nb, am_nb0, am_nb1, am_lc1, am_lc2, am_lc3, am_b0, am_b1, am_10, am_c8, am_c16, am_c24, am_c32, am_c40, am_c48, am_c56, am_c64, am_c72, Nat.add_zero, Bool.false_eq_true, Nat.zero_le, Int32.not_lt.mp f2, hcu, hC.2.1, hNle]
        rw [hd2]
        by_cases w2 : dv (dn sk.1) 5 = 2
        · simp only [if_pos w2] at next
          simp only [gX1_years_76, gX1_years_78, gX1_years_80, gX1_years_81, gX1_years_84, gX1_years_85, gX1_years_86, gX1_years_89, gX1_years_91, am_kill_int, am_kill_ref, am_kill_null, am_kill_F, am_kill_long, am_cat_n, am_cat_i, am_cat_r, am_cat_0, am_cat_l, am_nr_n, am_nr_i, am_nr_r, am_nr_0, am_nr_l, Option.toList_some, Option.toList_none, List.nil_append, List.cons_append, va_rf_s, va_rf_n, am_II, am_I_sR, am_I_sL, am_R_sI, am_RR, am_R_sL, am_L_sI, am_L_sR, am_LL, am_k_sI, am_k_sR, am_k_sL, am_n_sI, am_n_sR, am_n_sL, true_and, and_true, true_or, or_true, or_false, false_or, not_true_eq_false, not_false_eq_true, Nat.reduceLT, am_dS, am_dP, am_d1, Nat.reduceSub, Nat.reduceMul, ne_eq, Nat.reduceBEq, Nat.reduceAdd, Nat.reduceLeDiff, Nat.reduceEqDiff, and_self, and_false, false_and, if_true, if_false, am_nb, am_nb0, am_nb1, am_lc1, am_lc2, am_lc3, am_b0, am_b1, am_10, am_c8, am_c16, am_c24, am_c32, am_c40, am_c48, am_c56, am_c64, am_c72, Nat.add_zero, Bool.false_eq_true, Nat.zero_le, w2, hcu]
          refine wX1_announces (d := d + 196) hC2 hC2.1.s2 (by decide) (fun ν hF hT => ?_)
          simp only [gX1_years_94, gX1_years_95, am_kill_int, am_kill_ref, am_kill_null, am_kill_F, am_kill_long, am_cat_n, am_cat_i, am_cat_r, am_cat_0, am_cat_l, am_nr_n, am_nr_i, am_nr_r, am_nr_0, am_nr_l, Option.toList_some, Option.toList_none, List.nil_append, List.cons_append, va_rf_s, va_rf_n, am_II, am_I_sR, am_I_sL, am_R_sI, am_RR, am_R_sL, am_L_sI, am_L_sR, am_LL, am_k_sI, am_k_sR, am_k_sL, am_n_sI, am_n_sR, am_n_sL, true_and, and_true, true_or, or_true, or_false, false_or, not_true_eq_false, not_false_eq_true, Nat.reduceLT, am_dS, am_dP, am_d1, Nat.reduceSub, Nat.reduceMul, ne_eq, Nat.reduceBEq, Nat.reduceAdd, Nat.reduceLeDiff, Nat.reduceEqDiff, and_self, and_false, false_and, if_true, if_false, am_nb, am_nb0, am_nb1, am_lc1, am_lc2, am_lc3, am_b0, am_b1, am_10, am_c8, am_c16, am_c24, am_c32, am_c40, am_c48, am_c56, am_c64, am_c72, Nat.add_zero, Bool.false_eq_true, Nat.zero_le]
          rw [h12''] at hT
          refine next ν _ _ (F2.trans (jY_S (jS_le hF))) ?_ hT
          rw [hF.1 0 36 (by unfold inSp; omega), am_I_sI, if_pos ⟨rfl, rfl⟩]
        · simp only [if_neg w2] at next
          by_cases w3 : dv (dn sk.1) 5 = 3
          · simp only [if_pos w3] at next
            have n32 : ¬ (3 : Int32) = 2 := by decide
            simp only [gX1_years_76, gX1_years_78, gX1_years_80, gX1_years_81, gX1_years_84, gX1_years_85, gX1_years_86, gX1_years_89, gX1_years_91, gX1_years_94, gX1_years_95, gX1_years_98, gX1_years_100, gX1_years_101, gX1_years_104, gX1_years_105, gX1_years_106, gX1_years_109, gX1_years_111, am_kill_int, am_kill_ref, am_kill_null, am_kill_F, am_kill_long, am_cat_n, am_cat_i, am_cat_r, am_cat_0, am_cat_l, am_nr_n, am_nr_i, am_nr_r, am_nr_0, am_nr_l, Option.toList_some, Option.toList_none, List.nil_append, List.cons_append, va_rf_s, va_rf_n, am_II, am_I_sR, am_I_sL, am_R_sI, am_RR, am_R_sL, am_L_sI, am_L_sR, am_LL, am_k_sI, am_k_sR, am_k_sL, am_n_sI, am_n_sR, am_n_sL, true_and, and_true, true_or, or_true, or_false, false_or, not_true_eq_false, not_false_eq_true, Nat.reduceLT, am_dS, am_dP, am_d1, Nat.reduceSub, Nat.reduceMul, ne_eq, Nat.reduceBEq, Nat.reduceAdd, Nat.reduceLeDiff, Nat.reduceEqDiff, and_self, and_false, false_and, if_true, if_false, am_nb, am_nb0, am_nb1, am_lc1, am_lc2, am_lc3, am_b0, am_b1, am_10, am_c8, am_c16, am_c24, am_c32, am_c40, am_c48, am_c56, am_c64, am_c72, Nat.add_zero, Bool.false_eq_true, Nat.zero_le, w3, n32, hcu]
            refine wX1_repliesTo (d := d + 196) hC2 hC2.1.s2 (fun ν hF hT => ?_)
            simp only [gX1_years_114, gX1_years_115, am_kill_int, am_kill_ref, am_kill_null, am_kill_F, am_kill_long, am_cat_n, am_cat_i, am_cat_r, am_cat_0, am_cat_l, am_nr_n, am_nr_i, am_nr_r, am_nr_0, am_nr_l, Option.toList_some, Option.toList_none, List.nil_append, List.cons_append, va_rf_s, va_rf_n, am_II, am_I_sR, am_I_sL, am_R_sI, am_RR, am_R_sL, am_L_sI, am_L_sR, am_LL, am_k_sI, am_k_sR, am_k_sL, am_n_sI, am_n_sR, am_n_sL, true_and, and_true, true_or, or_true, or_false, false_or, not_true_eq_false, not_false_eq_true, Nat.reduceLT, am_dS, am_dP, am_d1, Nat.reduceSub, Nat.reduceMul, ne_eq, Nat.reduceBEq, Nat.reduceAdd, Nat.reduceLeDiff, Nat.reduceEqDiff, and_self, and_false, false_and, if_true, if_false, am_nb, am_nb0, am_nb1, am_lc1, am_lc2, am_lc3, am_b0, am_b1, am_10, am_c8, am_c16, am_c24, am_c32, am_c40, am_c48, am_c56, am_c64, am_c72, Nat.add_zero, Bool.false_eq_true, Nat.zero_le]
            rw [h12''] at hT
            refine next ν _ _ (F2.trans (jY_S (jS_le hF))) ?_ hT
            rw [hF.1 0 36 (by unfold inSp; omega), am_I_sI, if_pos ⟨rfl, rfl⟩]
          · simp only [if_neg w3] at next
            have hd3 := fun K => hdr (d + 199) K (am_sI (am_sI μ 0 36 (dn sk.1)) 0 36 (dn (dn sk.1))) (10) hcu.1.1 n10
            rw [am_I_sI, if_pos ⟨rfl, rfl⟩] at hd3
            have hC3 : CC N ru c (am_sI (am_sI (am_sI μ 0 36 (dn sk.1)) 0 36 (dn (dn sk.1))) 0 36 (dn (dn (dn sk.1)))) := hC2.jY jY_36
            have h123 : cS (am_sI (am_sI (am_sI μ 0 36 (dn sk.1)) 0 36 (dn (dn sk.1))) 0 36 (dn (dn (dn sk.1)))) 12 = sk.2 := by rw [cS_o (by omega)]; exact h12''
            simp only [gX1_years_76, gX1_years_78, gX1_years_80, gX1_years_81, gX1_years_84, gX1_years_85, gX1_years_86, gX1_years_89, gX1_years_91, gX1_years_94, gX1_years_95, gX1_years_98, gX1_years_100, gX1_years_101, gX1_years_104, gX1_years_105, gX1_years_106, gX1_years_109, gX1_years_111, gX1_years_114, gX1_years_115, gX1_years_118, gX1_years_119, gX1_years_120, gX1_years_123, gX1_years_125, gX1_years_126, gX1_years_128, am_kill_int, am_kill_ref, am_kill_null, am_kill_F, am_kill_long, am_cat_n, am_cat_i, am_cat_r, am_cat_0, am_cat_l, am_nr_n, am_nr_i, am_nr_r, am_nr_0, am_nr_l, Option.toList_some, Option.toList_none, List.nil_append, List.cons_append, va_rf_s, va_rf_n, am_II, am_I_sR, am_I_sL, am_R_sI, am_RR, am_R_sL, am_L_sI, am_L_sR, am_LL, am_k_sI, am_k_sR, am_k_sL, am_n_sI, am_n_sR, am_n_sL, true_and, and_true, true_or, or_true, or_false, false_or, not_true_eq_false, not_false_eq_true, Nat.reduceLT, am_dS, am_dP, am_d1, Nat.reduceSub, Nat.reduceMul, ne_eq, Nat.reduceBEq, Nat.reduceAdd, Nat.reduceLeDiff, Nat.reduceEqDiff, and_self, and_false, false_and, if_true, if_false, am_nb, am_nb0, am_nb1, am_lc1, am_lc2, am_lc3, am_b0, am_b1, am_10, am_c8, am_c16, am_c24, am_c32, am_c40, am_c48, am_c56, am_c64, am_c72, Nat.add_zero, Bool.false_eq_true, Nat.zero_le, w2, w3, hcu]
            rw [hd3]
            simp only [gX1_years_131, am_kill_int, am_kill_ref, am_kill_null, am_kill_F, am_kill_long, am_cat_n, am_cat_i, am_cat_r, am_cat_0, am_cat_l, am_nr_n, am_nr_i, am_nr_r, am_nr_0, am_nr_l, Option.toList_some, Option.toList_none, List.nil_append, List.cons_append, va_rf_s, va_rf_n, am_II, am_I_sR, am_I_sL, am_R_sI, am_RR, am_R_sL, am_L_sI, am_L_sR, am_LL, am_k_sI, am_k_sR, am_k_sL, am_n_sI, am_n_sR, am_n_sL, true_and, and_true, true_or, or_true, or_false, false_or, not_true_eq_false, not_false_eq_true, Nat.reduceLT, am_dS, am_dP, am_d1, Nat.reduceSub, Nat.reduceMul, ne_eq, Nat.reduceBEq, Nat.reduceAdd, Nat.reduceLeDiff, Nat.reduceEqDiff, and_self, and_false, false_and, if_true, if_false, am_nb, am_nb0, am_nb1, am_lc1, am_lc2, am_lc3, am_b0, am_b1, am_10, am_c8, am_c16, am_c24, am_c32, am_c40, am_c48, am_c56, am_c64, am_c72, Nat.add_zero, Bool.false_eq_true, Nat.zero_le, hcu]
            refine wX1_lays (d := d + 131) hC3 hC3.1.s2 (by decide) (by decide) (fun ν hF hT => ?_)
            simp only [gX1_years_134, am_kill_int, am_kill_ref, am_kill_null, am_kill_F, am_kill_long, am_cat_n, am_cat_i, am_cat_r, am_cat_0, am_cat_l, am_nr_n, am_nr_i, am_nr_r, am_nr_0, am_nr_l, Option.toList_some, Option.toList_none, List.nil_append, List.cons_append, va_rf_s, va_rf_n, am_II, am_I_sR, am_I_sL, am_R_sI, am_RR, am_R_sL, am_L_sI, am_L_sR, am_LL, am_k_sI, am_k_sR, am_k_sL, am_n_sI, am_n_sR, am_n_sL, true_and, and_true, true_or, or_true, or_false, false_or, not_true_eq_false, not_false_eq_true, Nat.reduceLT, am_dS, am_dP, am_d1, Nat.reduceSub, Nat.reduceMul, ne_eq, Nat.reduceBEq, Nat.reduceAdd, Nat.reduceLeDiff, Nat.reduceEqDiff, and_self, and_false, false_and, if_true, if_false, am_nb, am_nb0, am_nb1, am_lc1, am_lc2, am_lc3, am_b0, am_b1, am_10, am_c8, am_c16, am_c24, am_c32, am_c40, am_c48, am_c56, am_c64, am_c72, Nat.add_zero, Bool.false_eq_true, Nat.zero_le]
            rw [h123] at hT
            refine next ν _ _ ((F2.trans jY_36).trans (jY_S hF)) ?_ hT
            rw [hF.1 0 36 (by unfold jS inSp jO; omega), am_I_sI, if_pos ⟨rfl, rfl⟩]
end PUV
