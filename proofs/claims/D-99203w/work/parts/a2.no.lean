/-! nests: what came is put in -/
set_option maxRecDepth 100000
section NOV
variable {d : Nat} {μ ν ξ μ1 ν1 : am_M} {K : Option Value → am_M → Prop} {x y z c w a0 a1 a2 a3 : Int32} {h h' N C i j k r n L M m a b e q q' t u s ln tp : Nat} {v : Int32} {ru : Option PF} {F G : Nat → Nat → Prop} {S S' T : Nat → Int32} {p : Int64} {ch : Nat → Int32} {f : PF}
/-- a line as a column -/
def lnF (ch : Nat → Int32) (j : Nat) : Nat → Int32 := fun r => if r < 10 then vLn ch (5 * j) r else 0
theorem nsR_ok : ∀ (q i k : Nat), nsR ch q i = .inr k → ∀ j, i ≤ j → j < k → pLn ch (5 * j) = none
  | 0, i, k, h => by unfold nsR at h; cases h
  | q + 1, i, k, h => by
    intro j h1 h2
    unfold nsR at h
    split at h
    · cases h
    · rename_i e
      by_cases f : j = i
      · subst f; exact e
      · split at h
        · exact nsR_ok q (i + 1) k h j (by omega) h2
        · cases h; omega
theorem lnF_cG (hok : ∀ i, okS (ch i)) (hp : pLn ch (5 * j) = none) : cG (lnF ch j) := by
  have e : ¬ kdV (ch (5 * j)) < 0 ∧ ¬ stV (ch (5 * j + 1)) < 0 ∧ dgB (ch (5 * j + 2)) = true ∧ ¬ owV (ch (5 * j + 3)) < 0 := by
    unfold pLn at hp
    split at hp
    · cases hp
    split at hp
    · cases hp
    split at hp
    · split at hp
      · cases hp
      · exact ⟨by assumption, by assumption, by assumption, by assumption⟩
    · cases hp
  have g0 := (kd_s (hok (5 * j))).2 e.1
  have g1 := (st_s (hok (5 * j + 1))).2.1 e.2.1
  have g2 := co_s (hok (5 * j + 2)) e.2.2.1
  have g3 := (ow_s (hok (5 * j + 3))).2 e.2.2.2
  have k0 : (0 : Int32) ≤ 0 := by decide
  have k3 : (0 : Int32) ≤ 3 := by decide
  have k9 : (0 : Int32) ≤ 9 := by decide
  have k99 : (0 : Int32) ≤ 99 := by decide
  exact ⟨Or.inl ⟨rfl, rfl, rfl, rfl⟩, Or.inl rfl, ⟨g3.1, g3.2.1⟩, ⟨k0, k3⟩, ⟨k0, k9⟩, ⟨k0, k99⟩, ⟨g1.1, g1.2.1⟩, ⟨k0, k99⟩, g0, g2⟩
theorem nsC_cS (hj : j < 8) : cS (am_sI (am_sI (am_sI (am_sI μ 2 j a0) 3 j a1) 4 j a2) 5 j a3) 1 = spU (spU (spU (spU (cS μ 1) j a0) (8 + j) a1) (16 + j) a2) (24 + j) a3 :=
  (cS_w3 (μ := am_sI (am_sI (am_sI μ 2 j a0) 3 j a1) 4 j a2) (h := 1) (v := a3) hj).trans (congrArg (fun T => spU T (24 + j) a3) ((cS_w2 (μ := am_sI (am_sI μ 2 j a0) 3 j a1) (h := 1) (v := a2) hj).trans (congrArg (fun T => spU T (16 + j) a2) ((cS_w1 (μ := am_sI μ 2 j a0) (h := 1) (v := a1) hj).trans (congrArg (fun T => spU T (8 + j) a1) (cS_w0 (μ := μ) (h := 1) (v := a0) hj))))))
def comT (S : Nat → Int32) (j : Nat) : Nat → Int32 := spU (spU (spU (spU (spU (spU S (32 + j) (-1)) (40 + j) 0) (48 + j) 0) (56 + j) 0) (64 + j) 0) (72 + j) 0
theorem wX2_comesK (hj : j < 8) (hs : spL h (am_k μ) (am_R μ)) (hK : ∀ ν, Fr (fun a _ => inSp h a) μ ν → cS ν h = comT (cS μ h) j → K none ν) : am_Wp (d + 1) mX2_comes 0 [.ref h, .int (nI j)] [] μ K := by
  rw [wX2_comes hj hs]
  refine hK _ (Fr.I (Fr.I (Fr.I (Fr.I (Fr.I (Fr.I Fr.refl ?_) ?_) ?_) ?_) ?_) ?_) ?_
  · exact ⟨by omega, by omega⟩
  · exact ⟨by omega, by omega⟩
  · exact ⟨by omega, by omega⟩
  · exact ⟨by omega, by omega⟩
  · exact ⟨by omega, by omega⟩
  · exact ⟨by omega, by omega⟩
  · rw [cS_w9 hj, cS_w8 hj, cS_w7 hj, cS_w6 hj, cS_w5 hj, cS_w4 hj]; rfl
theorem new_col (hj : j < 8) (h0 : a0 = vLn ch (5 * i) 0) (h1 : a1 = vLn ch (5 * i) 1) (h2 : a2 = vLn ch (5 * i) 2) (h3 : a3 = vLn ch (5 * i) 3) : col (comT (spU (spU (spU (spU T j a0) (8 + j) a1) (16 + j) a2) (24 + j) a3) j) j = lnF ch i := by
  unfold comT
  rw [cu9 hj, cu8 hj, cu7 hj, cu6 hj, cu5 hj, cu4 hj, cu3 hj, cu2 hj, cu1 hj, cu0 hj]
  funext r
  by_cases f : r < 10
  · rcases (by omega : r = 0 ∨ r = 1 ∨ r = 2 ∨ r = 3 ∨ r = 4 ∨ r = 5 ∨ r = 6 ∨ r = 7 ∨ r = 8 ∨ r = 9) with g | g | g | g | g | g | g | g | g | g <;> subst g <;> simp (decide := true) only [spU, lnF, if_true, if_false, h0, h1, h2, h3] <;> rfl
  · have e : ∀ k, k < 10 → r ≠ k := fun k hk => by omega
    rw [spU_n (e 9 (by omega)), spU_n (e 8 (by omega)), spU_n (e 7 (by omega)), spU_n (e 6 (by omega)), spU_n (e 5 (by omega)), spU_n (e 4 (by omega)), spU_n (e 3 (by omega)), spU_n (e 2 (by omega)), spU_n (e 1 (by omega)), spU_n (e 0 (by omega))]
    unfold col lnF
    rw [if_neg f, if_neg f]
theorem old_col (hj : j < 8) (hn : n < 8) (hne : j ≠ n) : col (comT (spU (spU (spU (spU T n a0) (8 + n) a1) (16 + n) a2) (24 + n) a3) n) j = col T j := by
  unfold comT
  rw [co9 hj hn hne, co8 hj hn hne, co7 hj hn hne, co6 hj hn hne, co5 hj hn hne, co4 hj hn hne, co3 hj hn hne, co2 hj hn hne, co1 hj hn hne, co0 hj hn hne]
theorem hi_col (hn : n < 8) (hx : 80 ≤ j) : comT (spU (spU (spU (spU T n a0) (8 + n) a1) (16 + n) a2) (24 + n) a3) n j = T j := by
  unfold comT
  rw [spU_n (by omega), spU_n (by omega), spU_n (by omega), spU_n (by omega), spU_n (by omega), spU_n (by omega), spU_n (by omega), spU_n (by omega), spU_n (by omega), spU_n (by omega)]
/-- k columns put in behind N -/
def putL (ch : Nat → Int32) (N k : Nat) (S T : Nat → Int32) : Prop := (∀ j, j < k → col T (N + j) = lnF ch j) ∧ (∀ j, j < 8 → (j < N ∨ N + k ≤ j) → col T j = col S j) ∧ T 80 = S 80 ∧ T 81 = S 81 ∧ T 82 = S 82
def fNL (a b : Nat) : Prop := (1 ≤ a ∧ a ≤ 11) ∨ (a = 0 ∧ b = 2)
theorem nsC_put (hC : CC N ru c μ) (hNk : N + k ≤ 8) (h14 : am_I μ 0 14 = nI (N + k)) (hr : ∀ j, j < k → ∀ r, r < 4 → am_I μ (24 + r) (N + j) = vLn ch (5 * j) r) (z1 z2 z3 z4 z5 : Value)
    (hK : ∀ ν, Fr (fun a b => fNL a b ∨ (a = 0 ∧ (b = 4 ∨ b = 21))) μ ν → am_I ν 0 2 = nI (N + k) → putL ch N k (cS μ 1) (cS ν 1) → am_I ν 0 21 = 0 → am_I ν 0 4 = am_I μ 0 4 + 1 → K (some z5) ν) (hz : ∃ x, z5 = .int x) :
    am_Wp (d + 200) mX1_nests 83 [.ref 0, z1, z2, z3, z4, z5] [] μ K := by
  obtain ⟨x, rfl⟩ := hz
  refine am_for (N := k) (fun i ls ρ => ls = [.ref 0, z1, z2, z3, z4, .int x] ∧ Fr fNL μ ρ ∧ am_I ρ 0 2 = nI (N + i) ∧ putL ch N i (cS μ 1) (cS ρ 1)) ?_ ?_ k 0 _ _ (by omega) ⟨rfl, Fr.refl, hC.2.1, fun j hj => absurd hj (Nat.not_lt_zero j), fun j _ _ => rfl, rfl, rfl, rfl⟩
  · rintro i ls ρ hi ⟨rfl, hF, h2, hp⟩ ih
    have hcρ : cL (am_k ρ) (am_R ρ) := hF.cL hC.1
    have hcu := hcρ
    simp only [cL, spL, Nat.reduceAdd] at hcu
    have h14' : am_I ρ 0 14 = nI (N + k) := (hF.1 0 14 (by unfold fNL; omega)).trans h14
    have hlt : ¬ nI (N + k) ≤ nI (N + i) := nI_ge (by omega) (by omega)
    have hin : vp_in (nI (N + i)) 8 := vp_in_nI (by omega) (by omega)
    have hcl : (nI (N + i)).toNatClampNeg = N + i := nI_clamp (by omega)
    have q0 : am_I ρ 24 (N + i) = vLn ch (5 * i) 0 := (hF.1 24 _ (by unfold fNL; omega)).trans (hr i hi 0 (by decide))
    have q1 : am_I ρ 25 (N + i) = vLn ch (5 * i) 1 := (hF.1 25 _ (by unfold fNL; omega)).trans (hr i hi 1 (by decide))
    have q2 : am_I ρ 26 (N + i) = vLn ch (5 * i) 2 := (hF.1 26 _ (by unfold fNL; omega)).trans (hr i hi 2 (by decide))
    have q3 : am_I ρ 27 (N + i) = vLn ch (5 * i) 3 := (hF.1 27 _ (by unfold fNL; omega)).trans (hr i hi 3 (by decide))
    rw [gX1_nests_83]
    simp only [gX1_nests_84, gX1_nests_87, gX1_nests_88, gX1_nests_91, gX1_nests_94, gX1_nests_95, gX1_nests_98, gX1_nests_101, gX1_nests_102, gX1_nests_105, gX1_nests_106, gX1_nests_109, gX1_nests_110, gX1_nests_113, gX1_nests_114, gX1_nests_115, gX1_nests_116, gX1_nests_119, gX1_nests_122, gX1_nests_123, gX1_nests_126, gX1_nests_127, gX1_nests_130, gX1_nests_131, gX1_nests_134, gX1_nests_135, gX1_nests_136, gX1_nests_137, gX1_nests_140, gX1_nests_143, gX1_nests_144, gX1_nests_147, gX1_nests_148, gX1_nests_151, gX1_nests_152, gX1_nests_155, gX1_nests_156, gX1_nests_157, gX1_nests_158, gX1_nests_161, gX1_nests_164, gX1_nests_165, gX1_nests_168, gX1_nests_169, gX1_nests_172, gX1_nests_173, gX1_nests_176, gX1_nests_177, gX1_nests_178, gX1_nests_179, gX1_nests_182, gX1_nests_183, gX1_nests_186, am_kill_int, am_kill_ref, am_kill_null, am_kill_F, am_kill_long, am_cat_n, am_cat_i, am_cat_r, am_cat_0, am_cat_l, am_nr_n, am_nr_i, am_nr_r, am_nr_0, am_nr_l, Option.toList_some, Option.toList_none, List.nil_append, List.cons_append, va_rf_s, va_rf_n, am_II, am_I_sR, am_I_sL, am_R_sI, am_RR, am_R_sL, am_L_sI, am_L_sR, am_LL, am_k_sI, am_k_sR, am_k_sL, am_n_sI, am_n_sR, am_n_sL, true_and, and_true, true_or, or_true, or_false, false_or, not_true_eq_false, not_false_eq_true, Nat.reduceLT, am_dS, am_dP, am_d1, Nat.reduceSub, Nat.reduceMul, ne_eq, Nat.reduceBEq, Nat.reduceAdd, Nat.reduceLeDiff, Nat.reduceEqDiff, and_self, and_false, false_and, if_true, if_false, am_nb, am_nb0, am_nb1, am_lc1, am_lc2, am_lc3, am_b0, am_b1, am_10, am_c8, am_c16, am_c24, am_c32, am_c40, am_c48, am_c56, am_c64, am_c72, Nat.add_zero, Bool.false_eq_true, Nat.zero_le, hcu, h2, h14', hlt, hin, hcl, q0, q1, q2, q3]
    have hFd : Fr fNL ρ (am_sI (am_sI (am_sI (am_sI ρ 2 (N + i) (vLn ch (5 * i) 0)) 3 (N + i) (vLn ch (5 * i) 1)) 4 (N + i) (vLn ch (5 * i) 2)) 5 (N + i) (vLn ch (5 * i) 3)) := Fr.I (Fr.I (Fr.I (Fr.I Fr.refl (by unfold fNL; omega)) (by unfold fNL; omega)) (by unfold fNL; omega)) (by unfold fNL; omega)
    have hcs := nsC_cS (μ := ρ) (j := N + i) (a0 := vLn ch (5 * i) 0) (a1 := vLn ch (5 * i) 1) (a2 := vLn ch (5 * i) 2) (a3 := vLn ch (5 * i) 3) (by omega)
    refine wX2_comesK (d := d + 198) (h := 1) (j := N + i) (by omega) (hFd.spL (by decide) (by decide) hcρ.s1) (fun σ hF2 hT2 => ?_)
    rw [hcs] at hT2
    have hF3 : Fr fNL μ σ := (hF.trans hFd).trans (hF2.le fun a b z => by unfold inSp at z; unfold fNL; omega)
    have hk0 : am_k σ 0 = (0, 0) := by rw [hF3.2.2.2.1]; exact hC.1.c
    have h2' : am_I σ 0 2 = nI (N + i) := by rw [hF2.1 0 2 (by unfold inSp; omega), am_I_sI, if_neg (by omega), am_I_sI, if_neg (by omega), am_I_sI, if_neg (by omega), am_I_sI, if_neg (by omega)]; exact h2
    simp only [gX1_nests_189, gX1_nests_190, gX1_nests_191, gX1_nests_194, gX1_nests_195, gX1_nests_196, gX1_nests_199, am_kill_int, am_kill_ref, am_kill_null, am_kill_F, am_kill_long, am_cat_n, am_cat_i, am_cat_r, am_cat_0, am_cat_l, am_nr_n, am_nr_i, am_nr_r, am_nr_0, am_nr_l, Option.toList_some, Option.toList_none, List.nil_append, List.cons_append, va_rf_s, va_rf_n, am_II, am_I_sR, am_I_sL, am_R_sI, am_RR, am_R_sL, am_L_sI, am_L_sR, am_LL, am_k_sI, am_k_sR, am_k_sL, am_n_sI, am_n_sR, am_n_sL, true_and, and_true, true_or, or_true, or_false, false_or, not_true_eq_false, not_false_eq_true, Nat.reduceLT, am_dS, am_dP, am_d1, Nat.reduceSub, Nat.reduceMul, ne_eq, Nat.reduceBEq, Nat.reduceAdd, Nat.reduceLeDiff, Nat.reduceEqDiff, and_self, and_false, false_and, if_true, if_false, am_nb, am_nb0, am_nb1, am_lc1, am_lc2, am_lc3, am_b0, am_b1, am_10, am_c8, am_c16, am_c24, am_c32, am_c40, am_c48, am_c56, am_c64, am_c72, Nat.add_zero, Bool.false_eq_true, Nat.zero_le, hk0, h2', nI_1]
    have e1 : cS (am_sI σ 0 2 (nI (N + i + 1))) 1 = cS σ 1 := cS_o (by omega)
    refine ih _ _ ⟨rfl, Fr.I hF3 (by unfold fNL; omega), by rw [am_I_sI, if_pos ⟨rfl, rfl⟩]; rfl, fun j hj => ?_, fun j hj hj2 => ?_, ?_, ?_, ?_⟩
    · rw [e1, hT2]
      by_cases f : j = i
      · subst f; exact new_col (by omega) rfl rfl rfl rfl
      · rw [old_col (by omega) (by omega) (by omega)]; exact hp.1 j (by omega)
    · rw [e1, hT2, old_col (by omega) (by omega) (by omega)]; exact hp.2.1 j hj (by omega)
    · rw [e1, hT2, hi_col (by omega) (by omega)]; exact hp.2.2.1
    · rw [e1, hT2, hi_col (by omega) (by omega)]; exact hp.2.2.2.1
    · rw [e1, hT2, hi_col (by omega) (by omega)]; exact hp.2.2.2.2
  · rintro ls ρ ⟨rfl, hF, h2, hp⟩
    have hk0 : am_k ρ 0 = (0, 0) := by rw [hF.2.2.2.1]; exact hC.1.c
    have h14' : am_I ρ 0 14 = nI (N + k) := (hF.1 0 14 (by unfold fNL; omega)).trans h14
    have h4 : am_I ρ 0 4 = am_I μ 0 4 := hF.1 0 4 (by unfold fNL; omega)
    rw [gX1_nests_83]
    simp only [gX1_nests_84, gX1_nests_87, gX1_nests_88, gX1_nests_91, gX1_nests_202, gX1_nests_203, gX1_nests_204, gX1_nests_207, gX1_nests_208, gX1_nests_209, gX1_nests_212, gX1_nests_213, gX1_nests_214, gX1_nests_217, gX1_nests_219, am_kill_int, am_kill_ref, am_kill_null, am_kill_F, am_kill_long, am_cat_n, am_cat_i, am_cat_r, am_cat_0, am_cat_l, am_nr_n, am_nr_i, am_nr_r, am_nr_0, am_nr_l, Option.toList_some, Option.toList_none, List.nil_append, List.cons_append, va_rf_s, va_rf_n, am_II, am_I_sR, am_I_sL, am_R_sI, am_RR, am_R_sL, am_L_sI, am_L_sR, am_LL, am_k_sI, am_k_sR, am_k_sL, am_n_sI, am_n_sR, am_n_sL, true_and, and_true, true_or, or_true, or_false, false_or, not_true_eq_false, not_false_eq_true, Nat.reduceLT, am_dS, am_dP, am_d1, Nat.reduceSub, Nat.reduceMul, ne_eq, Nat.reduceBEq, Nat.reduceAdd, Nat.reduceLeDiff, Nat.reduceEqDiff, and_self, and_false, false_and, if_true, if_false, am_nb, am_nb0, am_nb1, am_lc1, am_lc2, am_lc3, am_b0, am_b1, am_10, am_c8, am_c16, am_c24, am_c32, am_c40, am_c48, am_c56, am_c64, am_c72, Nat.add_zero, Bool.false_eq_true, Nat.zero_le, hk0, h2, h14', Int32.le_refl, h4]
    refine hK _ (Fr.I (Fr.I (hF.le fun a b z => Or.inl z) (by omega)) (by omega)) ?_ ?_ ?_ ?_
    · rw [am_I_sI, if_neg (by omega), am_I_sI, if_neg (by omega)]; exact h2
    · rw [cS_o (by omega), cS_o (by omega)]; exact hp
    · rw [am_I_sI, if_neg (by omega), am_I_sI, if_pos ⟨rfl, rfl⟩]
    · rw [am_I_sI, if_pos ⟨rfl, rfl⟩]
/-- a column written into a row -/
theorem row_col (hj : j < 8) (h1 : ∀ r, r < 10 → T (8 * r + j) = vLn ch (5 * i) r) : col T j = lnF ch i := by
  funext r
  unfold col lnF
  by_cases f : r < 10
  · rw [if_pos f, if_pos f]; exact h1 r f
  · rw [if_neg f, if_neg f]
theorem nsM_put (hC : MC N c μ) (hNk : N + k ≤ 8) (hk8 : 4 * k ≤ 32) (hr : ∀ j, j < k → ∀ r, r < 4 → am_I μ 58 (4 * j + r) = vLn ch (5 * j) r) (z4 : Value)
    (hK : ∀ ν, Fr (fun a b => a = 55 ∨ (a = 54 ∧ (b = 1 ∨ b = 20 ∨ b = 35))) μ ν → am_I ν 54 1 = nI (N + k) → putL ch N k (am_I μ 55) (am_I ν 55) → am_I ν 54 20 = 0 → am_I ν 54 35 = am_I μ 54 35 + 1 → K (some (.int (nI k))) ν) :
    am_Wp (d + 200) mX3_nests 93 [.ref 54, .int (nI k), .int 0, .int (nI 0), z4] [] μ K := by
  have e8 : (8 : Int32) = nI 8 := rfl
  have e4 : (4 : Int32) = nI 4 := rfl
  have e10 : (10 : Int32) = nI 10 := rfl
  have e32 : (32 : Int32) = nI 32 := rfl
  refine am_for (N := k) (fun i ls ρ => (∃ z4, ls = [.ref 54, .int (nI k), .int 0, .int (nI i), z4]) ∧ Fr (fun a b => a = 55 ∨ (a = 54 ∧ b = 1)) μ ρ ∧ am_I ρ 54 1 = nI (N + i) ∧ putL ch N i (am_I μ 55) (am_I ρ 55)) ?_ ?_ k 0 _ _ (by omega) ⟨⟨z4, rfl⟩, Fr.refl, hC.2.1, fun j hj => absurd hj (Nat.not_lt_zero j), fun j _ _ => rfl, rfl, rfl, rfl⟩
  · rintro i ls ρ hi ⟨⟨z, rfl⟩, hF, h1, hp⟩ ih
    have hmρ0 := hF.mLk hC.1
    have hmρ := hmρ0
    unfold mL at hmρ
    have hlt : ¬ nI k ≤ nI i := nI_ge hi (by omega)
    rw [gX3_nests_93]
    simp only [gX3_nests_94, gX3_nests_95, gX3_nests_98, gX3_nests_99, am_kill_int, am_kill_ref, am_kill_null, am_kill_F, am_kill_long, am_cat_n, am_cat_i, am_cat_r, am_cat_0, am_cat_l, am_nr_n, am_nr_i, am_nr_r, am_nr_0, am_nr_l, Option.toList_some, Option.toList_none, List.nil_append, List.cons_append, va_rf_s, va_rf_n, am_II, am_I_sR, am_I_sL, am_R_sI, am_RR, am_R_sL, am_L_sI, am_L_sR, am_LL, am_k_sI, am_k_sR, am_k_sL, am_n_sI, am_n_sR, am_n_sL, true_and, and_true, true_or, or_true, or_false, false_or, not_true_eq_false, not_false_eq_true, Nat.reduceLT, am_dS, am_dP, am_d1, Nat.reduceSub, Nat.reduceMul, ne_eq, Nat.reduceBEq, Nat.reduceAdd, Nat.reduceLeDiff, Nat.reduceEqDiff, and_self, and_false, false_and, if_true, if_false, am_nb, am_nb0, am_nb1, am_lc1, am_lc2, am_lc3, am_b0, am_b1, am_10, am_c8, am_c16, am_c24, am_c32, am_c40, am_c48, am_c56, am_c64, am_c72, Nat.add_zero, Bool.false_eq_true, Nat.zero_le, hlt]
    refine am_for (N := 10) (fun r ls σ => ls = [.ref 54, .int (nI k), .int 0, .int (nI i), .int (nI r)] ∧ Fr (fun a _ => a = 55) ρ σ ∧ (∀ s, s < r → am_I σ 55 (8 * s + (N + i)) = if s < 4 then vLn ch (5 * i) s else 0) ∧ ∀ y, (∀ s, s < r → y ≠ 8 * s + (N + i)) → am_I σ 55 y = am_I ρ 55 y) ?_ ?_ 10 0 _ _ (by omega) ⟨rfl, Fr.refl, fun s hs => absurd hs (Nat.not_lt_zero s), fun y _ => rfl⟩
    · rintro r ls σ hr10 ⟨rfl, hF2, g1, g2⟩ ih2
      have hmσ := hF2.mLk hmρ0
      unfold mL at hmσ
      have hlt2 : ¬ nI 10 ≤ nI r := nI_ge hr10 (by omega)
      have h1' : am_I σ 54 1 = nI (N + i) := (hF2.1 54 1 (by decide)).trans h1
      have em8 : nI 8 * nI r = nI (8 * r) := nI_mul
      have em4 : nI 4 * nI i = nI (4 * i) := nI_mul
      have hv : vp_in (nI (8 * r + (N + i))) 83 := vp_in_nI (by omega) (by omega)
      have hcl : (nI (8 * r + (N + i))).toNatClampNeg = 8 * r + (N + i) := nI_clamp (by omega)
      have fin : ∀ y, (y = if r < 4 then vLn ch (5 * i) r else 0) → am_Wp (d + 200) mX3_nests 101 [.ref 54, .int (nI k), .int 0, .int (nI i), .int (nI (r + 1))] [] (am_sI σ 55 (8 * r + (N + i)) y) K := fun y hy => by
        refine ih2 _ _ ⟨rfl, Fr.I hF2 rfl, fun s hs => ?_, fun y' hy' => ?_⟩
        · by_cases f : s = r
          · subst f; rw [am_I_sI, if_pos ⟨rfl, rfl⟩]; exact hy
          · rw [am_I_sI, if_neg (by omega)]; exact g1 s (by omega)
        · rw [am_I_sI, if_neg (fun f => hy' r (by omega) f.2)]; exact g2 y' fun s hs => hy' s (by omega)
      by_cases f4 : r < 4
      · have hlt4 : ¬ nI 4 ≤ nI r := nI_ge f4 (by omega)
        have hv2 : vp_in (nI (4 * i + r)) 32 := vp_in_nI (by omega) (by omega)
        have hcl2 : (nI (4 * i + r)).toNatClampNeg = 4 * i + r := nI_clamp (by omega)
        have q58 : am_I σ 58 (4 * i + r) = vLn ch (5 * i) r := by rw [hF2.1 58 _ (by show ¬ (58 = 55); decide), hF.1 58 _ (by omega)]; exact hr i hi r f4
        rw [gX3_nests_101]
        simp only [gX3_nests_103, gX3_nests_105, gX3_nests_108, gX3_nests_109, gX3_nests_112, gX3_nests_114, gX3_nests_116, gX3_nests_117, gX3_nests_118, gX3_nests_121, gX3_nests_122, gX3_nests_124, gX3_nests_125, gX3_nests_128, gX3_nests_129, gX3_nests_132, gX3_nests_133, gX3_nests_134, gX3_nests_135, gX3_nests_137, gX3_nests_138, gX3_nests_139, gX3_nests_143, gX3_nests_144, gX3_nests_147, am_kill_int, am_kill_ref, am_kill_null, am_kill_F, am_kill_long, am_cat_n, am_cat_i, am_cat_r, am_cat_0, am_cat_l, am_nr_n, am_nr_i, am_nr_r, am_nr_0, am_nr_l, Option.toList_some, Option.toList_none, List.nil_append, List.cons_append, va_rf_s, va_rf_n, am_II, am_I_sR, am_I_sL, am_R_sI, am_RR, am_R_sL, am_L_sI, am_L_sR, am_LL, am_k_sI, am_k_sR, am_k_sL, am_n_sI, am_n_sR, am_n_sL, true_and, and_true, true_or, or_true, or_false, false_or, not_true_eq_false, not_false_eq_true, Nat.reduceLT, am_dS, am_dP, am_d1, Nat.reduceSub, Nat.reduceMul, ne_eq, Nat.reduceBEq, Nat.reduceAdd, Nat.reduceLeDiff, Nat.reduceEqDiff, and_self, and_false, false_and, if_true, if_false, am_nb, am_nb0, am_nb1, am_lc1, am_lc2, am_lc3, am_b0, am_b1, am_10, am_c8, am_c16, am_c24, am_c32, am_c40, am_c48, am_c56, am_c64, am_c72, Nat.add_zero, Bool.false_eq_true, Nat.zero_le, hmσ, e10, e8, e4, hlt2, hlt4, em8, em4, h1', nI_add, hv, hcl, hv2, hcl2, q58, nI_1]
        exact fin _ (by rw [if_pos f4])
      · have hlt4 : nI 4 ≤ nI r := nI_le (by omega) (by omega)
        rw [gX3_nests_101]
        simp only [gX3_nests_103, gX3_nests_105, gX3_nests_108, gX3_nests_109, gX3_nests_112, gX3_nests_114, gX3_nests_116, gX3_nests_117, gX3_nests_118, gX3_nests_121, gX3_nests_122, gX3_nests_124, gX3_nests_125, gX3_nests_142, gX3_nests_143, gX3_nests_144, gX3_nests_147, am_kill_int, am_kill_ref, am_kill_null, am_kill_F, am_kill_long, am_cat_n, am_cat_i, am_cat_r, am_cat_0, am_cat_l, am_nr_n, am_nr_i, am_nr_r, am_nr_0, am_nr_l, Option.toList_some, Option.toList_none, List.nil_append, List.cons_append, va_rf_s, va_rf_n, am_II, am_I_sR, am_I_sL, am_R_sI, am_RR, am_R_sL, am_L_sI, am_L_sR, am_LL, am_k_sI, am_k_sR, am_k_sL, am_n_sI, am_n_sR, am_n_sL, true_and, and_true, true_or, or_true, or_false, false_or, not_true_eq_false, not_false_eq_true, Nat.reduceLT, am_dS, am_dP, am_d1, Nat.reduceSub, Nat.reduceMul, ne_eq, Nat.reduceBEq, Nat.reduceAdd, Nat.reduceLeDiff, Nat.reduceEqDiff, and_self, and_false, false_and, if_true, if_false, am_nb, am_nb0, am_nb1, am_lc1, am_lc2, am_lc3, am_b0, am_b1, am_10, am_c8, am_c16, am_c24, am_c32, am_c40, am_c48, am_c56, am_c64, am_c72, Nat.add_zero, Bool.false_eq_true, Nat.zero_le, hmσ, e10, e8, e4, hlt2, hlt4, em8, h1', nI_add, hv, hcl, nI_1]
        exact fin _ (by rw [if_neg f4])
    · rintro ls σ ⟨rfl, hF2, g1, g2⟩
      have hmσ := hF2.mLk hmρ0
      unfold mL at hmσ
      have h1' : am_I σ 54 1 = nI (N + i) := (hF2.1 54 1 (by decide)).trans h1
      have hv : vp_in (nI (32 + (N + i))) 83 := vp_in_nI (by omega) (by omega)
      have hcl : (nI (32 + (N + i))).toNatClampNeg = 32 + (N + i) := nI_clamp (by omega)
      rw [gX3_nests_101]
      simp only [gX3_nests_103, gX3_nests_105, gX3_nests_150, gX3_nests_151, gX3_nests_154, gX3_nests_156, gX3_nests_157, gX3_nests_160, gX3_nests_161, gX3_nests_162, gX3_nests_163, gX3_nests_164, gX3_nests_165, gX3_nests_168, gX3_nests_169, gX3_nests_170, gX3_nests_173, gX3_nests_176, am_kill_int, am_kill_ref, am_kill_null, am_kill_F, am_kill_long, am_cat_n, am_cat_i, am_cat_r, am_cat_0, am_cat_l, am_nr_n, am_nr_i, am_nr_r, am_nr_0, am_nr_l, Option.toList_some, Option.toList_none, List.nil_append, List.cons_append, va_rf_s, va_rf_n, am_II, am_I_sR, am_I_sL, am_R_sI, am_RR, am_R_sL, am_L_sI, am_L_sR, am_LL, am_k_sI, am_k_sR, am_k_sL, am_n_sI, am_n_sR, am_n_sL, true_and, and_true, true_or, or_true, or_false, false_or, not_true_eq_false, not_false_eq_true, Nat.reduceLT, am_dS, am_dP, am_d1, Nat.reduceSub, Nat.reduceMul, ne_eq, Nat.reduceBEq, Nat.reduceAdd, Nat.reduceLeDiff, Nat.reduceEqDiff, and_self, and_false, false_and, if_true, if_false, am_nb, am_nb0, am_nb1, am_lc1, am_lc2, am_lc3, am_b0, am_b1, am_10, am_c8, am_c16, am_c24, am_c32, am_c40, am_c48, am_c56, am_c64, am_c72, Nat.add_zero, Bool.false_eq_true, Nat.zero_le, hmσ, e10, e32, Int32.le_refl, h1', nI_add, hv, hcl, nI_1]
      have r5 : ∀ y, am_I (am_sI (am_sI σ 55 (32 + (N + i)) (-1)) 54 1 (nI (N + i + 1))) 55 y = if y = 32 + (N + i) then -1 else am_I σ 55 y := fun y => by
        rw [am_I_sI, if_neg (by omega), am_I_sI]
        by_cases f : y = 32 + (N + i)
        · rw [if_pos ⟨rfl, f⟩, if_pos f]
        · rw [if_neg (by omega), if_neg f]
      have nw : col (am_I (am_sI (am_sI σ 55 (32 + (N + i)) (-1)) 54 1 (nI (N + i + 1))) 55) (N + i) = lnF ch i := row_col (by omega) fun s hs => by
        rw [r5]
        by_cases f : s = 4
        · subst f; rw [if_pos (by omega)]; rfl
        · rw [if_neg (by omega), g1 s hs]
          by_cases f2 : s < 4
          · rw [if_pos f2]
          · rw [if_neg f2]
            unfold vLn
            rw [if_neg (by omega), if_neg (by omega), if_neg (by omega), if_neg (by omega), if_neg (by omega)]
      have od : ∀ j, j < 8 → j ≠ N + i → col (am_I (am_sI (am_sI σ 55 (32 + (N + i)) (-1)) 54 1 (nI (N + i + 1))) 55) j = col (am_I ρ 55) j := fun j hj hne => funext fun s => by
        unfold col
        by_cases f : s < 10
        · rw [if_pos f, if_pos f, r5, if_neg (by omega), g2 _ (fun s' hs' => by omega)]
        · rw [if_neg f, if_neg f]
      have hi : ∀ y, 80 ≤ y → am_I (am_sI (am_sI σ 55 (32 + (N + i)) (-1)) 54 1 (nI (N + i + 1))) 55 y = am_I ρ 55 y := fun y hy => by
        rw [r5, if_neg (by omega), g2 _ (fun s' hs' => by omega)]
      refine ih _ _ ⟨⟨_, rfl⟩, Fr.I (Fr.I (hF.trans (hF2.le fun a b z => Or.inl z)) (Or.inl rfl)) (Or.inr ⟨rfl, rfl⟩), by rw [am_I_sI, if_pos ⟨rfl, rfl⟩]; rfl, fun j hj => ?_, fun j hj hj2 => ?_, ?_, ?_, ?_⟩
      · by_cases f : j = i
        · subst f; exact nw
        · rw [od _ (by omega) (by omega)]; exact hp.1 j (by omega)
      · rw [od j hj (by omega)]; exact hp.2.1 j hj (by omega)
      · rw [hi 80 (by omega)]; exact hp.2.2.1
      · rw [hi 81 (by omega)]; exact hp.2.2.2.1
      · rw [hi 82 (by omega)]; exact hp.2.2.2.2
  · rintro ls ρ ⟨⟨z, rfl⟩, hF, h1, hp⟩
    have hk0 : am_k ρ 54 = (2, 0) := by rw [hF.2.2.2.1]; have := hC.1; unfold mL at this; exact this.1.1
    have h35 : am_I ρ 54 35 = am_I μ 54 35 := hF.1 54 35 (by omega)
    rw [gX3_nests_93]
    simp only [gX3_nests_94, gX3_nests_95, gX3_nests_179, gX3_nests_180, gX3_nests_181, gX3_nests_184, gX3_nests_185, gX3_nests_186, gX3_nests_189, gX3_nests_190, gX3_nests_191, gX3_nests_194, gX3_nests_195, am_kill_int, am_kill_ref, am_kill_null, am_kill_F, am_kill_long, am_cat_n, am_cat_i, am_cat_r, am_cat_0, am_cat_l, am_nr_n, am_nr_i, am_nr_r, am_nr_0, am_nr_l, Option.toList_some, Option.toList_none, List.nil_append, List.cons_append, va_rf_s, va_rf_n, am_II, am_I_sR, am_I_sL, am_R_sI, am_RR, am_R_sL, am_L_sI, am_L_sR, am_LL, am_k_sI, am_k_sR, am_k_sL, am_n_sI, am_n_sR, am_n_sL, true_and, and_true, true_or, or_true, or_false, false_or, not_true_eq_false, not_false_eq_true, Nat.reduceLT, am_dS, am_dP, am_d1, Nat.reduceSub, Nat.reduceMul, ne_eq, Nat.reduceBEq, Nat.reduceAdd, Nat.reduceLeDiff, Nat.reduceEqDiff, and_self, and_false, false_and, if_true, if_false, am_nb, am_nb0, am_nb1, am_lc1, am_lc2, am_lc3, am_b0, am_b1, am_10, am_c8, am_c16, am_c24, am_c32, am_c40, am_c48, am_c56, am_c64, am_c72, Nat.add_zero, Bool.false_eq_true, Nat.zero_le, hk0, Int32.le_refl, h35]
    refine hK _ (Fr.I (Fr.I (hF.le fun a b z => by omega) (by omega)) (by omega)) ?_ ?_ ?_ ?_
    · rw [am_I_sI, if_neg (by omega), am_I_sI, if_neg (by omega)]; exact h1
    · rw [am_row_o (by decide), am_row_o (by decide)]; exact hp
    · rw [am_I_sI, if_neg (by omega), am_I_sI, if_pos ⟨rfl, rfl⟩]
    · rw [am_I_sI, if_pos ⟨rfl, rfl⟩]
end NOV
