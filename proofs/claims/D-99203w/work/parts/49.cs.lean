/-! the component reads a rule: ranks -/
set_option maxRecDepth 100000
section CSV
variable {d : Nat} {μ ν ξ : am_M} {K : Option Value → am_M → Prop} {x y z c w : Int32} {h N j i k a a' a0 e n b q m dp s : Nat} {v : Int32} {ch : Nat → Int32} {f g : PF} {p : PR}
theorem chr8 : ∀ n : Fin 256, ((nI n.val).toUInt32 % 65536).toInt32 = nI n.val := by decide +kernel
theorem chF : ∀ n : Fin 256, narrow .char (.int (nI n.val)) = .int (nI n.val) ∧ fits .char (.int (nI n.val)) = true := by decide +kernel
theorem wX1_acts (hm : m < 3) : am_Wp d mX1_acts 0 [.int (nI m)] [] μ K ↔ K (some (.ref (1000008 + 2 * m))) μ := by
  rcases (by omega : m = 0 ∨ m = 1 ∨ m = 2) with q | q | q <;> subst q
  · have h0 : nI 0 = 0 := rfl
    simp only [gX1_acts_0, gX1_acts_1, gX1_acts_4, gX1_acts_6, gX1_acts_9, gX1_acts_10, gX1_acts_11, gX1_acts_14, gX1_acts_16, gX1_acts_19, gX1_acts_21, gX1_acts_21n, am_kill_int, am_kill_ref, am_kill_null, am_kill_F, am_kill_long, am_cat_n, am_cat_i, am_cat_r, am_cat_0, am_cat_l, am_nr_n, am_nr_i, am_nr_r, am_nr_0, am_nr_l, Option.toList_some, Option.toList_none, List.nil_append, List.cons_append, va_rf_s, va_rf_n, am_II, am_I_sR, am_I_sL, am_R_sI, am_RR, am_R_sL, am_L_sI, am_L_sR, am_LL, am_k_sI, am_k_sR, am_k_sL, am_n_sI, am_n_sR, am_n_sL, true_and, and_true, true_or, or_true, or_false, false_or, not_true_eq_false, not_false_eq_true, Nat.reduceLT, am_dS, am_dP, am_d1, Nat.reduceSub, Nat.reduceMul, ne_eq, Nat.reduceBEq, Nat.reduceAdd, Nat.reduceLeDiff, Nat.reduceEqDiff, and_self, and_false, false_and, if_true, if_false, am_nb, am_nb0, am_nb1, am_lc1, am_lc2, am_lc3, am_b0, am_b1, am_10, am_c8, am_c16, am_c24, am_c32, am_c40, am_c48, am_c56, am_c64, am_c72, Nat.add_zero, Bool.false_eq_true, Nat.zero_le, h0]
  · have h0 : ¬ nI 1 = 0 := by decide
    have h1 : nI 1 = 1 := rfl
    simp only [gX1_acts_0, gX1_acts_1, gX1_acts_4, gX1_acts_6, gX1_acts_9, gX1_acts_10, gX1_acts_11, gX1_acts_14, gX1_acts_16, gX1_acts_19, gX1_acts_21, gX1_acts_21n, am_kill_int, am_kill_ref, am_kill_null, am_kill_F, am_kill_long, am_cat_n, am_cat_i, am_cat_r, am_cat_0, am_cat_l, am_nr_n, am_nr_i, am_nr_r, am_nr_0, am_nr_l, Option.toList_some, Option.toList_none, List.nil_append, List.cons_append, va_rf_s, va_rf_n, am_II, am_I_sR, am_I_sL, am_R_sI, am_RR, am_R_sL, am_L_sI, am_L_sR, am_LL, am_k_sI, am_k_sR, am_k_sL, am_n_sI, am_n_sR, am_n_sL, true_and, and_true, true_or, or_true, or_false, false_or, not_true_eq_false, not_false_eq_true, Nat.reduceLT, am_dS, am_dP, am_d1, Nat.reduceSub, Nat.reduceMul, ne_eq, Nat.reduceBEq, Nat.reduceAdd, Nat.reduceLeDiff, Nat.reduceEqDiff, and_self, and_false, false_and, if_true, if_false, am_nb, am_nb0, am_nb1, am_lc1, am_lc2, am_lc3, am_b0, am_b1, am_10, am_c8, am_c16, am_c24, am_c32, am_c40, am_c48, am_c56, am_c64, am_c72, Nat.add_zero, Bool.false_eq_true, Nat.zero_le, h0, h1]
  · have h0 : ¬ nI 2 = 0 := by decide
    have h1 : ¬ nI 2 = 1 := by decide
    simp only [gX1_acts_0, gX1_acts_1, gX1_acts_4, gX1_acts_6, gX1_acts_9, gX1_acts_10, gX1_acts_11, gX1_acts_14, gX1_acts_16, gX1_acts_19, gX1_acts_21, gX1_acts_21n, am_kill_int, am_kill_ref, am_kill_null, am_kill_F, am_kill_long, am_cat_n, am_cat_i, am_cat_r, am_cat_0, am_cat_l, am_nr_n, am_nr_i, am_nr_r, am_nr_0, am_nr_l, Option.toList_some, Option.toList_none, List.nil_append, List.cons_append, va_rf_s, va_rf_n, am_II, am_I_sR, am_I_sL, am_R_sI, am_RR, am_R_sL, am_L_sI, am_L_sR, am_LL, am_k_sI, am_k_sR, am_k_sL, am_n_sI, am_n_sR, am_n_sL, true_and, and_true, true_or, or_true, or_false, false_or, not_true_eq_false, not_false_eq_true, Nat.reduceLT, am_dS, am_dP, am_d1, Nat.reduceSub, Nat.reduceMul, ne_eq, Nat.reduceBEq, Nat.reduceAdd, Nat.reduceLeDiff, Nat.reduceEqDiff, and_self, and_false, false_and, if_true, if_false, am_nb, am_nb0, am_nb1, am_lc1, am_lc2, am_lc3, am_b0, am_b1, am_10, am_c8, am_c16, am_c24, am_c32, am_c40, am_c48, am_c56, am_c64, am_c72, Nat.add_zero, Bool.false_eq_true, Nat.zero_le, h0, h1]
theorem wX1_amongO (hC : CR e a ch μ) (hm : m < 3) : am_Wp (d + 5) mX1_among 0 [.ref 0, .ref (1000008 + 2 * m)] [] μ K ↔ K (some (.int (amF (4 + m) (ch a)))) μ := by
  have := wX1_among (d := d) (K := K) hC (i := 4 + m) (by omega)
  rwa [show am_B + 2 * (4 + m) = 1000008 + 2 * m by unfold am_B; omega] at this
theorem readsLoop (hm : m < 3) (TT : spR (m + 1) n e ch) (hdp : dp ≤ 4) : ∀ (k b : Nat) (f : PF) (h : Nat) (μ : am_M) (z4 z5 : Value), e - b ≤ k → b ≤ e → (e - b) + 4 * (4 - dp) + (3 - (m + 1)) + 1 ≤ n → CR e b ch μ → am_I μ 0 9 = nI dp → 78 ≤ am_n μ ∧ am_n μ + (e - b) ≤ 400000 → Tr (b - a0) μ h f → a0 < b →
    okC e K μ a0 b (pL (fun b => pP ch n (m + 1) b dp) m ch k f b) → am_Wp (d + 2 * (n + 1) + 9) mX1_reads 20 [.ref 0, .int (nI m), .ref h, .int 1, z4, z5] [] μ K := by
  have hd : d + 2 * (n + 1) + 9 = d + 2 * n + 10 + 1 := by omega
  have hd2 : d + 2 * n + 10 = d + 1 + 2 * n + 9 := by omega
  have one : ¬ (1 : Int32) = 0 := by decide
  rw [hd]
  intro k
  induction k with
  | zero =>
    intro b f h μ z4 z5 hk hbe hfu hC h9 hN hTr hab hK
    have hcu := hC.1.c
    have hop : ¬ isOp m (ch b) = true := by
      rw [hC.2.2.2.2.2.2 b (by omega)]
      rcases (by omega : m = 0 ∨ m = 1 ∨ m = 2) with q | q | q <;> subst q <;> decide
    have hl : amF (4 + m) (ch b) < 0 := by rw [hC.amO b hm]; exact hop
    rw [gX1_reads_20]
    simp only [gX1_reads_21, gX1_reads_21n, gX1_reads_24, gX1_reads_25, gX1_reads_28, gX1_reads_29, gX1_reads_30, gX1_reads_33, gX1_reads_36, gX1_reads_106, gX1_reads_106n, gX1_reads_107, gX1_reads_107n, am_kill_int, am_kill_ref, am_kill_null, am_kill_F, am_kill_long, am_cat_n, am_cat_i, am_cat_r, am_cat_0, am_cat_l, am_nr_n, am_nr_i, am_nr_r, am_nr_0, am_nr_l, Option.toList_some, Option.toList_none, List.nil_append, List.cons_append, va_rf_s, va_rf_n, am_I_sR, am_I_sL, am_R_sI, am_R_sL, am_L_sI, am_L_sR, am_k_sI, am_k_sR, am_k_sL, am_n_sI, am_n_sR, am_n_sL, true_and, and_true, true_or, or_true, or_false, false_or, not_true_eq_false, not_false_eq_true, Nat.reduceLT, am_dS, am_dP, am_d1, Nat.reduceSub, Nat.reduceMul, ne_eq, Nat.reduceBEq, Nat.reduceAdd, Nat.reduceLeDiff, Nat.reduceEqDiff, and_self, and_false, false_and, if_true, if_false, am_nb, am_nb0, am_nb1, am_lc1, am_lc2, am_lc3, am_b0, am_b1, am_10, am_c8, am_c16, am_c24, am_c32, am_c40, am_c48, am_c56, am_c64, am_c72, Nat.add_zero, Bool.false_eq_true, Nat.zero_le, wX1_acts hm, wX1_amongO hC hm, hcu, hl, one]
    have hK' : okC e K μ a0 b (.inr (f, b)) := hK
    rw [okC_inr] at hK'
    exact hK' μ h AF.refl hC.2.2.1 rfl hTr
  | succ k ih =>
    intro b f h μ z4 z5 hk hbe hfu hC h9 hN hTr hab hK
    have hcu := hC.1
    simp only [cL, spL, Nat.reduceAdd] at hcu
    have hb7 := hC.2.2.1
    have he80 := hC.2.2.2.2.1.1
    have hch : ∀ i, 0 ≤ ch i → i < e := fun i q => hC.lt q
    rw [gX1_reads_20]
    unfold pL at hK
    by_cases hop : isOp m (ch b) = true
    · have hl : ¬ amF (4 + m) (ch b) < 0 := by rw [hC.amO b hm]; exact fun q => q hop
      rw [if_pos hop] at hK
      have hlt : b < e := by
        rcases hC.val b with q | ⟨n, hn, q⟩
        · rw [q] at hop
          rcases (by omega : m = 0 ∨ m = 1 ∨ m = 2) with w | w | w <;> subst w <;> exact absurd hop (by decide)
        · refine hch b ?_
          rw [q, ← nI_0]; exact nI_le (by omega) (by omega)
      have hin : vp_in (nI b) 80 := vp_in_nI (by omega) (by omega)
      have hcl : (nI b).toNatClampNeg = b := nI_clamp (by omega)
      obtain ⟨ht, nc, hnc, hcc⟩ := hC.2.2.2.2.2.1 b hlt
      have hch8 : ((ch b).toUInt32 % 65536).toInt32 = ch b := by rw [hcc]; exact chr8 ⟨nc, hnc⟩
      have hcf : narrow .char (.int (ch b)) = .int (ch b) ∧ fits .char (.int (ch b)) = true := by rw [hcc]; exact chF ⟨nc, hnc⟩
      have hC2 := hC.go (k := b + 1) (by omega)
      have hA1 : AF μ (am_sI μ 0 7 (nI (b + 1))) (b + 1 - (b + 1)) := AF.refl.at (by omega)
      simp only [gX1_reads_21, gX1_reads_21n, gX1_reads_24, gX1_reads_25, gX1_reads_28, gX1_reads_29, gX1_reads_30, gX1_reads_33, gX1_reads_36, gX1_reads_39, gX1_reads_40, gX1_reads_43, gX1_reads_44, gX1_reads_47, gX1_reads_48, gX1_reads_49, gX1_reads_51, gX1_reads_52, gX1_reads_53, gX1_reads_56, gX1_reads_57, gX1_reads_58, gX1_reads_61, gX1_reads_62, gX1_reads_63, gX1_reads_64, gX1_reads_65, am_kill_int, am_kill_ref, am_kill_null, am_kill_F, am_kill_long, am_cat_n, am_cat_i, am_cat_r, am_cat_0, am_cat_l, am_nr_n, am_nr_i, am_nr_r, am_nr_0, am_nr_l, Option.toList_some, Option.toList_none, List.nil_append, List.cons_append, va_rf_s, va_rf_n, am_I_sR, am_I_sL, am_R_sI, am_R_sL, am_L_sI, am_L_sR, am_k_sI, am_k_sR, am_k_sL, am_n_sI, am_n_sR, am_n_sL, true_and, and_true, true_or, or_true, or_false, false_or, not_true_eq_false, not_false_eq_true, Nat.reduceLT, am_dS, am_dP, am_d1, Nat.reduceSub, Nat.reduceMul, ne_eq, Nat.reduceBEq, Nat.reduceAdd, Nat.reduceLeDiff, Nat.reduceEqDiff, and_self, and_false, false_and, if_true, if_false, am_nb, am_nb0, am_nb1, am_lc1, am_lc2, am_lc3, am_b0, am_b1, am_10, am_c8, am_c16, am_c24, am_c32, am_c40, am_c48, am_c56, am_c64, am_c72, Nat.add_zero, Bool.false_eq_true, Nat.zero_le, am_II, wX1_acts hm, wX1_amongO hC hm, hcu, hl, one, hb7, hin, hcl, ht, hch8, nI_1]
      have TT1 := TT (d + 1) (b + 1) dp
      rw [← hd2] at TT1
      refine TT1 _ _ hdp hC2 h9 ⟨hN.1, by show am_n μ + _ ≤ _; omega⟩ (by omega) ?_
      have hle := pP_le hch n (m + 1) (b + 1) dp (by omega)
      have hge := pP_ge (ch := ch) n (m + 1) (b + 1) dp
      cases hp : pP ch n (m + 1) (b + 1) dp with
      | inl p =>
        rw [hp] at hK
        simp only [okC_inl] at hK
        rw [okC_inl]
        intro ν q1 q2
        have fin : K (some .null) ν := hK ν (hA1.trans q1 (by omega)) q2
        by_cases hm0 : nI m ≤ 0
        · simp only [gX1_reads_68, gX1_reads_68n, gX1_reads_70, gX1_reads_70n, gX1_reads_72, gX1_reads_72n, gX1_reads_75, gX1_reads_76, gX1_reads_92, gX1_reads_92n, gX1_reads_93, gX1_reads_94, gX1_reads_97, gX1_reads_98, gX1_reads_101, gX1_reads_102, gX1_reads_103, am_kill_int, am_kill_ref, am_kill_null, am_kill_F, am_kill_long, am_cat_n, am_cat_i, am_cat_r, am_cat_0, am_cat_l, am_nr_n, am_nr_i, am_nr_r, am_nr_0, am_nr_l, Option.toList_some, Option.toList_none, List.nil_append, List.cons_append, va_rf_s, va_rf_n, am_I_sR, am_I_sL, am_R_sI, am_R_sL, am_L_sI, am_L_sR, am_k_sI, am_k_sR, am_k_sL, am_n_sI, am_n_sR, am_n_sL, true_and, and_true, true_or, or_true, or_false, false_or, not_true_eq_false, not_false_eq_true, Nat.reduceLT, am_dS, am_dP, am_d1, Nat.reduceSub, Nat.reduceMul, ne_eq, Nat.reduceBEq, Nat.reduceAdd, Nat.reduceLeDiff, Nat.reduceEqDiff, and_self, and_false, false_and, if_true, if_false, am_nb, am_nb0, am_nb1, am_lc1, am_lc2, am_lc3, am_b0, am_b1, am_10, am_c8, am_c16, am_c24, am_c32, am_c40, am_c48, am_c56, am_c64, am_c72, Nat.add_zero, Bool.false_eq_true, Nat.zero_le, hm0]
          rw [gX1_reads_20n]
          simp only [gX1_reads_21, gX1_reads_21n, gX1_reads_106, gX1_reads_106n, gX1_reads_107, gX1_reads_107n, am_kill_int, am_kill_ref, am_kill_null, am_kill_F, am_kill_long, am_cat_n, am_cat_i, am_cat_r, am_cat_0, am_cat_l, am_nr_n, am_nr_i, am_nr_r, am_nr_0, am_nr_l, Option.toList_some, Option.toList_none, List.nil_append, List.cons_append, va_rf_s, va_rf_n, am_I_sR, am_I_sL, am_R_sI, am_R_sL, am_L_sI, am_L_sR, am_k_sI, am_k_sR, am_k_sL, am_n_sI, am_n_sR, am_n_sL, true_and, and_true, true_or, or_true, or_false, false_or, not_true_eq_false, not_false_eq_true, Nat.reduceLT, am_dS, am_dP, am_d1, Nat.reduceSub, Nat.reduceMul, ne_eq, Nat.reduceBEq, Nat.reduceAdd, Nat.reduceLeDiff, Nat.reduceEqDiff, and_self, and_false, false_and, if_true, if_false, am_nb, am_nb0, am_nb1, am_lc1, am_lc2, am_lc3, am_b0, am_b1, am_10, am_c8, am_c16, am_c24, am_c32, am_c40, am_c48, am_c56, am_c64, am_c72, Nat.add_zero, Bool.false_eq_true, Nat.zero_le]
          exact fin
        · simp only [gX1_reads_68, gX1_reads_68n, gX1_reads_70, gX1_reads_70n, gX1_reads_72, gX1_reads_72n, gX1_reads_75, gX1_reads_76, gX1_reads_92, gX1_reads_92n, gX1_reads_93, gX1_reads_94, gX1_reads_97, gX1_reads_98, gX1_reads_101, gX1_reads_102, gX1_reads_103, am_kill_int, am_kill_ref, am_kill_null, am_kill_F, am_kill_long, am_cat_n, am_cat_i, am_cat_r, am_cat_0, am_cat_l, am_nr_n, am_nr_i, am_nr_r, am_nr_0, am_nr_l, Option.toList_some, Option.toList_none, List.nil_append, List.cons_append, va_rf_s, va_rf_n, am_I_sR, am_I_sL, am_R_sI, am_R_sL, am_L_sI, am_L_sR, am_k_sI, am_k_sR, am_k_sL, am_n_sI, am_n_sR, am_n_sL, true_and, and_true, true_or, or_true, or_false, false_or, not_true_eq_false, not_false_eq_true, Nat.reduceLT, am_dS, am_dP, am_d1, Nat.reduceSub, Nat.reduceMul, ne_eq, Nat.reduceBEq, Nat.reduceAdd, Nat.reduceLeDiff, Nat.reduceEqDiff, and_self, and_false, false_and, if_true, if_false, am_nb, am_nb0, am_nb1, am_lc1, am_lc2, am_lc3, am_b0, am_b1, am_10, am_c8, am_c16, am_c24, am_c32, am_c40, am_c48, am_c56, am_c64, am_c72, Nat.add_zero, Bool.false_eq_true, Nat.zero_le, hm0]
          rw [gX1_reads_20n]
          simp only [gX1_reads_21, gX1_reads_21n, gX1_reads_106, gX1_reads_106n, gX1_reads_107, gX1_reads_107n, am_kill_int, am_kill_ref, am_kill_null, am_kill_F, am_kill_long, am_cat_n, am_cat_i, am_cat_r, am_cat_0, am_cat_l, am_nr_n, am_nr_i, am_nr_r, am_nr_0, am_nr_l, Option.toList_some, Option.toList_none, List.nil_append, List.cons_append, va_rf_s, va_rf_n, am_I_sR, am_I_sL, am_R_sI, am_R_sL, am_L_sI, am_L_sR, am_k_sI, am_k_sR, am_k_sL, am_n_sI, am_n_sR, am_n_sL, true_and, and_true, true_or, or_true, or_false, false_or, not_true_eq_false, not_false_eq_true, Nat.reduceLT, am_dS, am_dP, am_d1, Nat.reduceSub, Nat.reduceMul, ne_eq, Nat.reduceBEq, Nat.reduceAdd, Nat.reduceLeDiff, Nat.reduceEqDiff, and_self, and_false, false_and, if_true, if_false, am_nb, am_nb0, am_nb1, am_lc1, am_lc2, am_lc3, am_b0, am_b1, am_10, am_c8, am_c16, am_c24, am_c32, am_c40, am_c48, am_c56, am_c64, am_c72, Nat.add_zero, Bool.false_eq_true, Nat.zero_le]
          exact fin
      | inr r =>
        rw [hp] at hK hle hge
        have hle' : r.2 ≤ e := hle
        have hge' : b + 1 ≤ r.2 := hge
        rw [show r = (r.1, r.2) from rfl, okC_inr]
        rw [show r = (r.1, r.2) from rfl] at hK
        simp only at hK
        intro ν o q1 q2 q3 q4
        have q5 := hA1.trans q1 (q := r.2 - (b + 1)) (by omega)
        have hnν : am_n ν < 400000 := by have := q5.2.2.2.2.1.2; omega
        have hB : am_n ν < am_B := Nat.lt_of_lt_of_le hnν (by decide)
        have hk6 : (am_k (am_new ν (6, 0) 5) (am_n ν)).1 = 6 := by rw [am_k_new, if_pos rfl]
        have hTr2 : Tr (b - a0) ν h f := hTr.mono (q5.node (by omega))
        have tr_lt : ∀ {n h f}, Tr n ν h f → h < am_n ν := fun {n} {h} {f} t => by
          cases n with
          | zero => exact t.elim
          | succ k => exact t.1.2
        have hhB : h < am_B := Nat.lt_trans (tr_lt hTr2) hB
        have hoB : o < am_B := Nat.lt_trans (tr_lt q4) hB
        have hge2 := q5.2.2.2.2.1.1
        have hA : AF ν (am_sR (am_sR (am_sI (am_sR (am_new ν (6, 0) 5) (am_n ν) 3 (some 0)) (am_n ν) 0 (ch b)) (am_n ν) 1 (some h)) (am_n ν) 2 (some o)) 1 := ((((AF.refl (q := 0)).new (by decide) hB |>.sR (Nat.le_refl _) hB).sI (Nat.le_refl _) hB).sR (Nat.le_refl _) hB).sR (Nat.le_refl _) hB
        have hA2 := q5.trans hA (q := r.2 - b) (by omega)
        have hnode := hA.node (by omega)
        generalize hξ : am_sR (am_sR (am_sI (am_sR (am_new ν (6, 0) 5) (am_n ν) 3 (some 0)) (am_n ν) 0 (ch b)) (am_n ν) 1 (some h)) (am_n ν) 2 (some o) = ξ at hA hA2 hnode
        have g7 : am_I ξ 0 7 = nI r.2 := by rw [← hξ, am_I_sR, am_I_sR, am_I_sI, if_neg (by omega), am_I_sR, am_I_new, if_neg (by omega)]; exact q2
        have g9 : am_I ξ 0 9 = am_I μ 0 9 := by rw [← hξ, am_I_sR, am_I_sR, am_I_sI, if_neg (by omega), am_I_sR, am_I_new, if_neg (by omega)]; exact q3
        have gn : am_n ξ = am_n ν + 1 := by rw [← hξ]; rfl
        have gT : Tr (r.2 - a0) ξ (am_n ν) (fun en => actI (ch b) (f en) (r.1 en)) := by
          refine Tr.le (n := (max (b - a0) (r.2 - (b + 1))) + 1) (by omega) ⟨⟨by omega, by omega⟩, Or.inr (Or.inr (Or.inr ⟨?_, h, f, o, r.1, ?_, ?_, ?_, ?_, ?_⟩))⟩
          · rw [← hξ]; exact hk6
          · rw [← hξ, am_R_sR, if_neg (by omega), am_R_sR, if_pos ⟨rfl, rfl⟩]
          · exact (hTr2.mono hnode).le (by omega)
          · rw [← hξ, am_R_sR, if_pos ⟨rfl, rfl⟩]
          · exact (q4.mono hnode).le (by omega)
          · rw [← hξ, am_I_sR, am_I_sR, am_I_sI, if_pos ⟨rfl, rfl⟩]
        simp only [gX1_reads_68, gX1_reads_68n, gX1_reads_70, gX1_reads_70n, gX1_reads_72, gX1_reads_72n, gX1_reads_75, gX1_reads_76, gX1_reads_79, gX1_reads_82, gX1_reads_83, gX1_reads_84, gX1_reads_86, gX1_reads_86n, gX1_reads_87, gX1_reads_87n, gX1_reads_89, am_kill_int, am_kill_ref, am_kill_null, am_kill_F, am_kill_long, am_cat_n, am_cat_i, am_cat_r, am_cat_0, am_cat_l, am_nr_n, am_nr_i, am_nr_r, am_nr_0, am_nr_l, Option.toList_some, Option.toList_none, List.nil_append, List.cons_append, va_rf_s, va_rf_n, am_I_sR, am_I_sL, am_R_sI, am_R_sL, am_L_sI, am_L_sR, am_k_sI, am_k_sR, am_k_sL, am_n_sI, am_n_sR, am_n_sL, true_and, and_true, true_or, or_true, or_false, false_or, not_true_eq_false, not_false_eq_true, Nat.reduceLT, am_dS, am_dP, am_d1, Nat.reduceSub, Nat.reduceMul, ne_eq, Nat.reduceBEq, Nat.reduceAdd, Nat.reduceLeDiff, Nat.reduceEqDiff, and_self, and_false, false_and, if_true, if_false, am_nb, am_nb0, am_nb1, am_lc1, am_lc2, am_lc3, am_b0, am_b1, am_10, am_c8, am_c16, am_c24, am_c32, am_c40, am_c48, am_c56, am_c64, am_c72, Nat.add_zero, Bool.false_eq_true, Nat.zero_le, hnν, wX8_init (d := d + 2 * n + 8) hk6 hhB hoB hcf, hξ]
        by_cases hm0 : m = 0
        · rw [if_pos hm0, okC_inr] at hK
          subst hm0
          have l0 : nI 0 ≤ 0 := by decide
          simp only [gX1_reads_92, gX1_reads_92n, gX1_reads_93, gX1_reads_94, gX1_reads_97, gX1_reads_98, gX1_reads_101, gX1_reads_102, gX1_reads_103, am_kill_int, am_kill_ref, am_kill_null, am_kill_F, am_kill_long, am_cat_n, am_cat_i, am_cat_r, am_cat_0, am_cat_l, am_nr_n, am_nr_i, am_nr_r, am_nr_0, am_nr_l, Option.toList_some, Option.toList_none, List.nil_append, List.cons_append, va_rf_s, va_rf_n, am_I_sR, am_I_sL, am_R_sI, am_R_sL, am_L_sI, am_L_sR, am_k_sI, am_k_sR, am_k_sL, am_n_sI, am_n_sR, am_n_sL, true_and, and_true, true_or, or_true, or_false, false_or, not_true_eq_false, not_false_eq_true, Nat.reduceLT, am_dS, am_dP, am_d1, Nat.reduceSub, Nat.reduceMul, ne_eq, Nat.reduceBEq, Nat.reduceAdd, Nat.reduceLeDiff, Nat.reduceEqDiff, and_self, and_false, false_and, if_true, if_false, am_nb, am_nb0, am_nb1, am_lc1, am_lc2, am_lc3, am_b0, am_b1, am_10, am_c8, am_c16, am_c24, am_c32, am_c40, am_c48, am_c56, am_c64, am_c72, Nat.add_zero, Bool.false_eq_true, Nat.zero_le, l0]
          rw [gX1_reads_20]
          simp only [gX1_reads_21, gX1_reads_21n, gX1_reads_24, gX1_reads_25, gX1_reads_106, gX1_reads_106n, gX1_reads_107, gX1_reads_107n, am_kill_int, am_kill_ref, am_kill_null, am_kill_F, am_kill_long, am_cat_n, am_cat_i, am_cat_r, am_cat_0, am_cat_l, am_nr_n, am_nr_i, am_nr_r, am_nr_0, am_nr_l, Option.toList_some, Option.toList_none, List.nil_append, List.cons_append, va_rf_s, va_rf_n, am_I_sR, am_I_sL, am_R_sI, am_R_sL, am_L_sI, am_L_sR, am_k_sI, am_k_sR, am_k_sL, am_n_sI, am_n_sR, am_n_sL, true_and, and_true, true_or, or_true, or_false, false_or, not_true_eq_false, not_false_eq_true, Nat.reduceLT, am_dS, am_dP, am_d1, Nat.reduceSub, Nat.reduceMul, ne_eq, Nat.reduceBEq, Nat.reduceAdd, Nat.reduceLeDiff, Nat.reduceEqDiff, and_self, and_false, false_and, if_true, if_false, am_nb, am_nb0, am_nb1, am_lc1, am_lc2, am_lc3, am_b0, am_b1, am_10, am_c8, am_c16, am_c24, am_c32, am_c40, am_c48, am_c56, am_c64, am_c72, Nat.add_zero, Bool.false_eq_true, Nat.zero_le]
          exact hK ξ _ hA2 g7 g9 gT
        · rw [if_neg hm0] at hK
          have l0 : ¬ nI m ≤ 0 := by rw [← nI_0]; exact nI_ge (by omega) (by omega)
          simp only [gX1_reads_92, gX1_reads_92n, gX1_reads_93, gX1_reads_94, gX1_reads_97, gX1_reads_98, gX1_reads_101, gX1_reads_102, gX1_reads_103, am_kill_int, am_kill_ref, am_kill_null, am_kill_F, am_kill_long, am_cat_n, am_cat_i, am_cat_r, am_cat_0, am_cat_l, am_nr_n, am_nr_i, am_nr_r, am_nr_0, am_nr_l, Option.toList_some, Option.toList_none, List.nil_append, List.cons_append, va_rf_s, va_rf_n, am_I_sR, am_I_sL, am_R_sI, am_R_sL, am_L_sI, am_L_sR, am_k_sI, am_k_sR, am_k_sL, am_n_sI, am_n_sR, am_n_sL, true_and, and_true, true_or, or_true, or_false, false_or, not_true_eq_false, not_false_eq_true, Nat.reduceLT, am_dS, am_dP, am_d1, Nat.reduceSub, Nat.reduceMul, ne_eq, Nat.reduceBEq, Nat.reduceAdd, Nat.reduceLeDiff, Nat.reduceEqDiff, and_self, and_false, false_and, if_true, if_false, am_nb, am_nb0, am_nb1, am_lc1, am_lc2, am_lc3, am_b0, am_b1, am_10, am_c8, am_c16, am_c24, am_c32, am_c40, am_c48, am_c56, am_c64, am_c72, Nat.add_zero, Bool.false_eq_true, Nat.zero_le, l0]
          refine ih r.2 _ _ ξ _ _ (by omega) hle' (by omega) (hA2.cr hC hN.1 g7 (by omega)) (g9.trans h9) ⟨by omega, by have := hA2.2.2.2.2.1.2; omega⟩ gT (by omega) ?_
          exact okC.go hK hA2 g9 (by omega) hle' (pL_ge (fun b => pP_ge n (m + 1) b dp) k _ _)
    · have hl : amF (4 + m) (ch b) < 0 := by rw [hC.amO b hm]; exact hop
      rw [if_neg hop, okC_inr] at hK
      simp only [gX1_reads_21, gX1_reads_21n, gX1_reads_24, gX1_reads_25, gX1_reads_28, gX1_reads_29, gX1_reads_30, gX1_reads_33, gX1_reads_36, gX1_reads_106, gX1_reads_106n, gX1_reads_107, gX1_reads_107n, am_kill_int, am_kill_ref, am_kill_null, am_kill_F, am_kill_long, am_cat_n, am_cat_i, am_cat_r, am_cat_0, am_cat_l, am_nr_n, am_nr_i, am_nr_r, am_nr_0, am_nr_l, Option.toList_some, Option.toList_none, List.nil_append, List.cons_append, va_rf_s, va_rf_n, am_I_sR, am_I_sL, am_R_sI, am_R_sL, am_L_sI, am_L_sR, am_k_sI, am_k_sR, am_k_sL, am_n_sI, am_n_sR, am_n_sL, true_and, and_true, true_or, or_true, or_false, false_or, not_true_eq_false, not_false_eq_true, Nat.reduceLT, am_dS, am_dP, am_d1, Nat.reduceSub, Nat.reduceMul, ne_eq, Nat.reduceBEq, Nat.reduceAdd, Nat.reduceLeDiff, Nat.reduceEqDiff, and_self, and_false, false_and, if_true, if_false, am_nb, am_nb0, am_nb1, am_lc1, am_lc2, am_lc3, am_b0, am_b1, am_10, am_c8, am_c16, am_c24, am_c32, am_c40, am_c48, am_c56, am_c64, am_c72, Nat.add_zero, Bool.false_eq_true, Nat.zero_le, wX1_acts hm, wX1_amongO hC hm, hcu, hl, one]
      exact hK μ h AF.refl hC.2.2.1 rfl hTr
theorem pP_l {p : Nat} (hm : ¬ m = 3) (hp : pP ch n (m + 1) a dp = .inl p) : pP ch (n + 1) m a dp = .inl p := by
  show (if m = 3 then _ else _) = _
  rw [if_neg hm, hp]
theorem pP_r (hm : ¬ m = 3) (hp : pP ch n (m + 1) a dp = .inr (f, b)) : pP ch (n + 1) m a dp = pL (fun b => pP ch n (m + 1) b dp) m ch 41 f b := by
  show (if m = 3 then _ else _) = _
  rw [if_neg hm, hp]
theorem readsC (hm : m < 3) (he : e ≤ 41) (TT : spR (m + 1) n e ch) : spR m (n + 1) e ch := by
  intro d a dp μ K hdp hC h9 hN hn hK
  have hcu := hC.1.c
  have hd : d + 2 * (n + 1) + 9 = d + 2 * n + 10 + 1 := by omega
  have hd2 : d + 2 * n + 10 = d + 1 + 2 * n + 9 := by omega
  have hm3 : ¬ nI m = 3 := by rcases (by omega : m = 0 ∨ m = 1 ∨ m = 2) with q | q | q <;> subst q <;> decide
  have hm3' : ¬ m = 3 := by omega
  have he80 := hC.2.2.2.2.1.1
  have hch : ∀ i, 0 ≤ ch i → i < e := fun i q => hC.lt q
  have hlo := readsLoop (K := K) (d := d) (a0 := a) hm TT hdp
  rw [hd]
  rw [hd] at hlo
  rw [gX1_reads_0]
  simp only [gX1_reads_1, gX1_reads_2, gX1_reads_5, gX1_reads_6, gX1_reads_9, gX1_reads_9n, gX1_reads_10, gX1_reads_11, gX1_reads_12, gX1_reads_13, gX1_reads_14, am_kill_int, am_kill_ref, am_kill_null, am_kill_F, am_kill_long, am_cat_n, am_cat_i, am_cat_r, am_cat_0, am_cat_l, am_nr_n, am_nr_i, am_nr_r, am_nr_0, am_nr_l, Option.toList_some, Option.toList_none, List.nil_append, List.cons_append, va_rf_s, va_rf_n, am_I_sR, am_I_sL, am_R_sI, am_R_sL, am_L_sI, am_L_sR, am_k_sI, am_k_sR, am_k_sL, am_n_sI, am_n_sR, am_n_sL, true_and, and_true, true_or, or_true, or_false, false_or, not_true_eq_false, not_false_eq_true, Nat.reduceLT, am_dS, am_dP, am_d1, Nat.reduceSub, Nat.reduceMul, ne_eq, Nat.reduceBEq, Nat.reduceAdd, Nat.reduceLeDiff, Nat.reduceEqDiff, and_self, and_false, false_and, if_true, if_false, am_nb, am_nb0, am_nb1, am_lc1, am_lc2, am_lc3, am_b0, am_b1, am_10, am_c8, am_c16, am_c24, am_c32, am_c40, am_c48, am_c56, am_c64, am_c72, Nat.add_zero, Bool.false_eq_true, Nat.zero_le, hcu, hm3, nI_1]
  have TT1 := TT (d + 1) a dp
  rw [← hd2] at TT1
  refine TT1 μ _ hdp hC h9 hN (by omega) ?_
  have hle := pP_le hch n (m + 1) a dp hn.2
  cases hp : pP ch n (m + 1) a dp with
  | inl p =>
    rw [pP_l hm3' hp, okC_inl] at hK
    rw [okC_inl]
    intro ν q1 q2
    simp only [gX1_reads_17, gX1_reads_17n, gX1_reads_18, gX1_reads_19, am_kill_int, am_kill_ref, am_kill_null, am_kill_F, am_kill_long, am_cat_n, am_cat_i, am_cat_r, am_cat_0, am_cat_l, am_nr_n, am_nr_i, am_nr_r, am_nr_0, am_nr_l, Option.toList_some, Option.toList_none, List.nil_append, List.cons_append, va_rf_s, va_rf_n, am_I_sR, am_I_sL, am_R_sI, am_R_sL, am_L_sI, am_L_sR, am_k_sI, am_k_sR, am_k_sL, am_n_sI, am_n_sR, am_n_sL, true_and, and_true, true_or, or_true, or_false, false_or, not_true_eq_false, not_false_eq_true, Nat.reduceLT, am_dS, am_dP, am_d1, Nat.reduceSub, Nat.reduceMul, ne_eq, Nat.reduceBEq, Nat.reduceAdd, Nat.reduceLeDiff, Nat.reduceEqDiff, and_self, and_false, false_and, if_true, if_false, am_nb, am_nb0, am_nb1, am_lc1, am_lc2, am_lc3, am_b0, am_b1, am_10, am_c8, am_c16, am_c24, am_c32, am_c40, am_c48, am_c56, am_c64, am_c72, Nat.add_zero, Bool.false_eq_true, Nat.zero_le]
    rw [gX1_reads_20n]
    simp only [gX1_reads_21, gX1_reads_21n, gX1_reads_106, gX1_reads_106n, gX1_reads_107, gX1_reads_107n, am_kill_int, am_kill_ref, am_kill_null, am_kill_F, am_kill_long, am_cat_n, am_cat_i, am_cat_r, am_cat_0, am_cat_l, am_nr_n, am_nr_i, am_nr_r, am_nr_0, am_nr_l, Option.toList_some, Option.toList_none, List.nil_append, List.cons_append, va_rf_s, va_rf_n, am_I_sR, am_I_sL, am_R_sI, am_R_sL, am_L_sI, am_L_sR, am_k_sI, am_k_sR, am_k_sL, am_n_sI, am_n_sR, am_n_sL, true_and, and_true, true_or, or_true, or_false, false_or, not_true_eq_false, not_false_eq_true, Nat.reduceLT, am_dS, am_dP, am_d1, Nat.reduceSub, Nat.reduceMul, ne_eq, Nat.reduceBEq, Nat.reduceAdd, Nat.reduceLeDiff, Nat.reduceEqDiff, and_self, and_false, false_and, if_true, if_false, am_nb, am_nb0, am_nb1, am_lc1, am_lc2, am_lc3, am_b0, am_b1, am_10, am_c8, am_c16, am_c24, am_c32, am_c40, am_c48, am_c56, am_c64, am_c72, Nat.add_zero, Bool.false_eq_true, Nat.zero_le]
    exact hK ν q1 q2
  | inr r =>
    obtain ⟨f1, b1⟩ := r
    rw [hp] at hle
    rw [pP_r hm3' hp] at hK
    have hle' : b1 ≤ e := hle
    rw [okC_inr]
    generalize hgl : pL (fun b => pP ch n (m + 1) b dp) m ch 41 f1 b1 = pl at hK
    have hgl2 : okG b1 pl := by rw [← hgl]; exact pL_ge (fun b => pP_ge n (m + 1) b dp) 41 _ _
    intro ν h q1 q2 q3 q4
    have hab : a < b1 := by
      cases hr : b1 - a with
      | zero => rw [hr] at q4; exact q4.elim
      | succ k => omega
    have hge2 := q1.2.2.2.2.1
    simp only [gX1_reads_17, gX1_reads_17n, gX1_reads_18, gX1_reads_19, am_kill_int, am_kill_ref, am_kill_null, am_kill_F, am_kill_long, am_cat_n, am_cat_i, am_cat_r, am_cat_0, am_cat_l, am_nr_n, am_nr_i, am_nr_r, am_nr_0, am_nr_l, Option.toList_some, Option.toList_none, List.nil_append, List.cons_append, va_rf_s, va_rf_n, am_I_sR, am_I_sL, am_R_sI, am_R_sL, am_L_sI, am_L_sR, am_k_sI, am_k_sR, am_k_sL, am_n_sI, am_n_sR, am_n_sL, true_and, and_true, true_or, or_true, or_false, false_or, not_true_eq_false, not_false_eq_true, Nat.reduceLT, am_dS, am_dP, am_d1, Nat.reduceSub, Nat.reduceMul, ne_eq, Nat.reduceBEq, Nat.reduceAdd, Nat.reduceLeDiff, Nat.reduceEqDiff, and_self, and_false, false_and, if_true, if_false, am_nb, am_nb0, am_nb1, am_lc1, am_lc2, am_lc3, am_b0, am_b1, am_10, am_c8, am_c16, am_c24, am_c32, am_c40, am_c48, am_c56, am_c64, am_c72, Nat.add_zero, Bool.false_eq_true, Nat.zero_le]
    refine hlo 41 b1 f1 h ν _ _ (by omega) hle' (by omega) (q1.cr hC hN.1 q2 (by omega)) (q3.trans h9) ⟨by omega, by omega⟩ q4 hab ?_
    rw [hgl]
    exact okC.go hK q1 q3 (by omega) hle' hgl2
theorem reads3 (TT : spT n e ch) : spR 3 n e ch := by
  intro d a dp μ K hdp hC h9 hN hn hK
  have hcu := hC.1.c
  have h3 : nI 3 = 3 := rfl
  have hd : d + 2 * n + 9 = d + 2 * n + 8 + 1 := by omega
  rw [hd]
  simp only [gX1_reads_0, gX1_reads_1, gX1_reads_2, gX1_reads_5, gX1_reads_6, am_kill_int, am_kill_ref, am_kill_null, am_kill_F, am_kill_long, am_cat_n, am_cat_i, am_cat_r, am_cat_0, am_cat_l, am_nr_n, am_nr_i, am_nr_r, am_nr_0, am_nr_l, Option.toList_some, Option.toList_none, List.nil_append, List.cons_append, va_rf_s, va_rf_n, am_I_sR, am_I_sL, am_R_sI, am_R_sL, am_L_sI, am_L_sR, am_k_sI, am_k_sR, am_k_sL, am_n_sI, am_n_sR, am_n_sL, true_and, and_true, true_or, or_true, or_false, false_or, not_true_eq_false, not_false_eq_true, Nat.reduceLT, am_dS, am_dP, am_d1, Nat.reduceSub, Nat.reduceMul, ne_eq, Nat.reduceBEq, Nat.reduceAdd, Nat.reduceLeDiff, Nat.reduceEqDiff, and_self, and_false, false_and, if_true, if_false, am_nb, am_nb0, am_nb1, am_lc1, am_lc2, am_lc3, am_b0, am_b1, am_10, am_c8, am_c16, am_c24, am_c32, am_c40, am_c48, am_c56, am_c64, am_c72, Nat.add_zero, Bool.false_eq_true, Nat.zero_le, hcu, h3]
  refine TT d a dp μ _ hdp hC h9 hN (by omega) ?_
  cases hp : pP ch n 3 a dp with
  | inl p =>
    rw [hp] at hK
    rw [okC_inl] at hK ⊢
    intro ν q1 q2
    simp only [gX1_reads_9, gX1_reads_9n, am_kill_int, am_kill_ref, am_kill_null, am_kill_F, am_kill_long, am_cat_n, am_cat_i, am_cat_r, am_cat_0, am_cat_l, am_nr_n, am_nr_i, am_nr_r, am_nr_0, am_nr_l, Option.toList_some, Option.toList_none, List.nil_append, List.cons_append, va_rf_s, va_rf_n, am_I_sR, am_I_sL, am_R_sI, am_R_sL, am_L_sI, am_L_sR, am_k_sI, am_k_sR, am_k_sL, am_n_sI, am_n_sR, am_n_sL, true_and, and_true, true_or, or_true, or_false, false_or, not_true_eq_false, not_false_eq_true, Nat.reduceLT, am_dS, am_dP, am_d1, Nat.reduceSub, Nat.reduceMul, ne_eq, Nat.reduceBEq, Nat.reduceAdd, Nat.reduceLeDiff, Nat.reduceEqDiff, and_self, and_false, false_and, if_true, if_false, am_nb, am_nb0, am_nb1, am_lc1, am_lc2, am_lc3, am_b0, am_b1, am_10, am_c8, am_c16, am_c24, am_c32, am_c40, am_c48, am_c56, am_c64, am_c72, Nat.add_zero, Bool.false_eq_true, Nat.zero_le]
    exact hK ν q1 q2
  | inr r =>
    rw [hp] at hK
    rw [show r = (r.1, r.2) from rfl, okC_inr] at hK ⊢
    intro ν h q1 q2 q3 q4
    simp only [gX1_reads_9, gX1_reads_9n, am_kill_int, am_kill_ref, am_kill_null, am_kill_F, am_kill_long, am_cat_n, am_cat_i, am_cat_r, am_cat_0, am_cat_l, am_nr_n, am_nr_i, am_nr_r, am_nr_0, am_nr_l, Option.toList_some, Option.toList_none, List.nil_append, List.cons_append, va_rf_s, va_rf_n, am_I_sR, am_I_sL, am_R_sI, am_R_sL, am_L_sI, am_L_sR, am_k_sI, am_k_sR, am_k_sL, am_n_sI, am_n_sR, am_n_sL, true_and, and_true, true_or, or_true, or_false, false_or, not_true_eq_false, not_false_eq_true, Nat.reduceLT, am_dS, am_dP, am_d1, Nat.reduceSub, Nat.reduceMul, ne_eq, Nat.reduceBEq, Nat.reduceAdd, Nat.reduceLeDiff, Nat.reduceEqDiff, and_self, and_false, false_and, if_true, if_false, am_nb, am_nb0, am_nb1, am_lc1, am_lc2, am_lc3, am_b0, am_b1, am_10, am_c8, am_c16, am_c24, am_c32, am_c40, am_c48, am_c56, am_c64, am_c72, Nat.add_zero, Bool.false_eq_true, Nat.zero_le]
    exact hK ν h q1 q2 q3 q4
theorem sp_allC (he : e ≤ 41) : ∀ n, spT n e ch ∧ spR 2 n e ch ∧ spR 1 n e ch ∧ spR 0 n e ch
  | 0 => ⟨fun d a dp μ K _ _ _ _ q => absurd q.1 (by omega), fun d a dp μ K _ _ _ _ q => absurd q.1 (by omega), fun d a dp μ K _ _ _ _ q => absurd q.1 (by omega), fun d a dp μ K _ _ _ _ q => absurd q.1 (by omega)⟩
  | n + 1 => by
    obtain ⟨h1, h2, h3, h4⟩ := sp_allC he n
    exact ⟨thingC h4 h1, readsC (by decide) he (reads3 h1), readsC (by decide) he h2, readsC (by decide) he h3⟩
/-- the component reads a rule from its start -/
theorem wX1_reads (he : e ≤ 41) (hC : CR e 0 ch μ) (h9 : am_I μ 0 9 = 0) (hN : 78 ≤ am_n μ ∧ am_n μ + e ≤ 400000) (hK : okC e K μ 0 0 (pP ch 62 0 0 0)) : am_Wp (d + 133) mX1_reads 0 [.ref 0, .int 0, am_F, am_F, am_F, am_F] [] μ K :=
  (sp_allC (ch := ch) he 62).2.2.2 d 0 0 μ K (by omega) hC h9 hN (by omega) hK
end CSV
