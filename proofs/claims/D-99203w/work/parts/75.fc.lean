/-! feeding: the component's least cut, walked -/
set_option maxRecDepth 100000
section FCV
variable {d : Nat} {μ ν ξ : am_M} {K : Option Value → am_M → Prop} {x y z c : Int32} {h h' N C j i k r n M b q m t w V : Nat} {v : Int32} {ru : Option PF} {A o o' W O W' O' : Nat → Int32} {S a T : Nat → Int32} {g p p' wo σ : Nat → Bool} {s : Nat → Nat}
theorem fcL_B {ok : Nat → Bool} {co : Nat → Nat} : ∀ k, fcL ok co k ≤ 1000000
  | 0 => Nat.le_refl _
  | k + 1 => by
    have := fcL_B (ok := ok) (co := co) k
    rw [show fcL ok co (k + 1) = if ok k = true then min (fcL ok co k) (co k) else fcL ok co k from rfl]
    split <;> omega
theorem nI_mul {a b : Nat} : nI a * nI b = nI (a * b) := (Int32.ofNat_mul a b).symm
theorem wX1_fedBy (hC : CC N ru c μ) (hs : Sim N (cS μ 1) a) (hV : V ≤ 30) (hK : K (some (.int (nI (fcL (okF (vB (gF 2 (cS μ 1)) N)) (coF V N (gF 2 (cS μ 1)) (stF N (cS μ 1) wo)) (vB (gF 2 (cS μ 1)) N + 1))))) μ) :
    am_Wp (d + 2) mX1_fedBy 0 [.ref 0, .int (nI V), .int (orB wo N), am_F, am_F, am_F, am_F, am_F, am_F] [] μ K := by
  have hcu := hC.1
  simp only [cL, spL, Nat.reduceAdd] at hcu
  have hN := hC.2.1
  have h8 := hC.2.2.1
  have hk := hC.1.c
  generalize hY : vB (gF 2 (cS μ 1)) N = Y at hK
  have hY2 : orB (gF 2 (cS μ 1)) N = nI Y := by rw [orB_eq h8, hY]
  have hY256 : Y < 256 := by rw [← hY]; exact vB_256 h8
  generalize hs' : stF N (cS μ 1) wo = s at hK
  have hst : ∀ n, s n ≤ 9 := fun n => by rw [← hs']; exact stF_le hs
  have hco : ∀ k, coF V N (gF 2 (cS μ 1)) s k ≤ 312 := fun k => coF_le hV h8 hst
  have h1 := fun K => wX1_guests (d := d + 1) (K := K) (h := 1) (fr := 2) hN h8 hk hC.1.s1
  rw [hY2] at h1
  simp only [gX1_fedBy_0, gX1_fedBy_1, gX1_fedBy_2, gX1_fedBy_5, gX1_fedBy_6, am_kill_int, am_kill_ref, am_kill_null, am_kill_F, am_kill_long, am_cat_n, am_cat_i, am_cat_r, am_cat_0, am_cat_l, am_nr_n, am_nr_i, am_nr_r, am_nr_0, am_nr_l, Option.toList_some, Option.toList_none, List.nil_append, List.cons_append, va_rf_s, va_rf_n, am_II, am_I_sR, am_I_sL, am_R_sI, am_RR, am_R_sL, am_L_sI, am_L_sR, am_LL, am_k_sI, am_k_sR, am_k_sL, am_n_sI, am_n_sR, am_n_sL, true_and, and_true, true_or, or_true, or_false, false_or, not_true_eq_false, not_false_eq_true, Nat.reduceLT, am_dS, am_dP, am_d1, Nat.reduceSub, Nat.reduceMul, ne_eq, Nat.reduceBEq, Nat.reduceAdd, Nat.reduceLeDiff, Nat.reduceEqDiff, and_self, and_false, false_and, if_true, if_false, am_nb, am_nb0, am_nb1, am_lc1, am_lc2, am_lc3, am_b0, am_b1, am_10, am_c8, am_c16, am_c24, am_c32, am_c40, am_c48, am_c56, am_c64, am_c72, Nat.add_zero, Bool.false_eq_true, Nat.zero_le, hcu]
  rw [h1]
  simp only [gX1_fedBy_9, gX1_fedBy_10, gX1_fedBy_13, gX1_fedBy_15, gX1_fedBy_16, am_kill_int, am_kill_ref, am_kill_null, am_kill_F, am_kill_long, am_cat_n, am_cat_i, am_cat_r, am_cat_0, am_cat_l, am_nr_n, am_nr_i, am_nr_r, am_nr_0, am_nr_l, Option.toList_some, Option.toList_none, List.nil_append, List.cons_append, va_rf_s, va_rf_n, am_II, am_I_sR, am_I_sL, am_R_sI, am_RR, am_R_sL, am_L_sI, am_L_sR, am_LL, am_k_sI, am_k_sR, am_k_sL, am_n_sI, am_n_sR, am_n_sL, true_and, and_true, true_or, or_true, or_false, false_or, not_true_eq_false, not_false_eq_true, Nat.reduceLT, am_dS, am_dP, am_d1, Nat.reduceSub, Nat.reduceMul, ne_eq, Nat.reduceBEq, Nat.reduceAdd, Nat.reduceLeDiff, Nat.reduceEqDiff, and_self, and_false, false_and, if_true, if_false, am_nb, am_nb0, am_nb1, am_lc1, am_lc2, am_lc3, am_b0, am_b1, am_10, am_c8, am_c16, am_c24, am_c32, am_c40, am_c48, am_c56, am_c64, am_c72, Nat.add_zero, Bool.false_eq_true, Nat.zero_le]
  refine am_for (N := Y + 1) (fun k ls ν => ν = μ ∧ ∃ z6 z7 z8, ls = [.ref 0, .int (nI V), .int (orB wo N), .int (nI Y), .int (nI (fcL (okF Y) (coF V N (gF 2 (cS μ 1)) s) k)), .int (nI k), z6, z7, z8]) ?_ ?_ (Y + 1) 0 _ _ (by omega) ⟨rfl, _, _, _, rfl⟩
  · rintro k ls ν hkY ⟨rfl, z6, z7, z8, rfl⟩ ih
    have hlt : ¬ nI Y < nI k := nI_nlt (by omega) (by omega)
    have hk256 : k < 256 := by omega
    have ih' := fun z6 z7 z8 => ih [.ref 0, .int (nI V), .int (orB wo N), .int (nI Y), .int (nI (fcL (okF Y) (coF V N (gF 2 (cS ν 1)) s) (k + 1))), .int (nI (k + 1)), z6, z7, z8] ν ⟨rfl, _, _, _, rfl⟩
    rw [show fcL (okF Y) (coF V N (gF 2 (cS ν 1)) s) (k + 1) = if okF Y k = true then min (fcL (okF Y) (coF V N (gF 2 (cS ν 1)) s) k) (coF V N (gF 2 (cS ν 1)) s k) else fcL (okF Y) (coF V N (gF 2 (cS ν 1)) s) k from rfl] at ih'
    rw [gX1_fedBy_18]
    by_cases hok : nI k &&& (nI Y ^^^ -1) = 0
    · have hok' : okF Y k = true := decide_eq_true hok
      have ebc : nI V * bcI (nI Y &&& (nI k ^^^ -1)) = nI (V * fcN (fun n => gF 2 (cS ν 1) n && !k.testBit n) N 0) := by
        rw [← hY2, orB_andk h8, bc_cnt h8, nI_mul]
      rw [if_pos hok'] at ih'
      have hbes := fun K => wX1_beside (d := d + 1) (K := K) hC hk256
      simp only [gX1_fedBy_20, gX1_fedBy_21, gX1_fedBy_24, gX1_fedBy_26, gX1_fedBy_27, gX1_fedBy_28, gX1_fedBy_29, gX1_fedBy_30, gX1_fedBy_33, gX1_fedBy_36, gX1_fedBy_37, gX1_fedBy_38, gX1_fedBy_40, gX1_fedBy_41, gX1_fedBy_42, gX1_fedBy_43, gX1_fedBy_46, gX1_fedBy_47, gX1_fedBy_49, gX1_fedBy_50, gX1_fedBy_52, am_kill_int, am_kill_ref, am_kill_null, am_kill_F, am_kill_long, am_cat_n, am_cat_i, am_cat_r, am_cat_0, am_cat_l, am_nr_n, am_nr_i, am_nr_r, am_nr_0, am_nr_l, Option.toList_some, Option.toList_none, List.nil_append, List.cons_append, va_rf_s, va_rf_n, am_II, am_I_sR, am_I_sL, am_R_sI, am_RR, am_R_sL, am_L_sI, am_L_sR, am_LL, am_k_sI, am_k_sR, am_k_sL, am_n_sI, am_n_sR, am_n_sL, true_and, and_true, true_or, or_true, or_false, false_or, not_true_eq_false, not_false_eq_true, Nat.reduceLT, am_dS, am_dP, am_d1, Nat.reduceSub, Nat.reduceMul, ne_eq, Nat.reduceBEq, Nat.reduceAdd, Nat.reduceLeDiff, Nat.reduceEqDiff, and_self, and_false, false_and, if_true, if_false, am_nb, am_nb0, am_nb1, am_lc1, am_lc2, am_lc3, am_b0, am_b1, am_10, am_c8, am_c16, am_c24, am_c32, am_c40, am_c48, am_c56, am_c64, am_c72, Nat.add_zero, Bool.false_eq_true, Nat.zero_le, hlt, hok, wJ10_bitCount, ebc, hcu]
      rw [hbes]
      simp only [gX1_fedBy_55, gX1_fedBy_56, gX1_fedBy_57, gX1_fedBy_58, gX1_fedBy_59, gX1_fedBy_61, gX1_fedBy_62, am_kill_int, am_kill_ref, am_kill_null, am_kill_F, am_kill_long, am_cat_n, am_cat_i, am_cat_r, am_cat_0, am_cat_l, am_nr_n, am_nr_i, am_nr_r, am_nr_0, am_nr_l, Option.toList_some, Option.toList_none, List.nil_append, List.cons_append, va_rf_s, va_rf_n, am_II, am_I_sR, am_I_sL, am_R_sI, am_RR, am_R_sL, am_L_sI, am_L_sR, am_LL, am_k_sI, am_k_sR, am_k_sL, am_n_sI, am_n_sR, am_n_sL, true_and, and_true, true_or, or_true, or_false, false_or, not_true_eq_false, not_false_eq_true, Nat.reduceLT, am_dS, am_dP, am_d1, Nat.reduceSub, Nat.reduceMul, ne_eq, Nat.reduceBEq, Nat.reduceAdd, Nat.reduceLeDiff, Nat.reduceEqDiff, and_self, and_false, false_and, if_true, if_false, am_nb, am_nb0, am_nb1, am_lc1, am_lc2, am_lc3, am_b0, am_b1, am_10, am_c8, am_c16, am_c24, am_c32, am_c40, am_c48, am_c56, am_c64, am_c72, Nat.add_zero, Bool.false_eq_true, Nat.zero_le]
      refine am_for (N := N) (fun n ls ξ => ξ = ν ∧ ls = [.ref 0, .int (nI V), .int (orB wo N), .int (nI Y), .int (nI (fcL (okF Y) (coF V N (gF 2 (cS ν 1)) s) k)), .int (nI k), .int (nI (V * fcN (fun n => gF 2 (cS ν 1) n && !k.testBit n) N 0 + fcS (fun n => if fcR (fun n => k.testBit n) n = true then s n else 0) n 0)), .int (nI (besN N k) &&& (orB wo N ^^^ -1)), .int (nI n)]) ?_ ?_ N 0 _ _ (by omega) ⟨rfl, rfl⟩
      · rintro n ls ξ hn ⟨rfl, rfl⟩ ih2
        have hn8 : n < 8 := by omega
        have hltn : ¬ nI N ≤ nI n := nI_ge hn (by omega)
        have hin : vp_in (nI n) 8 := vp_in_nI (by omega) (by omega)
        have hcl : (nI n).toNatClampNeg = n := nI_clamp (by omega)
        have ih2' := ih2 [.ref 0, .int (nI V), .int (orB wo N), .int (nI Y), .int (nI (fcL (okF Y) (coF V N (gF 2 (cS ξ 1)) s) k)), .int (nI k), .int (nI (V * fcN (fun n => gF 2 (cS ξ 1) n && !k.testBit n) N 0 + fcS (fun n => if fcR (fun n => k.testBit n) n = true then s n else 0) (n + 1) 0)), .int (nI (besN N k) &&& (orB wo N ^^^ -1)), .int (nI (n + 1))] ξ ⟨rfl, rfl⟩
        rw [fcS_a, Nat.zero_add, ← Nat.add_assoc, ← nI_add] at ih2'
        have hnear := near_has (wo := wo) h8 hn hk256
        rw [gX1_fedBy_64]
        by_cases f : (fcR (fun i => k.testBit i) n && !wo n) = true
        · have f' := f
          rw [Bool.and_eq_true, Bool.not_eq_true'] at f'
          have e1 : am_I ξ 3 n = nI (s n) := by
            rw [← hs', show am_I ξ 3 n = cS ξ 1 (8 + n) from (cS_1 hn8).symm]
            unfold stF
            rw [if_pos ⟨hn, f'.2⟩]
            exact (hs.st hn).2
          rw [if_pos f'.1] at ih2'
          simp only [gX1_fedBy_66, gX1_fedBy_67, gX1_fedBy_70, gX1_fedBy_73, gX1_fedBy_75, gX1_fedBy_77, gX1_fedBy_79, gX1_fedBy_82, gX1_fedBy_85, gX1_fedBy_86, gX1_fedBy_89, gX1_fedBy_92, gX1_fedBy_94, gX1_fedBy_95, gX1_fedBy_98, gX1_fedBy_99, gX1_fedBy_100, gX1_fedBy_102, gX1_fedBy_105, am_kill_int, am_kill_ref, am_kill_null, am_kill_F, am_kill_long, am_cat_n, am_cat_i, am_cat_r, am_cat_0, am_cat_l, am_nr_n, am_nr_i, am_nr_r, am_nr_0, am_nr_l, Option.toList_some, Option.toList_none, List.nil_append, List.cons_append, va_rf_s, va_rf_n, am_II, am_I_sR, am_I_sL, am_R_sI, am_RR, am_R_sL, am_L_sI, am_L_sR, am_LL, am_k_sI, am_k_sR, am_k_sL, am_n_sI, am_n_sR, am_n_sL, true_and, and_true, true_or, or_true, or_false, false_or, not_true_eq_false, not_false_eq_true, Nat.reduceLT, am_dS, am_dP, am_d1, Nat.reduceSub, Nat.reduceMul, ne_eq, Nat.reduceBEq, Nat.reduceAdd, Nat.reduceLeDiff, Nat.reduceEqDiff, and_self, and_false, false_and, if_true, if_false, am_nb, am_nb0, am_nb1, am_lc1, am_lc2, am_lc3, am_b0, am_b1, am_10, am_c8, am_c16, am_c24, am_c32, am_c40, am_c48, am_c56, am_c64, am_c72, Nat.add_zero, Bool.false_eq_true, Nat.zero_le, hcu, hN, hltn, wX1_has, hnear, f, hin, hcl, e1, nI_1]
          exact ih2'
        · have e0 : (if fcR (fun n => k.testBit n) n = true then s n else 0) = 0 := by
            by_cases f1 : fcR (fun n => k.testBit n) n = true
            · rw [if_pos f1, ← hs']
              unfold stF
              rw [if_neg (fun e => f (by rw [f1, e.2]; rfl))]
            · rw [if_neg f1]
          rw [e0] at ih2'
          simp only [gX1_fedBy_66, gX1_fedBy_67, gX1_fedBy_70, gX1_fedBy_73, gX1_fedBy_75, gX1_fedBy_77, gX1_fedBy_79, gX1_fedBy_82, gX1_fedBy_85, gX1_fedBy_86, gX1_fedBy_89, gX1_fedBy_92, gX1_fedBy_94, gX1_fedBy_95, gX1_fedBy_98, gX1_fedBy_99, gX1_fedBy_100, gX1_fedBy_102, gX1_fedBy_105, am_kill_int, am_kill_ref, am_kill_null, am_kill_F, am_kill_long, am_cat_n, am_cat_i, am_cat_r, am_cat_0, am_cat_l, am_nr_n, am_nr_i, am_nr_r, am_nr_0, am_nr_l, Option.toList_some, Option.toList_none, List.nil_append, List.cons_append, va_rf_s, va_rf_n, am_II, am_I_sR, am_I_sL, am_R_sI, am_RR, am_R_sL, am_L_sI, am_L_sR, am_LL, am_k_sI, am_k_sR, am_k_sL, am_n_sI, am_n_sR, am_n_sL, true_and, and_true, true_or, or_true, or_false, false_or, not_true_eq_false, not_false_eq_true, Nat.reduceLT, am_dS, am_dP, am_d1, Nat.reduceSub, Nat.reduceMul, ne_eq, Nat.reduceBEq, Nat.reduceAdd, Nat.reduceLeDiff, Nat.reduceEqDiff, and_self, and_false, false_and, if_true, if_false, am_nb, am_nb0, am_nb1, am_lc1, am_lc2, am_lc3, am_b0, am_b1, am_10, am_c8, am_c16, am_c24, am_c32, am_c40, am_c48, am_c56, am_c64, am_c72, Nat.add_zero, Bool.false_eq_true, Nat.zero_le, hcu, hN, hltn, wX1_has, hnear, f, nI_1]
          exact ih2'
      · rintro ls ξ ⟨rfl, rfl⟩
        have hcok : V * fcN (fun n => gF 2 (cS ξ 1) n && !k.testBit n) N 0 + fcS (fun n => if fcR (fun n => k.testBit n) n = true then s n else 0) N 0 = coF V N (gF 2 (cS ξ 1)) s k := rfl
        have hL := fcL_B (ok := okF Y) (co := coF V N (gF 2 (cS ξ 1)) s) k
        have hc1 := hco k
        rw [hcok]
        rw [gX1_fedBy_64]
        by_cases f : coF V N (gF 2 (cS ξ 1)) s k < fcL (okF Y) (coF V N (gF 2 (cS ξ 1)) s) k
        · rw [Nat.min_eq_right (by omega)] at ih'
          have f' : nI (coF V N (gF 2 (cS ξ 1)) s k) < nI (fcL (okF Y) (coF V N (gF 2 (cS ξ 1)) s) k) := nI_lt f (by omega)
          simp only [gX1_fedBy_66, gX1_fedBy_67, gX1_fedBy_70, gX1_fedBy_108, gX1_fedBy_110, gX1_fedBy_112, gX1_fedBy_115, gX1_fedBy_117, gX1_fedBy_120, am_kill_int, am_kill_ref, am_kill_null, am_kill_F, am_kill_long, am_cat_n, am_cat_i, am_cat_r, am_cat_0, am_cat_l, am_nr_n, am_nr_i, am_nr_r, am_nr_0, am_nr_l, Option.toList_some, Option.toList_none, List.nil_append, List.cons_append, va_rf_s, va_rf_n, am_II, am_I_sR, am_I_sL, am_R_sI, am_RR, am_R_sL, am_L_sI, am_L_sR, am_LL, am_k_sI, am_k_sR, am_k_sL, am_n_sI, am_n_sR, am_n_sL, true_and, and_true, true_or, or_true, or_false, false_or, not_true_eq_false, not_false_eq_true, Nat.reduceLT, am_dS, am_dP, am_d1, Nat.reduceSub, Nat.reduceMul, ne_eq, Nat.reduceBEq, Nat.reduceAdd, Nat.reduceLeDiff, Nat.reduceEqDiff, and_self, and_false, false_and, if_true, if_false, am_nb, am_nb0, am_nb1, am_lc1, am_lc2, am_lc3, am_b0, am_b1, am_10, am_c8, am_c16, am_c24, am_c32, am_c40, am_c48, am_c56, am_c64, am_c72, Nat.add_zero, Bool.false_eq_true, Nat.zero_le, hcu, hN, Int32.le_refl, f', nI_1]
          exact ih' _ _ _
        · rw [Nat.min_eq_left (by omega)] at ih'
          have f' : ¬ nI (coF V N (gF 2 (cS ξ 1)) s k) < nI (fcL (okF Y) (coF V N (gF 2 (cS ξ 1)) s) k) := nI_nlt (by omega) (by omega)
          simp only [gX1_fedBy_66, gX1_fedBy_67, gX1_fedBy_70, gX1_fedBy_108, gX1_fedBy_110, gX1_fedBy_112, gX1_fedBy_115, gX1_fedBy_117, gX1_fedBy_120, am_kill_int, am_kill_ref, am_kill_null, am_kill_F, am_kill_long, am_cat_n, am_cat_i, am_cat_r, am_cat_0, am_cat_l, am_nr_n, am_nr_i, am_nr_r, am_nr_0, am_nr_l, Option.toList_some, Option.toList_none, List.nil_append, List.cons_append, va_rf_s, va_rf_n, am_II, am_I_sR, am_I_sL, am_R_sI, am_RR, am_R_sL, am_L_sI, am_L_sR, am_LL, am_k_sI, am_k_sR, am_k_sL, am_n_sI, am_n_sR, am_n_sL, true_and, and_true, true_or, or_true, or_false, false_or, not_true_eq_false, not_false_eq_true, Nat.reduceLT, am_dS, am_dP, am_d1, Nat.reduceSub, Nat.reduceMul, ne_eq, Nat.reduceBEq, Nat.reduceAdd, Nat.reduceLeDiff, Nat.reduceEqDiff, and_self, and_false, false_and, if_true, if_false, am_nb, am_nb0, am_nb1, am_lc1, am_lc2, am_lc3, am_b0, am_b1, am_10, am_c8, am_c16, am_c24, am_c32, am_c40, am_c48, am_c56, am_c64, am_c72, Nat.add_zero, Bool.false_eq_true, Nat.zero_le, hcu, hN, Int32.le_refl, f', nI_1]
          exact ih' _ _ _
    · have hok' : ¬ okF Y k = true := by unfold okF; rw [decide_eq_true_eq]; exact hok
      rw [if_neg hok'] at ih'
      simp only [gX1_fedBy_20, gX1_fedBy_21, gX1_fedBy_24, gX1_fedBy_26, gX1_fedBy_27, gX1_fedBy_28, gX1_fedBy_29, gX1_fedBy_30, gX1_fedBy_33, gX1_fedBy_117, gX1_fedBy_120, am_kill_int, am_kill_ref, am_kill_null, am_kill_F, am_kill_long, am_cat_n, am_cat_i, am_cat_r, am_cat_0, am_cat_l, am_nr_n, am_nr_i, am_nr_r, am_nr_0, am_nr_l, Option.toList_some, Option.toList_none, List.nil_append, List.cons_append, va_rf_s, va_rf_n, am_II, am_I_sR, am_I_sL, am_R_sI, am_RR, am_R_sL, am_L_sI, am_L_sR, am_LL, am_k_sI, am_k_sR, am_k_sL, am_n_sI, am_n_sR, am_n_sL, true_and, and_true, true_or, or_true, or_false, false_or, not_true_eq_false, not_false_eq_true, Nat.reduceLT, am_dS, am_dP, am_d1, Nat.reduceSub, Nat.reduceMul, ne_eq, Nat.reduceBEq, Nat.reduceAdd, Nat.reduceLeDiff, Nat.reduceEqDiff, and_self, and_false, false_and, if_true, if_false, am_nb, am_nb0, am_nb1, am_lc1, am_lc2, am_lc3, am_b0, am_b1, am_10, am_c8, am_c16, am_c24, am_c32, am_c40, am_c48, am_c56, am_c64, am_c72, Nat.add_zero, Bool.false_eq_true, Nat.zero_le, hlt, hok, nI_1]
      exact ih' _ _ _
  · rintro ls ν ⟨rfl, z6, z7, z8, rfl⟩
    have hlt : nI Y < nI (Y + 1) := nI_lt (by omega) (by omega)
    rw [gX1_fedBy_18]
    simp only [gX1_fedBy_20, gX1_fedBy_21, gX1_fedBy_123, gX1_fedBy_125, am_kill_int, am_kill_ref, am_kill_null, am_kill_F, am_kill_long, am_cat_n, am_cat_i, am_cat_r, am_cat_0, am_cat_l, am_nr_n, am_nr_i, am_nr_r, am_nr_0, am_nr_l, Option.toList_some, Option.toList_none, List.nil_append, List.cons_append, va_rf_s, va_rf_n, am_II, am_I_sR, am_I_sL, am_R_sI, am_RR, am_R_sL, am_L_sI, am_L_sR, am_LL, am_k_sI, am_k_sR, am_k_sL, am_n_sI, am_n_sR, am_n_sL, true_and, and_true, true_or, or_true, or_false, false_or, not_true_eq_false, not_false_eq_true, Nat.reduceLT, am_dS, am_dP, am_d1, Nat.reduceSub, Nat.reduceMul, ne_eq, Nat.reduceBEq, Nat.reduceAdd, Nat.reduceLeDiff, Nat.reduceEqDiff, and_self, and_false, false_and, if_true, if_false, am_nb, am_nb0, am_nb1, am_lc1, am_lc2, am_lc3, am_b0, am_b1, am_10, am_c8, am_c16, am_c24, am_c32, am_c40, am_c48, am_c56, am_c64, am_c72, Nat.add_zero, Bool.false_eq_true, Nat.zero_le, hlt]
    exact hK
/-- what is given, the lowest owners first -/
def gvF (N V : Nat) (S : Nat → Int32) (wo : Nat → Bool) : Nat := fcG (fun n => decide (n < N) && gF 2 S n) V (stF N S wo) N 0 0 (stF N S wo 0)
theorem fed_law (hs : Sim N S a) (hV : V ≤ 30) (h8 : N ≤ 8) : fcL (okF (vB (gF 2 S) N)) (coF V N (gF 2 S) (stF N S wo)) (vB (gF 2 S) N + 1) = gvF N V S wo := by
  have hY : vB (fun n => decide (n < N) && gF 2 S n) N = vB (gF 2 S) N := by
    have hb : ∀ M, M ≤ N → vB (fun n => decide (n < N) && gF 2 S n) M = vB (gF 2 S) M := fun M => by
      induction M with
      | zero => intro _; rfl
      | succ M ih => intro h; unfold vB; rw [ih (by omega), decide_eq_true (show M < N by omega), Bool.true_and]
    exact hb N (Nat.le_refl N)
  have h256 := vB_256 (p := gF 2 S) h8
  have := feed_law N V (fun n => decide (n < N) && gF 2 S n) (stF N S wo) (okF (vB (gF 2 S) N)) (coF V N (gF 2 S) (stF N S wo)) (fun n hn => by unfold stF; rw [if_neg (by omega)]) (fun n hn => by simp only [decide_eq_false (show ¬ n < N by omega), Bool.false_and])
    (fun k hk => okF_iff h8 (by rw [hY] at hk; omega))
    (fun k hk hok => by
      unfold coF
      rw [fcN_c (p' := fun n => (decide (n < N) && gF 2 S n) && !k.testBit n) (fun j h1 h2 => by rw [decide_eq_true (show j < N by omega), Bool.true_and])])
    (fun k hk hok => Nat.le_trans (coF_le (s := stF N S wo) hV h8 (fun n => stF_le hs)) (by decide))
  rw [hY] at this
  exact this
end FCV
