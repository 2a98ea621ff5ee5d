/-! calls that put by: what both leave -/
set_option maxRecDepth 100000
section PCV
variable {d : Nat} {μ ν ξ μ1 ν1 : am_M} {K : Option Value → am_M → Prop} {x y z c w : Int32} {h h' N C j i k r n M b q q' t u s : Nat} {v : Int32} {ru : Option PF} {F G : Nat → Nat → Prop} {S S' T a a' : Nat → Int32} {p : Int64}
/-- what the component's acts write: the spring, the one ahead, isOut, the asked nest -/
def fQ (a b : Nat) : Prop := (1 ≤ a ∧ a ≤ 11) ∨ (29 ≤ a ∧ a ≤ 39) ∨ jO a b
/-- the component behind a putting by of T -/
def PC (N : Nat) (ru : Option PF) (c : Int32) (u : Nat) (T S' : Nat → Int32) (μ ν : am_M) : Prop :=
  GF fP 20 μ ν ∧ cS ν 1 = S' ∧ pD ν ∧ am_I ν 0 21 = nI (upN u) ∧ (∀ k, k < upN u → ∃ h', slR ν k = some h' ∧ cS ν h' = stN u (fun k => cS μ ((slR μ k).getD 0)) T k) ∧ kS μ ν ∧ bS T μ ν ∧ (∀ i, am_L ν 53 i = am_L μ 53 i ∧ am_L ν 57 i = am_L μ 57 i) ∧ am_I ν 0 40 = am_I μ 0 40 ∧ am_I ν 0 6 = am_I μ 0 6 ∧ (∀ a b, 54 ≤ a → a < 78 → am_I ν a b = am_I μ a b) ∧ CC N ru c ν ∧ MS N ru c ν
theorem upN_le (h12 : u ≤ 12) : upN u ≤ 12 := by unfold upN; split <;> omega
theorem Sim_st {f g : Nat → Nat → Int32} (h1 : ∀ k, k < u → Sim N (f k) (g k)) (h2 : Sim N S a) (h12 : u ≤ 12) : ∀ k, k < upN u → Sim N (stN u f S k) (stN u g a k) := fun k hk => by
  by_cases e : u = 12
  · have e1 : ∀ f (g : Nat → Int32), stN u f g k = if k < 11 then f (k + 1) else g := fun f g => by
      funext i; unfold stN; rw [if_pos e]; split <;> rfl
    rw [e1, e1]
    split
    · exact h1 _ (by omega)
    · exact h2
  · have e1 : ∀ f (g : Nat → Int32), stN u f g k = if k = u then g else f k := fun f g => by
      funext i; unfold stN; rw [if_neg e]; split <;> rfl
    unfold upN at hk
    rw [if_neg e] at hk
    rw [e1, e1]
    split
    · exact h2
    · exact h1 _ (by omega)
theorem kS.fw (hk : kS μ ν) (hd : pD μ) (hf : Fw F ν ξ) (hF : ∀ a b, F a b → a < 78) : kS μ ξ := fun i hi => ⟨(hf.slR _).trans (hk i hi).1, fun g hg => by
  have h78 := (hd.1 _ g (by omega) hg).1
  rw [cS_Fw hf fun a b z1 z2 z3 => by have := hF _ _ z3; omega]
  exact (hk i hi).2 g hg⟩
theorem fP_lt {a b : Nat} (h : fP a b) : a < 78 := by unfold fP sC sM at h; omega
/-- both behind a putting by -/
theorem put_fin (hI : Inv q μ) (hP : Per N C ru c μ) (u12 : u ≤ 12) (u3 : ∀ k, k < u → ∃ h, slR μ k = some h ∧ Sim N (cS μ h) (fun i => am_I μ 62 (83 * k + i)))
    (hc : PC N ru c u (cS μ 1) S' μ ν) (hF : Fw fP ν ξ) (e1 : cS ξ 1 = T) (e21 : am_I ξ 0 21 = nI (upN u)) (e20 : am_I ξ 54 20 = nI (upN u)) (hr : ∀ k i, k < upN u → i < 83 → am_I ξ 62 (83 * k + i) = stN u (fun k i => am_I μ 62 (83 * k + i)) (am_I μ 55) k i)
    (h17 : am_I ξ 54 17 = 0) (hs : Sim N T (am_I ξ 55)) (hb : ∃ f, f ≤ 5000 * (q + 1) ∧ T 81 = nI f) (hT : Txt ξ) (hR : Row ξ) : Inv (q + 1) ξ := by
  have h8 := hP.1.1.2.2.1
  obtain ⟨c1, c2, c3, c4, c5, c6, c7, c8, c9, c10, c11, c12, c13⟩ := hc
  have hpd := hP.2.2.2.2.2.1
  have hn := hP.2.2.2.2.2.2.2.2.2
  have hB := hI.2.2.2.2.2.2
  have hsame : ∀ s h, s < 14 → slR ν s = some h → cS ξ h = cS ν h := fun s h z1 z2 => by
    have h78 := (c3.1 s h z1 z2).1
    exact cS_Fw hF fun a b z3 z4 z5 => by have := fP_lt z5; omega
  refine inv_P hI hP ((c1.trans (hF.gf (fun a b z => fP_lt z) (fun a b z => z)) (Nat.le_refl _)).q100 (by omega)) h17 (by rw [e1]; exact hs) (c3.fw hF) ?_ (c6.fw hpd hF fun a b z => fP_lt z) hT hR ⟨?_, fun s g z1 z2 => ?_⟩
  · refine ⟨upN u, upN_le u12, e21, e20, fun k hk => ?_⟩
    have hk12 := upN_le u12
    obtain ⟨h', g1, g2⟩ := c5 k hk
    refine ⟨h', (hF.slR k).trans g1, ?_⟩
    rw [hsame k h' (by omega) g1, g2]
    refine (Sim_st (fun k hk => ?_) hP.2.1 u12 k hk).row h8 fun i hi => hr k i hk hi
    obtain ⟨g, w1, w2⟩ := u3 k hk
    rw [w1]
    exact w2
  · obtain ⟨f, z1, z2⟩ := hb
    exact ⟨f, z1, by rw [← z2, ← e1]; rfl⟩
  · rw [hF.slR] at z2
    have e : am_I ξ g 11 = cS ν g 81 := by rw [← hsame s g z1 z2]; rfl
    rw [e]
    rcases c7 s g z1 z2 with f | ⟨s', y1, y2, y3⟩
    · obtain ⟨f', z3, z4⟩ := hB.1
      exact ⟨f', by omega, by rw [f]; exact z4⟩
    · obtain ⟨f', z3, z4⟩ := hB.2 s' g y1 y2
      exact ⟨f', by omega, by rw [y3]; exact z4⟩
theorem fQ_P {a b : Nat} (h : fQ a b) : fP a b := by unfold fQ jO at h; unfold fP sC; omega
/-- behind an act on the spring, the one ahead holding what it was: it counts, or not -/
theorem wX1_putA (hI : Inv q μ) (hq : q ≤ 100) (hP : Per N C ru c μ) (u12 : u ≤ 12) (u1 : am_I μ 0 21 = nI u) (u3 : ∀ k, k < u → ∃ h, slR μ k = some h) (hh : h = 1 ∨ h = 29) (hF : Fr fQ μ ν) (e1 : cS ν 1 = S') (e29 : cS ν h = cS μ 1) (hK : ∀ ξ, PC N ru c u (cS μ 1) S' μ ξ → K none ξ) :
    am_Wp (d + 2) mX1_putsBy 0 [.ref 0, .ref h, am_F, am_F] [] ν K := by
  have hn := hI.2.2.2.1
  have hpd := hP.2.2.2.2.2.1
  have hn0 := hP.2.2.2.2.2.2.2.2.2
  have hcl := hF.cL hP.1.1.1
  have hsl : ∀ s, slR ν s = slR μ s := fun s => hF.toW.slR s
  have hnn : am_n ν = am_n μ := hF.2.2.2.2.1
  have hold : ∀ s g, s < 14 → slR μ s = some g → cS ν g = cS μ g := fun s g z1 z2 => by
    have h78 := (hpd.1 s g z1 z2).1
    exact cS_Fr hF fun a b z3 z4 z5 => by have := fP_lt (fQ_P z5); omega
  refine wX1_putsBy (u := u) (h := h) hcl ((hF.1 0 21 (by unfold fQ jO; omega)).trans u1) u12 (fun k hk => by rw [hsl]; exact u3 k hk) (hpd.fw hF.toW) (by rw [hnn]; omega) (hh.elim (fun f => f ▸ hcl.s1) (fun f => f ▸ hcl.s3)) (by omega) (by omega) (by unfold inSp; omega) (by unfold inSp; omega) (fun ξ g1 g2 g3 g4 g5 g6 g7 => ?_)
  have hgf : GF fP 20 μ ξ := (hF.toW.gf (F := fP) (fun a b z => fP_lt (fQ_P z)) (fun a b z => fQ_P z)).trans (g1.le fun a b z => by unfold fP; omega) (by omega : 0 + 11 ≤ 20)
  have hmod : ∀ a b, 54 ≤ a → a < 78 → am_I ξ a b = am_I μ a b := fun a b z1 z2 => (g1.1 a b (Or.inl z2) (by omega)).trans (hF.1 a b (by unfold fQ jO; omega))
  have hpA := hgf.pA hn0 (fun a b z => by unfold fP sC sM at z; omega) ((hmod 54 17 (by omega) (by omega)).trans hP.h17) hP.1
  refine hK ξ ⟨hgf, ?_, g3, g2, fun k hk => ?_, fun i hi => ?_, fun s g z1 z2 => ?_, fun i => ⟨(g7 i).1.trans hF.L, (g7 i).2.trans hF.L⟩, (g1.1 0 40 (Or.inl (by omega)) (by omega)).trans (hF.1 0 40 (by unfold fQ jO; omega)), (g1.1 0 6 (Or.inl (by omega)) (by omega)).trans (hF.1 0 6 (by unfold fQ jO; omega)), hmod, hpA.1, hpA.2.1⟩
  · rw [← e1]
    exact cS_congr fun a b z1 z2 => g1.1 a b (Or.inl (by omega)) (by omega)
  · obtain ⟨g, w1, w2⟩ := g4 k hk
    refine ⟨g, w1, w2.trans ?_⟩
    have hk12 := upN_le u12
    have : ∀ k, k < u → cS ν ((slR ν k).getD 0) = cS μ ((slR μ k).getD 0) := fun k hk => by
      obtain ⟨g, hg⟩ := u3 k hk
      rw [hsl, hg]
      exact hold k g (by omega) hg
    funext i
    unfold stN
    unfold upN at hk
    rw [e29]
    by_cases e : u = 12
    · rw [if_pos e] at hk
      rw [if_pos e, if_pos e]
      by_cases f : k < 11
      · rw [if_pos f, if_pos f]
        exact congrFun (this (k + 1) (by omega)) i
      · rw [if_neg f, if_neg f]
    · rw [if_neg e] at hk
      rw [if_neg e, if_neg e]
      by_cases f : k = u
      · rw [if_pos f, if_pos f]
      · rw [if_neg f, if_neg f]
        exact congrFun (this k (by omega)) i
  · obtain ⟨w1, w2⟩ := g5 i hi
    exact ⟨w1.trans (hsl _), fun g hg => (w2 g ((hsl _).trans hg)).trans (hold _ g (by omega) hg)⟩
  · rcases g6 s g z1 z2 with f | ⟨s', y1, y2, y3⟩
    · exact Or.inl (f.trans e29)
    · rw [hsl] at y2
      exact Or.inr ⟨s', y1, y2, y3.trans (hold s' g y1 y2)⟩
theorem wX1_counts (hI : Inv q μ) (hq : q ≤ 100) (hP : Per N C ru c μ) (u12 : u ≤ 12) (u1 : am_I μ 0 21 = nI u) (u3 : ∀ k, k < u → ∃ h, slR μ k = some h) (hF : Fr fQ μ ν) (e1 : cS ν 1 = S') (e29 : cS ν 29 = cS μ 1) (hK1 : v < 0 → K (some (.int v)) ν) (hK : ¬ v < 0 → ∀ ξ, PC N ru c u (cS μ 1) S' μ ξ → K (some (.int v)) ξ) :
    am_Wp (d + 3) mX1_counts 0 [.ref 0, .int v] [] ν K := by
  have hcl := hF.cL hP.1.1.1
  have hk0 := hcl.c
  have r20 : am_R ν 0 20 = some 29 := by have := hcl; simp only [cL, spL, Nat.reduceAdd] at this; simp only [this]
  by_cases hv : v < 0
  · simp only [gX1_counts_0, gX1_counts_1, gX1_counts_4, gX1_counts_5, gX1_counts_6, gX1_counts_9, gX1_counts_12, gX1_counts_13, am_kill_int, am_kill_ref, am_kill_null, am_kill_F, am_kill_long, am_cat_n, am_cat_i, am_cat_r, am_cat_0, am_cat_l, am_nr_n, am_nr_i, am_nr_r, am_nr_0, am_nr_l, Option.toList_some, Option.toList_none, List.nil_append, List.cons_append, va_rf_s, va_rf_n, am_II, am_I_sR, am_I_sL, am_R_sI, am_RR, am_R_sL, am_L_sI, am_L_sR, am_LL, am_k_sI, am_k_sR, am_k_sL, am_n_sI, am_n_sR, am_n_sL, true_and, and_true, true_or, or_true, or_false, false_or, not_true_eq_false, not_false_eq_true, Nat.reduceLT, am_dS, am_dP, am_d1, Nat.reduceSub, Nat.reduceMul, ne_eq, Nat.reduceBEq, Nat.reduceAdd, Nat.reduceLeDiff, Nat.reduceEqDiff, and_self, and_false, false_and, if_true, if_false, am_nb, am_nb0, am_nb1, am_lc1, am_lc2, am_lc3, am_b0, am_b1, am_10, am_c8, am_c16, am_c24, am_c32, am_c40, am_c48, am_c56, am_c64, am_c72, Nat.add_zero, Bool.false_eq_true, Nat.zero_le, hv]
    exact hK1 hv
  · simp only [gX1_counts_0, gX1_counts_1, gX1_counts_4, gX1_counts_5, gX1_counts_6, gX1_counts_9, am_kill_int, am_kill_ref, am_kill_null, am_kill_F, am_kill_long, am_cat_n, am_cat_i, am_cat_r, am_cat_0, am_cat_l, am_nr_n, am_nr_i, am_nr_r, am_nr_0, am_nr_l, Option.toList_some, Option.toList_none, List.nil_append, List.cons_append, va_rf_s, va_rf_n, am_II, am_I_sR, am_I_sL, am_R_sI, am_RR, am_R_sL, am_L_sI, am_L_sR, am_LL, am_k_sI, am_k_sR, am_k_sL, am_n_sI, am_n_sR, am_n_sL, true_and, and_true, true_or, or_true, or_false, false_or, not_true_eq_false, not_false_eq_true, Nat.reduceLT, am_dS, am_dP, am_d1, Nat.reduceSub, Nat.reduceMul, ne_eq, Nat.reduceBEq, Nat.reduceAdd, Nat.reduceLeDiff, Nat.reduceEqDiff, and_self, and_false, false_and, if_true, if_false, am_nb, am_nb0, am_nb1, am_lc1, am_lc2, am_lc3, am_b0, am_b1, am_10, am_c8, am_c16, am_c24, am_c32, am_c40, am_c48, am_c56, am_c64, am_c72, Nat.add_zero, Bool.false_eq_true, Nat.zero_le, hv, hk0, r20]
    refine wX1_putA (d := d) hI hq hP u12 u1 u3 (Or.inr rfl) hF e1 e29 fun ξ hξ => ?_
    simp only [gX1_counts_12, gX1_counts_13, am_kill_int, am_kill_ref, am_kill_null, am_kill_F, am_kill_long, am_cat_n, am_cat_i, am_cat_r, am_cat_0, am_cat_l, am_nr_n, am_nr_i, am_nr_r, am_nr_0, am_nr_l, Option.toList_some, Option.toList_none, List.nil_append, List.cons_append, va_rf_s, va_rf_n, am_II, am_I_sR, am_I_sL, am_R_sI, am_RR, am_R_sL, am_L_sI, am_L_sR, am_LL, am_k_sI, am_k_sR, am_k_sL, am_n_sI, am_n_sR, am_n_sL, true_and, and_true, true_or, or_true, or_false, false_or, not_true_eq_false, not_false_eq_true, Nat.reduceLT, am_dS, am_dP, am_d1, Nat.reduceSub, Nat.reduceMul, ne_eq, Nat.reduceBEq, Nat.reduceAdd, Nat.reduceLeDiff, Nat.reduceEqDiff, and_self, and_false, false_and, if_true, if_false, am_nb, am_nb0, am_nb1, am_lc1, am_lc2, am_lc3, am_b0, am_b1, am_10, am_c8, am_c16, am_c24, am_c32, am_c40, am_c48, am_c56, am_c64, am_c72, Nat.add_zero, Bool.false_eq_true, Nat.zero_le]
    exact hK hv ξ hξ
/-- what a call that refuses may have written -/
def fZ (a b : Nat) : Prop := fQ a b ∨ jM a b ∨ (a = 54 ∧ b = 7)
theorem inv_0 (hI : Inv q μ) (hP : Per N C ru c μ) (hF : Fr fZ μ ξ) (e1 : cS ξ 1 = cS μ 1) (h17 : am_I ξ 54 17 = 0) : Inv (q + 1) ξ := by
  have hI' := hI
  obtain ⟨_, hT, hR, b1, b2, b3, b4⟩ := hI
  obtain ⟨p1, p2, p3, p4, p5, p6, p7, p8, p9, p10⟩ := hP
  have r55 : am_I ξ 55 = am_I μ 55 := funext fun b => hF.1 55 b (by unfold fZ fQ jO jM; omega)
  have fl : ∀ a b, fZ a b → a < 78 := fun a b z => by unfold fZ fQ jO jM at z; omega
  refine Inv.mk' (N := N) (C := C) (ru := ru) (c := c) ⟨p1.fw hF.toW (fun a b z => by unfold fZ fQ jO jM at z; omega) h17, by rw [e1, r55]; exact p2, p3.fw hF.toW (fun a b z => by unfold fZ fQ jO jM at z; omega), p4.fw hF.toW (fun a b z => by unfold fZ fQ jO jM at z; omega), p5.fw hF.toW (fun a b z => by unfold fZ fQ jO jM at z; omega), p6.fw hF.toW, p7.fw p6 hF.toW (fun a b z => by unfold fZ fQ jO jM at z; omega), p8.fw p6 hF.toW (fun a b z => by unfold fZ fQ jO jM at z; omega), p9.fw hF.toW (fun a b z => by unfold fZ fQ jO jM at z; omega), by rw [hF.2.2.2.2.1]; exact p10⟩ (hT.fw hF.toW (fun a b z => by unfold fZ fQ jO jM at z; omega)) (hR.fr hF (fun a b z => by unfold fZ fQ jO jM at z; omega)) hF hI' (b4.fwS p6 hF.toW (fun a b z => fl a b z) ?_)
  obtain ⟨f, z1, z2⟩ := b4.1
  exact ⟨f, by omega, by rw [← z2]; exact congrFun e1 81⟩
/-- what the model's putting calls write -/
def fY (a b : Nat) : Prop := a = 55 ∨ a = 62 ∨ jM a b ∨ (a = 54 ∧ (b = 7 ∨ b = 20))
theorem put_fr (hI : Inv q μ) (hP : Per N C ru c μ) (u12 : u ≤ 12) (u3 : ∀ k, k < u → ∃ h, slR μ k = some h ∧ Sim N (cS μ h) (fun i => am_I μ 62 (83 * k + i)))
    (hc : PC N ru c u (cS μ 1) S' μ ν) (hF : Fr fY ν ξ) (e20 : am_I ξ 54 20 = nI (upN u)) (hr : ∀ k i, k < upN u → i < 83 → am_I ξ 62 (83 * k + i) = stN u (fun k i => am_I μ 62 (83 * k + i)) (am_I μ 55) k i)
    (h17 : am_I ξ 54 17 = 0) (hs : Sim N S' (am_I ξ 55)) (hb : S' 81 = cS μ 1 81) : Inv (q + 1) ξ := by
  obtain ⟨c1, c2, c3, c4, c5, c6, c7, c8, c9, c10, c11, c12, c13⟩ := id hc
  obtain ⟨t, t1, t2, t3⟩ := hI.2.1
  obtain ⟨r, r1, r2, r3, r4⟩ := hI.2.2.1
  have e : ∀ a b, ¬ fY a b → am_I ξ a b = am_I ν a b := fun a b z => hF.1 a b z
  refine put_fin hI hP u12 u3 hc (hF.toW.le fun a b z => by unfold fY jM at z; unfold fP sM; omega) ((cS_Fr hF fun a b z1 z2 z3 => by unfold fY jM at z3; omega).trans c2) ((e 0 21 (by unfold fY jM; omega)).trans c4) e20 hr h17 hs ?_ ⟨t, t1, ((e 0 6 (by unfold fY jM; omega)).trans c10).trans t2, ((e 54 4 (by unfold fY jM; omega)).trans (c11 54 4 (by omega) (by omega))).trans t3⟩ ⟨r, r1, ((e 0 40 (by unfold fY jM; omega)).trans c9).trans r2, ((e 54 6 (by unfold fY jM; omega)).trans (c11 54 6 (by omega) (by omega))).trans r3, fun i hi => by rw [hF.L, hF.L, (c8 i).1, (c8 i).2]; exact r4 i hi⟩
  obtain ⟨f, z1, z2⟩ := hI.2.2.2.2.2.2.1
  exact ⟨f, by omega, hb.trans z2⟩
theorem PC.m4 (hc : PC N ru c u T S' μ ν) (h0 : am_I μ 54 17 = 0) : ∃ ν4, ν4 = am_sI ν 54 7 0 ∧ MS N ru c ν4 ∧ am_I ν4 55 = am_I μ 55 ∧ am_I ν4 62 = am_I μ 62 ∧ am_I ν4 54 20 = am_I μ 54 20 ∧ Fr fY ν ν4 ∧ am_I ν4 54 17 = 0 := by
  obtain ⟨c1, c2, c3, c4, c5, c6, c7, c8, c9, c10, c11, c12, c13⟩ := hc
  have hF : Fr fY ν (am_sI ν 54 7 0) := Fr.I Fr.refl (by unfold fY; omega)
  have h17 : am_I (am_sI ν 54 7 0) 54 17 = 0 := by rw [am_I_sI, if_neg (by omega)]; exact (c11 54 17 (by omega) (by omega)).trans h0
  exact ⟨_, rfl, c13.fr (F := fun a b => a = 54 ∧ b = 7) (Fr.I Fr.refl ⟨rfl, rfl⟩) (fun a b z => by omega) h17, (am_row_o (by decide)).trans (funext fun b => c11 55 b (by omega) (by omega)), (am_row_o (by decide)).trans (funext fun b => c11 62 b (by omega) (by omega)), by rw [am_I_sI, if_neg (by omega)]; exact c11 54 20 (by omega) (by omega), hF, h17⟩
theorem wX3_rem (u12 : u ≤ 12) (hS : MS N ru c ν1) (hF : Fr fY ν ν1) (h17 : am_I ν1 54 17 = 0) (r55 : am_I ν1 55 = am_I μ 55) (r62 : am_I ν1 62 = am_I μ 62) (e20 : am_I ν1 54 20 = nI u) (hK : ∀ ξ, MS N ru c ξ → Fr fY ν ξ → am_I ξ 54 20 = nI (upN u) → (∀ k i, k < upN u → i < 83 → am_I ξ 62 (83 * k + i) = stN u (fun k i => am_I μ 62 (83 * k + i)) (am_I μ 55) k i) → am_I ξ 55 = am_I μ 55 → am_I ξ 54 17 = 0 → K none ξ) :
    am_Wp (d + 1) mX3_remember 0 [.ref 54, .ref 55, am_F] [] ν1 K := by
  have hmu := hS.1.1
  unfold mL at hmu
  refine wX3_remember (d := d) hS.1.1 e20 u12 hmu.1.2.1 (by decide) (by decide) fun ξ g1 g2 g3 => ?_
  have g17 : am_I ξ 54 17 = 0 := (g1.1 54 17 (by unfold jR; omega)).trans h17
  refine hK ξ (hS.fr g1 (fun a b z => by unfold jR at z; omega) g17) (hF.trans (g1.le fun a b z => by unfold jR at z; unfold fY; omega)) g2 (fun k i z1 z2 => ?_) ((funext fun b => g1.1 55 b (by unfold jR; omega) : am_I ξ 55 = am_I ν1 55).trans r55) g17
  rw [g3 k i z1 z2, r62, r55]
theorem Sim.noI (h : Sim N S a) (hj : j < N) : (0 ≤ S (32 + j)) = ¬ (a (32 + j) = -1) := by
  have := (h.cg hj).no
  rw [col4] at this
  rw [this, h.r4 hj]
theorem bc_ge (h8 : N ≤ 8) {p : Nat → Bool} : ¬ bcI (orB p N) < 0 := by
  have e : ∀ k : Fin 256, ¬ bcI (nI k.val) < 0 := by decide +kernel
  rw [orB_eq h8]
  exact e ⟨vB p N, vB_256 h8⟩
end PCV
