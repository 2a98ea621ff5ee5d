/-! springs put by: new ones, slots -/
set_option maxRecDepth 100000
section SLV
variable {d : Nat} {μ ν ξ μ1 ν1 : am_M} {K : Option Value → am_M → Prop} {x y z c w : Int32} {h h' N C j i k r n M b q q' t u s : Nat} {v : Int32} {ru : Option PF} {F G : Nat → Nat → Prop} {S T a a' : Nat → Int32} {p : Int64}
/-- a new spring at h, r of its rows made -/
def iniP (h r : Nat) (μ ν : am_M) : Prop :=
  (∀ a b, (a < h ∨ am_B ≤ a) → am_I ν a b = am_I μ a b) ∧ (∀ a b, (a < h ∨ am_B ≤ a) → am_R ν a b = am_R μ a b) ∧ (∀ a b, (a < h ∨ am_B ≤ a) → am_L ν a b = am_L μ a b) ∧ (∀ a, (a < h ∨ am_B ≤ a) → am_k ν a = am_k μ a) ∧
  am_k ν h = (1, 0) ∧ am_n ν = h + 1 + r ∧ am_c ν = am_c μ + 1 + r ∧ am_s ν = am_s μ + 13 + 8 * r ∧ ∀ i, i < r → am_R ν h i = some (h + 1 + i) ∧ am_k ν (h + 1 + i) = (10, 8)
theorem iniP_z (hB : am_n μ < am_B) : iniP (am_n μ) 0 μ (am_new μ (1, 0) 13) := by
  refine ⟨fun a b z => ?_, fun a b z => ?_, fun a b z => ?_, fun a z => ?_, ?_, rfl, rfl, rfl, fun i hi => absurd hi (Nat.not_lt_zero i)⟩
  · rw [am_I_new, if_neg (by omega)]
  · rw [am_R_new, if_neg (by omega)]
  · show (if a = am_n μ then _ else _) = _
    rw [if_neg (by omega)]
  · rw [am_k_new, if_neg (by omega)]
  · rw [am_k_new, if_pos rfl]
theorem iniP_s (hi : iniP h r μ ν) (hB : h + 1 + r < am_B) : iniP h (r + 1) μ (am_sR (am_new ν (10, 8) 8) h r (some (am_n ν))) := by
  obtain ⟨a1, a2, a3, a4, a5, a6, a7, a8, a9⟩ := hi
  refine ⟨fun a b z => ?_, fun a b z => ?_, fun a b z => ?_, fun a z => ?_, ?_, ?_, ?_, ?_, fun i hi => ?_⟩
  · rw [am_I_sR, am_I_new, if_neg (by omega)]; exact a1 a b z
  · rw [am_RR, if_neg (by omega), am_R_new, if_neg (by omega)]; exact a2 a b z
  · rw [am_L_sR]
    show (if a = am_n ν then _ else _) = _
    rw [if_neg (by omega)]; exact a3 a b z
  · rw [am_k_sR, am_k_new, if_neg (by omega)]; exact a4 a z
  · rw [am_k_sR, am_k_new, if_neg (by omega)]; exact a5
  · show am_n ν + 1 = _; omega
  · show am_c ν + 1 = _; omega
  · show am_s ν + 8 = _; omega
  · by_cases e : i = r
    · subst e
      exact ⟨by rw [am_RR, if_pos ⟨rfl, rfl⟩, a6], by rw [am_k_sR, am_k_new, if_pos a6.symm]⟩
    · obtain ⟨b1, b2⟩ := a9 i (by omega)
      exact ⟨by rw [am_RR, if_neg (by omega), am_R_new, if_neg (by omega)]; exact b1, by rw [am_k_sR, am_k_new, if_neg (by omega)]; exact b2⟩
theorem iniP.sp (hi : iniP h 10 μ ν) : spL h (am_k ν) (am_R ν) := by
  obtain ⟨_, _, _, _, a5, _, _, _, a9⟩ := hi
  unfold spL
  exact ⟨a5, (a9 0 (by decide)).1, (a9 1 (by decide)).1, (a9 2 (by decide)).1, (a9 3 (by decide)).1, (a9 4 (by decide)).1, (a9 5 (by decide)).1, (a9 6 (by decide)).1, (a9 7 (by decide)).1, (a9 8 (by decide)).1, (a9 9 (by decide)).1, (a9 0 (by decide)).2, (a9 1 (by decide)).2, (a9 2 (by decide)).2, (a9 3 (by decide)).2, (a9 4 (by decide)).2, (a9 5 (by decide)).2, (a9 6 (by decide)).2, (a9 7 (by decide)).2, (a9 8 (by decide)).2, (a9 9 (by decide)).2⟩
theorem wX2_init (hi0 : iniP h 0 μ ν) (hB : h + 11 ≤ 400000) (hK : ∀ ξ, iniP h 10 μ ξ → K none ξ) : am_Wp (d + 1) mX2_init 0 [.ref h] [] ν K := by
  have hBB : am_B = 1000000 := rfl
  have z8 : (8 : Int32).toNatClampNeg = 8 := by decide
  have n8 : ¬ (8 : Int32) < 0 := by decide
  have b10 : ∀ ξ, iniP h 10 μ ξ → am_Wp (d + 1) mX2_init 84 [.ref h] [] ξ K := fun ξ hi => by
    rw [gX2_init_84]; exact hK ξ hi
  have b9 : ∀ ξ, iniP h 9 μ ξ → am_Wp (d + 1) mX2_init 76 [.ref h] [] ξ K := fun ξ hi => by
    have hk0 := hi.2.2.2.2.1
    have hn0 := hi.2.2.2.2.2.1
    rw [gX2_init_76, gX2_init_77, gX2_init_79, z8, gX2_init_81, am_k_new, if_neg (by omega), hk0]
    exact ⟨⟨n8, by decide, by omega⟩, ⟨rfl, by omega⟩, b10 _ (iniP_s hi (by omega))⟩
  have b8 : ∀ ξ, iniP h 8 μ ξ → am_Wp (d + 1) mX2_init 68 [.ref h] [] ξ K := fun ξ hi => by
    have hk0 := hi.2.2.2.2.1
    have hn0 := hi.2.2.2.2.2.1
    rw [gX2_init_68, gX2_init_69, gX2_init_71, z8, gX2_init_73, am_k_new, if_neg (by omega), hk0]
    exact ⟨⟨n8, by decide, by omega⟩, ⟨rfl, by omega⟩, b9 _ (iniP_s hi (by omega))⟩
  have b7 : ∀ ξ, iniP h 7 μ ξ → am_Wp (d + 1) mX2_init 60 [.ref h] [] ξ K := fun ξ hi => by
    have hk0 := hi.2.2.2.2.1
    have hn0 := hi.2.2.2.2.2.1
    rw [gX2_init_60, gX2_init_61, gX2_init_63, z8, gX2_init_65, am_k_new, if_neg (by omega), hk0]
    exact ⟨⟨n8, by decide, by omega⟩, ⟨rfl, by omega⟩, b8 _ (iniP_s hi (by omega))⟩
  have b6 : ∀ ξ, iniP h 6 μ ξ → am_Wp (d + 1) mX2_init 52 [.ref h] [] ξ K := fun ξ hi => by
    have hk0 := hi.2.2.2.2.1
    have hn0 := hi.2.2.2.2.2.1
    rw [gX2_init_52, gX2_init_53, gX2_init_55, z8, gX2_init_57, am_k_new, if_neg (by omega), hk0]
    exact ⟨⟨n8, by decide, by omega⟩, ⟨rfl, by omega⟩, b7 _ (iniP_s hi (by omega))⟩
  have b5 : ∀ ξ, iniP h 5 μ ξ → am_Wp (d + 1) mX2_init 44 [.ref h] [] ξ K := fun ξ hi => by
    have hk0 := hi.2.2.2.2.1
    have hn0 := hi.2.2.2.2.2.1
    rw [gX2_init_44, gX2_init_45, gX2_init_47, z8, gX2_init_49, am_k_new, if_neg (by omega), hk0]
    exact ⟨⟨n8, by decide, by omega⟩, ⟨rfl, by omega⟩, b6 _ (iniP_s hi (by omega))⟩
  have b4 : ∀ ξ, iniP h 4 μ ξ → am_Wp (d + 1) mX2_init 36 [.ref h] [] ξ K := fun ξ hi => by
    have hk0 := hi.2.2.2.2.1
    have hn0 := hi.2.2.2.2.2.1
    rw [gX2_init_36, gX2_init_37, gX2_init_39, z8, gX2_init_41, am_k_new, if_neg (by omega), hk0]
    exact ⟨⟨n8, by decide, by omega⟩, ⟨rfl, by omega⟩, b5 _ (iniP_s hi (by omega))⟩
  have b3 : ∀ ξ, iniP h 3 μ ξ → am_Wp (d + 1) mX2_init 28 [.ref h] [] ξ K := fun ξ hi => by
    have hk0 := hi.2.2.2.2.1
    have hn0 := hi.2.2.2.2.2.1
    rw [gX2_init_28, gX2_init_29, gX2_init_31, z8, gX2_init_33, am_k_new, if_neg (by omega), hk0]
    exact ⟨⟨n8, by decide, by omega⟩, ⟨rfl, by omega⟩, b4 _ (iniP_s hi (by omega))⟩
  have b2 : ∀ ξ, iniP h 2 μ ξ → am_Wp (d + 1) mX2_init 20 [.ref h] [] ξ K := fun ξ hi => by
    have hk0 := hi.2.2.2.2.1
    have hn0 := hi.2.2.2.2.2.1
    rw [gX2_init_20, gX2_init_21, gX2_init_23, z8, gX2_init_25, am_k_new, if_neg (by omega), hk0]
    exact ⟨⟨n8, by decide, by omega⟩, ⟨rfl, by omega⟩, b3 _ (iniP_s hi (by omega))⟩
  have b1 : ∀ ξ, iniP h 1 μ ξ → am_Wp (d + 1) mX2_init 12 [.ref h] [] ξ K := fun ξ hi => by
    have hk0 := hi.2.2.2.2.1
    have hn0 := hi.2.2.2.2.2.1
    rw [gX2_init_12, gX2_init_13, gX2_init_15, z8, gX2_init_17, am_k_new, if_neg (by omega), hk0]
    exact ⟨⟨n8, by decide, by omega⟩, ⟨rfl, by omega⟩, b2 _ (iniP_s hi (by omega))⟩
  have b0 : ∀ ξ, iniP h 0 μ ξ → am_Wp (d + 1) mX2_init 4 [.ref h] [] ξ K := fun ξ hi => by
    have hk0 := hi.2.2.2.2.1
    have hn0 := hi.2.2.2.2.2.1
    rw [gX2_init_4, gX2_init_5, gX2_init_7, z8, gX2_init_9, am_k_new, if_neg (by omega), hk0]
    exact ⟨⟨n8, by decide, by omega⟩, ⟨rfl, by omega⟩, b1 _ (iniP_s hi (by omega))⟩
  rw [gX2_init_0, gX2_init_1]
  exact ⟨⟨Nat.zero_le _, Nat.succ_pos _⟩, b0 ν hi0⟩
/-- one slot holds another spring; the rest as it was -/
def sp1 (s : Nat) (T : Nat → Int32) (μ ν : am_M) : Prop := GF (fun _ _ => False) 11 μ ν ∧ pD ν ∧ (∃ h, slR ν s = some h ∧ cS ν h = T) ∧ (∀ s', s' < 14 → s' ≠ s → slR ν s' = slR μ s' ∧ ∀ h, slR μ s' = some h → cS ν h = cS μ h) ∧ ∀ i, am_L ν 53 i = am_L μ 53 i ∧ am_L ν 57 i = am_L μ 57 i
theorem spL_kind (hs : spL h (am_k μ) (am_R μ)) (hi : h ≤ i ∧ i ≤ h + 10) : (am_k μ i).1 = 1 ∨ (am_k μ i).1 = 10 := by
  unfold spL at hs
  rcases (by omega : i = h ∨ i = h + 1 ∨ i = h + 2 ∨ i = h + 3 ∨ i = h + 4 ∨ i = h + 5 ∨ i = h + 6 ∨ i = h + 7 ∨ i = h + 8 ∨ i = h + 9 ∨ i = h + 10) with f | f | f | f | f | f | f | f | f | f | f <;> subst f <;> simp [hs]
theorem sp1_old (hd : pD μ) (hn : am_n μ ≤ 400000) (hs14 : s < 14) (hs : slR μ s = some h) (hF : Fr (fun a _ => inSp h a) μ ν) (e : cS ν h = T) : sp1 s T μ ν := by
  have hBB : am_B = 1000000 := rfl
  obtain ⟨q1, q2, q3⟩ := hd.1 s h hs14 hs
  have hsl : ∀ s, slR ν s = slR μ s := fun s => hF.toW.slR s
  refine ⟨⟨fun a b z _ => hF.1 a b (fun z2 => by unfold inSp at z2; omega), fun a b _ _ z3 z4 => hF.2.1 a b z3 z4, fun a b _ _ _ => hF.L, fun a _ => by rw [hF.2.2.2.1], fun g i z1 z2 z3 z4 => ?_, ⟨by rw [hF.2.2.2.2.1]; exact Nat.le_refl _, by rw [hF.2.2.2.2.1]; exact Nat.le_add_right _ _⟩, by rw [hF.2.2.2.2.2.1]; exact Nat.le_add_right _ _, by rw [hF.2.2.2.2.2.2]; exact Nat.le_add_right _ _⟩, hd.fw hF.toW, ⟨h, (hsl s).trans hs, e⟩, fun s' z1 z2 => ⟨hsl s', fun g z3 => ?_⟩, fun i => ⟨hF.L, hF.L⟩⟩
  · refine hF.1 g i fun z5 => ?_
    rcases spL_kind q3 z5 with f | f <;> omega
  · refine cS_Fr hF fun a b z4 z5 z6 => ?_
    have := hd.2 s' s g h z1 hs14 z2 z3 hs
    unfold inSp at z6
    omega
theorem sp1_new (hd : pD μ) (hn : 78 ≤ am_n μ ∧ am_n μ + 11 ≤ 400000) (hs14 : s < 14) (hi : iniP (am_n μ) 10 μ ν1) (hF : Fr (fun a _ => inSp (am_n μ) a) (am_sR ν1 (if s < 12 then 28 else 51) (if s < 12 then s else s - 12) (some (am_n μ))) ν) (e : cS ν (am_n μ) = T) : sp1 s T μ ν := by
  have hBB : am_B = 1000000 := rfl
  have hsp := hi.sp
  obtain ⟨a1, a2, a3, a4, a5, a6, a7, a8, a9⟩ := hi
  have hk : ∀ a, (a < am_n μ ∨ am_B ≤ a) → am_k ν a = am_k μ a := fun a z => by rw [hF.2.2.2.1]; exact a4 a z
  have hA : (if s < 12 then 28 else 51) = 28 ∨ (if s < 12 then 28 else 51) = 51 := by split <;> omega
  have hR : ∀ a b, (a < am_n μ ∨ am_B ≤ a) → ¬ (a = 28 ∨ a = 51) → ¬ (a = 0 ∧ b = 15) → ¬ (a = 54 ∧ b = 8) → am_R ν a b = am_R μ a b := fun a b z z2 z3 z4 => by
    rw [hF.2.1 a b z3 z4, am_RR, if_neg (by omega)]; exact a2 a b z
  have hsl : ∀ s', s' < 14 → slR ν s' = if s' = s then some (am_n μ) else slR μ s' := fun s' z => by
    unfold slR
    rw [hF.2.1 28 s' (by omega) (by omega), hF.2.1 51 _ (by omega) (by omega), am_RR, am_RR, a2 28 _ (by omega), a2 51 _ (by omega)]
    by_cases f : s < 12
    · simp only [if_pos f]
      by_cases g : s' < 12
      · simp only [if_pos g, true_and]
      · simp only [if_neg g]
        rw [if_neg (by omega), if_neg (by omega)]
    · simp only [if_neg f]
      by_cases g : s' < 12
      · simp only [if_pos g]
        rw [if_neg (by omega), if_neg (by omega)]
      · simp only [if_neg g, true_and]
        by_cases e2 : s' = s
        · rw [if_pos (by omega), if_pos e2]
        · rw [if_neg (by omega), if_neg e2]
  have hspn : spL (am_n μ) (am_k ν) (am_R ν) := by
    rw [hF.2.2.2.1]
    exact spL_congr hsp fun b => by rw [hF.2.1 _ b (by omega) (by omega), am_RR, if_neg (by omega)]
  have hspo : ∀ g, 78 ≤ g → g + 10 < am_n μ → spL g (am_k μ) (am_R μ) → spL g (am_k ν) (am_R ν) := fun g z1 z2 z3 => by
    have e1 : ∀ b, am_R ν g b = am_R μ g b := fun b => hR g b (by omega) (by omega) (by omega) (by omega)
    have e2 : ∀ a, a < am_n μ → am_k ν a = am_k μ a := fun a z => hk a (Or.inl z)
    unfold spL at z3 ⊢
    simpa (disch := omega) only [e1, e2] using z3
  have hn' : am_n ν = am_n μ + 11 := by rw [hF.2.2.2.2.1]; show am_n ν1 = _; omega
  have hII : ∀ a b, (a < am_n μ ∨ am_B ≤ a) → am_I ν a b = am_I μ a b := fun a b z => (hF.1 a b (fun z2 => by unfold inSp at z2; omega)).trans (a1 a b z)
  have hLL : ∀ a b, (a < am_n μ ∨ am_B ≤ a) → am_L ν a b = am_L μ a b := fun a b z => (hF.L).trans (a3 a b z)
  refine ⟨⟨fun a b z _ => hII a b (by omega), hR, fun a b z _ _ => hLL a b (by omega), hk, fun g i z1 z2 _ _ => hII g i (Or.inl z2), ⟨by omega, by omega⟩, ?_, ?_⟩, ⟨fun s' g z1 z2 => ?_, fun s1 s2 g1 g2 z1 z2 z3 z4 z5 => ?_⟩, ⟨am_n μ, by rw [hsl s hs14, if_pos rfl], e⟩, fun s' z1 z2 => ⟨by rw [hsl s' z1, if_neg z2], fun g z3 => ?_⟩, fun i => ⟨hLL 53 i (by omega), hLL 57 i (by omega)⟩⟩
  · rw [hF.2.2.2.2.2.1]; show am_c ν1 ≤ _; omega
  · rw [hF.2.2.2.2.2.2]; show am_s ν1 ≤ _; omega
  · rw [hsl s' z1] at z2
    split at z2
    · cases z2
      exact ⟨hn.1, by omega, hspn⟩
    · obtain ⟨q1, q2, q3⟩ := hd.1 s' g z1 z2
      exact ⟨q1, by omega, hspo g q1 q2 q3⟩
  · rw [hsl s1 z1] at z4
    rw [hsl s2 z2] at z5
    split at z4
    · cases z4
      rw [if_neg (by omega)] at z5
      have := (hd.1 s2 g2 z2 z5).2.1
      omega
    · split at z5
      · cases z5
        have := (hd.1 s1 g1 z1 z4).2.1
        omega
      · exact hd.2 s1 s2 g1 g2 z1 z2 z3 z4 z5
  · have := (hd.1 s' g z1 z3).2.1
    exact cS_congr fun a b z4 z5 => hII a b (by omega)
theorem GF.sI (hf : GF F q μ ν) {a b : Nat} (ha : a < 78) (hF : F a b) : GF F q μ (am_sI ν a b v) :=
  ⟨fun x y z w => by rw [am_I_sI, if_neg (fun ⟨e1, e2⟩ => w (by rw [e1, e2]; exact hF))]; exact hf.1 x y z w, hf.2.1, hf.2.2.1, hf.2.2.2.1, fun g i z1 z2 z3 z4 => by rw [am_I_sI, if_neg (by omega)]; exact hf.2.2.2.2.1 g i z1 z2 z3 z4, hf.2.2.2.2.2⟩
theorem GF.q100 (hf : GF F q μ ν) (h : q ≤ r) : GF F r μ ν := ⟨hf.1, hf.2.1, hf.2.2.1, hf.2.2.2.1, hf.2.2.2.2.1, ⟨hf.2.2.2.2.2.1.1, by have := hf.2.2.2.2.2.1.2; omega⟩, by have := hf.2.2.2.2.2.2.1; omega, by have := hf.2.2.2.2.2.2.2; omega⟩
theorem pD.sI (hd : pD μ) {a b : Nat} : pD (am_sI μ a b v) := hd
theorem pb_t (hc : cL (am_k μ) (am_R μ)) (hu : am_I μ 0 21 = nI u) (h12 : u < 12) (hd : pD μ) (hn : 78 ≤ am_n μ ∧ am_n μ + 11 ≤ 400000) (hs : spL h (am_k μ) (am_R μ)) (h0 : 0 < h) (h1 : h + 10 < 54) (h2 : ¬ inSp h 28) (h3 : ¬ inSp h 51) (hK : ∀ ν, sp1 u (cS μ h) μ ν → K none (am_sI ν 0 21 (nI (u + 1)))) (z1 z2 : Value) :
    am_Wp (d + 2) mX1_putsBy 62 [.ref 0, .ref h, z1, z2] [] μ K := by
  have hBB : am_B = 1000000 := rfl
  have hcu := hc
  simp only [cL, spL, Nat.reduceAdd] at hcu
  have hin : vp_in (nI u) 12 := vp_in_nI h12 (by omega)
  have hcl : (nI u).toNatClampNeg = u := nI_clamp (by omega)
  have fin : ∀ ν, sp1 u (cS μ h) μ ν → am_Wp (d + 2) mX1_putsBy 103 [.ref 0, .ref h, z1, z2] [] ν K := fun ν hν => by
    have hk0 : am_k ν 0 = (0, 0) := (hν.1.2.2.2.1 0 (Or.inl (by omega))).trans hcu.1.1
    have e21 : am_I ν 0 21 = nI u := (hν.1.1 0 21 (Or.inl (by omega)) (fun z => z)).trans hu
    simp only [gX1_putsBy_103, gX1_putsBy_104, gX1_putsBy_105, gX1_putsBy_108, gX1_putsBy_109, gX1_putsBy_110, gX1_putsBy_113, am_kill_int, am_kill_ref, am_kill_null, am_kill_F, am_kill_long, am_cat_n, am_cat_i, am_cat_r, am_cat_0, am_cat_l, am_nr_n, am_nr_i, am_nr_r, am_nr_0, am_nr_l, Option.toList_some, Option.toList_none, List.nil_append, List.cons_append, va_rf_s, va_rf_n, am_II, am_I_sR, am_I_sL, am_R_sI, am_RR, am_R_sL, am_L_sI, am_L_sR, am_LL, am_k_sI, am_k_sR, am_k_sL, am_n_sI, am_n_sR, am_n_sL, true_and, and_true, true_or, or_true, or_false, false_or, not_true_eq_false, not_false_eq_true, Nat.reduceLT, am_dS, am_dP, am_d1, Nat.reduceSub, Nat.reduceMul, ne_eq, Nat.reduceBEq, Nat.reduceAdd, Nat.reduceLeDiff, Nat.reduceEqDiff, and_self, and_false, false_and, if_true, if_false, am_nb, am_nb0, am_nb1, am_lc1, am_lc2, am_lc3, am_b0, am_b1, am_10, am_c8, am_c16, am_c24, am_c32, am_c40, am_c48, am_c56, am_c64, am_c72, Nat.add_zero, Bool.false_eq_true, Nat.zero_le, hk0, e21, nI_1]
    exact hK ν hν
  cases hR : am_R μ 28 u with
  | some h' =>
    have hsl : slR μ u = some h' := by unfold slR; rw [if_pos h12]; exact hR
    obtain ⟨q1, q2, q3⟩ := hd.1 u h' (by omega) hsl
    have hk' : (am_k μ h').1 = 1 := by rw [q3.1]
    simp only [gX1_putsBy_62, gX1_putsBy_63, gX1_putsBy_66, gX1_putsBy_67, gX1_putsBy_70, gX1_putsBy_71, gX1_putsBy_71n, gX1_putsBy_90, gX1_putsBy_91, gX1_putsBy_94, gX1_putsBy_95, gX1_putsBy_98, gX1_putsBy_99, gX1_putsBy_99n, gX1_putsBy_100, am_kill_int, am_kill_ref, am_kill_null, am_kill_F, am_kill_long, am_cat_n, am_cat_i, am_cat_r, am_cat_0, am_cat_l, am_nr_n, am_nr_i, am_nr_r, am_nr_0, am_nr_l, Option.toList_some, Option.toList_none, List.nil_append, List.cons_append, va_rf_s, va_rf_n, am_II, am_I_sR, am_I_sL, am_R_sI, am_RR, am_R_sL, am_L_sI, am_L_sR, am_LL, am_k_sI, am_k_sR, am_k_sL, am_n_sI, am_n_sR, am_n_sL, true_and, and_true, true_or, or_true, or_false, false_or, not_true_eq_false, not_false_eq_true, Nat.reduceLT, am_dS, am_dP, am_d1, Nat.reduceSub, Nat.reduceMul, ne_eq, Nat.reduceBEq, Nat.reduceAdd, Nat.reduceLeDiff, Nat.reduceEqDiff, and_self, and_false, false_and, if_true, if_false, am_nb, am_nb0, am_nb1, am_lc1, am_lc2, am_lc3, am_b0, am_b1, am_10, am_c8, am_c16, am_c24, am_c32, am_c40, am_c48, am_c56, am_c64, am_c72, Nat.add_zero, Bool.false_eq_true, Nat.zero_le, hcu, hu, hin, hcl, hR, hk']
    exact wX2_becomes (d := d) hs q3 (by omega) fun ν hF hT => ⟨trivial, fin ν (sp1_old hd (by omega) (by omega) hsl hF hT)⟩
  | none =>
    simp only [gX1_putsBy_62, gX1_putsBy_63, gX1_putsBy_66, gX1_putsBy_67, gX1_putsBy_70, gX1_putsBy_71, gX1_putsBy_71n, gX1_putsBy_74, gX1_putsBy_75, gX1_putsBy_78, gX1_putsBy_79, gX1_putsBy_82, am_kill_int, am_kill_ref, am_kill_null, am_kill_F, am_kill_long, am_cat_n, am_cat_i, am_cat_r, am_cat_0, am_cat_l, am_nr_n, am_nr_i, am_nr_r, am_nr_0, am_nr_l, Option.toList_some, Option.toList_none, List.nil_append, List.cons_append, va_rf_s, va_rf_n, am_II, am_I_sR, am_I_sL, am_R_sI, am_RR, am_R_sL, am_L_sI, am_L_sR, am_LL, am_k_sI, am_k_sR, am_k_sL, am_n_sI, am_n_sR, am_n_sL, true_and, and_true, true_or, or_true, or_false, false_or, not_true_eq_false, not_false_eq_true, Nat.reduceLT, am_dS, am_dP, am_d1, Nat.reduceSub, Nat.reduceMul, ne_eq, Nat.reduceBEq, Nat.reduceAdd, Nat.reduceLeDiff, Nat.reduceEqDiff, and_self, and_false, false_and, if_true, if_false, am_nb, am_nb0, am_nb1, am_lc1, am_lc2, am_lc3, am_b0, am_b1, am_10, am_c8, am_c16, am_c24, am_c32, am_c40, am_c48, am_c56, am_c64, am_c72, Nat.add_zero, Bool.false_eq_true, Nat.zero_le, hcu, hu, hin, hcl, hR]
    refine ⟨by omega, ?_⟩
    rw [gX1_putsBy_85, gX1_putsBy_86]
    refine ⟨by show 3 ≤ 8; decide, Nat.succ_pos _, wX2_init (d := d) (iniP_z (by omega)) (by omega) fun ν1 hi => ⟨trivial, ?_⟩⟩
    have k0 : am_k ν1 0 = (0, 0) := (hi.2.2.2.1 0 (Or.inl (by omega))).trans hcu.1.1
    have k28 : am_k ν1 28 = (14, 12) := (hi.2.2.2.1 28 (Or.inl (by omega))).trans hcu.1.2.2.2.2.2.2.1
    have kn : am_k ν1 (am_n μ) = (1, 0) := hi.2.2.2.2.1
    have r19 : am_R ν1 0 19 = some 28 := (hi.2.1 0 19 (Or.inl (by omega))).trans (by simp only [hcu])
    have i21 : am_I ν1 0 21 = nI u := (hi.1 0 21 (Or.inl (by omega))).trans hu
    have hsh : spL h (am_k ν1) (am_R ν1) := by
      have e1 : ∀ b, am_R ν1 h b = am_R μ h b := fun b => hi.2.1 h b (Or.inl (by omega))
      have e2 : ∀ a, a < 54 → am_k ν1 a = am_k μ a := fun a z => hi.2.2.2.1 a (Or.inl (by omega))
      have hs' := hs
      unfold spL at hs' ⊢
      simpa (disch := omega) only [e1, e2] using hs'
    have hne : ¬ (am_n μ = 28) := by omega
    simp only [Option.toList_none, List.nil_append, gX1_putsBy_89, gX1_putsBy_90, gX1_putsBy_91, gX1_putsBy_94, gX1_putsBy_95, gX1_putsBy_98, gX1_putsBy_99, gX1_putsBy_99n, gX1_putsBy_100, am_kill_int, am_kill_ref, am_kill_null, am_kill_F, am_kill_long, am_cat_n, am_cat_i, am_cat_r, am_cat_0, am_cat_l, am_nr_n, am_nr_i, am_nr_r, am_nr_0, am_nr_l, Option.toList_some, Option.toList_none, List.nil_append, List.cons_append, va_rf_s, va_rf_n, am_II, am_I_sR, am_I_sL, am_R_sI, am_RR, am_R_sL, am_L_sI, am_L_sR, am_LL, am_k_sI, am_k_sR, am_k_sL, am_n_sI, am_n_sR, am_n_sL, true_and, and_true, true_or, or_true, or_false, false_or, not_true_eq_false, not_false_eq_true, Nat.reduceLT, am_dS, am_dP, am_d1, Nat.reduceSub, Nat.reduceMul, ne_eq, Nat.reduceBEq, Nat.reduceAdd, Nat.reduceLeDiff, Nat.reduceEqDiff, and_self, and_false, false_and, if_true, if_false, am_nb, am_nb0, am_nb1, am_lc1, am_lc2, am_lc3, am_b0, am_b1, am_10, am_c8, am_c16, am_c24, am_c32, am_c40, am_c48, am_c56, am_c64, am_c72, Nat.add_zero, Bool.false_eq_true, Nat.zero_le, k0, k28, kn, r19, i21, hin, hcl]
    refine wX2_becomes (d := d) (h := h) (h' := am_n μ) (spL_congr hsh fun b => by rw [am_RR, if_neg (by unfold inSp at h2; omega)]) (spL_congr hi.sp fun b => by rw [am_RR, if_neg (by omega)]) (by omega) fun ν hF hT => ⟨trivial, fin ν (sp1_new (s := u) hd hn (by omega) hi (by rw [if_pos h12, if_pos h12]; exact hF) (hT.trans ?_))⟩
    exact (cS_sR).trans (cS_congr fun a b z3 z4 => hi.1 a b (Or.inl (by omega)))
def ro (s : Nat) : Nat := if s < 11 then s + 1 else if s = 11 then 0 else s
theorem wX1_putsBy (hc : cL (am_k μ) (am_R μ)) (hu : am_I μ 0 21 = nI u) (h12 : u ≤ 12) (hall : ∀ k, k < u → ∃ h, slR μ k = some h) (hd : pD μ) (hn : 78 ≤ am_n μ ∧ am_n μ + 11 ≤ 400000) (hs : spL h (am_k μ) (am_R μ)) (h0 : 0 < h) (h1 : h + 10 < 54) (h2 : ¬ inSp h 28) (h3 : ¬ inSp h 51) (hK : ∀ ν, GF (fun a b => a = 0 ∧ b = 21) 11 μ ν → am_I ν 0 21 = nI (upN u) → pD ν → (∀ k, k < upN u → ∃ h', slR ν k = some h' ∧ cS ν h' = stN u (fun k => cS μ ((slR μ k).getD 0)) (cS μ h) k) → kS μ ν → bS (cS μ h) μ ν → (∀ i, am_L ν 53 i = am_L μ 53 i ∧ am_L ν 57 i = am_L μ 57 i) → K none ν) :
    am_Wp (d + 2) mX1_putsBy 0 [.ref 0, .ref h, am_F, am_F] [] μ K := by
  have hBB : am_B = 1000000 := rfl
  have hcu := hc
  simp only [cL, spL, Nat.reduceAdd] at hcu
  by_cases f : u = 12
  · have e12 : nI u = 12 := by rw [f]; rfl
    obtain ⟨g0, hg0⟩ := hall 0 (by omega)
    have hR : ∀ k, k < 12 → am_R μ 28 k = slR μ k := fun k z => by unfold slR; rw [if_pos z]
    have r0 : am_R μ 28 0 = some g0 := (hR 0 (by omega)).trans hg0
    have z0 : (0 : Int32).toNatClampNeg = 0 := by decide
    have i0 : vp_in 0 12 := vp_in_nI (n := 0) (by decide) (by decide)
    simp only [gX1_putsBy_0, gX1_putsBy_1, gX1_putsBy_4, gX1_putsBy_6, gX1_putsBy_9, gX1_putsBy_10, gX1_putsBy_13, gX1_putsBy_14, gX1_putsBy_15, gX1_putsBy_15n, gX1_putsBy_16, gX1_putsBy_17, am_kill_int, am_kill_ref, am_kill_null, am_kill_F, am_kill_long, am_cat_n, am_cat_i, am_cat_r, am_cat_0, am_cat_l, am_nr_n, am_nr_i, am_nr_r, am_nr_0, am_nr_l, Option.toList_some, Option.toList_none, List.nil_append, List.cons_append, va_rf_s, va_rf_n, am_II, am_I_sR, am_I_sL, am_R_sI, am_RR, am_R_sL, am_L_sI, am_L_sR, am_LL, am_k_sI, am_k_sR, am_k_sL, am_n_sI, am_n_sR, am_n_sL, true_and, and_true, true_or, or_true, or_false, false_or, not_true_eq_false, not_false_eq_true, Nat.reduceLT, am_dS, am_dP, am_d1, Nat.reduceSub, Nat.reduceMul, ne_eq, Nat.reduceBEq, Nat.reduceAdd, Nat.reduceLeDiff, Nat.reduceEqDiff, and_self, and_false, false_and, if_true, if_false, am_nb, am_nb0, am_nb1, am_lc1, am_lc2, am_lc3, am_b0, am_b1, am_10, am_c8, am_c16, am_c24, am_c32, am_c40, am_c48, am_c56, am_c64, am_c72, Nat.add_zero, Bool.false_eq_true, Nat.zero_le, hcu, hu, e12, z0, i0, r0]
    refine am_for (N := 12) (fun k ls ν => 1 ≤ k ∧ ls = [.ref 0, .ref h, .ref g0, .int (nI k)] ∧ (∀ a b, a ≠ 28 → am_R ν a b = am_R μ a b) ∧ (∀ j, j + 1 < k → am_R ν 28 j = am_R μ 28 (j + 1)) ∧ (∀ j, k ≤ j + 1 → am_R ν 28 j = am_R μ 28 j) ∧ am_I ν = am_I μ ∧ am_L ν = am_L μ ∧ am_k ν = am_k μ ∧ am_n ν = am_n μ ∧ am_c ν = am_c μ ∧ am_s ν = am_s μ) ?_ ?_ 11 1 _ _ (by omega) ⟨by omega, rfl, fun a b _ => rfl, fun j z => by omega, fun j _ => rfl, rfl, rfl, rfl, rfl, rfl, rfl⟩
    · rintro k ls ν hk12 ⟨k1, rfl, p1, p2, p3, p4, p5, p6, p7, p8, p9⟩ ih
      have hlt : ¬ nI 12 ≤ nI k := nI_ge hk12 (by omega)
      have e12' : (12 : Int32) = nI 12 := rfl
      obtain ⟨j, rfl⟩ : ∃ j, k = j + 1 := ⟨k - 1, by omega⟩
      obtain ⟨g, hg⟩ := hall (j + 1) (by omega)
      have hgk : am_k μ g = (1, 0) := (hd.1 _ g (by omega) hg).2.2.1
      have rk : am_R ν 28 (j + 1) = some g := (p3 (j + 1) (by omega)).trans ((hR _ hk12).trans hg)
      have r19 : am_R ν 0 19 = some 28 := (p1 0 19 (by omega)).trans (by simp only [hcu])
      have hv : vp_in (nI (j + 1)) 12 := vp_in_nI (by omega) (by omega)
      have hck : (nI (j + 1)).toNatClampNeg = j + 1 := nI_clamp (by omega)
      have hv2 : vp_in (nI j) 12 := vp_in_nI (by omega) (by omega)
      have hck2 : (nI j).toNatClampNeg = j := nI_clamp (by omega)
      rw [gX1_putsBy_18]
      simp only [gX1_putsBy_19, gX1_putsBy_21, gX1_putsBy_24, gX1_putsBy_25, gX1_putsBy_28, gX1_putsBy_29, gX1_putsBy_30, gX1_putsBy_31, gX1_putsBy_32, gX1_putsBy_35, gX1_putsBy_36, gX1_putsBy_37, gX1_putsBy_38, gX1_putsBy_41, am_kill_int, am_kill_ref, am_kill_null, am_kill_F, am_kill_long, am_cat_n, am_cat_i, am_cat_r, am_cat_0, am_cat_l, am_nr_n, am_nr_i, am_nr_r, am_nr_0, am_nr_l, Option.toList_some, Option.toList_none, List.nil_append, List.cons_append, va_rf_s, va_rf_n, am_II, am_I_sR, am_I_sL, am_R_sI, am_RR, am_R_sL, am_L_sI, am_L_sR, am_LL, am_k_sI, am_k_sR, am_k_sL, am_n_sI, am_n_sR, am_n_sL, true_and, and_true, true_or, or_true, or_false, false_or, not_true_eq_false, not_false_eq_true, Nat.reduceLT, am_dS, am_dP, am_d1, Nat.reduceSub, Nat.reduceMul, ne_eq, Nat.reduceBEq, Nat.reduceAdd, Nat.reduceLeDiff, Nat.reduceEqDiff, and_self, and_false, false_and, if_true, if_false, am_nb, am_nb0, am_nb1, am_lc1, am_lc2, am_lc3, am_b0, am_b1, am_10, am_c8, am_c16, am_c24, am_c32, am_c40, am_c48, am_c56, am_c64, am_c72, Nat.add_zero, Bool.false_eq_true, Nat.zero_le, p6, hcu, hgk, e12', hlt, r19, rk, nI_pred, hv, hck, hv2, hck2, nI_1]
      refine ih _ _ ⟨by omega, rfl, fun a b z => ?_, fun i hi => ?_, fun i hi => ?_, p4, p5, p6, p7, p8, p9⟩
      · rw [am_RR, if_neg (by omega)]; exact p1 a b z
      · by_cases e : i = j
        · subst e; rw [am_RR, if_pos ⟨rfl, rfl⟩]; exact (hg.symm.trans (hR _ hk12).symm)
        · rw [am_RR, if_neg (by omega)]; exact p2 i (by omega)
      · rw [am_RR, if_neg (by omega)]; exact p3 i (by omega)
    · rintro ls ν ⟨k1, rfl, p1, p2, p3, p4, p5, p6, p7, p8, p9⟩
      have e12' : (12 : Int32) = nI 12 := rfl
      have hgk : am_k μ g0 = (1, 0) := (hd.1 0 g0 (by omega) hg0).2.2.1
      have r19 : am_R ν 0 19 = some 28 := (p1 0 19 (by omega)).trans (by simp only [hcu])
      have i11 : vp_in 11 12 := vp_in_nI (n := 11) (by decide) (by decide)
      have z11 : (11 : Int32).toNatClampNeg = 11 := by decide
      have m1 : (12 : Int32) - 1 = nI 11 := by decide
      have hu' : am_I ν 0 21 = 12 := by rw [p4, hu, e12]
      rw [gX1_putsBy_18]
      simp only [gX1_putsBy_19, gX1_putsBy_21, gX1_putsBy_44, gX1_putsBy_45, gX1_putsBy_48, gX1_putsBy_50, gX1_putsBy_50n, gX1_putsBy_51, gX1_putsBy_52, gX1_putsBy_53, gX1_putsBy_54, gX1_putsBy_57, gX1_putsBy_58, gX1_putsBy_59, am_kill_int, am_kill_ref, am_kill_null, am_kill_F, am_kill_long, am_cat_n, am_cat_i, am_cat_r, am_cat_0, am_cat_l, am_nr_n, am_nr_i, am_nr_r, am_nr_0, am_nr_l, Option.toList_some, Option.toList_none, List.nil_append, List.cons_append, va_rf_s, va_rf_n, am_II, am_I_sR, am_I_sL, am_R_sI, am_RR, am_R_sL, am_L_sI, am_L_sR, am_LL, am_k_sI, am_k_sR, am_k_sL, am_n_sI, am_n_sR, am_n_sL, true_and, and_true, true_or, or_true, or_false, false_or, not_true_eq_false, not_false_eq_true, Nat.reduceLT, am_dS, am_dP, am_d1, Nat.reduceSub, Nat.reduceMul, ne_eq, Nat.reduceBEq, Nat.reduceAdd, Nat.reduceLeDiff, Nat.reduceEqDiff, and_self, and_false, false_and, if_true, if_false, am_nb, am_nb0, am_nb1, am_lc1, am_lc2, am_lc3, am_b0, am_b1, am_10, am_c8, am_c16, am_c24, am_c32, am_c40, am_c48, am_c56, am_c64, am_c72, Nat.add_zero, Bool.false_eq_true, Nat.zero_le, p6, hcu, hgk, e12', Int32.le_refl, r19, i11, z11]
      rw [hu', m1]
      have hμ1 : ∀ μ1, μ1 = am_sI (am_sR ν 28 11 (some g0)) 0 21 (nI 11) → am_Wp (d + 2) mX1_putsBy 62 [.ref 0, .ref h, .ref g0, .int (nI 12)] [] μ1 K := fun μ1 hμ1 => by
        have I1 : ∀ a b, ¬ (a = 0 ∧ b = 21) → am_I μ1 a b = am_I μ a b := fun a b z => by rw [hμ1, am_I_sI, if_neg z, am_I_sR, p4]
        have R1 : ∀ a b, a ≠ 28 → am_R μ1 a b = am_R μ a b := fun a b z => by rw [hμ1, am_R_sI, am_RR, if_neg (by omega)]; exact p1 a b z
        have k1' : am_k μ1 = am_k μ := by rw [hμ1]; exact p6
        have L1 : am_L μ1 = am_L μ := by rw [hμ1]; exact p5
        have n1 : am_n μ1 = am_n μ := by rw [hμ1]; exact p7
        have c1 : am_c μ1 = am_c μ := by rw [hμ1]; exact p8
        have s1 : am_s μ1 = am_s μ := by rw [hμ1]; exact p9
        have u1 : am_I μ1 0 21 = nI 11 := by rw [hμ1, am_I_sI, if_pos ⟨rfl, rfl⟩]
        have R28 : ∀ j, j < 12 → am_R μ1 28 j = slR μ (ro j) := fun j z => by
          unfold ro
          rw [hμ1, am_R_sI, am_RR]
          by_cases e : j = 11
          · subst e; rw [if_pos ⟨rfl, rfl⟩, if_neg (by omega), if_pos rfl]; exact hg0.symm
          · rw [if_neg (by omega), if_pos (by omega), p2 j (by omega), hR _ (by omega)]
        have sl1 : ∀ s, s < 14 → slR μ1 s = slR μ (ro s) := fun s z => by
          by_cases e : s < 12
          · rw [← R28 s e]; unfold slR; rw [if_pos e]
          · have er : ro s = s := by unfold ro; rw [if_neg (by omega), if_neg (by omega)]
            rw [er]; unfold slR; rw [if_neg e, if_neg e]; exact R1 51 _ (by omega)
        have ro14 : ∀ s, s < 14 → ro s < 14 := fun s z => by unfold ro; split <;> (first | omega | (split <;> omega))
        have roi : ∀ s s', s < 14 → s' < 14 → s ≠ s' → ro s ≠ ro s' := fun s s' z z' z2 => by
          unfold ro
          split <;> split <;> (first | omega | (split <;> (first | omega | (split <;> omega))))
        have hcS : ∀ g, 0 < g → cS μ1 g = cS μ g := fun g z => cS_congr fun a b z1 z2 => I1 a b (by omega)
        have hd1 : pD μ1 := by
          refine ⟨fun s g z1 z2 => ?_, fun s s' g g' z1 z2 z3 z4 z5 => ?_⟩
          · rw [sl1 s z1] at z2
            obtain ⟨q1, q2, q3⟩ := hd.1 _ g (ro14 s z1) z2
            refine ⟨q1, by rw [n1]; exact q2, ?_⟩
            rw [k1']
            exact spL_congr q3 fun b => R1 g b (by omega)
          · rw [sl1 s z1] at z4
            rw [sl1 s' z2] at z5
            exact hd.2 _ _ g g' (ro14 s z1) (ro14 s' z2) (roi s s' z1 z2 z3) z4 z5
        have hc1 : cL (am_k μ1) (am_R μ1) := by
          have hc' := hc
          unfold cL spL at hc' ⊢
          rw [k1']
          simpa (disch := omega) only [R1] using hc'
        have hs1 : spL h (am_k μ1) (am_R μ1) := by
          rw [k1']
          exact spL_congr hs fun b => R1 h b (by unfold inSp at h2; omega)
        have GF1 : GF (fun a b => a = 0 ∧ b = 21) 0 μ μ1 := ⟨fun a b _ w => I1 a b w, fun a b _ z2 _ _ => R1 a b (by omega), fun a b _ _ _ => by rw [L1], fun a _ => by rw [k1'], fun g i z1 _ _ _ => I1 g i (by omega), ⟨by omega, by omega⟩, by omega, by omega⟩
        refine pb_t (d := d) hc1 u1 (by omega) hd1 (by rw [n1]; exact hn) hs1 h0 h1 h2 h3 (fun ν' hν => ?_) _ _
        obtain ⟨w1, w2, ⟨g, w3, w4⟩, w5, w6⟩ := hν
        have e0 : ∀ g, 0 < g → cS (am_sI ν' 0 21 (nI 12)) g = cS ν' g := fun g z => cS_o (by omega)
        rw [hcS h h0] at w4
        refine hK _ ((GF1.trans (w1.le fun a b z => absurd z id) (by omega : 0 + 11 ≤ 11)).sI (by omega) ⟨rfl, rfl⟩) (by rw [am_I_sI, if_pos ⟨rfl, rfl⟩]; unfold upN; rw [if_pos f]) w2 (fun k hk => ?_) (fun i hi => ?_) (fun s g' z1 z2 => ?_) (fun i => ⟨(w6 i).1.trans (by rw [L1]), (w6 i).2.trans (by rw [L1])⟩)
        · unfold upN at hk
          rw [if_pos f] at hk
          unfold stN
          by_cases e : k < 11
          · obtain ⟨y1, y2⟩ := w5 k (by omega) (by omega)
            obtain ⟨g', hg'⟩ := hall (k + 1) (by omega)
            have er : ro k = k + 1 := by unfold ro; rw [if_pos e]
            have hsl := sl1 k (by omega)
            rw [er, hg'] at hsl
            have h78 := (hd.1 _ g' (by omega) hg').1
            refine ⟨g', y1.trans hsl, ?_⟩
            rw [e0 g' (by omega), y2 g' hsl, hcS g' (by omega)]
            funext i
            rw [if_pos f, if_pos e]
            show cS μ g' i = cS μ ((slR μ (k + 1)).getD 0) i
            rw [hg']; rfl
          · have : k = 11 := by omega
            subst this
            refine ⟨g, w3, ?_⟩
            have h78 := (w2.1 11 g (by omega) w3).1
            rw [e0 g (by omega), w4]
            funext i
            rw [if_pos f, if_neg e]
        · obtain ⟨y1, y2⟩ := w5 (12 + i) (by omega) (by omega)
          have er : ro (12 + i) = 12 + i := by unfold ro; rw [if_neg (by omega), if_neg (by omega)]
          have hsl := sl1 (12 + i) (by omega)
          rw [er] at hsl
          refine ⟨y1.trans hsl, fun g' hg' => ?_⟩
          have h78 := (hd.1 _ g' (by omega) hg').1
          rw [e0 g' (by omega), y2 g' (hsl.trans hg'), hcS g' (by omega)]
        · have z2' : slR ν' s = some g' := z2
          have h78 := (w2.1 s g' z1 z2').1
          rw [e0 g' (by omega)]
          by_cases e : s = 11
          · subst e
            rw [w3] at z2'
            cases z2'
            exact Or.inl w4
          · obtain ⟨y1, y2⟩ := w5 s z1 e
            have z3 : slR μ1 s = some g' := y1.symm.trans z2'
            exact Or.inr ⟨ro s, ro14 s z1, (sl1 s z1).symm.trans z3, (y2 g' z3).trans (hcS g' (by omega))⟩
      exact hμ1 _ rfl
  · have e12 : ¬ nI u = 12 := fun e => by
      have := nI_clamp (n := u) (by omega)
      rw [e] at this
      have z : (12 : Int32).toNatClampNeg = 12 := by decide
      omega
    simp only [gX1_putsBy_0, gX1_putsBy_1, gX1_putsBy_4, gX1_putsBy_6, am_kill_int, am_kill_ref, am_kill_null, am_kill_F, am_kill_long, am_cat_n, am_cat_i, am_cat_r, am_cat_0, am_cat_l, am_nr_n, am_nr_i, am_nr_r, am_nr_0, am_nr_l, Option.toList_some, Option.toList_none, List.nil_append, List.cons_append, va_rf_s, va_rf_n, am_II, am_I_sR, am_I_sL, am_R_sI, am_RR, am_R_sL, am_L_sI, am_L_sR, am_LL, am_k_sI, am_k_sR, am_k_sL, am_n_sI, am_n_sR, am_n_sL, true_and, and_true, true_or, or_true, or_false, false_or, not_true_eq_false, not_false_eq_true, Nat.reduceLT, am_dS, am_dP, am_d1, Nat.reduceSub, Nat.reduceMul, ne_eq, Nat.reduceBEq, Nat.reduceAdd, Nat.reduceLeDiff, Nat.reduceEqDiff, and_self, and_false, false_and, if_true, if_false, am_nb, am_nb0, am_nb1, am_lc1, am_lc2, am_lc3, am_b0, am_b1, am_10, am_c8, am_c16, am_c24, am_c32, am_c40, am_c48, am_c56, am_c64, am_c72, Nat.add_zero, Bool.false_eq_true, Nat.zero_le, hcu, hu, e12]
    refine pb_t (d := d) hc hu (by omega) hd hn hs h0 h1 h2 h3 (fun ν hν => ?_) _ _
    obtain ⟨w1, w2, ⟨g, w3, w4⟩, w5, w6⟩ := hν
    have e0 : ∀ g, 0 < g → cS (am_sI ν 0 21 (nI (u + 1))) g = cS ν g := fun g z => cS_o (by omega)
    have hup : upN u = u + 1 := by unfold upN; rw [if_neg f]
    refine hK _ ((w1.le fun a b z => absurd z id).sI (by omega) ⟨rfl, rfl⟩) (by rw [am_I_sI, if_pos ⟨rfl, rfl⟩, hup]) w2 (fun k hk => ?_) (fun i hi => ?_) (fun s g' z1 z2 => ?_) w6
    · rw [hup] at hk
      unfold stN
      by_cases e : k = u
      · subst e
        have h78 := (w2.1 k g (by omega) w3).1
        refine ⟨g, w3, ?_⟩
        rw [e0 g (by omega), w4]
        funext i
        rw [if_neg f, if_pos rfl]
      · obtain ⟨y1, y2⟩ := w5 k (by omega) e
        obtain ⟨g', hg'⟩ := hall k (by omega)
        have h78 := (hd.1 _ g' (by omega) hg').1
        refine ⟨g', y1.trans hg', ?_⟩
        rw [e0 g' (by omega), y2 g' hg']
        funext i
        rw [if_neg f, if_neg e]
        show cS μ g' i = cS μ ((slR μ k).getD 0) i
        rw [hg']; rfl
    · obtain ⟨y1, y2⟩ := w5 (12 + i) (by omega) (by omega)
      refine ⟨y1, fun g' hg' => ?_⟩
      have h78 := (hd.1 _ g' (by omega) hg').1
      rw [e0 g' (by omega), y2 g' hg']
    · have z2' : slR ν s = some g' := z2
      have h78 := (w2.1 s g' z1 z2').1
      rw [e0 g' (by omega)]
      by_cases e : s = u
      · subst e
        rw [w3] at z2'
        cases z2'
        exact Or.inl w4
      · obtain ⟨y1, y2⟩ := w5 s z1 e
        have z3 : slR μ s = some g' := y1.symm.trans z2'
        exact Or.inr ⟨s, z1, z3, y2 g' z3⟩
end SLV
