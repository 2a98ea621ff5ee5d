/-! frames with new cells -/
set_option maxRecDepth 100000
section GFV
variable {d : Nat} {μ ν ξ : am_M} {K : Option Value → am_M → Prop} {x y z c w : Int32} {h N C j i k r n M b q q' t u : Nat} {v : Int32} {ru : Option PF} {F G : Nat → Nat → Prop} {S T a a' : Nat → Int32} {p : Int64}
def GF (F : Nat → Nat → Prop) (q : Nat) (μ ν : am_M) : Prop :=
  (∀ a b, (a < 78 ∨ am_B ≤ a) → ¬ F a b → am_I ν a b = am_I μ a b) ∧
  (∀ a b, (a < am_n μ ∨ am_B ≤ a) → ¬ (a = 28 ∨ a = 51) → ¬ (a = 0 ∧ b = 15) → ¬ (a = 54 ∧ b = 8) → am_R ν a b = am_R μ a b) ∧
  (∀ a b, a < 78 → a ≠ 53 → a ≠ 57 → am_L ν a b = am_L μ a b) ∧
  (∀ a, (a < am_n μ ∨ am_B ≤ a) → am_k ν a = am_k μ a) ∧
  (∀ h i, 78 ≤ h → h < am_n μ → 3 ≤ (am_k μ h).1 → (am_k μ h).1 < 7 → am_I ν h i = am_I μ h i) ∧
  (am_n μ ≤ am_n ν ∧ am_n ν ≤ am_n μ + q) ∧ am_c ν ≤ am_c μ + q ∧ am_s ν ≤ am_s μ + 10 * q
theorem GF.refl : GF F q μ μ := ⟨fun _ _ _ _ => rfl, fun _ _ _ _ _ _ => rfl, fun _ _ _ _ _ => rfl, fun _ _ => rfl, fun _ _ _ _ _ _ => rfl, ⟨Nat.le_refl _, Nat.le_add_right _ _⟩, Nat.le_add_right _ _, Nat.le_add_right _ _⟩
theorem GF.trans (h1 : GF F q μ ν) (h2 : GF F q' ν ξ) (hr : q + q' ≤ r) : GF F r μ ξ := by
  obtain ⟨a1, a2, a3, a4, a5, a6, a7, a8⟩ := h1
  obtain ⟨b1, b2, b3, b4, b5, b6, b7, b8⟩ := h2
  have up : ∀ h, (h < am_n μ ∨ am_B ≤ h) → (h < am_n ν ∨ am_B ≤ h) := fun h => Or.imp (fun z => Nat.lt_of_lt_of_le z a6.1) id
  exact ⟨fun h b z w => (b1 h b z w).trans (a1 h b z w), fun h b z z2 z3 z4 => (b2 h b (up h z) z2 z3 z4).trans (a2 h b z z2 z3 z4), fun h b z z2 z3 => (b3 h b z z2 z3).trans (a3 h b z z2 z3), fun h z => (b4 h (up h z)).trans (a4 h z), fun h i z1 z2 z3 z4 => by
    have e := a4 h (Or.inl z2)
    exact (b5 h i z1 (by omega) (by rw [e]; exact z3) (by rw [e]; exact z4)).trans (a5 h i z1 z2 z3 z4), ⟨Nat.le_trans a6.1 b6.1, by omega⟩, by omega, by omega⟩
theorem GF.le (h1 : GF F q μ ν) (hg : ∀ a b, F a b → G a b) : GF G q μ ν := ⟨fun a b z w => h1.1 a b z (fun r => w (hg a b r)), h1.2⟩
theorem Fw.gf (hf : Fw G μ ν) (hF : ∀ a b, G a b → a < 78) (hg : ∀ a b, G a b → F a b) : GF F 0 μ ν :=
  ⟨fun a b _ w => hf.1 a b (fun z => w (hg a b z)), fun a b _ _ z2 z3 => hf.2.1 a b z2 z3, fun a b _ z z2 => hf.2.2.1 a b z z2, fun a _ => by rw [hf.2.2.2.1], fun h i z1 z2 _ _ => hf.1 h i (fun z => by have := hF _ _ z; omega), ⟨by rw [hf.2.2.2.2.1]; exact Nat.le_refl _, by rw [hf.2.2.2.2.1]; exact Nat.le_add_right _ _⟩, by rw [hf.2.2.2.2.2.1]; exact Nat.le_add_right _ _, by rw [hf.2.2.2.2.2.2]; exact Nat.le_add_right _ _⟩
theorem GF.node (hf : GF F q μ ν) (h0 : 78 ≤ am_n μ) : nodeEq μ ν := ⟨hf.2.2.2.2.2.1.1, fun h z1 z2 z3 z4 => ⟨hf.2.2.2.1 h (Or.inl z2), fun i => hf.2.2.2.2.1 h i z1 z2 z3 z4, fun i => by
  have e54 : ¬ h = 54 := by omega
  exact hf.2.1 h i (Or.inl z2) (by omega) (by omega) (by omega)⟩⟩
theorem GF.cL (hf : GF F q μ ν) (h0 : 78 ≤ am_n μ) (hs : cL (am_k μ) (am_R μ)) : cL (am_k ν) (am_R ν) := by
  unfold Jvm.Pilot.CCuckooByPostLaw_law_r3932_936dbd.cL spL at hs ⊢
  have e : ∀ a b, a < 54 → ¬ (a = 28 ∨ a = 51) → ¬ (a = 0 ∧ b = 15) → am_R ν a b = am_R μ a b := fun a b z1 z2 z3 => hf.2.1 a b (Or.inl (by omega)) z2 z3 (by omega)
  have e2 : ∀ a, a < 54 → am_k ν a = am_k μ a := fun a z => hf.2.2.2.1 a (Or.inl (by omega))
  simpa (disch := omega) only [e, e2] using hs
theorem GF.mL (hf : GF F q μ ν) (h0 : 78 ≤ am_n μ) (hm : mL (am_k μ) (am_R μ)) : mL (am_k ν) (am_R ν) := by
  unfold Jvm.Pilot.CCuckooByPostLaw_law_r3932_936dbd.mL at hm ⊢
  have e : ∀ a b, a < 78 → ¬ (a = 28 ∨ a = 51) → ¬ (a = 0 ∧ b = 15) → ¬ (a = 54 ∧ b = 8) → am_R ν a b = am_R μ a b := fun a b z1 z2 z3 z4 => hf.2.1 a b (Or.inl (by omega)) z2 z3 z4
  have e2 : ∀ a, a < 78 → am_k ν a = am_k μ a := fun a z => hf.2.2.2.1 a (Or.inl (by omega))
  simpa (disch := omega) only [e, e2] using hm
theorem GF.spL (hf : GF F q μ ν) (h1 : 0 < h) (h2 : h ≠ 54 ∧ h ≠ 28 ∧ h ≠ 51) (h3 : h + 10 < am_n μ) (hs : spL h (am_k μ) (am_R μ)) : spL h (am_k ν) (am_R ν) := by
  unfold Jvm.Pilot.CCuckooByPostLaw_law_r3932_936dbd.spL at hs ⊢
  have e : ∀ b, am_R ν h b = am_R μ h b := fun b => hf.2.1 h b (Or.inl (by omega)) (by omega) (by omega) (by omega)
  have e2 : ∀ a, a < am_n μ → am_k ν a = am_k μ a := fun a z => hf.2.2.2.1 a (Or.inl z)
  simpa (disch := omega) only [e, e2] using hs
theorem GF.ruC (hf : GF F q μ ν) (h0 : 78 ≤ am_n μ) (hr : ruC μ ru) : ruC ν ru := by
  have e : am_R ν 0 17 = am_R μ 0 17 := hf.2.1 0 17 (Or.inl (by omega)) (by omega) (by omega) (by omega)
  cases ru with
  | none => exact e.trans hr
  | some f =>
    obtain ⟨a, h1, h2⟩ := hr
    exact ⟨a, e.trans h1, h2.mono (hf.node h0)⟩
theorem GF.stL (hf : GF F q μ ν) (hF : ∀ a b, F a b → a < 78) (hs : stL μ) : stL ν := fun i hi => by
  obtain ⟨h1, h2, h3, h4, h5⟩ := hs i hi
  have hB : 78 ≤ am_B := by decide
  have b1 : am_B ≤ am_B + 2 * i := by omega
  have b2 : am_B ≤ am_B + 2 * i + 1 := by omega
  exact ⟨by rw [hf.2.2.2.1 _ (Or.inr b1)]; exact h1, by rw [hf.1 _ _ (Or.inr b1) (fun z => by have := hF _ _ z; omega)]; exact h2, by rw [hf.2.1 _ _ (Or.inr b1) (by omega) (by omega) (by omega)]; exact h3, by rw [hf.2.2.2.1 _ (Or.inr b2)]; exact h4, fun k => by rw [hf.1 _ _ (Or.inr b2) (fun z => by have := hF _ _ z; omega)]; exact h5 k⟩
theorem GF.I (hf : GF F q μ ν) {a b : Nat} (ha : a < 78) (hn : ¬ F a b) : am_I ν a b = am_I μ a b := hf.1 a b (Or.inl ha) hn
theorem GF.row (hf : GF F q μ ν) {a : Nat} (ha : a < 78) (hn : ∀ b, ¬ F a b) : am_I ν a = am_I μ a := funext fun b => hf.1 a b (Or.inl ha) (hn b)
theorem GF.cc (hf : GF F q μ ν) (h0 : 78 ≤ am_n μ) (hF : ∀ a b, F a b → ¬ (a = 0 ∧ (b = 2 ∨ b = 3))) (hC : CC N ru c μ) : CC N ru c ν :=
  ⟨hf.cL h0 hC.1, (hf.I (by omega) (fun z => hF _ _ z (by omega))).trans hC.2.1, hC.2.2.1, (hf.I (by omega) (fun z => hF _ _ z (by omega))).trans hC.2.2.2.1, hf.ruC h0 hC.2.2.2.2⟩
theorem GF.ruM (hf : GF F q μ ν) (h0 : 78 ≤ am_n μ) (hF : ∀ a b, F a b → ¬ (a = 59 ∨ a = 60 ∨ a = 54 ∧ b = 16)) (h17 : am_I ν 54 17 = 0) (hr : ruM μ ru) : ruM ν ru := by
  refine ⟨⟨h17, by rw [hf.2.2.2.1 61 (Or.inl (by omega))]; exact hr.1.2⟩, ?_⟩
  have e16 : am_I ν 54 16 = am_I μ 54 16 := hf.I (by omega) (fun z => hF _ _ z (by omega))
  cases ru with
  | none => exact e16.trans hr.2
  | some f =>
    obtain ⟨n, g, h1, h2, h3, h4, h5, h6, h7, h8⟩ := hr.2
    have hg : g < 78 := by omega
    have eg : am_I ν g = am_I μ g := hf.row hg (fun b z => by have := hF _ _ z; omega)
    exact ⟨n, g, (hf.2.1 54 14 (Or.inl (by omega)) (by omega) (by omega) (by omega)).trans h1, h2, by rw [hf.2.2.2.1 g (Or.inl (by omega))]; exact h3, h4, h5, e16.trans h6, by rw [eg]; exact h7, by rw [eg]; exact h8⟩
theorem GF.pA (hf : GF F q μ ν) (h0 : 78 ≤ am_n μ) (hF : ∀ a b, F a b → a < 78 ∧ ¬ (a = 59 ∨ a = 60 ∨ (a = 0 ∧ (b = 2 ∨ b = 3)) ∨ (a = 54 ∧ (b = 1 ∨ b = 2 ∨ b = 16)))) (h17 : am_I ν 54 17 = 0) (hp : pA N ru c μ) : pA N ru c ν :=
  ⟨hf.cc h0 (fun a b z e => (hF a b z).2 (by omega)) hp.1, ⟨⟨hf.mL h0 hp.2.1.1.1, (hf.I (by omega) (fun z => (hF _ _ z).2 (by omega))).trans hp.2.1.1.2.1, hp.2.1.1.2.2.1, (hf.I (by omega) (fun z => (hF _ _ z).2 (by omega))).trans hp.2.1.1.2.2.2⟩, hf.ruM h0 (fun a b z e => (hF a b z).2 (by omega)) h17 hp.2.1.2.1, hp.2.1.2.2⟩, hf.stL (fun a b z => (hF a b z).1) hp.2.2.1, hp.2.2.2⟩
theorem GF.pC (hf : GF F q μ ν) (hF : ∀ a b, F a b → ¬ ((a = 0 ∧ b = 4) ∨ (a = 54 ∧ b = 35))) (hp : pC N C μ) : pC N C ν :=
  ⟨hp.1, (hf.I (by omega) fun z => hF _ _ z (by omega)).trans hp.2.1, (hf.I (by omega) fun z => hF _ _ z (by omega)).trans hp.2.2⟩
theorem GF.pTx (hf : GF F q μ ν) (hF : ∀ a b, F a b → ¬ (a = 23 ∨ a = 56)) (hp : pTx μ) : pTx ν := fun i hi => by
  rw [hf.I (a := 23) (by omega) fun z => hF _ _ z (by omega), hf.I (a := 56) (by omega) fun z => hF _ _ z (by omega)]
  exact hp i hi
theorem GF.pB (hf : GF F q μ ν) (h0 : 78 ≤ am_n μ) (hF : ∀ a b, F a b → ¬ (a = 59 ∨ a = 60)) (hp : pB μ) : pB ν :=
  ⟨(hf.2.1 54 14 (Or.inl (by omega)) (by omega) (by omega) (by omega)).trans hp.1, (hf.2.1 54 15 (Or.inl (by omega)) (by omega) (by omega) (by omega)).trans hp.2.1, fun g i hg hi => by
    rw [hf.I (a := g) (by omega) fun z => hF _ _ z hg]; exact hp.2.2 g i hg hi⟩
theorem GF.pW (hf : GF F q μ ν) (hF : ∀ a b, F a b → ¬ (a = 49 ∨ a = 50 ∨ a = 72 ∨ a = 73 ∨ (a = 0 ∧ b = 33) ∨ (a = 54 ∧ b = 33))) (hp : pW μ) : pW ν := by
  obtain ⟨w, g1, g2, g3, g4⟩ := hp
  refine ⟨w, g1, (hf.I (by omega) fun z => hF _ _ z (by omega)).trans g2, (hf.I (by omega) fun z => hF _ _ z (by omega)).trans g3, fun k hk => ?_⟩
  rw [hf.I (a := 49) (by omega) fun z => hF _ _ z (by omega), hf.I (a := 50) (by omega) fun z => hF _ _ z (by omega), hf.I (a := 72) (by omega) fun z => hF _ _ z (by omega), hf.I (a := 73) (by omega) fun z => hF _ _ z (by omega)]
  exact g4 k hk
theorem GF.txt (hf : GF F q μ ν) (hF : ∀ a b, F a b → ¬ ((a = 0 ∧ b = 6) ∨ (a = 54 ∧ b = 4))) (hp : Txt μ) : Txt ν := by
  obtain ⟨t, g1, g2, g3⟩ := hp
  exact ⟨t, g1, (hf.I (by omega) fun z => hF _ _ z (by omega)).trans g2, (hf.I (by omega) fun z => hF _ _ z (by omega)).trans g3⟩
/-- slots 12 and 13 as they were -/
def kS (μ ν : am_M) : Prop := ∀ i, i < 2 → slR ν (12 + i) = slR μ (12 + i) ∧ ∀ h, slR μ (12 + i) = some h → cS ν h = cS μ h
theorem GF.pK (hf : GF F q μ ν) (hs : kS μ ν) (hF : ∀ a b, F a b → ¬ (a = 52 ∨ a = 74 ∨ a = 75 ∨ a = 76)) (hp : pK N C μ) : pK N C ν := by
  intro i hi
  have row : ∀ a, (a = 52 ∨ a = 74 ∨ a = 75 ∨ a = 76) → am_I ν a = am_I μ a := fun a e => hf.row (by omega) fun b z => hF _ _ z e
  rw [row 75 (by omega), row 52 (by omega), row 76 (by omega), row 74 (by omega), (hs i hi).1]
  rcases hp i hi with e | ⟨h, q, e1, e2, e3, e4, e5, e6⟩
  · exact Or.inl e
  · refine Or.inr ⟨h, q, e1, e2, e3, e4, e5, fun z => ?_⟩
    rw [(hs i hi).2 h e1]
    exact e6 z
/-- every slot: as it was, or as some spring -/
def bS (S : Nat → Int32) (μ ν : am_M) : Prop := ∀ s h, s < 14 → slR ν s = some h → cS ν h = S ∨ ∃ s', s' < 14 ∧ slR μ s' = some h ∧ cS ν h = cS μ h
/-- what a putting call may write -/
def fP (a b : Nat) : Prop := sC a b ∨ sM a b ∨ (1 ≤ a ∧ a ≤ 11) ∨ a = 62 ∨ a = 55 ∨ (a = 0 ∧ (b = 21 ∨ b = 6)) ∨ (a = 54 ∧ (b = 20 ∨ b = 4))
theorem inv_P (hI : Inv q μ) (hP : Per N C ru c μ) (hf : GF fP 100 μ ν) (h17 : am_I ν 54 17 = 0) (hs : Sim N (cS ν 1) (am_I ν 55)) (hd : pD ν) (hU : pU N ν) (hk : kS μ ν) (hT : Txt ν) (hR : Row ν) (hB : FB (q + 1) ν) : Inv (q + 1) ν := by
  obtain ⟨_, _, _, b1, b2, b3, _⟩ := hI
  obtain ⟨p1, p2, p3, p4, p5, p6, p7, p8, p9, p10⟩ := hP
  refine ⟨⟨N, C, ru, c, hf.pA p10 (fun a b z => by unfold fP sC sM at z; omega) h17 p1, hs, hf.pC (fun a b z => by unfold fP sC sM at z; omega) p3, hf.pTx (fun a b z => by unfold fP sC sM at z; omega) p4, hf.pB p10 (fun a b z => by unfold fP sC sM at z; omega) p5, hd, hU, hf.pK hk (fun a b z => by unfold fP sC sM at z; omega) p8, hf.pW (fun a b z => by unfold fP sC sM at z; omega) p9, Nat.le_trans p10 hf.2.2.2.2.2.1.1⟩, hT, hR, ?_, ?_, ?_, hB⟩
  · have := hf.2.2.2.2.2.1.2; omega
  · have := hf.2.2.2.2.2.2.1; omega
  · have := hf.2.2.2.2.2.2.2; omega
end GFV
