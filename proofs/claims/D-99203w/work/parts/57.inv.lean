/-! what holds between two calls; frames -/
set_option maxRecDepth 100000
section INVV
variable {d : Nat} {μ ν ξ : am_M} {K : Option Value → am_M → Prop} {x y z c w : Int32} {h N C j i k r n M b : Nat} {v : Int32} {ru : Option PF} {F G : Nat → Nat → Prop} {S a a' : Nat → Int32} {p : Int64}
/-- as Fr, but the told rows are free -/
def Fw (F : Nat → Nat → Prop) (μ ν : am_M) : Prop := (∀ a b, ¬ F a b → am_I ν a b = am_I μ a b) ∧ (∀ a b, ¬ (a = 0 ∧ b = 15) → ¬ (a = 54 ∧ b = 8) → am_R ν a b = am_R μ a b) ∧ (∀ a b, a ≠ 53 → a ≠ 57 → am_L ν a b = am_L μ a b) ∧ am_k ν = am_k μ ∧ am_n ν = am_n μ ∧ am_c ν = am_c μ ∧ am_s ν = am_s μ
theorem Fr.toW (h : Fr F μ ν) : Fw F μ ν := ⟨h.1, h.2.1, fun a b _ _ => by rw [h.2.2.1], h.2.2.2⟩
theorem Fw.refl : Fw F μ μ := Fr.refl.toW
theorem Fw.trans (h1 : Fw F μ ν) (h2 : Fw F ν ξ) : Fw F μ ξ :=
  ⟨fun a b q => (h2.1 a b q).trans (h1.1 a b q), fun a b q r => (h2.2.1 a b q r).trans (h1.2.1 a b q r), fun a b q r => (h2.2.2.1 a b q r).trans (h1.2.2.1 a b q r), h2.2.2.2.1.trans h1.2.2.2.1, h2.2.2.2.2.1.trans h1.2.2.2.2.1, h2.2.2.2.2.2.1.trans h1.2.2.2.2.2.1, h2.2.2.2.2.2.2.trans h1.2.2.2.2.2.2⟩
theorem Fw.le (h1 : Fw F μ ν) (hg : ∀ a b, F a b → G a b) : Fw G μ ν := ⟨fun a b q => h1.1 a b (fun r => q (hg a b r)), h1.2⟩
theorem Fw.I {a b : Nat} (h1 : Fw F μ ν) (hf : F a b) : Fw F μ (am_sI ν a b v) :=
  ⟨fun x y q => by rw [am_I_sI, if_neg (fun ⟨e1, e2⟩ => q (by rw [e1, e2]; exact hf))]; exact h1.1 x y q, h1.2⟩
theorem Fw.L {a b : Nat} (h1 : Fw F μ ν) (ha : a = 53 ∨ a = 57) : Fw F μ (am_sL ν a b p) :=
  ⟨h1.1, h1.2.1, fun x y q r => by rw [am_LL, if_neg (by omega)]; exact h1.2.2.1 x y q r, h1.2.2.2⟩
/-- what a call that only asks must leave -/
def per (a b : Nat) : Prop := 78 ≤ a ∨ (1 ≤ a ∧ a ≤ 11) ∨ a = 23 ∨ a = 49 ∨ a = 50 ∨ a = 52 ∨ a = 55 ∨ a = 56 ∨ a = 59 ∨ a = 60 ∨ a = 62 ∨ (72 ≤ a ∧ a ≤ 76) ∨ (a = 0 ∧ (b = 2 ∨ b = 3 ∨ b = 4 ∨ b = 21 ∨ b = 33)) ∨ (a = 54 ∧ (b = 1 ∨ b = 2 ∨ b = 16 ∨ b = 20 ∨ b = 33 ∨ b = 35))
def slR (μ : am_M) (s : Nat) : Option Nat := if s < 12 then am_R μ 28 s else am_R μ 51 (s - 12)
def pA (N : Nat) (ru : Option PF) (c : Int32) (μ : am_M) : Prop := CC N ru c μ ∧ MS N ru c μ ∧ stL μ ∧ 0 ≤ c ∧ c ≤ 9
def pC (N C : Nat) (μ : am_M) : Prop := C ≤ N ∧ am_I μ 0 4 = nI C ∧ am_I μ 54 35 = nI C
def pTx (μ : am_M) : Prop := ∀ i, i < 80 → (∃ q : Nat, q < 256 ∧ am_I μ 23 i = nI q) ∧ (∃ q : Nat, q < 256 ∧ am_I μ 56 i = nI q - 128) ∧ am_I μ 56 i &&& 255 = am_I μ 23 i
def pB (μ : am_M) : Prop := am_R μ 54 14 = some 59 ∧ am_R μ 54 15 = some 60 ∧ ∀ g i, (g = 59 ∨ g = 60) → i < 40 → ∃ q : Nat, q < 256 ∧ am_I μ g i = nI q - 128
def pD (μ : am_M) : Prop := (∀ s h, s < 14 → slR μ s = some h → 78 ≤ h ∧ h + 10 < am_n μ ∧ spL h (am_k μ) (am_R μ)) ∧ ∀ s s' h h', s < 14 → s' < 14 → s ≠ s' → slR μ s = some h → slR μ s' = some h' → h + 10 < h' ∨ h' + 10 < h
def pU (N : Nat) (μ : am_M) : Prop := ∃ u : Nat, u ≤ 12 ∧ am_I μ 0 21 = nI u ∧ am_I μ 54 20 = nI u ∧ ∀ k, k < u → ∃ h, slR μ k = some h ∧ Sim N (cS μ h) (fun i => am_I μ 62 (83 * k + i))
def pK (N C : Nat) (μ : am_M) : Prop := ∀ i, i < 2 → (slR μ (12 + i) = none ∧ am_I μ 75 i = 0) ∨ ∃ h q : Nat, slR μ (12 + i) = some h ∧ am_I μ 75 i = 1 ∧ am_I μ 52 i = nI q ∧ am_I μ 76 i = nI q ∧ q ≤ C ∧ (q = C → Sim N (cS μ h) (fun k => am_I μ 74 (83 * i + k)))
def pW (μ : am_M) : Prop := ∃ w : Nat, w ≤ 12 ∧ am_I μ 0 33 = nI w ∧ am_I μ 54 33 = nI w ∧ ∀ k, k < w → am_I μ 49 k = am_I μ 72 k ∧ am_I μ 50 k = am_I μ 73 k
def Per (N C : Nat) (ru : Option PF) (c : Int32) (μ : am_M) : Prop := pA N ru c μ ∧ Sim N (cS μ 1) (am_I μ 55) ∧ pC N C μ ∧ pTx μ ∧ pB μ ∧ pD μ ∧ pU N μ ∧ pK N C μ ∧ pW μ ∧ 78 ≤ am_n μ
def Txt (μ : am_M) : Prop := ∃ t : Nat, t ≤ 80 ∧ am_I μ 0 6 = nI t ∧ am_I μ 54 4 = nI t
def Row (μ : am_M) : Prop := ∃ r : Nat, r ≤ 16 ∧ am_I μ 0 40 = nI r ∧ am_I μ 54 6 = nI r ∧ ∀ i, i < r → am_L μ 53 i = am_L μ 57 i
theorem Fw.spL (hf : Fw F μ ν) (h1 : 0 < h) (h2 : h ≠ 54) (hs : spL h (am_k μ) (am_R μ)) : spL h (am_k ν) (am_R ν) := by
  rw [hf.2.2.2.1]
  exact spL_congr hs (fun b => hf.2.1 h b (by omega) (by omega))
theorem Fw.cL (hf : Fw F μ ν) (hs : cL (am_k μ) (am_R μ)) : cL (am_k ν) (am_R ν) := by
  rw [hf.2.2.2.1]
  exact cL_congr hs (fun a b q q2 => hf.2.1 a b q2 (by omega))
theorem Fw.node (hf : Fw F μ ν) (hF : ∀ a b, F a b → a < 78) : nodeEq μ ν := ⟨by rw [hf.2.2.2.2.1]; exact Nat.le_refl _, fun h q _ _ _ =>
  ⟨by rw [hf.2.2.2.1], fun i => hf.1 h i (fun r => by have := hF _ _ r; omega), fun i => hf.2.1 h i (by omega) (by omega)⟩⟩
theorem Fw.ruC (hf : Fw F μ ν) (hF : ∀ a b, F a b → a < 78) (hr : ruC μ ru) : ruC ν ru := by
  cases ru with
  | none => exact (hf.2.1 0 17 (by omega) (by omega)).trans hr
  | some f =>
    obtain ⟨a, h1, h2⟩ := hr
    exact ⟨a, (hf.2.1 0 17 (by omega) (by omega)).trans h1, h2.mono (hf.node hF)⟩
theorem CC.fw (hC : CC N ru c μ) (hf : Fw F μ ν) (hF : ∀ a b, F a b → a < 78 ∧ ¬ (a = 0 ∧ (b = 2 ∨ b = 3))) : CC N ru c ν :=
  ⟨hf.cL hC.1, (hf.1 0 2 (fun r => (hF _ _ r).2 ⟨rfl, Or.inl rfl⟩)).trans hC.2.1, hC.2.2.1, (hf.1 0 3 (fun r => (hF _ _ r).2 ⟨rfl, Or.inr rfl⟩)).trans hC.2.2.2.1, hf.ruC (fun a b r => (hF a b r).1) hC.2.2.2.2⟩
theorem Fw.ruMw (hf : Fw F μ ν) (hF : ∀ a b, F a b → ¬ (a = 59 ∨ a = 60 ∨ a = 54 ∧ b = 16)) (h17 : am_I ν 54 17 = 0) (hr : ruM μ ru) : ruM ν ru := by
  refine ⟨⟨h17, by rw [hf.2.2.2.1]; exact hr.1.2⟩, ?_⟩
  have e16 := hf.1 54 16 (fun q => hF _ _ q (Or.inr (Or.inr ⟨rfl, rfl⟩)))
  cases ru with
  | none => exact e16.trans hr.2
  | some f =>
    obtain ⟨n, g, h1, h2, h3, h4, h5, h6, h7, h8⟩ := hr.2
    have eg : am_I ν g = am_I μ g := funext fun b => hf.1 g b (fun q => by have := hF _ _ q; omega)
    exact ⟨n, g, (hf.2.1 54 14 (by omega) (by omega)).trans h1, h2, by rw [hf.2.2.2.1]; exact h3, h4, h5, e16.trans h6, by rw [eg]; exact h7, by rw [eg]; exact h8⟩
theorem Fw.mLk (hf : Fw F μ ν) (hm : mL (am_k μ) (am_R μ)) : mL (am_k ν) (am_R ν) := by
  have e : mL (am_k ν) (am_R ν) = mL (am_k μ) (am_R μ) := by
    unfold mL
    rw [hf.2.2.2.1]
    simp (disch := omega) only [hf.2.1]
  rw [e]; exact hm
theorem MC.fw (hC : MC N c μ) (hf : Fw F μ ν) (hF : ∀ a b, F a b → ¬ (a = 54 ∧ (b = 1 ∨ b = 2))) : MC N c ν :=
  ⟨hf.mLk hC.1, (hf.1 54 1 (fun q => hF _ _ q ⟨rfl, Or.inl rfl⟩)).trans hC.2.1, hC.2.2.1, (hf.1 54 2 (fun q => hF _ _ q ⟨rfl, Or.inr rfl⟩)).trans hC.2.2.2⟩
theorem MS.fw (hC : MS N ru c μ) (hf : Fw F μ ν) (hF : ∀ a b, F a b → ¬ (a = 59 ∨ a = 60 ∨ a = 54 ∧ (b = 1 ∨ b = 2 ∨ b = 16))) (h17 : am_I ν 54 17 = 0) : MS N ru c ν :=
  ⟨hC.1.fw hf (fun a b q => by have := hF a b q; omega), hf.ruMw (fun a b q => by have := hF a b q; omega) h17 hC.2.1, hC.2.2⟩
theorem stL.fw (hs : stL μ) (hf : Fw F μ ν) (hF : ∀ a b, F a b → a < 78) : stL ν := fun i hi => by
  obtain ⟨h1, h2, h3, h4, h5⟩ := hs i hi
  have hB : 78 ≤ am_B := by decide
  exact ⟨by rw [hf.2.2.2.1]; exact h1, by rw [hf.1 _ _ (fun q => by have := hF _ _ q; omega)]; exact h2, by rw [hf.2.1 _ _ (by omega) (by omega)]; exact h3, by rw [hf.2.2.2.1]; exact h4, fun k => by rw [hf.1 _ _ (fun q => by have := hF _ _ q; omega)]; exact h5 k⟩
theorem Sim.row (h1 : Sim N S a) (h8 : N ≤ 8) (e : ∀ i, i < 83 → a' i = a i) : Sim N S a' := by
  refine ⟨fun j hj => ?_, h1.2.1.trans (e 80 (by decide)).symm, h1.2.2.1.trans (e 81 (by decide)).symm, h1.2.2.2.trans (e 82 (by decide)).symm⟩
  have ec : col a' j = col a j := funext fun r => by
    unfold col
    split
    · exact e _ (by omega)
    · rfl
  rw [ec]; exact h1.1 j hj
theorem cS_Fw (hf : Fw F μ ν) (hh : ∀ a b, h ≤ a → a ≤ h + 10 → ¬ F a b) : cS ν h = cS μ h :=
  cS_congr fun a b q r => hf.1 a b (hh a b q r)
/-- a call that only asks leaves all of it -/
theorem Per.fw (hP : Per N C ru c μ) (hf : Fw F μ ν) (hF : ∀ a b, F a b → ¬ per a b) (h17 : am_I ν 54 17 = 0) : Per N C ru c ν := by
  obtain ⟨⟨q1, q2, q3, q4⟩, pS, pc, pt, pb, pd, pu, pk, pw, pn⟩ := hP
  have hlt : ∀ a b, F a b → a < 78 := fun a b q => by have := hF a b q; unfold per at this; omega
  have keep : ∀ a b, per a b → am_I ν a b = am_I μ a b := fun a b q => hf.1 a b (fun z => hF a b z q)
  have row : ∀ a, (∀ b, per a b) → am_I ν a = am_I μ a := fun a q => funext fun b => keep a b (q b)
  have hS1 : cS ν 1 = cS μ 1 := cS_Fw hf fun a b z1 z2 z3 => hF a b z3 (by unfold per; omega)
  have r55 := row 55 (fun b => by unfold per; omega)
  have hsl : ∀ s, slR ν s = slR μ s := fun s => by unfold slR; rw [hf.2.1 28 s (by omega) (by omega), hf.2.1 51 _ (by omega) (by omega)]
  have hdy : ∀ h, 78 ≤ h → cS ν h = cS μ h := fun h z => cS_Fw hf fun a b z1 z2 z3 => hF a b z3 (by unfold per; omega)
  refine ⟨⟨q1.fw hf fun a b z => ⟨hlt a b z, fun e => hF a b z (by unfold per; omega)⟩, q2.fw hf (fun a b z e => hF a b z (by unfold per; omega)) h17, q3.fw hf hlt, q4⟩, ?_, ?_, ?_, ?_, ?_, ?_, ?_, ?_, ?_⟩
  · rw [hS1, r55]; exact pS
  · exact ⟨pc.1, (keep 0 4 (by unfold per; omega)).trans pc.2.1, (keep 54 35 (by unfold per; omega)).trans pc.2.2⟩
  · intro i hi
    rw [row 23 (fun b => by unfold per; omega), row 56 (fun b => by unfold per; omega)]
    exact pt i hi
  · refine ⟨(hf.2.1 54 14 (by omega) (by omega)).trans pb.1, (hf.2.1 54 15 (by omega) (by omega)).trans pb.2.1, fun g i hg hi => ?_⟩
    rw [row g (fun b => by unfold per; omega)]
    exact pb.2.2 g i hg hi
  · refine ⟨fun s h hs e => ?_, fun s s' h h' z1 z2 z3 z4 z5 => ?_⟩
    · rw [hsl] at e
      obtain ⟨g1, g2, g3⟩ := pd.1 s h hs e
      exact ⟨g1, by rw [hf.2.2.2.2.1]; exact g2, hf.spL (by omega) (by omega) g3⟩
    · rw [hsl] at z4 z5
      exact pd.2 s s' h h' z1 z2 z3 z4 z5
  · obtain ⟨u, g1, g2, g3, g4⟩ := pu
    refine ⟨u, g1, (keep 0 21 (by unfold per; omega)).trans g2, (keep 54 20 (by unfold per; omega)).trans g3, fun k hk => ?_⟩
    obtain ⟨h, e1, e2⟩ := g4 k hk
    refine ⟨h, (hsl k).trans e1, ?_⟩
    rw [hdy h (pd.1 k h (by omega) e1).1, row 62 (fun b => by unfold per; omega)]
    exact e2
  · intro i hi
    rw [row 75 (fun b => by unfold per; omega), row 52 (fun b => by unfold per; omega), row 76 (fun b => by unfold per; omega), row 74 (fun b => by unfold per; omega), hsl]
    rcases pk i hi with e | ⟨h, q, e1, e2, e3, e4, e5, e6⟩
    · exact Or.inl e
    · refine Or.inr ⟨h, q, e1, e2, e3, e4, e5, fun z => ?_⟩
      rw [hdy h (pd.1 (12 + i) h (by omega) e1).1]
      exact e6 z
  · obtain ⟨w, g1, g2, g3, g4⟩ := pw
    rw [pW, row 49 (fun b => by unfold per; omega), row 50 (fun b => by unfold per; omega), row 72 (fun b => by unfold per; omega), row 73 (fun b => by unfold per; omega)]
    exact ⟨w, g1, (keep 0 33 (by unfold per; omega)).trans g2, (keep 54 33 (by unfold per; omega)).trans g3, g4⟩
  · rw [hf.2.2.2.2.1]; exact pn
end INVV
