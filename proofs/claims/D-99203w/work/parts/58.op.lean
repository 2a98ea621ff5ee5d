/-! a call of both that only asks -/
set_option maxRecDepth 100000
section OPV
variable {d : Nat} {μ ν ξ : am_M} {K : Option Value → am_M → Prop} {x y z c w : Int32} {h N C j i k r n M b q : Nat} {v : Int32} {ru : Option PF} {F G : Nat → Nat → Prop} {S a a' : Nat → Int32} {p : Int64} {ps : Option (List Int64)} {mc mm : am_MI} {lc lm : List Value}
/-- the component's scratch, the model's scratch -/
def sC (a b : Nat) : Prop := (12 ≤ a ∧ a ≤ 22) ∨ (24 ≤ a ∧ a ≤ 27) ∨ (29 ≤ a ∧ a ≤ 48) ∨ (a = 0 ∧ ¬ (b = 2 ∨ b = 3 ∨ b = 4 ∨ b = 6 ∨ b = 21 ∨ b = 33))
def sM (a b : Nat) : Prop := a = 58 ∨ a = 61 ∨ (63 ≤ a ∧ a ≤ 71) ∨ (a = 54 ∧ ¬ (b = 1 ∨ b = 2 ∨ b = 4 ∨ b = 16 ∨ b = 20 ∨ b = 33 ∨ b = 35))
def TC (μ ν : am_M) (ps : Option (List Int64)) : Prop := match ps with
  | none => am_I ν 0 40 = am_I μ 0 40 ∧ ∀ i, am_L ν 53 i = am_L μ 53 i
  | some l => l.length ≤ 16 ∧ am_I ν 0 40 = nI l.length ∧ ∀ i, i < l.length → am_L ν 53 i = l.getD i 0
def TN (μ ν : am_M) (ps : Option (List Int64)) : Prop := match ps with
  | none => am_I ν 54 6 = am_I μ 54 6 ∧ ∀ i, am_L ν 57 i = am_L μ 57 i
  | some l => am_I ν 54 6 = nI l.length ∧ ∀ i, i < l.length → am_L ν 57 i = l.getD i 0
def QC (mc : am_MI) (lc : List Value) (μ : am_M) (v : Int32) (ps : Option (List Int64)) : Prop := ∀ (d : Nat) (K : Option Value → am_M → Prop), (∀ ν, Fw sC μ ν → TC μ ν ps → (∀ i, am_L ν 57 i = am_L μ 57 i) → K (some (.int v)) ν) → am_Wp (d + 200) mc 0 lc [] μ K
def QM (mm : am_MI) (lm : List Value) (μ : am_M) (v : Int32) (ps : Option (List Int64)) : Prop := ∀ (d : Nat) (K : Option Value → am_M → Prop), (∀ ν, Fw sM μ ν → am_I ν 54 17 = 0 → TN μ ν ps → (∀ i, am_L ν 53 i = am_L μ 53 i) → K (some (.int v)) ν) → am_Wp (d + 200) mm 0 lm [] μ K
/-- how many have flown, of now and of each spring put by -/
def FB (q : Nat) (μ : am_M) : Prop := (∃ f, f ≤ 5000 * q ∧ am_I μ 1 11 = nI f) ∧ ∀ s h, s < 14 → slR μ s = some h → ∃ f, f ≤ 5000 * q ∧ am_I μ h 11 = nI f
theorem FB.fwS (hp : FB q μ) (pd : pD μ) (hf : Fw F μ ν) (hF : ∀ a b, F a b → a < 78) (h1 : ∃ f, f ≤ 5000 * (q + 1) ∧ am_I ν 1 11 = nI f) : FB (q + 1) ν := by
  refine ⟨h1, fun s h hs e => ?_⟩
  unfold slR at e
  rw [hf.2.1 28 s (by omega) (by omega), hf.2.1 51 _ (by omega) (by omega)] at e
  obtain ⟨f, g1, g2⟩ := hp.2 s h hs e
  have h78 := (pd.1 s h hs e).1
  exact ⟨f, by omega, (hf.1 h 11 fun z => by have := hF _ _ z; omega).trans g2⟩
theorem FB.fw (hp : FB q μ) (pd : pD μ) (hf : Fw F μ ν) (hF : ∀ a b, F a b → a < 78 ∧ ¬ (a = 1 ∧ b = 11)) : FB (q + 1) ν := by
  obtain ⟨f, g1, g2⟩ := hp.1
  exact hp.fwS pd hf (fun a b z => (hF a b z).1) ⟨f, by omega, (hf.1 1 11 fun z => (hF _ _ z).2 ⟨rfl, rfl⟩).trans g2⟩
/-- what holds between two calls, behind q of them -/
def Inv (q : Nat) (μ : am_M) : Prop := (∃ N C ru c, Per N C ru c μ) ∧ Txt μ ∧ Row μ ∧ am_n μ ≤ 1000 + 200 * q ∧ am_c μ ≤ 1000 + 200 * q ∧ am_s μ ≤ 100000 + 2000 * q ∧ FB q μ
def OP (q : Nat) (mc mm : am_MI) (lc lm : List Value) (μ : am_M) : Prop := ∀ d, am_Wp (d + 200) mc 0 lc [] μ (fun r1 μ1 => ∃ v, r1 = some (.int v) ∧ am_Wp (d + 200) mm 0 lm [] μ1 (fun r2 μ2 => r2 = some (.int v) ∧ Inv (q + 1) μ2))
theorem sC_per {a b : Nat} (h : sC a b) : ¬ per a b := by unfold sC at h; unfold per; omega
theorem sM_per {a b : Nat} (h : sM a b) : ¬ per a b := by unfold sM at h; unfold per; omega
theorem Per.h17 (hP : Per N C ru c μ) : am_I μ 54 17 = 0 := hP.1.2.1.2.1.1.1
theorem Per.sC (hP : Per N C ru c μ) (hf : Fw sC μ ν) : Per N C ru c ν :=
  hP.fw hf (fun _ _ h => sC_per h) (by rw [hf.1 54 17 (fun h => by unfold Jvm.Pilot.CCuckooByPostLaw_law_r3932_936dbd.sC at h; omega)]; exact hP.h17)
theorem op_q (hq : ∀ N C ru c μ, Per N C ru c μ → ∃ v ps, QC mc lc μ v ps ∧ ∀ ν, Fw sC μ ν → Per N C ru c ν → QM mm lm ν v ps) (hI : Inv q μ) : OP q mc mm lc lm μ := by
  intro d
  obtain ⟨⟨N, C, ru, c, hP⟩, ⟨t, t1, t2, t3⟩, ⟨r, r1, r2, r3, r4⟩, b1, b2, b3, b4⟩ := hI
  obtain ⟨v, ps, h1, h2⟩ := hq N C ru c μ hP
  refine h1 d _ (fun ν hF hT hL => ⟨v, rfl, ?_⟩)
  have hP1 := hP.sC hF
  refine h2 ν hF hP1 d _ (fun ξ hF2 h17 hT2 hL2 => ⟨rfl, ?_⟩)
  have hP2 := hP1.fw hF2 (fun _ _ h => sM_per h) h17
  have e1 : am_I ξ 0 6 = am_I μ 0 6 := (hF2.1 0 6 (fun h => by unfold sM at h; omega)).trans (hF.1 0 6 (fun h => by unfold sC at h; omega))
  have e2 : am_I ξ 54 4 = am_I μ 54 4 := (hF2.1 54 4 (fun h => by unfold sM at h; omega)).trans (hF.1 54 4 (fun h => by unfold sC at h; omega))
  have e3 : am_I ξ 0 40 = am_I ν 0 40 := hF2.1 0 40 (fun h => by unfold sM at h; omega)
  have e4 : am_I ν 54 6 = am_I μ 54 6 := hF.1 54 6 (fun h => by unfold sC at h; omega)
  refine ⟨⟨N, C, ru, c, hP2⟩, ⟨t, t1, e1.trans t2, e2.trans t3⟩, ?_, ?_, ?_, ?_, (b4.fw hP.2.2.2.2.2.1 ((hF.le fun a b z => Or.inl z).trans (hF2.le fun a b z => Or.inr z) : Fw (fun a b => sC a b ∨ sM a b) μ ξ) fun a b z => by unfold sC sM at z; omega)⟩
  · cases ps with
    | none =>
      exact ⟨r, r1, e3.trans (hT.1.trans r2), hT2.1.trans (e4.trans r3), fun i hi => by rw [hL2, hT.2, hT2.2, hL, r4 i hi]⟩
    | some l =>
      exact ⟨l.length, hT.1, e3.trans hT.2.1, hT2.1, fun i hi => by rw [hL2, hT.2.2 i hi, hT2.2 i hi]⟩
  · rw [hF2.2.2.2.2.1, hF.2.2.2.2.1]; omega
  · rw [hF2.2.2.2.2.2.1, hF.2.2.2.2.2.1]; omega
  · rw [hF2.2.2.2.2.2.2, hF.2.2.2.2.2.2]; omega
theorem wX1_tells0 (hr : am_I μ 0 40 = 0) (hk : am_k μ 0 = (0, 0)) (hR : am_R μ 0 39 = some 53) (hk2 : am_k μ 53 = (12, 16)) : am_Wp d mX1_tells 0 [.ref 0, .long p, am_F] [] μ K ↔ K none (am_sI (am_sL μ 53 0 p) 0 40 1) := wX1_tells (r := 0) hr (by decide) hk hR hk2
theorem wX1_tells1 (hr : am_I μ 0 40 = 1) (hk : am_k μ 0 = (0, 0)) (hR : am_R μ 0 39 = some 53) (hk2 : am_k μ 53 = (12, 16)) : am_Wp d mX1_tells 0 [.ref 0, .long p, am_F] [] μ K ↔ K none (am_sI (am_sL μ 53 1 p) 0 40 2) := wX1_tells (r := 1) hr (by decide) hk hR hk2
theorem wX1_tells2 (hr : am_I μ 0 40 = 2) (hk : am_k μ 0 = (0, 0)) (hR : am_R μ 0 39 = some 53) (hk2 : am_k μ 53 = (12, 16)) : am_Wp d mX1_tells 0 [.ref 0, .long p, am_F] [] μ K ↔ K none (am_sI (am_sL μ 53 2 p) 0 40 3) := wX1_tells (r := 2) hr (by decide) hk hR hk2
theorem wX3_tellR (hr : am_I μ 54 6 = nI r) (h16 : r < 16) (hk : am_k μ 54 = (2, 0)) (hR : am_R μ 54 5 = some 57) (hk2 : am_k μ 57 = (12, 16)) : am_Wp d mX3_tell 0 [.ref 54, .long p, am_F] [] μ K ↔ K none (am_sI (am_sL μ 57 r p) 54 6 (nI (r + 1))) := by
  have hin : vp_in (nI r) 16 := vp_in_nI (by omega) (by omega)
  have hcl : (nI r).toNatClampNeg = r := nI_clamp (by omega)
  simp only [gX3_tell_0, gX3_tell_1, gX3_tell_4, gX3_tell_5, gX3_tell_8, gX3_tell_9, gX3_tell_10, gX3_tell_11, gX3_tell_12, gX3_tell_15, gX3_tell_16, gX3_tell_17, gX3_tell_20, hr, hk, hR, hk2, hin, hcl, nI_1, am_kill_int, am_kill_ref, am_kill_null, am_kill_F, am_kill_long, am_cat_n, am_cat_i, am_cat_r, am_cat_0, am_cat_l, am_nr_n, am_nr_i, am_nr_r, am_nr_0, am_nr_l, Option.toList_some, Option.toList_none, List.nil_append, List.cons_append, va_rf_s, va_rf_n, am_II, am_I_sR, am_I_sL, am_R_sI, am_RR, am_R_sL, am_L_sI, am_L_sR, am_LL, am_k_sI, am_k_sR, am_k_sL, am_n_sI, am_n_sR, am_n_sL, true_and, and_true, true_or, or_true, or_false, false_or, not_true_eq_false, not_false_eq_true, Nat.reduceLT, am_dS, am_dP, am_d1, Nat.reduceSub, Nat.reduceMul, ne_eq, Nat.reduceBEq, Nat.reduceAdd, Nat.reduceLeDiff, Nat.reduceEqDiff, and_self, and_false, false_and, if_true, if_false, am_nb, am_nb0, am_nb1, am_lc1, am_lc2, am_lc3, am_b0, am_b1, am_10, am_c8, am_c16, am_c24, am_c32, am_c40, am_c48, am_c56, am_c64, am_c72, Nat.add_zero, Bool.false_eq_true, Nat.zero_le]
theorem wX3_tell0 (hr : am_I μ 54 6 = 0) (hk : am_k μ 54 = (2, 0)) (hR : am_R μ 54 5 = some 57) (hk2 : am_k μ 57 = (12, 16)) : am_Wp d mX3_tell 0 [.ref 54, .long p, am_F] [] μ K ↔ K none (am_sI (am_sL μ 57 0 p) 54 6 1) := wX3_tellR (r := 0) hr (by decide) hk hR hk2
theorem wX3_tell1 (hr : am_I μ 54 6 = 1) (hk : am_k μ 54 = (2, 0)) (hR : am_R μ 54 5 = some 57) (hk2 : am_k μ 57 = (12, 16)) : am_Wp d mX3_tell 0 [.ref 54, .long p, am_F] [] μ K ↔ K none (am_sI (am_sL μ 57 1 p) 54 6 2) := wX3_tellR (r := 1) hr (by decide) hk hR hk2
theorem wX3_tell2 (hr : am_I μ 54 6 = 2) (hk : am_k μ 54 = (2, 0)) (hR : am_R μ 54 5 = some 57) (hk2 : am_k μ 57 = (12, 16)) : am_Wp d mX3_tell 0 [.ref 54, .long p, am_F] [] μ K ↔ K none (am_sI (am_sL μ 57 2 p) 54 6 3) := wX3_tellR (r := 2) hr (by decide) hk hR hk2
/-- told one, two, three -/
theorem TC1 {p0 : Int64} (h1 : am_I ν 0 40 = 1) (h2 : am_L ν 53 0 = p0) : TC μ ν (some [p0]) := ⟨by show (1 : Nat) ≤ 16; decide, h1, fun i hi => by
  have : i = 0 := by have : i < 1 := hi; omega
  subst this; exact h2⟩
theorem TC2 {p0 p1 : Int64} (h1 : am_I ν 0 40 = 2) (h2 : am_L ν 53 0 = p0) (h3 : am_L ν 53 1 = p1) : TC μ ν (some [p0, p1]) := ⟨by show (2 : Nat) ≤ 16; decide, h1, fun i hi => by
  have : i < 2 := hi
  rcases (by omega : i = 0 ∨ i = 1) with q | q <;> subst q <;> assumption⟩
theorem TC3 {p0 p1 p2 : Int64} (h1 : am_I ν 0 40 = 3) (h2 : am_L ν 53 0 = p0) (h3 : am_L ν 53 1 = p1) (h4 : am_L ν 53 2 = p2) : TC μ ν (some [p0, p1, p2]) := ⟨by show (3 : Nat) ≤ 16; decide, h1, fun i hi => by
  have : i < 3 := hi
  rcases (by omega : i = 0 ∨ i = 1 ∨ i = 2) with q | q | q <;> subst q <;> assumption⟩
theorem TN1 {p0 : Int64} (h1 : am_I ν 54 6 = 1) (h2 : am_L ν 57 0 = p0) : TN μ ν (some [p0]) := ⟨h1, fun i hi => by
  have : i = 0 := by have : i < 1 := hi; omega
  subst this; exact h2⟩
theorem TN2 {p0 p1 : Int64} (h1 : am_I ν 54 6 = 2) (h2 : am_L ν 57 0 = p0) (h3 : am_L ν 57 1 = p1) : TN μ ν (some [p0, p1]) := ⟨h1, fun i hi => by
  have : i < 2 := hi
  rcases (by omega : i = 0 ∨ i = 1) with q | q <;> subst q <;> assumption⟩
theorem TN3 {p0 p1 p2 : Int64} (h1 : am_I ν 54 6 = 3) (h2 : am_L ν 57 0 = p0) (h3 : am_L ν 57 1 = p1) (h4 : am_L ν 57 2 = p2) : TN μ ν (some [p0, p1, p2]) := ⟨h1, fun i hi => by
  have : i < 3 := hi
  rcases (by omega : i = 0 ∨ i = 1 ∨ i = 2) with q | q | q <;> subst q <;> assumption⟩
theorem TC0 : TC μ μ none := ⟨rfl, fun _ => rfl⟩
theorem TN0 : TN μ μ none := ⟨rfl, fun _ => rfl⟩
theorem Fr.qc (hf : Fr F μ ν) (hF : ∀ a b, F a b → Jvm.Pilot.CCuckooByPostLaw_law_r3932_936dbd.sC a b ∧ ¬ (a = 0 ∧ b = 40)) : Fw Jvm.Pilot.CCuckooByPostLaw_law_r3932_936dbd.sC μ ν ∧ TC μ ν none ∧ ∀ i, am_L ν 57 i = am_L μ 57 i :=
  ⟨hf.toW.le fun a b h => (hF a b h).1, ⟨hf.1 0 40 (fun h => (hF _ _ h).2 ⟨rfl, rfl⟩), fun i => by rw [hf.2.2.1]⟩, fun i => by rw [hf.2.2.1]⟩
theorem jS_qc (hf : Fr (jS 12) μ ν) : Fw sC μ ν ∧ TC μ ν none ∧ ∀ i, am_L ν 57 i = am_L μ 57 i := hf.qc fun a b h => by
  unfold jS inSp jO at h
  unfold sC
  omega
/-- a frame of the model's, made of its steps -/
theorem jM_sM (hf : Fr jM μ ν) : Fw sM μ ν := hf.toW.le fun a b h => by unfold jM at h; unfold sM; omega
theorem jH_sM (hh : 63 ≤ h ∧ h ≤ 71) (hf : Fr (jH h) μ ν) : Fw sM μ ν := hf.toW.le fun a b q => by unfold jH jM at q; unfold sM; omega
theorem Per.sMm (hP : Per N C ru c μ) (hf : Fw sM μ ν) (h17 : am_I ν 54 17 = 0) : Per N C ru c ν := hP.fw hf (fun _ _ h => sM_per h) h17
theorem Fr.L (hf : Fr F μ ν) {a b : Nat} : am_L ν a b = am_L μ a b := by rw [hf.2.2.1]
/-- the model's call from behind its first three instructions on -/
def Q5 (mm : am_MI) (lm : List Value) (μ : am_M) (v : Int32) (ps : Option (List Int64)) : Prop := ∀ (d : Nat) (K : Option Value → am_M → Prop), (∀ ν, Fw sM μ ν → am_I ν 54 17 = 0 → TN μ ν ps → (∀ i, am_L ν 53 i = am_L μ 53 i) → K (some (.int v)) ν) → am_Wp (d + 200) mm 5 lm [] μ K
def R5 (mm : am_MI) (lm : List Value) : Prop := ∀ (d : Nat) (K : Option Value → am_M → Prop) (μ : am_M), am_k μ 54 = (2, 0) → am_Wp (d + 200) mm 5 lm [] (am_sI μ 54 7 0) K → am_Wp (d + 200) mm 0 lm [] μ K
theorem op_S {V : Nat → Option PF → Int32 → (Nat → Int32) → Int32} {P : Nat → Option PF → Int32 → (Nat → Int32) → Option (List Int64)} (hC : ∀ {N C : Nat} {ru : Option PF} {c : Int32} {μ : am_M}, Per N C ru c μ → QC mc lc μ (V N ru c (cS μ 1)) (P N ru c (cS μ 1)))
    (hR : R5 mm lm) (h5 : ∀ {N C : Nat} {ru : Option PF} {c : Int32} {μ : am_M}, Per N C ru c μ → Q5 mm lm μ (V N ru c (cS μ 1)) (P N ru c (cS μ 1))) (hI : Inv q μ) : OP q mc mm lc lm μ := by
  refine op_q (fun N C ru c μ hP => ⟨_, _, hC hP, fun ν hF hPν => ?_⟩) hI
  intro d K hK
  have hf0 : Fw sM ν (am_sI ν 54 7 0) := Fw.I Fw.refl (by unfold sM; omega)
  have h170 : am_I (am_sI ν 54 7 0) 54 17 = 0 := by rw [am_I_sI, if_neg (by omega)]; exact hPν.h17
  have hP0 := hPν.sMm hf0 h170
  have e0 : cS (am_sI ν 54 7 0) 1 = cS μ 1 := (cS_Fw hf0 fun a b z1 z2 z3 => by unfold sM at z3; omega).trans (cS_Fw hF fun a b z1 z2 z3 => by unfold sC at z3; omega)
  refine hR d K ν hPν.1.2.1.1.1.1.1 ?_
  have := h5 hP0 d K
  rw [e0] at this
  refine this fun ξ g1 g2 g3 g4 => hK ξ (hf0.trans g1) g2 ?_ (fun i => (g4 i).trans rfl)
  cases hps : P N ru c (cS μ 1) with
  | none =>
    rw [hps] at g3
    exact ⟨g3.1.trans (by rw [am_I_sI, if_neg (by omega)]), fun i => (g3.2 i).trans rfl⟩
  | some l =>
    rw [hps] at g3
    exact g3
theorem Sim.now (hP : Per N C ru c μ) : Sim N (cS μ 1) (am_I μ 55) := hP.2.1
end OPV
