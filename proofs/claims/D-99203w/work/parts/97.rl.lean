/-! a rule read: frames; rule -/
set_option maxRecDepth 100000
section RLV
variable {d : Nat} {μ ν ξ μ1 ν1 : am_M} {K : Option Value → am_M → Prop} {x y z c w : Int32} {h h' N C i j k r n M m a b e q q' t u s : Nat} {v : Int32} {ru ru' : Option PF} {F G : Nat → Nat → Prop} {S S' T : Nat → Int32} {p : Int64} {ch : Nat → Int32} {f : PF}
/-- behind a call that may have read a rule: all but the rules themselves as it was -/
def RG (F : Nat → Nat → Prop) (q : Nat) (μ ν : am_M) : Prop :=
  (∀ a b, (a < am_n μ ∨ am_B ≤ a) → ¬ F a b → am_I ν a b = am_I μ a b) ∧
  (∀ a b, (a < am_n μ ∨ am_B ≤ a) → ¬ (a = 0 ∧ (b = 15 ∨ b = 17 ∨ b = 18)) → ¬ (a = 54 ∧ (b = 8 ∨ b = 14)) → am_R ν a b = am_R μ a b) ∧
  (∀ a b, (a < am_n μ ∨ am_B ≤ a) → a ≠ 53 → a ≠ 57 → am_L ν a b = am_L μ a b) ∧
  (∀ a, (a < am_n μ ∨ am_B ≤ a) → am_k ν a = am_k μ a) ∧ (am_n μ ≤ am_n ν ∧ am_n ν ≤ am_n μ + q) ∧ am_c ν ≤ am_c μ + q ∧ am_s ν ≤ am_s μ + 10 * q
theorem RG.refl : RG F q μ μ := ⟨fun _ _ _ _ => rfl, fun _ _ _ _ _ => rfl, fun _ _ _ _ _ => rfl, fun _ _ => rfl, ⟨Nat.le_refl _, Nat.le_add_right _ _⟩, Nat.le_add_right _ _, Nat.le_add_right _ _⟩
theorem RG.trans (h1 : RG F q μ ν) (h2 : RG F q' ν ξ) (hr : q + q' ≤ r) : RG F r μ ξ := by
  obtain ⟨a1, a2, a3, a4, a6, a7, a8⟩ := h1
  obtain ⟨b1, b2, b3, b4, b6, b7, b8⟩ := h2
  have up : ∀ h, (h < am_n μ ∨ am_B ≤ h) → (h < am_n ν ∨ am_B ≤ h) := fun h => Or.imp (fun z => Nat.lt_of_lt_of_le z a6.1) id
  exact ⟨fun h b z w => (b1 h b (up h z) w).trans (a1 h b z w), fun h b z z3 z4 => (b2 h b (up h z) z3 z4).trans (a2 h b z z3 z4), fun h b z z2 z3 => (b3 h b (up h z) z2 z3).trans (a3 h b z z2 z3), fun h z => (b4 h (up h z)).trans (a4 h z), ⟨Nat.le_trans a6.1 b6.1, by omega⟩, by omega, by omega⟩
theorem Fw.rg (hf : Fw G μ ν) (hg : ∀ a b, G a b → F a b) : RG F 0 μ ν :=
  ⟨fun a b _ w => hf.1 a b (fun z => w (hg a b z)), fun a b _ z2 z3 => hf.2.1 a b (by omega) (by omega), fun a b _ z z2 => hf.2.2.1 a b z z2, fun a _ => by rw [hf.2.2.2.1], ⟨by rw [hf.2.2.2.2.1]; exact Nat.le_refl _, by rw [hf.2.2.2.2.1]; exact Nat.le_add_right _ _⟩, by rw [hf.2.2.2.2.2.1]; exact Nat.le_add_right _ _, by rw [hf.2.2.2.2.2.2]; exact Nat.le_add_right _ _⟩
theorem RD.rg (hf : RD μ ν) (hg : ∀ b, (b = 6 ∨ b = 7 ∨ b = 8 ∨ b = 9) → F 0 b) : RG F 40 μ ν := by
  obtain ⟨a1, a2, a3, a4, a5, a6, a7⟩ := hf
  exact ⟨fun a b z w => a1 a b z (fun ⟨e, y⟩ => w (by rw [e]; exact hg b y)), fun a b z z2 z3 => a2 a b z (by omega), fun a b z _ _ => a3 a b z, a4, a5, a6, by omega⟩
theorem RG.R17 (hf : RG F q μ ν) {o : Option Nat} {b : Nat} (hb : b = 17 ∨ b = 18) : RG F q μ (am_sR ν 0 b o) :=
  ⟨hf.1, fun x y z z2 z3 => by rw [am_RR, if_neg (by omega)]; exact hf.2.1 x y z z2 z3, hf.2.2⟩
theorem RG.R14 (hf : RG F q μ ν) {o : Option Nat} : RG F q μ (am_sR ν 54 14 o) :=
  ⟨hf.1, fun x y z z2 z3 => by rw [am_RR, if_neg (by omega)]; exact hf.2.1 x y z z2 z3, hf.2.2⟩
theorem RG.cL (hf : RG F q μ ν) (h0 : 78 ≤ am_n μ) (hs : cL (am_k μ) (am_R μ)) : cL (am_k ν) (am_R ν) := by
  unfold Jvm.Pilot.CCuckooByPostLaw_law_r3932_936dbd.cL spL at hs ⊢
  have e : ∀ a b, a < 54 → ¬ (a = 0 ∧ (b = 15 ∨ b = 17 ∨ b = 18)) → am_R ν a b = am_R μ a b := fun a b z1 z3 => hf.2.1 a b (Or.inl (by omega)) z3 (by omega)
  have e2 : ∀ a, a < 54 → am_k ν a = am_k μ a := fun a z => hf.2.2.2.1 a (Or.inl (by omega))
  simpa (disch := omega) only [e, e2] using hs
theorem RG.mL (hf : RG F q μ ν) (h0 : 78 ≤ am_n μ) (hm : mL (am_k μ) (am_R μ)) : mL (am_k ν) (am_R ν) := by
  unfold Jvm.Pilot.CCuckooByPostLaw_law_r3932_936dbd.mL at hm ⊢
  have e : ∀ a b, a < 78 → ¬ (a = 0 ∧ (b = 15 ∨ b = 17 ∨ b = 18)) → ¬ (a = 54 ∧ (b = 8 ∨ b = 14)) → am_R ν a b = am_R μ a b := fun a b z1 z3 z4 => hf.2.1 a b (Or.inl (by omega)) z3 z4
  have e2 : ∀ a, a < 78 → am_k ν a = am_k μ a := fun a z => hf.2.2.2.1 a (Or.inl (by omega))
  simpa (disch := omega) only [e, e2] using hm
theorem RG.spL (hf : RG F q μ ν) (h1 : 0 < h) (h2 : h ≠ 54) (h3 : h + 10 < am_n μ) (hs : spL h (am_k μ) (am_R μ)) : spL h (am_k ν) (am_R ν) := by
  unfold Jvm.Pilot.CCuckooByPostLaw_law_r3932_936dbd.spL at hs ⊢
  have e : ∀ b, am_R ν h b = am_R μ h b := fun b => hf.2.1 h b (Or.inl (by omega)) (by omega) (by omega)
  have e2 : ∀ a, a < am_n μ → am_k ν a = am_k μ a := fun a z => hf.2.2.2.1 a (Or.inl z)
  simpa (disch := omega) only [e, e2] using hs
theorem RG.stL (hf : RG F q μ ν) (hF : ∀ a b, F a b → a < 78) (hs : stL μ) : stL ν := fun i hi => by
  obtain ⟨h1, h2, h3, h4, h5⟩ := hs i hi
  have hB : 78 ≤ am_B := by decide
  have b1 : am_B ≤ am_B + 2 * i := by omega
  have b2 : am_B ≤ am_B + 2 * i + 1 := by omega
  exact ⟨by rw [hf.2.2.2.1 _ (Or.inr b1)]; exact h1, by rw [hf.1 _ _ (Or.inr b1) (fun z => by have := hF _ _ z; omega)]; exact h2, by rw [hf.2.1 _ _ (Or.inr b1) (by omega) (by omega)]; exact h3, by rw [hf.2.2.2.1 _ (Or.inr b2)]; exact h4, fun k => by rw [hf.1 _ _ (Or.inr b2) (fun z => by have := hF _ _ z; omega)]; exact h5 k⟩
theorem RG.node (hf : RG F q μ ν) (hF : ∀ a b, F a b → a < 78) : nodeEq μ ν := ⟨hf.2.2.2.2.1.1, fun h z1 z2 z3 z4 => ⟨hf.2.2.2.1 h (Or.inl z2), fun i => hf.1 h i (Or.inl z2) (fun z => by have := hF _ _ z; omega), fun i => hf.2.1 h i (Or.inl z2) (by omega) (by omega)⟩⟩
theorem RG.cS (hf : RG F q μ ν) (h3 : h + 10 < am_n μ) (hF : ∀ a b, F a b → ¬ inSp h a) : cS ν h = cS μ h := cS_congr fun a b z1 z2 => hf.1 a b (Or.inl (by omega)) (fun z => hF a b z ⟨z1, z2⟩)
theorem RG.slR (hf : RG F q μ ν) (h0 : 78 ≤ am_n μ) (s : Nat) : slR ν s = slR μ s := by
  show (if s < 12 then am_R ν 28 s else am_R ν 51 (s - 12)) = if s < 12 then am_R μ 28 s else am_R μ 51 (s - 12)
  rw [hf.2.1 28 s (Or.inl (by omega)) (by omega) (by omega), hf.2.1 51 _ (Or.inl (by omega)) (by omega) (by omega)]
/-- what a call that reads a rule may write -/
def fR (a b : Nat) : Prop := (12 ≤ a ∧ a ≤ 22) ∨ a = 40 ∨ (a = 0 ∧ (b = 6 ∨ b = 7 ∨ b = 8 ∨ b = 9 ∨ b = 16 ∨ b = 40)) ∨ a = 59 ∨ a = 60 ∨ a = 61 ∨ a = 64 ∨ (a = 54 ∧ (b = 4 ∨ b = 6 ∨ b = 7 ∨ b = 9 ∨ b = 10 ∨ b = 11 ∨ b = 12 ∨ b = 16 ∨ b = 17))
theorem inv_R (hI : Inv q μ) (hP : Per N C ru c μ) (hf : RG fR 60 μ ν) (h17 : am_I ν 54 17 = 0) (hC : ruC ν ru') (hM : ruM ν ru') (h8 : ru8 ru') (hB : pB ν) (hT : Txt ν) (hR : Row ν) : Inv (q + 1) ν := by
  obtain ⟨_, _, _, b1, b2, b3, b4⟩ := hI
  obtain ⟨⟨⟨p1, p2, p3, p4, _⟩, ⟨⟨m1, m2, m3, m4⟩, _, _⟩, hst, hc0, hc9⟩, pS, pc, pt, _, pd, pu, pk, pw, pn⟩ := hP
  have hlt : ∀ a b, fR a b → a < 78 := fun a b z => by unfold fR at z; omega
  have keep : ∀ a b, a < 78 → ¬ fR a b → am_I ν a b = am_I μ a b := fun a b z1 z2 => hf.1 a b (Or.inl (by omega)) z2
  have row : ∀ a, a < 78 → (∀ b, ¬ fR a b) → am_I ν a = am_I μ a := fun a z1 z2 => funext fun b => keep a b z1 (z2 b)
  have hsl := hf.slR pn
  have hcS : ∀ s g, s < 14 → slR μ s = some g → cS ν g = cS μ g := fun s g z1 z2 => by
    obtain ⟨q1, q2, _⟩ := pd.1 s g z1 z2
    exact hf.cS q2 fun a b z z3 => by have := hlt a b z; unfold inSp at z3; omega
  have hS1 : cS ν 1 = cS μ 1 := hf.cS (by omega) fun a b z z3 => by unfold fR at z; unfold inSp at z3; omega
  have r55 := row 55 (by omega) (fun b => by unfold fR; omega)
  refine ⟨⟨N, C, ru', c, ⟨⟨hf.cL pn p1, (keep 0 2 (by omega) (by unfold fR; omega)).trans p2, p3, (keep 0 3 (by omega) (by unfold fR; omega)).trans p4, hC⟩, ⟨⟨hf.mL pn m1, (keep 54 1 (by omega) (by unfold fR; omega)).trans m2, m3, (keep 54 2 (by omega) (by unfold fR; omega)).trans m4⟩, hM, h8⟩, hf.stL hlt hst, hc0, hc9⟩, by rw [hS1, r55]; exact pS, ⟨pc.1, (keep 0 4 (by omega) (by unfold fR; omega)).trans pc.2.1, (keep 54 35 (by omega) (by unfold fR; omega)).trans pc.2.2⟩, fun i hi => ?_, hB, ⟨fun s g z1 z2 => ?_, fun s s' g g' z1 z2 z3 z4 z5 => ?_⟩, ?_, fun i hi => ?_, ?_, Nat.le_trans pn hf.2.2.2.2.1.1⟩, hT, hR, ?_, ?_, ?_, ⟨?_, fun s g z1 z2 => ?_⟩⟩
  · rw [row 23 (by omega) (fun b => by unfold fR; omega), row 56 (by omega) (fun b => by unfold fR; omega)]
    exact pt i hi
  · rw [hsl] at z2
    obtain ⟨q1, q2, q3⟩ := pd.1 s g z1 z2
    exact ⟨q1, Nat.lt_of_lt_of_le q2 hf.2.2.2.2.1.1, hf.spL (by omega) (by omega) q2 q3⟩
  · rw [hsl] at z4 z5
    exact pd.2 s s' g g' z1 z2 z3 z4 z5
  · obtain ⟨u, g1, g2, g3, g4⟩ := pu
    refine ⟨u, g1, (keep 0 21 (by omega) (by unfold fR; omega)).trans g2, (keep 54 20 (by omega) (by unfold fR; omega)).trans g3, fun k hk => ?_⟩
    obtain ⟨g, e1, e2⟩ := g4 k hk
    refine ⟨g, (hsl k).trans e1, ?_⟩
    rw [hcS k g (by omega) e1, row 62 (by omega) (fun b => by unfold fR; omega)]
    exact e2
  · rw [row 75 (by omega) (fun b => by unfold fR; omega), row 52 (by omega) (fun b => by unfold fR; omega), row 76 (by omega) (fun b => by unfold fR; omega), row 74 (by omega) (fun b => by unfold fR; omega), hsl]
    rcases pk i hi with e | ⟨g, q', e1, e2, e3, e4, e5, e6⟩
    · exact Or.inl e
    · refine Or.inr ⟨g, q', e1, e2, e3, e4, e5, fun z => ?_⟩
      rw [hcS _ g (by omega) e1]
      exact e6 z
  · obtain ⟨w, g1, g2, g3, g4⟩ := pw
    refine ⟨w, g1, (keep 0 33 (by omega) (by unfold fR; omega)).trans g2, (keep 54 33 (by omega) (by unfold fR; omega)).trans g3, fun k hk => ?_⟩
    rw [keep 49 k (by omega) (by unfold fR; omega), keep 50 k (by omega) (by unfold fR; omega), keep 72 k (by omega) (by unfold fR; omega), keep 73 k (by omega) (by unfold fR; omega)]
    exact g4 k hk
  · have := hf.2.2.2.2.1.2; omega
  · have := hf.2.2.2.2.2.1; omega
  · have := hf.2.2.2.2.2.2; omega
  · obtain ⟨f, z1, z2⟩ := b4.1
    exact ⟨f, by omega, (congrFun hS1 81).trans z2⟩
  · rw [hsl] at z2
    obtain ⟨f, z3, z4⟩ := b4.2 s g z1 z2
    exact ⟨f, by omega, (congrFun (hcS s g z1 z2) 81).trans z4⟩
theorem RG.row0 (hf : RG fR q μ ν) (h0 : 78 ≤ am_n μ) (hL : ∀ i, am_L ν 53 i = am_L μ 53 i ∧ am_L ν 57 i = am_L μ 57 i) (e1 : am_I ν 0 40 = am_I μ 0 40) (e2 : am_I ν 54 6 = am_I μ 54 6) (hR : Row μ) : Row ν := by
  obtain ⟨r, r1, r2, r3, r4⟩ := hR
  exact ⟨r, r1, e1.trans r2, e2.trans r3, fun i hi => by rw [(hL i).1, (hL i).2]; exact r4 i hi⟩
theorem byN : ∀ q : Fin 256, vp_nar .byte (nI q.val - 128) = nI q.val - 128 := fun q => by
  have e : (nI q.val - 128).toInt8.toInt32 = nI q.val - 128 := by revert q; decide +kernel
  rw [← e, nar8]
theorem rkR.ruC {g : Option PF} (h : rkR μ g) : am_R μ 0 18 = am_R μ 0 17 → ruC μ g := fun e => by
  cases g with
  | none => exact e.symm.trans h
  | some f => obtain ⟨a, h1, _, h2⟩ := h; exact ⟨a, e.symm.trans h1, h2⟩
/-- a rule's text copied by the model -/
theorem ruM_of {g : Option PF} {gh : Nat} (hk61 : am_k ν 61 = (10, 8)) (h17 : am_I ν 54 17 = 0) (hgh : gh = 59 ∨ gh = 60) (hR : am_R ν 54 14 = some gh) (hk : am_k ν gh = (11, 40)) (h16 : am_I ν 54 16 = nI t) (hb : ∀ i, i < 40 → ∃ q : Nat, q < 256 ∧ am_I ν gh i = nI q - 128) (hc : ∀ i, i < t → am_I ν gh i = T i) (hr : rdR (chM T t 40) t = .inr g) (h40 : g = none ∨ t ≤ 40) : ruM ν g := by
  refine ⟨⟨h17, hk61⟩, ?_⟩
  unfold rdR at hr
  split at hr
  · rename_i h0
    cases hr
    show am_I ν 54 16 = 0
    rw [h16, h0]; rfl
  · rename_i h0
    cases hpp : pP (chM T t 40) 62 0 0 0 with
    | inl p => rw [hpp] at hr; cases hr
    | inr fb =>
      obtain ⟨f, b⟩ := fb
      rw [hpp] at hr
      have hr2 : (if b < t then Sum.inl b else Sum.inr (some f)) = (Sum.inr g : Nat ⊕ Option PF) := hr
      by_cases e : b < t
      · rw [if_pos e] at hr2; cases hr2
      · rw [if_neg e] at hr2
        cases hr2
        have h40' : t ≤ 40 := by rcases h40 with z | z; cases z; exact z
        have hle := pP_le (ch := chM T t 40) (e := min t 40) (fun i hi => by have := chM_lt hi; omega) 62 0 0 0 (by omega)
        rw [hpp] at hle
        have hbt : b = t := by have : b ≤ min t 40 := hle; omega
        have hch : chM (am_I ν gh) t 40 = chM T t 40 := funext fun i => by
          unfold chM
          by_cases z : i < t ∧ i < 40
          · rw [if_pos z, if_pos z, hc i z.1]
          · rw [if_neg z, if_neg z]
        exact ⟨t, gh, hR, hgh, hk, by omega, h40', h16, hb, by rw [hch, hpp, hbt]⟩
theorem op_rule (hq : q ≤ 100) (hI : Inv q μ) : OP q mX1_rule mX3_rule [.ref 0, am_F] [.ref 54, am_F, am_F] μ := by
  intro d
  have hI' := hI
  obtain ⟨⟨N, C, ru, c, hP⟩, ⟨t, t1, t2, t3⟩, hRow, b1, b2, b3, b4⟩ := hI
  have hC := hP.1.1
  have hk0 := hC.1.c
  have hS := hP.1.2.1
  have hst : stL μ := hP.1.2.2.1
  have hpt : pTx μ := hP.2.2.2.1
  have hpB : pB μ := hP.2.2.2.2.1
  have hn0 : 78 ≤ am_n μ := hP.2.2.2.2.2.2.2.2.2
  have hBB : am_B = 1000000 := rfl
  have o10 : ¬ (1 : Int32) = 0 := by decide
  have hth : ∀ ν, RG fR 40 μ ν → am_I ν 0 6 = 0 → (∀ i, am_L ν 53 i = am_L μ 53 i ∧ am_L ν 57 i = am_L μ 57 i) → (am_I ν 0 40 = am_I μ 0 40) → (∀ a b, 54 ≤ a → a < 78 → am_I ν a b = am_I μ a b) →
      RG fR 40 μ (am_sI ν 54 7 0) ∧ mL (am_k (am_sI ν 54 7 0)) (am_R (am_sI ν 54 7 0)) ∧ pTx (am_sI ν 54 7 0) ∧ am_I (am_sI ν 54 7 0) 54 4 = nI t ∧ am_I (am_sI ν 54 7 0) 56 = am_I μ 56 := fun ν hf e6 hL e40 hmo => by
    have hf2 : RG fR 40 μ (am_sI ν 54 7 0) := hf.trans ((Fw.I Fw.refl rfl : Fw (fun a b => (a, b) = (54, 7)) ν (am_sI ν 54 7 0)).rg fun a b z => by cases z; unfold fR; omega) (Nat.le_refl _)
    have r56 : am_I (am_sI ν 54 7 0) 56 = am_I μ 56 := (am_row_o (by decide)).trans (funext fun b => hmo 56 b (by omega) (by omega))
    refine ⟨hf2, hf2.mL hn0 hS.1.1, fun i hi => ?_, ?_, r56⟩
    · rw [r56, hf2.1 23 i (Or.inl (by omega)) (by unfold fR; omega)]; exact hpt i hi
    · rw [am_I_sI, if_neg (by omega), hmo 54 4 (by omega) (by omega)]; exact t3
  have hmod : ∀ ν, RD μ ν → ∀ a b, 54 ≤ a → a < 78 → am_I ν a b = am_I μ a b := fun ν hf a b z1 z2 => hf.1 a b (Or.inl (by omega)) (by omega)
  have hLL : ∀ ν, RD μ ν → ∀ i, am_L ν 53 i = am_L μ 53 i ∧ am_L ν 57 i = am_L μ 57 i := fun ν hf i => ⟨hf.2.2.1 53 i (Or.inl (by omega)), hf.2.2.1 57 i (Or.inl (by omega))⟩
  rw [gX1_rule_0, gX1_rule_1]
  refine ⟨⟨by decide, by rw [hk0]⟩, Nat.succ_pos _, ?_⟩
  refine wX1_readsRule (d := d + 65) hC hst hpt t1 t2 ⟨hn0, by omega⟩ (fun b ν hb40 hr hD h6 => ?_) (fun g ν hr hD h6 hrk h40 => ?_)
  · have hne : ¬ (-1 - nI b : Int32) = 0 := (by decide : ∀ b : Fin 41, ¬ (-1 - nI b.val : Int32) = 0) ⟨b, by omega⟩
    have hkν : am_k ν 0 = (0, 0) := (hD.2.2.2.1 0 (Or.inl (by omega))).trans hk0
    refine ⟨trivial, ?_⟩
    simp only [Option.toList_some, List.cons_append, List.nil_append, gX1_rule_4, gX1_rule_5, gX1_rule_6, gX1_rule_17, gX1_rule_18, am_kill_int, am_kill_ref, am_kill_null, am_kill_F, am_kill_long, am_cat_n, am_cat_i, am_cat_r, am_cat_0, am_cat_l, am_nr_n, am_nr_i, am_nr_r, am_nr_0, am_nr_l, Option.toList_some, Option.toList_none, List.nil_append, List.cons_append, va_rf_s, va_rf_n, am_II, am_I_sR, am_I_sL, am_R_sI, am_RR, am_R_sL, am_L_sI, am_L_sR, am_LL, am_k_sI, am_k_sR, am_k_sL, am_n_sI, am_n_sR, am_n_sL, true_and, and_true, true_or, or_true, or_false, false_or, not_true_eq_false, not_false_eq_true, Nat.reduceLT, am_dS, am_dP, am_d1, Nat.reduceSub, Nat.reduceMul, ne_eq, Nat.reduceBEq, Nat.reduceAdd, Nat.reduceLeDiff, Nat.reduceEqDiff, and_self, and_false, false_and, if_true, if_false, am_nb, am_nb0, am_nb1, am_lc1, am_lc2, am_lc3, am_b0, am_b1, am_10, am_c8, am_c16, am_c24, am_c32, am_c40, am_c48, am_c56, am_c64, am_c72, Nat.add_zero, Bool.false_eq_true, Nat.zero_le, hne]
    refine ⟨_, rfl, ?_⟩
    have hf0 : RG fR 40 μ ν := hD.rg fun b z => by unfold fR; omega
    obtain ⟨g1, g2, g3, g4, g5⟩ := hth ν hf0 h6 (hLL ν hD) (hD.1 0 40 (Or.inl (by omega)) (by omega)) (hmod ν hD)
    have hk54 : am_k ν 54 = (2, 0) := (hD.2.2.2.1 54 (Or.inl (by omega))).trans (by have := hS.1.1; unfold mL at this; exact this.1.1)
    have e6 : am_I (am_sI ν 54 7 0) 0 6 = 0 := by rw [am_I_sI, if_neg (by omega)]; exact h6
    have e40 : am_I (am_sI ν 54 7 0) 0 40 = am_I μ 0 40 := by rw [am_I_sI, if_neg (by omega)]; exact hD.1 0 40 (Or.inl (by omega)) (by omega)
    have e54 : am_I (am_sI ν 54 7 0) 54 6 = am_I μ 54 6 := by rw [am_I_sI, if_neg (by omega)]; exact hmod ν hD 54 6 (by omega) (by omega)
    have eLL : ∀ i, am_L (am_sI ν 54 7 0) 53 i = am_L μ 53 i ∧ am_L (am_sI ν 54 7 0) 57 i = am_L μ 57 i := hLL ν hD
    have eR17 : am_R (am_sI ν 54 7 0) 0 17 = am_R μ 0 17 := hD.2.1 0 17 (Or.inl (by omega)) (by omega)
    have eR14 : am_R (am_sI ν 54 7 0) 54 14 = am_R μ 54 14 ∧ am_R (am_sI ν 54 7 0) 54 15 = am_R μ 54 15 := ⟨hD.2.1 54 14 (Or.inl (by omega)) (by omega), hD.2.1 54 15 (Or.inl (by omega)) (by omega)⟩
    have eK : ∀ a b, 54 ≤ a → a < 78 → ¬ (a = 54 ∧ b = 7) → am_I (am_sI ν 54 7 0) a b = am_I μ a b := fun a b z1 z2 z3 => by rw [am_I_sI, if_neg z3]; exact hmod ν hD a b z1 z2
    simp only [gX3_rule_0, gX3_rule_1, gX3_rule_2, am_kill_int, am_kill_ref, am_kill_null, am_kill_F, am_kill_long, am_cat_n, am_cat_i, am_cat_r, am_cat_0, am_cat_l, am_nr_n, am_nr_i, am_nr_r, am_nr_0, am_nr_l, Option.toList_some, Option.toList_none, List.nil_append, List.cons_append, va_rf_s, va_rf_n, am_I_sR, am_I_sL, am_R_sI, am_R_sL, am_L_sI, am_L_sR, am_k_sI, am_k_sR, am_k_sL, am_n_sI, am_n_sR, am_n_sL, true_and, and_true, true_or, or_true, or_false, false_or, not_true_eq_false, not_false_eq_true, Nat.reduceLT, am_dS, am_dP, am_d1, Nat.reduceSub, Nat.reduceMul, ne_eq, Nat.reduceBEq, Nat.reduceAdd, Nat.reduceLeDiff, Nat.reduceEqDiff, and_self, and_false, false_and, if_true, if_false, am_nb, am_nb0, am_nb1, am_lc1, am_lc2, am_lc3, am_b0, am_b1, am_10, am_c8, am_c16, am_c24, am_c32, am_c40, am_c48, am_c56, am_c64, am_c72, Nat.add_zero, Bool.false_eq_true, Nat.zero_le, hk54]
    generalize am_sI ν 54 7 0 = ν4 at g1 g2 g3 g4 g5 e6 e40 e54 eLL eR17 eR14 eK ⊢
    have hm4 := g2
    unfold mL at hm4
    rw [gX3_rule_5]
    simp only [gX3_rule_6, gX3_rule_9, gX3_rule_10, gX3_rule_11, am_kill_int, am_kill_ref, am_kill_null, am_kill_F, am_kill_long, am_cat_n, am_cat_i, am_cat_r, am_cat_0, am_cat_l, am_nr_n, am_nr_i, am_nr_r, am_nr_0, am_nr_l, Option.toList_some, Option.toList_none, List.nil_append, List.cons_append, va_rf_s, va_rf_n, am_I_sR, am_I_sL, am_R_sI, am_R_sL, am_L_sI, am_L_sR, am_k_sI, am_k_sR, am_k_sL, am_n_sI, am_n_sR, am_n_sL, true_and, and_true, true_or, or_true, or_false, false_or, not_true_eq_false, not_false_eq_true, Nat.reduceLT, am_dS, am_dP, am_d1, Nat.reduceSub, Nat.reduceMul, ne_eq, Nat.reduceBEq, Nat.reduceAdd, Nat.reduceLeDiff, Nat.reduceEqDiff, and_self, and_false, false_and, if_true, if_false, am_nb, am_nb0, am_nb1, am_lc1, am_lc2, am_lc3, am_b0, am_b1, am_10, am_c8, am_c16, am_c24, am_c32, am_c40, am_c48, am_c56, am_c64, am_c72, Nat.add_zero, Bool.false_eq_true, Nat.zero_le, hm4, g4]
    refine wX3_readRule (d := d + 119) g2 g3 t1 g4 (fun b' ξ z1 z2 z3 z4 z5 z6 => ?_) (fun g ξ z1 z2 z3 z4 => ?_)
    · rw [g5, hr] at z2
      have ebb : b = b' := by injection z2
      subst ebb
      have hkξ : am_k ξ 54 = (2, 0) := by rw [z3.2.2.2.1]; exact hm4.1.1
      refine ⟨trivial, ?_⟩
      simp only [Option.toList_some, List.cons_append, List.nil_append, gX3_rule_14, gX3_rule_17, gX3_rule_18, gX3_rule_19, gX3_rule_22, gX3_rule_23, am_kill_int, am_kill_ref, am_kill_null, am_kill_F, am_kill_long, am_cat_n, am_cat_i, am_cat_r, am_cat_0, am_cat_l, am_nr_n, am_nr_i, am_nr_r, am_nr_0, am_nr_l, Option.toList_some, Option.toList_none, List.nil_append, List.cons_append, va_rf_s, va_rf_n, am_I_sR, am_I_sL, am_R_sI, am_R_sL, am_L_sI, am_L_sR, am_k_sI, am_k_sR, am_k_sL, am_n_sI, am_n_sR, am_n_sL, true_and, and_true, true_or, or_true, or_false, false_or, not_true_eq_false, not_false_eq_true, Nat.reduceLT, am_dS, am_dP, am_d1, Nat.reduceSub, Nat.reduceMul, ne_eq, Nat.reduceBEq, Nat.reduceAdd, Nat.reduceLeDiff, Nat.reduceEqDiff, and_self, and_false, false_and, if_true, if_false, am_nb, am_nb0, am_nb1, am_lc1, am_lc2, am_lc3, am_b0, am_b1, am_10, am_c8, am_c16, am_c24, am_c32, am_c40, am_c48, am_c56, am_c64, am_c72, Nat.add_zero, Bool.false_eq_true, Nat.zero_le, hkξ, z6]
      have hfx : RG fR 60 μ ξ := g1.trans (z3.toW.rg (F := fR) fun a b z => by unfold fRM at z; unfold fR; omega) (by omega)
      have oth : ∀ a b, ¬ fRM a b → am_I ξ a b = am_I ν4 a b := fun a b z => z3.1 a b z
      refine inv_R hI' hP hfx z5 (ru' := ru) ?_ ?_ hS.2.2 ⟨?_, ?_, fun g i y1 y2 => ?_⟩ ⟨0, by omega, (oth 0 6 (by unfold fRM; omega)).trans e6, z4⟩ (hfx.row0 hn0 (fun i => ⟨by rw [z3.L]; exact (eLL i).1, by rw [z3.L]; exact (eLL i).2⟩) ((oth 0 40 (by unfold fRM; omega)).trans e40) ((oth 54 6 (by unfold fRM; omega)).trans e54) hRow)
      · have e17 : am_R ξ 0 17 = am_R μ 0 17 := (z3.2.1 0 17 (by omega) (by omega)).trans eR17
        have hru := hC.2.2.2.2
        cases ru with
        | none => exact e17.trans hru
        | some f => obtain ⟨a, y1, y2⟩ := hru; exact ⟨a, e17.trans y1, y2.mono (hfx.node fun a b z => by unfold fR at z; omega)⟩
      · have hru := hS.2.1
        have e14 : am_R ξ 54 14 = am_R μ 54 14 := (z3.2.1 54 14 (by omega) (by omega)).trans eR14.1
        have e16 : am_I ξ 54 16 = am_I μ 54 16 := (oth 54 16 (by unfold fRM; omega)).trans (eK 54 16 (by omega) (by omega) (by omega))
        have hkk : ∀ a, a < 78 → am_k ξ a = am_k μ a := fun a z => hfx.2.2.2.1 a (Or.inl (by omega))
        refine ⟨⟨z5, by rw [hkk 61 (by omega)]; exact hru.1.2⟩, ?_⟩
        cases ru with
        | none => exact e16.trans hru.2
        | some f =>
          obtain ⟨n, g, y1, y2, y3, y4, y5, y6, y7, y8⟩ := hru.2
          have eg : am_I ξ g = am_I μ g := funext fun b => (oth g b (by unfold fRM; omega)).trans (eK g b (by omega) (by omega) (by omega))
          exact ⟨n, g, e14.trans y1, y2, by rw [hkk g (by omega)]; exact y3, y4, y5, e16.trans y6, by rw [eg]; exact y7, by rw [eg]; exact y8⟩
      · exact (z3.2.1 54 14 (by omega) (by omega)).trans (eR14.1.trans hpB.1)
      · exact (z3.2.1 54 15 (by omega) (by omega)).trans (eR14.2.trans hpB.2.1)
      · rw [oth g i (by unfold fRM; omega), eK g i (by omega) (by omega) (by omega)]
        exact hpB.2.2 g i y1 y2
    · rw [g5, hr] at z1
      cases z1
  · have hkν : am_k ν 0 = (0, 0) := (hD.2.2.2.1 0 (Or.inl (by omega))).trans hk0
    have hf0 : RG fR 40 μ ν := hD.rg fun b z => by unfold fR; omega
    refine ⟨trivial, ?_⟩
    have step : ∀ ν1, ν1 = am_sR ν 0 17 (am_R ν 0 18) → ruC ν1 g → am_Wp (d + 200) mX1_rule 17 [.ref 0, .int 0] [] ν1 (fun r1 μ1 => ∃ v, r1 = some (.int v) ∧ am_Wp (d + 200) mX3_rule 0 [.ref 54, am_F, am_F] [] μ1 (fun r2 μ2 => r2 = some (.int v) ∧ Inv (q + 1) μ2)) := fun ν1 hν1 hru1 => by
      simp only [gX1_rule_17, gX1_rule_18, am_kill_int, am_kill_ref, am_kill_null, am_kill_F, am_kill_long, am_cat_n, am_cat_i, am_cat_r, am_cat_0, am_cat_l, am_nr_n, am_nr_i, am_nr_r, am_nr_0, am_nr_l, Option.toList_some, Option.toList_none, List.nil_append, List.cons_append, va_rf_s, va_rf_n, am_II, am_I_sR, am_I_sL, am_R_sI, am_RR, am_R_sL, am_L_sI, am_L_sR, am_LL, am_k_sI, am_k_sR, am_k_sL, am_n_sI, am_n_sR, am_n_sL, true_and, and_true, true_or, or_true, or_false, false_or, not_true_eq_false, not_false_eq_true, Nat.reduceLT, am_dS, am_dP, am_d1, Nat.reduceSub, Nat.reduceMul, ne_eq, Nat.reduceBEq, Nat.reduceAdd, Nat.reduceLeDiff, Nat.reduceEqDiff, and_self, and_false, false_and, if_true, if_false, am_nb, am_nb0, am_nb1, am_lc1, am_lc2, am_lc3, am_b0, am_b1, am_10, am_c8, am_c16, am_c24, am_c32, am_c40, am_c48, am_c56, am_c64, am_c72, Nat.add_zero, Bool.false_eq_true, Nat.zero_le]
      refine ⟨_, rfl, ?_⟩
      have hI1 : am_I ν1 = am_I ν := by rw [hν1]; rfl
      have hL1 : am_L ν1 = am_L ν := by rw [hν1]; rfl
      have hf1 : RG fR 40 μ ν1 := by rw [hν1]; exact hf0.R17 (Or.inl rfl)
      have hk1 : am_k ν1 = am_k ν := by rw [hν1]; rfl
      obtain ⟨g1, g2, g3, g4, g5⟩ := hth ν1 hf1 (by rw [hI1]; exact h6) (fun i => by rw [hL1]; exact hLL ν hD i) (by rw [hI1]; exact hD.1 0 40 (Or.inl (by omega)) (by omega)) (fun a b z1 z2 => by rw [hI1]; exact hmod ν hD a b z1 z2)
      have hk54 : am_k ν1 54 = (2, 0) := by rw [hk1]; exact (hD.2.2.2.1 54 (Or.inl (by omega))).trans (by have := hS.1.1; unfold mL at this; exact this.1.1)
      have e6 : am_I (am_sI ν1 54 7 0) 0 6 = 0 := by rw [am_I_sI, if_neg (by omega), hI1]; exact h6
      have e40 : am_I (am_sI ν1 54 7 0) 0 40 = am_I μ 0 40 := by rw [am_I_sI, if_neg (by omega), hI1]; exact hD.1 0 40 (Or.inl (by omega)) (by omega)
      have e54 : am_I (am_sI ν1 54 7 0) 54 6 = am_I μ 54 6 := by rw [am_I_sI, if_neg (by omega), hI1]; exact hmod ν hD 54 6 (by omega) (by omega)
      have eLL : ∀ i, am_L (am_sI ν1 54 7 0) 53 i = am_L μ 53 i ∧ am_L (am_sI ν1 54 7 0) 57 i = am_L μ 57 i := fun i => by rw [am_L_sI, hL1]; exact hLL ν hD i
      have eR14 : am_R (am_sI ν1 54 7 0) 54 14 = am_R μ 54 14 ∧ am_R (am_sI ν1 54 7 0) 54 15 = am_R μ 54 15 := by
        rw [hν1]
        exact ⟨hD.2.1 54 14 (Or.inl (by omega)) (by omega), hD.2.1 54 15 (Or.inl (by omega)) (by omega)⟩
      have eK : ∀ a b, 54 ≤ a → a < 78 → ¬ (a = 54 ∧ b = 7) → am_I (am_sI ν1 54 7 0) a b = am_I μ a b := fun a b z1 z2 z3 => by rw [am_I_sI, if_neg z3, hI1]; exact hmod ν hD a b z1 z2
      have hru4 : ruC (am_sI ν1 54 7 0) g := by
        cases g with
        | none => exact hru1
        | some f => obtain ⟨a, y1, y2⟩ := hru1; exact ⟨a, y1, y2.mono (nodeEq_I (by decide))⟩
      simp only [gX3_rule_0, gX3_rule_1, gX3_rule_2, am_kill_int, am_kill_ref, am_kill_null, am_kill_F, am_kill_long, am_cat_n, am_cat_i, am_cat_r, am_cat_0, am_cat_l, am_nr_n, am_nr_i, am_nr_r, am_nr_0, am_nr_l, Option.toList_some, Option.toList_none, List.nil_append, List.cons_append, va_rf_s, va_rf_n, am_I_sR, am_I_sL, am_R_sI, am_R_sL, am_L_sI, am_L_sR, am_k_sI, am_k_sR, am_k_sL, am_n_sI, am_n_sR, am_n_sL, true_and, and_true, true_or, or_true, or_false, false_or, not_true_eq_false, not_false_eq_true, Nat.reduceLT, am_dS, am_dP, am_d1, Nat.reduceSub, Nat.reduceMul, ne_eq, Nat.reduceBEq, Nat.reduceAdd, Nat.reduceLeDiff, Nat.reduceEqDiff, and_self, and_false, false_and, if_true, if_false, am_nb, am_nb0, am_nb1, am_lc1, am_lc2, am_lc3, am_b0, am_b1, am_10, am_c8, am_c16, am_c24, am_c32, am_c40, am_c48, am_c56, am_c64, am_c72, Nat.add_zero, Bool.false_eq_true, Nat.zero_le, hk54]
      generalize am_sI ν1 54 7 0 = ν4 at g1 g2 g3 g4 g5 e6 e40 e54 eLL eR14 eK hru4 ⊢
      have hm4 := g2
      unfold mL at hm4
      rw [gX3_rule_5]
      simp only [gX3_rule_6, gX3_rule_9, gX3_rule_10, gX3_rule_11, am_kill_int, am_kill_ref, am_kill_null, am_kill_F, am_kill_long, am_cat_n, am_cat_i, am_cat_r, am_cat_0, am_cat_l, am_nr_n, am_nr_i, am_nr_r, am_nr_0, am_nr_l, Option.toList_some, Option.toList_none, List.nil_append, List.cons_append, va_rf_s, va_rf_n, am_I_sR, am_I_sL, am_R_sI, am_R_sL, am_L_sI, am_L_sR, am_k_sI, am_k_sR, am_k_sL, am_n_sI, am_n_sR, am_n_sL, true_and, and_true, true_or, or_true, or_false, false_or, not_true_eq_false, not_false_eq_true, Nat.reduceLT, am_dS, am_dP, am_d1, Nat.reduceSub, Nat.reduceMul, ne_eq, Nat.reduceBEq, Nat.reduceAdd, Nat.reduceLeDiff, Nat.reduceEqDiff, and_self, and_false, false_and, if_true, if_false, am_nb, am_nb0, am_nb1, am_lc1, am_lc2, am_lc3, am_b0, am_b1, am_10, am_c8, am_c16, am_c24, am_c32, am_c40, am_c48, am_c56, am_c64, am_c72, Nat.add_zero, Bool.false_eq_true, Nat.zero_le, hm4, g4]
      refine wX3_readRule (d := d + 119) g2 g3 t1 g4 (fun b' ξ z1 z2 z3 z4 z5 z6 => ?_) (fun g' ξ z2 z3 z4 z5 => ?_)
      · rw [g5, hr] at z2
        cases z2
      rw [g5, hr] at z2
      have egg : g = g' := by injection z2
      subst egg
      refine ⟨trivial, ?_⟩
      simp only [Option.toList_some, List.cons_append, List.nil_append, gX3_rule_14, gX3_rule_24, gX3_rule_25, am_kill_int, am_kill_ref, am_kill_null, am_kill_F, am_kill_long, am_cat_n, am_cat_i, am_cat_r, am_cat_0, am_cat_l, am_nr_n, am_nr_i, am_nr_r, am_nr_0, am_nr_l, Option.toList_some, Option.toList_none, List.nil_append, List.cons_append, va_rf_s, va_rf_n, am_I_sR, am_I_sL, am_R_sI, am_R_sL, am_L_sI, am_L_sR, am_k_sI, am_k_sR, am_k_sL, am_n_sI, am_n_sR, am_n_sL, true_and, and_true, true_or, or_true, or_false, false_or, not_true_eq_false, not_false_eq_true, Nat.reduceLT, am_dS, am_dP, am_d1, Nat.reduceSub, Nat.reduceMul, ne_eq, Nat.reduceBEq, Nat.reduceAdd, Nat.reduceLeDiff, Nat.reduceEqDiff, and_self, and_false, false_and, if_true, if_false, am_nb, am_nb0, am_nb1, am_lc1, am_lc2, am_lc3, am_b0, am_b1, am_10, am_c8, am_c16, am_c24, am_c32, am_c40, am_c48, am_c56, am_c64, am_c72, Nat.add_zero, Bool.false_eq_true, Nat.zero_le, o10]
      have oth : ∀ a b, ¬ fRM a b → am_I ξ a b = am_I ν4 a b := fun a b z => z3.1 a b z
      have h56 : ∀ i, am_I ξ 56 i = am_I μ 56 i := fun i => (oth 56 i (by unfold fRM; omega)).trans (congrFun g5 i)
      have h14 : am_R ξ 54 14 = some 59 := (z3.2.1 54 14 (by omega) (by omega)).trans (eR14.1.trans hpB.1)
      have hmξ : mL (am_k ξ) (am_R ξ) := z3.mLk g2
      have htt : t ≤ 40 := by
        rcases h40 with z | z
        · subst z
          unfold rdR at hr
          split at hr
          · omega
          · split at hr
            · cases hr
            · split at hr
              · cases hr
              · cases hr
        · exact z
      refine am_for (N := t) (fun k ls ρ => ls = [.ref 54, .int (nI t), .int (nI k)] ∧ Fr (fun a _ => a = 59) ξ ρ ∧ (∀ i, i < k → am_I ρ 59 i = am_I μ 56 i) ∧ ∀ i, k ≤ i → am_I ρ 59 i = am_I ξ 59 i) ?_ ?_ t 0 _ _ (by omega) ⟨rfl, Fr.refl, fun i hi => absurd hi (Nat.not_lt_zero i), fun i _ => rfl⟩
      · rintro k ls ρ hk ⟨rfl, hF, y1, y2⟩ ih
        have hmρ := hF.mLk hmξ
        unfold mL at hmρ
        have hlt : ¬ nI t ≤ nI k := nI_ge hk (by omega)
        have hv : vp_in (nI k) 80 := vp_in_nI (by omega) (by omega)
        have hv2 : vp_in (nI k) 40 := vp_in_nI (by omega) (by omega)
        have hck : (nI k).toNatClampNeg = k := nI_clamp (by omega)
        have r14 : am_R ρ 54 14 = some 59 := (hF.2.1 54 14 (by omega) (by omega)).trans h14
        have i56 : am_I ρ 56 k = am_I μ 56 k := (hF.1 56 k (by show ¬ (56 = 59); decide)).trans (h56 k)
        obtain ⟨_, ⟨q1, q2, q3⟩, _⟩ := hpt k (by omega)
        have hby : vp_nar .byte (am_I μ 56 k) = am_I μ 56 k := by rw [q3]; exact byN ⟨q1, q2⟩
        rw [gX3_rule_26]
        simp only [gX3_rule_27, gX3_rule_28, gX3_rule_31, gX3_rule_32, gX3_rule_35, gX3_rule_36, gX3_rule_37, gX3_rule_40, gX3_rule_41, am_kill_int, am_kill_ref, am_kill_null, am_kill_F, am_kill_long, am_cat_n, am_cat_i, am_cat_r, am_cat_0, am_cat_l, am_nr_n, am_nr_i, am_nr_r, am_nr_0, am_nr_l, Option.toList_some, Option.toList_none, List.nil_append, List.cons_append, va_rf_s, va_rf_n, am_I_sR, am_I_sL, am_R_sI, am_R_sL, am_L_sI, am_L_sR, am_k_sI, am_k_sR, am_k_sL, am_n_sI, am_n_sR, am_n_sL, true_and, and_true, true_or, or_true, or_false, false_or, not_true_eq_false, not_false_eq_true, Nat.reduceLT, am_dS, am_dP, am_d1, Nat.reduceSub, Nat.reduceMul, ne_eq, Nat.reduceBEq, Nat.reduceAdd, Nat.reduceLeDiff, Nat.reduceEqDiff, and_self, and_false, false_and, if_true, if_false, am_nb, am_nb0, am_nb1, am_lc1, am_lc2, am_lc3, am_b0, am_b1, am_10, am_c8, am_c16, am_c24, am_c32, am_c40, am_c48, am_c56, am_c64, am_c72, Nat.add_zero, Bool.false_eq_true, Nat.zero_le, hmρ, hlt, r14, hv, hck, i56]
        rw [gX3_rule_42 (by rw [hmρ.1.2.2.2.2.2.1]) (by rw [hmρ.1.2.2.2.2.2.1]; exact hv2), hby, hck]
        simp only [gX3_rule_43, gX3_rule_46, am_kill_int, am_kill_ref, am_kill_null, am_kill_F, am_kill_long, am_cat_n, am_cat_i, am_cat_r, am_cat_0, am_cat_l, am_nr_n, am_nr_i, am_nr_r, am_nr_0, am_nr_l, Option.toList_some, Option.toList_none, List.nil_append, List.cons_append, va_rf_s, va_rf_n, am_I_sR, am_I_sL, am_R_sI, am_R_sL, am_L_sI, am_L_sR, am_k_sI, am_k_sR, am_k_sL, am_n_sI, am_n_sR, am_n_sL, true_and, and_true, true_or, or_true, or_false, false_or, not_true_eq_false, not_false_eq_true, Nat.reduceLT, am_dS, am_dP, am_d1, Nat.reduceSub, Nat.reduceMul, ne_eq, Nat.reduceBEq, Nat.reduceAdd, Nat.reduceLeDiff, Nat.reduceEqDiff, and_self, and_false, false_and, if_true, if_false, am_nb, am_nb0, am_nb1, am_lc1, am_lc2, am_lc3, am_b0, am_b1, am_10, am_c8, am_c16, am_c24, am_c32, am_c40, am_c48, am_c56, am_c64, am_c72, Nat.add_zero, Bool.false_eq_true, Nat.zero_le, nI_1]
        refine ih _ _ ⟨rfl, Fr.I hF rfl, fun i hi => ?_, fun i hi => ?_⟩
        · by_cases f : i = k
          · subst f; rw [am_I_sI, if_pos ⟨rfl, rfl⟩]
          · rw [am_I_sI, if_neg (by omega)]; exact y1 i (by omega)
        · rw [am_I_sI, if_neg (by omega)]; exact y2 i (by omega)
      · rintro ls ρ ⟨rfl, hF, y1, y2⟩
        have hmρ := hF.mLk hmξ
        unfold mL at hmρ
        have r14 : am_R ρ 54 14 = some 59 := (hF.2.1 54 14 (by omega) (by omega)).trans h14
        rw [gX3_rule_26]
        simp only [gX3_rule_27, gX3_rule_28, gX3_rule_49, gX3_rule_50, gX3_rule_51, gX3_rule_54, gX3_rule_55, am_kill_int, am_kill_ref, am_kill_null, am_kill_F, am_kill_long, am_cat_n, am_cat_i, am_cat_r, am_cat_0, am_cat_l, am_nr_n, am_nr_i, am_nr_r, am_nr_0, am_nr_l, Option.toList_some, Option.toList_none, List.nil_append, List.cons_append, va_rf_s, va_rf_n, am_I_sR, am_I_sL, am_R_sI, am_R_sL, am_L_sI, am_L_sR, am_k_sI, am_k_sR, am_k_sL, am_n_sI, am_n_sR, am_n_sL, true_and, and_true, true_or, or_true, or_false, false_or, not_true_eq_false, not_false_eq_true, Nat.reduceLT, am_dS, am_dP, am_d1, Nat.reduceSub, Nat.reduceMul, ne_eq, Nat.reduceBEq, Nat.reduceAdd, Nat.reduceLeDiff, Nat.reduceEqDiff, and_self, and_false, false_and, if_true, if_false, am_nb, am_nb0, am_nb1, am_lc1, am_lc2, am_lc3, am_b0, am_b1, am_10, am_c8, am_c16, am_c24, am_c32, am_c40, am_c48, am_c56, am_c64, am_c72, Nat.add_zero, Bool.false_eq_true, Nat.zero_le, hmρ, Int32.le_refl]
        have hfx : RG fR 60 μ (am_sI ρ 54 16 (nI t)) := (g1.trans (z3.toW.rg (F := fR) fun a b z => by unfold fRM at z; unfold fR; omega) (by omega : 40 + 0 ≤ 50)).trans ((Fr.I (F := fun a b => a = 59 ∨ (a = 54 ∧ b = 16)) (hF.le fun a b z => Or.inl z) (Or.inr ⟨rfl, rfl⟩) : Fr _ ξ (am_sI ρ 54 16 (nI t))).toW.rg (F := fR) fun a b z => by unfold fR; omega) (by omega)
        have oth2 : ∀ a b, ¬ fRM a b → a ≠ 59 → ¬ (a = 54 ∧ b = 16) → am_I (am_sI ρ 54 16 (nI t)) a b = am_I ν4 a b := fun a b w1 w2 w3 => by rw [am_I_sI, if_neg w3, hF.1 a b w2]; exact oth a b w1
        have hb59 : ∀ i, i < 40 → ∃ q : Nat, q < 256 ∧ am_I (am_sI ρ 54 16 (nI t)) 59 i = nI q - 128 := fun i hi => by
          rw [am_I_sI, if_neg (by omega)]
          by_cases f : i < t
          · rw [y1 i f]; exact (hpt i (by omega)).2.1
          · rw [y2 i (by omega), oth 59 i (by unfold fRM; omega), eK 59 i (by omega) (by omega) (by omega)]
            exact hpB.2.2 59 i (Or.inl rfl) hi
        have k17 : am_I (am_sI ρ 54 16 (nI t)) 54 17 = 0 := by rw [am_I_sI, if_neg (by omega), hF.1 54 17 (by decide)]; exact z5
        refine inv_R hI' hP hfx k17 (ru' := g) ?_ (ruM_of (T := am_I μ 56) (gh := 59) (by show am_k ρ 61 = _; simp only [hmρ]) k17 (Or.inl rfl) r14 (by show am_k ρ 59 = _; simp only [hmρ]) (by rw [am_I_sI, if_pos ⟨rfl, rfl⟩]) hb59 (fun i hi => by rw [am_I_sI, if_neg (by omega)]; exact y1 i hi) hr h40) (rdR_8 hr) ⟨r14, ?_, fun gg i w1 w2 => ?_⟩ ⟨0, by omega, (oth2 0 6 (by unfold fRM; omega) (by omega) (by omega)).trans e6, ?_⟩ (hfx.row0 hn0 (fun i => ⟨by rw [am_L_sI, hF.L, z3.L]; exact (eLL i).1, by rw [am_L_sI, hF.L, z3.L]; exact (eLL i).2⟩) ((oth2 0 40 (by unfold fRM; omega) (by omega) (by omega)).trans e40) ((oth2 54 6 (by unfold fRM; omega) (by omega) (by omega)).trans e54) hRow)
        · have hfr : Fr (fun a b => a = 59 ∨ fRM a b ∨ (a = 54 ∧ b = 16)) ν4 (am_sI ρ 54 16 (nI t)) := Fr.I ((z3.le fun a b z => Or.inr (Or.inl z)).trans (hF.le fun a b z => Or.inl z)) (Or.inr (Or.inr ⟨rfl, rfl⟩))
          exact hfr.ruC (fun a b z => by unfold fRM at z; omega) hru4
        · exact (hF.2.1 54 15 (by omega) (by omega)).trans ((z3.2.1 54 15 (by omega) (by omega)).trans (eR14.2.trans hpB.2.1))
        · rcases w1 with w1 | w1
          · subst w1; exact hb59 i w2
          · subst w1
            rw [oth2 60 i (by unfold fRM; omega) (by omega) (by omega), eK 60 i (by omega) (by omega) (by omega)]
            exact hpB.2.2 60 i (Or.inr rfl) w2
        · rw [am_I_sI, if_neg (by omega), hF.1 54 4 (by decide)]; exact z4
    cases g with
    | none =>
      have hn : am_R ν 0 18 = none := hrk
      simp only [Option.toList_some, List.cons_append, List.nil_append, gX1_rule_4, gX1_rule_5, gX1_rule_6, gX1_rule_9, gX1_rule_10, gX1_rule_11, gX1_rule_14, gX1_rule_14n, am_kill_int, am_kill_ref, am_kill_null, am_kill_F, am_kill_long, am_cat_n, am_cat_i, am_cat_r, am_cat_0, am_cat_l, am_nr_n, am_nr_i, am_nr_r, am_nr_0, am_nr_l, Option.toList_some, Option.toList_none, List.nil_append, List.cons_append, va_rf_s, va_rf_n, am_II, am_I_sR, am_I_sL, am_R_sI, am_RR, am_R_sL, am_L_sI, am_L_sR, am_LL, am_k_sI, am_k_sR, am_k_sL, am_n_sI, am_n_sR, am_n_sL, true_and, and_true, true_or, or_true, or_false, false_or, not_true_eq_false, not_false_eq_true, Nat.reduceLT, am_dS, am_dP, am_d1, Nat.reduceSub, Nat.reduceMul, ne_eq, Nat.reduceBEq, Nat.reduceAdd, Nat.reduceLeDiff, Nat.reduceEqDiff, and_self, and_false, false_and, if_true, if_false, am_nb, am_nb0, am_nb1, am_lc1, am_lc2, am_lc3, am_b0, am_b1, am_10, am_c8, am_c16, am_c24, am_c32, am_c40, am_c48, am_c56, am_c64, am_c72, Nat.add_zero, Bool.false_eq_true, Nat.zero_le, hkν, hn]
      exact step _ (by rw [hn]) (by show am_R (am_sR ν 0 17 none) 0 17 = none; rw [am_RR, if_pos ⟨rfl, rfl⟩])
    | some f =>
      obtain ⟨a, w1, w2, w3⟩ := hrk
      simp only [Option.toList_some, List.cons_append, List.nil_append, gX1_rule_4, gX1_rule_5, gX1_rule_6, gX1_rule_9, gX1_rule_10, gX1_rule_11, gX1_rule_14, gX1_rule_14n, am_kill_int, am_kill_ref, am_kill_null, am_kill_F, am_kill_long, am_cat_n, am_cat_i, am_cat_r, am_cat_0, am_cat_l, am_nr_n, am_nr_i, am_nr_r, am_nr_0, am_nr_l, Option.toList_some, Option.toList_none, List.nil_append, List.cons_append, va_rf_s, va_rf_n, am_II, am_I_sR, am_I_sL, am_R_sI, am_RR, am_R_sL, am_L_sI, am_L_sR, am_LL, am_k_sI, am_k_sR, am_k_sL, am_n_sI, am_n_sR, am_n_sL, true_and, and_true, true_or, or_true, or_false, false_or, not_true_eq_false, not_false_eq_true, Nat.reduceLT, am_dS, am_dP, am_d1, Nat.reduceSub, Nat.reduceMul, ne_eq, Nat.reduceBEq, Nat.reduceAdd, Nat.reduceLeDiff, Nat.reduceEqDiff, and_self, and_false, false_and, if_true, if_false, am_nb, am_nb0, am_nb1, am_lc1, am_lc2, am_lc3, am_b0, am_b1, am_10, am_c8, am_c16, am_c24, am_c32, am_c40, am_c48, am_c56, am_c64, am_c72, Nat.add_zero, Bool.false_eq_true, Nat.zero_le, hkν, w1, w2]
      exact step _ (by rw [w1]) ⟨a, by rw [am_RR, if_pos ⟨rfl, rfl⟩], w3.mono (nodeEq_R (by decide))⟩
end RLV
