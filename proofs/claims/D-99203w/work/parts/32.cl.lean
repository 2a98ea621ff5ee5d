/-! the component's leaves, part 2 -/
set_option maxRecDepth 100000
section CLV
variable {d : Nat} {μ : am_M} {K : Option Value → am_M → Prop} {x y : Int32} {h h' N j : Nat} {p1 p2 p3 : Int64} {v : Int32}
def usI (x y : Int32) : Int32 := (x.toUInt32 >>> (y.toUInt32 &&& Int32.toUInt32 31)).toInt32
def bc1 (x : Int32) : Int32 := x - (usI x 1 &&& 1431655765)
def bc2 (a : Int32) : Int32 := (a &&& 858993459) + (usI a 2 &&& 858993459)
def bc3 (b : Int32) : Int32 := (b + usI b 4) &&& 252645135
def bc4 (c : Int32) : Int32 := c + usI c 8
def bc5 (e : Int32) : Int32 := e + usI e 16
def bcI (x : Int32) : Int32 := bc5 (bc4 (bc3 (bc2 (bc1 x)))) &&& 63
theorem wJ10_bitCount : am_Wp d mJ10_bitCount 0 [.int x] [] μ K ↔ K (some (.int (bcI x))) μ := by
  simp only [gJ10_bitCount_0, gJ10_bitCount_1, gJ10_bitCount_2, gJ10_bitCount_3, gJ10_bitCount_4, gJ10_bitCount_7, gJ10_bitCount_8, gJ10_bitCount_9, gJ10_bitCount_10, gJ10_bitCount_11, gJ10_bitCount_14, gJ10_bitCount_15, gJ10_bitCount_16, gJ10_bitCount_17, gJ10_bitCount_18, gJ10_bitCount_21, gJ10_bitCount_22, gJ10_bitCount_23, gJ10_bitCount_24, gJ10_bitCount_25, gJ10_bitCount_26, gJ10_bitCount_27, gJ10_bitCount_28, gJ10_bitCount_29, gJ10_bitCount_32, gJ10_bitCount_33, gJ10_bitCount_34, gJ10_bitCount_35, gJ10_bitCount_36, gJ10_bitCount_38, gJ10_bitCount_39, gJ10_bitCount_40, gJ10_bitCount_41, gJ10_bitCount_42, gJ10_bitCount_43, gJ10_bitCount_45, gJ10_bitCount_46, gJ10_bitCount_47, gJ10_bitCount_48, gJ10_bitCount_49, gJ10_bitCount_51, gJ10_bitCount_52, am_kill_int, am_kill_ref, am_kill_null, am_kill_F, am_kill_long, am_cat_n, am_cat_i, am_cat_r, am_cat_0, am_cat_l, am_nr_n, am_nr_i, am_nr_r, am_nr_0, am_nr_l, Option.toList_some, Option.toList_none, List.nil_append, List.cons_append, va_rf_s, va_rf_n, am_II, am_I_sR, am_I_sL, am_R_sI, am_RR, am_R_sL, am_L_sI, am_L_sR, am_LL, am_k_sI, am_k_sR, am_k_sL, am_n_sI, am_n_sR, am_n_sL, true_and, and_true, true_or, or_true, or_false, false_or, not_true_eq_false, not_false_eq_true, Nat.reduceLT, am_dS, am_dP, am_d1, Nat.reduceSub, Nat.reduceMul, ne_eq, Nat.reduceBEq, Nat.reduceAdd, Nat.reduceLeDiff, Nat.reduceEqDiff, and_self, and_false, false_and, if_true, if_false, am_nb, am_nb0, am_nb1, am_lc1, am_lc2, am_lc3, am_b0, am_b1, am_10, am_c8, am_c16, am_c24, am_c32, am_c40, am_c48, am_c56, am_c64, am_c72, Nat.add_zero, Bool.false_eq_true, Nat.zero_le, bcI, bc5, bc4, bc3, bc2, bc1, usI]
def Fr (F : Nat → Nat → Prop) (μ ν : am_M) : Prop := (∀ a b, ¬ F a b → am_I ν a b = am_I μ a b) ∧ (∀ a b, ¬ (a = 0 ∧ b = 15) → ¬ (a = 54 ∧ b = 8) → am_R ν a b = am_R μ a b) ∧ am_L ν = am_L μ ∧ am_k ν = am_k μ ∧ am_n ν = am_n μ ∧ am_c ν = am_c μ ∧ am_s ν = am_s μ
theorem Fr.refl {F : Nat → Nat → Prop} : Fr F μ μ := ⟨fun _ _ _ => rfl, fun _ _ _ _ => rfl, rfl, rfl, rfl, rfl, rfl⟩
theorem Fr.trans {F : Nat → Nat → Prop} {ν ξ : am_M} (h1 : Fr F μ ν) (h2 : Fr F ν ξ) : Fr F μ ξ :=
  ⟨fun a b q => (h2.1 a b q).trans (h1.1 a b q), fun a b q r => (h2.2.1 a b q r).trans (h1.2.1 a b q r), h2.2.2.1.trans h1.2.2.1, h2.2.2.2.1.trans h1.2.2.2.1, h2.2.2.2.2.1.trans h1.2.2.2.2.1, h2.2.2.2.2.2.1.trans h1.2.2.2.2.2.1, h2.2.2.2.2.2.2.trans h1.2.2.2.2.2.2⟩
theorem Fr.le {F G : Nat → Nat → Prop} {ν : am_M} (h1 : Fr F μ ν) (hg : ∀ a b, F a b → G a b) : Fr G μ ν := ⟨fun a b q => h1.1 a b (fun r => q (hg a b r)), h1.2⟩
theorem Fr.I {F : Nat → Nat → Prop} {ν : am_M} {a b : Nat} (h1 : Fr F μ ν) (hf : F a b) : Fr F μ (am_sI ν a b v) :=
  ⟨fun x y q => by rw [am_I_sI, if_neg (fun ⟨e1, e2⟩ => q (by rw [e1, e2]; exact hf))]; exact h1.1 x y q, h1.2⟩
theorem Fr.R {F : Nat → Nat → Prop} {ν : am_M} {r : Option Nat} (h1 : Fr F μ ν) : Fr F μ (am_sR ν 0 15 r) :=
  ⟨h1.1, fun x y q q2 => by rw [am_R_sR, if_neg q]; exact h1.2.1 x y q q2, h1.2.2⟩
theorem Fr.R' {F : Nat → Nat → Prop} {ν : am_M} {r : Option Nat} (h1 : Fr F μ ν) : Fr F μ (am_sR ν 54 8 r) :=
  ⟨h1.1, fun x y q q2 => by rw [am_R_sR, if_neg q2]; exact h1.2.1 x y q q2, h1.2.2⟩
theorem Fr.cp {F : Nat → Nat → Prop} {ν : am_M} {a b sp dp n : Nat} (h1 : Fr F μ ν) (hf : ∀ y, F b y) : Fr F μ (am_cp ν a b sp dp n) :=
  ⟨fun x y q => by
    rw [show am_I (am_cp ν a b sp dp n) x y = (if x = b then va_cpy (am_I ν a) (am_I ν b) sp dp n else am_I ν x) y from rfl, if_neg (fun e => q (by rw [e]; exact hf y))]
    exact h1.1 x y q, h1.2⟩
theorem am_I_cp {a b sp dp n c e : Nat} : am_I (am_cp μ a b sp dp n) c e = if c = b then va_cpy (am_I μ a) (am_I μ b) sp dp n e else am_I μ c e := by
  show (if c = b then va_cpy (am_I μ a) (am_I μ b) sp dp n else am_I μ c) e = _
  split <;> rfl
theorem am_R_cp {a b sp dp n : Nat} : am_R (am_cp μ a b sp dp n) = am_R μ := id rfl
theorem am_L_cp {a b sp dp n : Nat} : am_L (am_cp μ a b sp dp n) = am_L μ := id rfl
theorem am_k_cp {a b sp dp n : Nat} : am_k (am_cp μ a b sp dp n) = am_k μ := id rfl
def inSp (h a : Nat) : Prop := h ≤ a ∧ a ≤ h + 10
theorem cS_Fr {F : Nat → Nat → Prop} {ν : am_M} (hf : Fr F μ ν) (hh : ∀ a b, h ≤ a → a ≤ h + 10 → ¬ F a b) : cS ν h = cS μ h :=
  cS_congr fun a b q r => hf.1 a b (hh a b q r)
theorem wX2_becomes (hs : spL h (am_k μ) (am_R μ)) (hs' : spL h' (am_k μ) (am_R μ)) (hd : h + 10 < h' ∨ h' + 10 < h) (hK : ∀ ν, Fr (fun a _ => inSp h' a) μ ν → cS ν h' = cS μ h → K none ν) :
    am_Wp (d + 1) mX2_becomes 0 [.ref h', .ref h] [] μ K := by
  unfold spL at hs hs'
  have z0 : (0 : Int32).toNatClampNeg = 0 := by decide
  have z8 : (8 : Int32).toNatClampNeg = 8 := by decide
  have n0 : ¬ (0 : Int32) < 0 := by decide
  have n8 : ¬ (8 : Int32) < 0 := by decide
  simp only [gX2_becomes_0, gX2_becomes_0n, gX2_becomes_1, gX2_becomes_4, gX2_becomes_5, gX2_becomes_6, gX2_becomes_9, gX2_becomes_10, gX2_becomes_12, gX2_becomes_15, gX2_becomes_15n, gX2_becomes_16, gX2_becomes_19, gX2_becomes_20, gX2_becomes_21, gX2_becomes_24, gX2_becomes_25, gX2_becomes_27, gX2_becomes_30, gX2_becomes_30n, gX2_becomes_31, gX2_becomes_34, gX2_becomes_35, gX2_becomes_36, gX2_becomes_39, gX2_becomes_40, gX2_becomes_42, gX2_becomes_45, gX2_becomes_45n, gX2_becomes_46, gX2_becomes_49, gX2_becomes_50, gX2_becomes_51, gX2_becomes_54, gX2_becomes_55, gX2_becomes_57, gX2_becomes_60, gX2_becomes_60n, gX2_becomes_61, gX2_becomes_64, gX2_becomes_65, gX2_becomes_66, gX2_becomes_69, gX2_becomes_70, gX2_becomes_72, gX2_becomes_75, gX2_becomes_75n, gX2_becomes_76, gX2_becomes_79, gX2_becomes_80, gX2_becomes_81, gX2_becomes_84, gX2_becomes_85, gX2_becomes_87, gX2_becomes_90, gX2_becomes_90n, gX2_becomes_91, gX2_becomes_94, gX2_becomes_95, gX2_becomes_96, gX2_becomes_99, gX2_becomes_100, gX2_becomes_102, gX2_becomes_105, gX2_becomes_105n, gX2_becomes_106, gX2_becomes_109, gX2_becomes_110, gX2_becomes_111, gX2_becomes_114, gX2_becomes_115, gX2_becomes_117, gX2_becomes_120, gX2_becomes_120n, gX2_becomes_121, gX2_becomes_124, gX2_becomes_125, gX2_becomes_126, gX2_becomes_129, gX2_becomes_130, gX2_becomes_132, gX2_becomes_135, gX2_becomes_135n, gX2_becomes_136, gX2_becomes_139, gX2_becomes_140, gX2_becomes_141, gX2_becomes_144, gX2_becomes_145, gX2_becomes_147, gX2_becomes_150, gX2_becomes_151, gX2_becomes_151n, gX2_becomes_152, gX2_becomes_155, gX2_becomes_158, gX2_becomes_159, gX2_becomes_159n, gX2_becomes_160, gX2_becomes_163, gX2_becomes_166, gX2_becomes_167, gX2_becomes_167n, gX2_becomes_168, gX2_becomes_171, gX2_becomes_174, am_kill_int, am_kill_ref, am_kill_null, am_kill_F, am_kill_long, am_cat_n, am_cat_i, am_cat_r, am_cat_0, am_cat_l, am_nr_n, am_nr_i, am_nr_r, am_nr_0, am_nr_l, Option.toList_some, Option.toList_none, List.nil_append, List.cons_append, va_rf_s, va_rf_n, am_II, am_I_sR, am_I_sL, am_R_sI, am_RR, am_R_sL, am_L_sI, am_L_sR, am_LL, am_k_sI, am_k_sR, am_k_sL, am_n_sI, am_n_sR, am_n_sL, true_and, and_true, true_or, or_true, or_false, false_or, not_true_eq_false, not_false_eq_true, Nat.reduceLT, am_dS, am_dP, am_d1, Nat.reduceSub, Nat.reduceMul, ne_eq, Nat.reduceBEq, Nat.reduceAdd, Nat.reduceLeDiff, Nat.reduceEqDiff, and_self, and_false, false_and, if_true, if_false, am_nb, am_nb0, am_nb1, am_lc1, am_lc2, am_lc3, am_b0, am_b1, am_10, am_c8, am_c16, am_c24, am_c32, am_c40, am_c48, am_c56, am_c64, am_c72, Nat.add_zero, Bool.false_eq_true, Nat.zero_le, hs, hs', z0, z8, n0, n8, am_R_cp, am_k_cp]
  refine hK _ ?_ ?_
  · have g : ∀ k, k ≤ 10 → inSp h' (h' + k) := fun k q => ⟨by omega, by omega⟩
    refine Fr.I (Fr.I (Fr.I ?_ (g 0 (by omega))) (g 0 (by omega))) (g 0 (by omega))
    refine Fr.cp (Fr.cp (Fr.cp (Fr.cp (Fr.cp (Fr.cp (Fr.cp (Fr.cp (Fr.cp (Fr.cp Fr.refl ?_) ?_) ?_) ?_) ?_) ?_) ?_) ?_) ?_) ?_ <;> exact fun _ => g _ (by omega)
  · have e1 : ∀ a b : Nat, a ≤ 10 → b ≤ 10 → (h + a = h' + b) = False := fun a b q1 q2 => eq_false (by omega)
    have e2 : ∀ b : Nat, b ≤ 10 → (h = h' + b) = False := fun b q2 => eq_false (by omega)
    have e3 : ∀ a : Nat, a ≤ 10 → (h + a = h') = False := fun a q2 => eq_false (by omega)
    have e4 : (h = h') = False := eq_false (by omega)
    funext i
    unfold cS
    by_cases h1 : i < 80
    · simp only [if_pos h1]
      have h8 : i % 8 < 8 := by omega
      rcases (by omega : i / 8 = 0 ∨ i / 8 = 1 ∨ i / 8 = 2 ∨ i / 8 = 3 ∨ i / 8 = 4 ∨ i / 8 = 5 ∨ i / 8 = 6 ∨ i / 8 = 7 ∨ i / 8 = 8 ∨ i / 8 = 9) with q | q | q | q | q | q | q | q | q | q
      all_goals
        rw [q]
        simp only [am_I_sI, am_I_cp, Nat.add_assoc, Nat.reduceAdd, Nat.add_left_cancel_iff, Nat.reduceEqDiff, if_true, if_false, false_and, va_cpy, Nat.zero_le, h8, true_and, Nat.sub_zero, Nat.zero_add, Nat.add_zero, Nat.add_eq_left, e1, Nat.reduceLeDiff]
    · simp only [if_neg h1]
      by_cases hi : i < 83
      case neg => simp only [if_neg hi]
      simp only [if_pos hi]
      rcases (by omega : i = 80 ∨ i = 81 ∨ i = 82) with rfl | rfl | rfl
      all_goals simp only [am_I_sI, am_I_cp, Nat.reduceSub, Nat.reduceEqDiff, and_false, and_true, true_and, if_true, if_false, e4, e2, e3, false_and, Nat.reduceLeDiff, Nat.left_eq_add]
end CLV
