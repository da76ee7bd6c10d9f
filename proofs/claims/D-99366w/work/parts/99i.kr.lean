set_option maxRecDepth 100000
/-! X: reading (23): Tokens.read -/
def sgc (c : Nat) : Nat := if sgz c = 3 then 0 else c
/-- a token laid in X -/
def XKt (h : aH) (β : Nat → Nat) (n k : Nat) : Prop := hi_ h 69 k = nI (srt (kdz β n (pz β k))) ∧ hi_ h 70 k = nI (pz β k) ∧ (kdz β n (pz β k) ≠ 0 → hi_ h 71 k = nI (pz β k + tlz β (pz β k))) ∧ (20 ≤ kdz β n (pz β k) → hi_ h 72 k = nI (kdz β n (pz β k) - 20)) ∧ (sgk (kdz β n (pz β k)) → hi_ h 72 k = nI (chr (kdz β n (pz β k))))
def tkX (h : aH) (j s a b : Nat) (w : Int32) : aH := si_ (si_ (si_ (si_ (si_ h 69 j (nI s)) 70 j (nI a)) 71 j (nI b)) 72 j w) 66 36 (nI (j + 1))
/-- what Tokens.read writes -/
def KRF (a f : Nat) : Prop := (69 ≤ a ∧ a ≤ 72) ∨ (a = 66 ∧ f = 36)
def CSx (h : aH) (β : Nat → Nat) (n j i : Nat) : Prop := XS h ∧ XBt h β n ∧ WDx h ∧ hi_ h 66 36 = nI j ∧ (∀ k, k < j → XKt h β n k ∧ kdz β n (pz β k) ≠ 0 ∧ kdz β n (pz β k) ≠ 3) ∧ j ≤ i ∧ i ≤ n ∧ sk β i = pz β j
theorem sgz_c (c : Nat) : sgz c = 3 ∨ (sgk (sgz c) ∧ chr (sgz c) = c ∧ 40 ≤ c ∧ c ≤ 61) := by
  unfold sgz
  repeat' split
  all_goals first
    | exact Or.inl rfl
    | (rename_i q; subst q; exact Or.inr ⟨by unfold sgk; decide, by decide, by decide, by decide⟩)
    | skip
section KR
variable {d n : Nat} {h h' : aH} {β : Nat → Nat}
theorem k_sign (hX : XS h) (hV : BV β n) (hB : XBt h β n) {k : Nat} (hk : k < 100000) : (run (d + 1) 79 0 [.ref 66, .int (nI k), aU] [] h) = some (.returned (some (.int (nI (sgc (β k))))), h) := by
  have ea := fun d => k_at (d := d) hX hV hB hk
  have b := hV.2.1 k
  generalize β k = c at ea b
  by_cases q : 40 ≤ c ∧ c ≤ 61
  · have es : sb c = nI c := if_pos (by omega)
    rw [es] at ea
    have cs : c = 40 ∨ c = 41 ∨ c = 42 ∨ c = 43 ∨ c = 44 ∨ c = 45 ∨ c = 46 ∨ c = 47 ∨ c = 48 ∨ c = 49 ∨ c = 50 ∨ c = 51 ∨ c = 52 ∨ c = 53 ∨ c = 54 ∨ c = 55 ∨ c = 56 ∨ c = 57 ∨ c = 58 ∨ c = 59 ∨ c = 60 ∨ c = 61 := by omega
    rcases cs with z | z | z | z | z | z | z | z | z | z | z | z | z | z | z | z | z | z | z | z | z | z <;> subst z <;> (simp only [e79_0, e79_1, e79_2, e79_5, e79_6, e79_7_40, e79_7_41, e79_7_42, e79_7_43, e79_7_44, e79_7_45, e79_7_46, e79_7_47, e79_7_48, e79_7_49, e79_7_50, e79_7_51, e79_7_52, e79_7_53, e79_7_54, e79_7_55, e79_7_56, e79_7_57, e79_7_58, e79_7_59, e79_7_60, e79_7_61, e79_7_d, e79_108, e79_109, e79_110, e79_111, xk_64 hX, xk_66 hX, ↓reduceIte, Nat.reduceAdd, Nat.reduceLeDiff, Nat.reduceLT, Nat.reduceEqDiff, not_false_eq_true, false_or, true_or, or_true, or_false, n0_e, n1_ne, n1_11, bI_z, bI_1, bI_fo, va_rf_some, aBk_1, aBk_0, nI_add, nI_mul, hk_si, hp_si, hl_si, hk_sp, hk_sl, hk_cp, hp_cp, ea]) <;> rfl
  · have e3 : sgc c = 0 := by
      unfold sgc
      rcases sgz_c c with z | z
      · rw [if_pos z]
      · exact absurd ⟨z.2.2.1, z.2.2.2⟩ q
    rw [e3]
    have sw : (sb c).toInt < 40 ∨ 61 < (sb c).toInt := by
      rw [sb_toInt b]
      split <;> omega
    simp only [e79_0, e79_1, e79_2, e79_5, e79_6, e79_7_40, e79_7_41, e79_7_42, e79_7_43, e79_7_44, e79_7_45, e79_7_46, e79_7_47, e79_7_48, e79_7_49, e79_7_50, e79_7_51, e79_7_52, e79_7_53, e79_7_54, e79_7_55, e79_7_56, e79_7_57, e79_7_58, e79_7_59, e79_7_60, e79_7_61, e79_7_d, e79_108, e79_109, e79_110, e79_111, xk_64 hX, xk_66 hX, ↓reduceIte, Nat.reduceAdd, Nat.reduceLeDiff, Nat.reduceLT, Nat.reduceEqDiff, not_false_eq_true, false_or, true_or, or_true, or_false, n0_e, n1_ne, n1_11, bI_z, bI_1, bI_fo, va_rf_some, aBk_1, aBk_0, nI_add, nI_mul, hk_si, hp_si, hl_si, hk_sp, hk_sl, hk_cp, hp_cp, ea, sw]
theorem k_add (hX : XS h) {j s a b : Nat} {w : Int32} (hj : j < 2001) (ht : hi_ h 66 36 = nI j) (hs : s < 128) (ha : a < 32768) (hb : b < 32768) (hw : w.toInt16.toInt32 = w) : (run (d) 80 0 [.ref 66, .int (nI s), .int (nI a), .int (nI b), .int w] [] h) = some (.returned none, tkX h j s a b w) := by
  have e1 := i8_c s hs
  have e2 := i16_c ha
  have e3 := i16_c hb
  simp only [e80_0, e80_1, e80_4, e80_5, e80_8, e80_9, e80_10, e80_10z, e80_11, e80_12, e80_15, e80_16, e80_19, e80_20, e80_21, e80_22, e80_23, e80_26, e80_27, e80_30, e80_31, e80_32, e80_33, e80_34, e80_37, e80_38, e80_41, e80_43, e80_44, e80_45, e80_46, e80_47, e80_50, e80_51, e80_52, e80_55, xk_64 hX, xk_66 hX, xp_32 hX, xk_69 hX, xp_33 hX, xk_70 hX, xp_34 hX, xk_71 hX, xp_35 hX, xk_72 hX, ↓reduceIte, Nat.reduceAdd, Nat.reduceLeDiff, Nat.reduceLT, not_false_eq_true, false_or, true_or, or_true, or_false, n0_e, n1_ne, n1_11, bI_z, bI_1, bI_fo, va_rf_some, aBk_1, aBk_0, nI_add, nI_mul, hk_si, hp_si, hl_si, hk_sp, hk_sl, hk_cp, hp_cp, ht, hj, e1, e2, e3, hw, hi_si, Nat.reduceEqDiff, false_and, true_and, and_false, and_true]
  rfl
theorem tkX_on {j s a b : Nat} {w : Int32} : On KRF h (tkX h j s a b w) := ((((On.si (Or.inl ⟨by decide, by decide⟩)).trans (On.si (Or.inl ⟨by decide, by decide⟩))).trans (On.si (Or.inl ⟨by decide, by decide⟩))).trans (On.si (Or.inl ⟨by decide, by decide⟩))).trans (On.si (Or.inr ⟨rfl, rfl⟩))
theorem tkX_at {j s a b : Nat} {w : Int32} : hi_ (tkX h j s a b w) 69 j = nI s ∧ hi_ (tkX h j s a b w) 70 j = nI a ∧ hi_ (tkX h j s a b w) 71 j = nI b ∧ hi_ (tkX h j s a b w) 72 j = w ∧ hi_ (tkX h j s a b w) 66 36 = nI (j + 1) := by
  unfold tkX
  refine ⟨?_, ?_, ?_, ?_, hi_same⟩
  · rw [hi_ne (by omega), hi_ne (by omega), hi_ne (by omega), hi_ne (by omega)]; exact hi_same
  · rw [hi_ne (by omega), hi_ne (by omega), hi_ne (by omega)]; exact hi_same
  · rw [hi_ne (by omega), hi_ne (by omega)]; exact hi_same
  · rw [hi_ne (by omega)]; exact hi_same
theorem tkX_off {j s a b i : Nat} {w : Int32} (hi : i ≠ j) {y : Nat} (hy : 69 ≤ y ∧ y ≤ 72) : hi_ (tkX h j s a b w) y i = hi_ h y i := by
  unfold tkX
  rw [hi_ne (by omega), hi_ne (by omega), hi_ne (by omega), hi_ne (by omega), hi_ne (by omega)]
theorem XKt.off {k j s a b : Nat} {w : Int32} (hK : XKt h β n k) (hk : k ≠ j) : XKt (tkX h j s a b w) β n k := by
  obtain ⟨k1, k2, k3, k4, k5⟩ := hK
  refine ⟨(tkX_off hk ⟨by decide, by decide⟩).trans k1, (tkX_off hk ⟨by decide, by decide⟩).trans k2, fun q => (tkX_off hk ⟨by decide, by decide⟩).trans (k3 q), fun q => (tkX_off hk ⟨by decide, by decide⟩).trans (k4 q), fun q => (tkX_off hk ⟨by decide, by decide⟩).trans (k5 q)⟩
theorem XBt.on (hB : XBt h β n) (o : On KRF h h') : XBt h' β n := ⟨(o.i (fun q => by unfold KRF at q; omega)).trans hB.1, fun i hi => (o.i (fun q => by unfold KRF at q; omega)).trans (hB.2 i hi)⟩
theorem WDx.on (hW : WDx h) (o : On KRF h h') : WDx h' := fun k hk => by
  obtain ⟨w1, w2, w3, w4, w5⟩ := hW k hk
  exact ⟨(o.k _).trans w1, (o.i (fun q => by unfold KRF at q; omega)).trans w2, (o.p _ _).trans w3, (o.k _).trans w4, fun i hi => (o.i (fun q => by unfold KRF at q; omega)).trans (w5 i hi)⟩
noncomputable def krAt (d i g : Nat) (z3 z4 z5 z6 : Value) (h : aH) : aR := (run (d + 6) 74 9 [.ref 66, .int (nI i), .int (nI g), z3, z4, z5, z6] [] h)
/-- a run of letters, of digits -/
theorem kr_letters (hX : XS h) (hV : BV β n) (hB : XBt h β n) {i : Nat} (hi : i < n) (hl : isL (β i) = true) {z3 z5 z6 : Value} : ∀ m, 1 ≤ m → m ≤ rl isL β i → (run (d + 6) 74 74 [.ref 66, .int (nI i), .int (nI 1), z3, .int (nI (i + 1)), z5, z6] [] h) = (run (d + 6) 74 74 [.ref 66, .int (nI i), .int (nI 1), z3, .int (nI (i + m)), z5, z6] [] h)
  | 0, h1, _ => absurd h1 (by decide)
  | 1, _, _ => rfl
  | m + 2, _, hm => by
    refine (kr_letters hX hV hB hi hl (m + 1) (by omega) (by omega)).trans ?_
    obtain ⟨a1, a2, -⟩ := rl_at (p := isL) hV isL0 (i := i) (by omega)
    have hn := hV.1
    have il := fun d => k_isLetter (d := d) hX hV hB (k := i + (m + 1)) (by omega)
    rw [a2 (m + 1) (by omega)] at il
    refine (e74_74).trans ?_
    simp only [e74_0, e74_1, e74_2, e74_5, e74_6, e74_7, e74_8, e74_10, e74_11, e74_14, e74_17, e74_18, e74_21, e74_22, e74_25, e74_26, e74_27, e74_28, e74_29, e74_30, e74_31, e74_33, e74_34, e74_36, e74_39, e74_40, e74_42, e74_45, e74_46, e74_48, e74_51, e74_52, e74_54, e74_57, e74_60, e74_63, e74_64, e74_66, e74_67, e74_68, e74_71, e74_75, e74_77, e74_80, e74_83, e74_86, e74_89, e74_90, e74_91, e74_93, e74_96, e74_98, e74_100, e74_103, e74_104, e74_107, e74_109, e74_110, e74_111, e74_113, e74_116, e74_117, e74_120, e74_121, e74_123, e74_126, e74_127, e74_128, e74_131, e74_135, e74_137, e74_140, e74_143, e74_146, e74_149, e74_151, e74_152, e74_153, e74_154, e74_157, e74_158, e74_161, e74_162, e74_164, e74_167, e74_168, e74_169, e74_172, e74_174, e74_176, e74_179, e74_180, e74_183, e74_184, e74_186, e74_187, e74_189, e74_190, e74_192, e74_194, e74_197, e74_199, e74_200, e74_203, e74_204, e74_207, e74_208, e74_209, e74_211, e74_212, e74_215, e74_216, e74_219, e74_220, e74_221, e74_222, e74_223, e74_224, e74_227, xk_64 hX, xk_66 hX, xp_30 hX, xk_68 hX, ↓reduceIte, Nat.reduceAdd, Nat.reduceLeDiff, Nat.reduceLT, Nat.reduceEqDiff, not_false_eq_true, false_or, true_or, or_true, or_false, n0_e, n1_ne, n1_11, bI_z, bI_1, bI_fo, va_rf_some, aBk_1, aBk_0, nI_add, nI_mul, hk_si, hp_si, hl_si, hk_sp, hk_sl, hk_cp, hp_cp, il, reduceCtorEq, Nat.add_assoc]
theorem kr_digits (hX : XS h) (hV : BV β n) (hB : XBt h β n) {i : Nat} (hi : i < n) (hl : isD (β i) = true) {z3 z5 z6 : Value} : ∀ m, 1 ≤ m → m ≤ rl isD β i → (run (d + 6) 74 134 [.ref 66, .int (nI i), .int (nI 1), z3, .int (nI (i + 1)), z5, z6] [] h) = (run (d + 6) 74 134 [.ref 66, .int (nI i), .int (nI 1), z3, .int (nI (i + m)), z5, z6] [] h)
  | 0, h1, _ => absurd h1 (by decide)
  | 1, _, _ => rfl
  | m + 2, _, hm => by
    refine (kr_digits hX hV hB hi hl (m + 1) (by omega) (by omega)).trans ?_
    obtain ⟨a1, a2, -⟩ := rl_at (p := isD) hV isD0 (i := i) (by omega)
    have hn := hV.1
    have il := fun d => k_isDigit (d := d) hX hV hB (k := i + (m + 1)) (by omega)
    rw [a2 (m + 1) (by omega)] at il
    refine (e74_134).trans ?_
    simp only [e74_0, e74_1, e74_2, e74_5, e74_6, e74_7, e74_8, e74_10, e74_11, e74_14, e74_17, e74_18, e74_21, e74_22, e74_25, e74_26, e74_27, e74_28, e74_29, e74_30, e74_31, e74_33, e74_34, e74_36, e74_39, e74_40, e74_42, e74_45, e74_46, e74_48, e74_51, e74_52, e74_54, e74_57, e74_60, e74_63, e74_64, e74_66, e74_67, e74_68, e74_71, e74_75, e74_77, e74_80, e74_83, e74_86, e74_89, e74_90, e74_91, e74_93, e74_96, e74_98, e74_100, e74_103, e74_104, e74_107, e74_109, e74_110, e74_111, e74_113, e74_116, e74_117, e74_120, e74_121, e74_123, e74_126, e74_127, e74_128, e74_131, e74_135, e74_137, e74_140, e74_143, e74_146, e74_149, e74_151, e74_152, e74_153, e74_154, e74_157, e74_158, e74_161, e74_162, e74_164, e74_167, e74_168, e74_169, e74_172, e74_174, e74_176, e74_179, e74_180, e74_183, e74_184, e74_186, e74_187, e74_189, e74_190, e74_192, e74_194, e74_197, e74_199, e74_200, e74_203, e74_204, e74_207, e74_208, e74_209, e74_211, e74_212, e74_215, e74_216, e74_219, e74_220, e74_221, e74_222, e74_223, e74_224, e74_227, xk_64 hX, xk_66 hX, xp_30 hX, xk_68 hX, ↓reduceIte, Nat.reduceAdd, Nat.reduceLeDiff, Nat.reduceLT, Nat.reduceEqDiff, not_false_eq_true, false_or, true_or, or_true, or_false, n0_e, n1_ne, n1_11, bI_z, bI_1, bI_fo, va_rf_some, aBk_1, aBk_0, nI_add, nI_mul, hk_si, hp_si, hl_si, hk_sp, hk_sl, hk_cp, hp_cp, il, reduceCtorEq, Nat.add_assoc]
end KR
