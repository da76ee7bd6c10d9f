set_option maxRecDepth 100000
/-! M: reading (14): tellLaw, tellFoes -/
/-- a law and its semicolon -/
def lawT (τ : aTok) (σ : aPs) : aEr (aPs × aLw) := eB (mustX τ σ 5) (ifT τ 4)
section M26
variable {d N b0 Bb k sd p b : Nat} {h h' : aH} {τ : aTok} {x : aEr aPs} {σ : aPs} {ν : aNs}
theorem mo_tellLaw (hv : ∀ j, tv_ τ j ≤ 9999) (h0 : b0 ≤ 420) (hb2 : Bb ≤ 260) (hs2 : sd < 2) (hk : k < 4) (hO : MO h τ N x) (hx : ∀ σ, x = .inr σ → hi_ h 458 108 = nI p ∧ p ≤ b0 + σ.1 ∧ σ.2.1 ≤ 6) (hb : hi_ h 458 102 = nI b) (hb1 : b + 6 ≤ Bb) (hs : hi_ h 458 85 = nI sd) :
    ∃ h', (∀ d, (run (d + 5) 175 0 [.ref 458, .int (nI k), aU, aU] [] h) = some (.returned none, h')) ∧ On (LLF p (b0 + 420) b Bb (4 * sd + k)) h h' ∧ MO h' τ N (stX (eB x (lawT τ))) ∧ ∀ q, eB x (lawT τ) = .inr q → hi_ h' 458 108 = nI (p + lnL q.2.1 + q.2.2.length) ∧ hi_ h' 458 102 = nI (b + q.2.1.length + 1) ∧ brP h' p b q.2.1 q.2.2 ∧ hi_ h' 479 (4 * sd + k) = nI b ∧ hi_ h' 480 (4 * sd + k) = nI (b + q.2.1.length + 1) := by
  have hM := hO.S
  obtain ⟨h1, r1, o1, O1⟩ := mo_must hO (k := 5) (by decide) (by decide) (by decide)
  have hM1 := O1.S
  have b1 : hi_ h1 458 102 = nI b := (o1.i (fun q => by unfold FP at q; omega)).trans hb
  have s1 : hi_ h1 458 85 = nI sd := (o1.i (fun q => by unfold FP at q; omega)).trans hs
  have o1' : On (LLF p (b0 + 420) b Bb (4 * sd + k)) h h1 := o1.mono (fun _ _ q => Or.inl (Or.inl q))
  have st : ∀ d, (run (d + 5) 175 0 [.ref 458, .int (nI k), aU, aU] [] h) = lwAt d 12 (nI k) (nI b) 0 h1 := fun d => by
    unfold lwAt
    simp only [e175_0, e175_1, e175_2, e175_5, e175_6, e175_9, e175_10, e175_11, e175_13, e175_16, e175_19, e175_20, e175_22, e175_25, e175_28, e175_29, e175_30, e175_33, e175_34, e175_35, e175_38, e175_39, e175_42, e175_45, e175_46, e175_49, e175_50, e175_53, e175_54, e175_57, e175_58, e175_61, e175_62, e175_62z, e175_63, e175_64, e175_67, e175_68, e175_71, e175_72, e175_75, e175_76, e175_77, e175_80, e175_81, e175_83, e175_86, e175_87, e175_90, e175_91, e175_94, e175_95, e175_98, e175_99, e175_100, e175_103, e175_106, e175_107, e175_110, e175_111, e175_113, e175_116, e175_117, e175_120, e175_121, e175_123, e175_126, e175_129, e175_130, e175_133, e175_134, e175_137, e175_138, e175_138z, e175_139, e175_140, e175_143, e175_144, e175_145, e175_148, e175_149, e175_152, e175_155, e175_156, e175_157, e175_160, e175_161, e175_162, e175_165, e175_166, e175_167, e175_168, e175_169, e175_170, e175_171, e175_174, e175_175, e175_176, e175_179, e175_180, e175_181, e175_182, e175_183, e175_186, e175_187, mk_458 hM, mp_100 hM, mk_479 hM, mp_101 hM, mk_480 hM, mp_103 hM, mk_481 hM, mp_104 hM, mk_482 hM, mp_105 hM, mk_483 hM, mk_458 hM1, mp_100 hM1, mk_479 hM1, mp_101 hM1, mk_480 hM1, mp_103 hM1, mk_481 hM1, mp_104 hM1, mk_482 hM1, mp_105 hM1, mk_483 hM1, ↓reduceIte, Nat.reduceAdd, Nat.reduceLeDiff, Nat.reduceLT, Nat.reduceEqDiff, not_false_eq_true, false_or, true_or, or_true, or_false, n0_e, n1_ne, n1_11, bI_z, bI_1, bI_fo, va_rf_some, aBk_1, aBk_0, nI_add, nI_mul, hk_si, hp_si, hl_si, hk_sp, hk_sl, hk_cp, hp_cp, r1, b1]
  have hxe : eB x (lawT τ) = eB (eB x (mustX τ · 5)) (ifT τ 4) := by cases x with
    | inl e => rfl
    | inr s => rfl
  rw [hxe]
  cases hy : eB x (mustX τ · 5) with
  | inl e =>
    rw [hy] at O1
    obtain ⟨h2, e2, o2, O2, -⟩ := tl_end (i := 0) (p := p) (k := k) (f0 := b) (x := .inl e) hv h0 O1 (fun s hs => by cases hs) b1 (by omega) s1 hs2 hk
    exact ⟨h2, fun d => (st d).trans (e2 d), o1'.trans (o2.mono (fun a f z => z.up (Nat.le_refl _) (Nat.le_refl _) (by omega))), O2, fun q hq => by cases hq⟩
  | inr s =>
    rw [hy] at O1
    obtain ⟨σ, e1, e2⟩ := eB_inr hy
    obtain ⟨-, -, es⟩ := must_inr e2
    obtain ⟨k1, k2, k3⟩ := hx σ e1
    have c1 : hi_ h1 458 108 = nI p := (o1.i (fun q => by unfold FP at q; omega)).trans k1
    have I := tl_loop (f0 := b) (b0 := b0) hv h0 hb2 hs2 hk 4 0 p b h1 s rfl O1 c1 (by rw [es]; show p ≤ b0 + (σ.1 + 1); omega) (by rw [es]; exact k3) b1 (by omega) s1
    show ∃ h', _ ∧ _ ∧ MO h' τ N (stX (ifT τ 4 s)) ∧ ∀ q, ifT τ 4 s = .inr q → _
    cases hz : ifT τ 4 s with
    | inl e =>
      rw [hz] at I
      obtain ⟨h2, e2, o2, f2⟩ := I
      exact ⟨h2, fun d => (st d).trans (e2 d), o1'.trans o2, f2, fun q hq => by cases hq⟩
    | inr q =>
      rw [hz] at I
      obtain ⟨h2, e2, o2, f2, g2⟩ := I
      exact ⟨h2, fun d => (st d).trans (e2 d), o1'.trans o2, f2, fun q' hq => by cases hq; exact g2⟩
theorem m_knownF {e1 e2 : Nat} (hF : MF h e1 e2) : (run (d + 3) 173 0 [.ref 458, aU, aU] [] h) = some (.returned (some (.int (-1))), h) := by
  have hM := hF.1
  have f3 := hF.2.2.2.2.1
  have fz : ¬ nI e1 ≤ 0 := nI_nle hF.2.2.1 (by have := hF.2.2.2.1; omega)
  simp only [e173_0, e173_1, e173_4, e173_5, e173_6, e173_7, e173_10, e173_11, e173_14, e173_17, e173_18, e173_19, e173_20, e173_22, e173_23, e173_26, e173_29, e173_30, e173_33, e173_34, e173_35, e173_36, e173_39, e173_40, e173_41, e173_42, e173_45, e173_46, e173_49, e173_50, e173_51, e173_53, e173_56, e173_57, e173_60, e173_61, e173_62, e173_64, e173_65, e173_66, e173_69, e173_72, e173_73, e173_74, e173_75, e173_78, e173_79, mk_458 hM, mp_74 hM, mk_464 hM, mp_87 hM, mk_466 hM, mp_88 hM, mk_467 hM, ↓reduceIte, Nat.reduceAdd, Nat.reduceLeDiff, Nat.reduceLT, Nat.reduceEqDiff, not_false_eq_true, false_or, true_or, or_true, or_false, n0_e, n1_ne, n1_11, bI_z, bI_1, bI_fo, va_rf_some, aBk_1, aBk_0, nI_add, nI_mul, hk_si, hp_si, hl_si, hk_sp, hk_sl, hk_cp, hp_cp, m_mustF hF, f3, fz]
/-- two names of guests: their numbers -/
def twoN (a b : Option Nat) : Option (Nat × Nat) := match a, b with
  | some g, some o => some (g, o)
  | _, _ => none
def foeW (f : Nat → Int32) (z : Option (Nat × Nat)) (σ : aPs) (j : Nat) : aPs := match z with
  | some (g, o) => if g = o ∨ shr_ (f g) (nI o) &&& nI 1 = nI 1 then wrongX σ 3 j else σ
  | none => σ
def foeX (τ : aTok) (ν : aNs) (f : Nat → Int32) (σ : aPs) : aEr (aPs × Option (Nat × Nat)) := eB (knX τ ν σ) fun s => eB (knX τ ν s) fun w => eB (mustX τ (foeW f (twoN (gueN ν (tn_ τ σ.1)) (gueN ν (tn_ τ s.1))) w s.1) 4) fun y => .inr (y, twoN (gueN ν (tn_ τ σ.1)) (gueN ν (tn_ τ s.1)))
/-- the foes behind it -/
def addF (f : Nat → Int32) (z : Option (Nat × Nat)) : Nat → Int32 := match z with
  | some (g, o) => up_ (up_ f g (f g ||| nI (2 ^ o))) o (up_ f g (f g ||| nI (2 ^ o)) o ||| nI (2 ^ g))
  | none => f
/-- what tellFoes writes -/
def FOF (sd a f : Nat) : Prop := FP a f ∨ (a = 476 ∧ f = sd) ∨ (a = 475 ∧ 7 * sd ≤ f ∧ f < 7 * sd + 7)
theorem kn_t {s : aPs} (hk : knX τ ν σ = .inr s) : s.1 = σ.1 + 1 ∧ knR τ ν σ = opI (gueN ν (tn_ τ σ.1)) := by
  unfold knX at hk
  obtain ⟨s1, h1, h2⟩ := eB_inr hk
  obtain ⟨-, -, e⟩ := must_inr h1
  unfold knR
  rw [h1]
  cases h2
  refine ⟨?_, rfl⟩
  cases gueN ν (tn_ τ σ.1) with
  | some k => rw [e]
  | none => show (wrongX s1 4 σ.1).1 = _; rw [wrong_t, e]
theorem opI_s {g : Nat} : opI (some g) = nI g := rfl
theorem opI_n : opI none = -1 := rfl
theorem m_tellFoes {f : Nat → Int32} {nf : Nat} (hR : MR h τ N σ) (hN : MN h ν) (hG : ∀ v g, gueN ν v = some g → g < 7) (hs : hi_ h 458 85 = nI sd) (hs2 : sd < 2) (hf : ∀ g, g < 7 → hi_ h 475 (7 * sd + g) = f g) (hn : hi_ h 476 sd = nI nf) : ∃ h', (∀ d, (run (d + 4) 172 0 [.ref 458, aU, aU, aU, aU] [] h) = some (.returned none, h')) ∧ On (FOF sd) h h' ∧ MO h' τ N (stX (foeX τ ν f σ)) ∧ ∀ q, foeX τ ν f σ = .inr q → (∀ g, g < 7 → hi_ h' 475 (7 * sd + g) = addF f q.2 g) ∧ hi_ h' 476 sd = nI (nf + 1) := by
  have hM := hR.1
  have h40 := hR.2.1.1
  obtain ⟨h1, r1, o1, O1⟩ := m_known hR hN
  have hM1 := O1.S
  have N1 := hN.on o1
  have m1f : (0 : Int32) ≤ -1 ↔ False := by decide
  have neg1 : (-1 : Int32) < 0 := by decide
  have FPm : ∀ a f, FP a f → FOF sd a f := fun _ _ q => Or.inl q
  unfold foeX
  cases hx : knX τ ν σ with
  | inl e =>
    rw [hx] at O1
    have hF : MF h1 e.1 e.2 := O1
    have f3 : hi_ h1 458 79 = nI e.1 := hF.2.2.2.2.1
    have fn : (nI e.1 = 0) = False := by have := hF.2.2.1; have := hF.2.2.2.1; rw [nI_z (by omega)]; exact eq_false (by omega)
    have fz : ¬ nI e.1 ≤ 0 := nI_nle hF.2.2.1 (by have := hF.2.2.2.1; omega)
    refine ⟨h1, fun d => ?_, o1.mono FPm, hF, fun q hq => by cases hq⟩
    simp only [e172_0, e172_1, e172_4, e172_5, e172_6, e172_9, e172_10, e172_11, e172_14, e172_15, e172_16, e172_19, e172_22, e172_23, e172_26, e172_27, e172_30, e172_31, e172_34, e172_35, e172_37, e172_39, e172_42, e172_43, e172_44, e172_47, e172_48, e172_51, e172_53, e172_54, e172_57, e172_58, e172_59, e172_60, e172_61, e172_62, e172_63, e172_64, e172_65, e172_66, e172_69, e172_70, e172_71, e172_72, e172_75, e172_76, e172_77, e172_80, e172_81, e172_84, e172_87, e172_88, e172_89, e172_92, e172_93, e172_96, e172_97, e172_98, e172_99, e172_100, e172_101, e172_103, e172_106, e172_107, e172_108, e172_111, e172_113, e172_114, e172_117, e172_118, e172_119, e172_120, e172_121, e172_122, e172_123, e172_124, e172_125, e172_126, e172_127, e172_128, e172_131, e172_133, e172_134, e172_137, e172_138, e172_139, e172_140, e172_141, e172_142, e172_143, e172_144, e172_145, e172_146, e172_147, mk_458 hM, mp_96 hM, mk_475 hM, mp_97 hM, mk_476 hM, mk_458 hM1, mp_96 hM1, mk_475 hM1, mp_97 hM1, mk_476 hM1, ↓reduceIte, Nat.reduceAdd, Nat.reduceLeDiff, Nat.reduceLT, Nat.reduceEqDiff, not_false_eq_true, false_or, true_or, or_true, or_false, n0_e, n1_ne, n1_11, bI_z, bI_1, bI_fo, va_rf_some, aBk_1, aBk_0, nI_add, nI_mul, hk_si, hp_si, hl_si, hk_sp, hk_sl, hk_cp, hp_cp, r1, m_knownF hF, f3, fn, fz, m_mustF hF]
  | inr s =>
    rw [hx] at O1
    have R1 : MR h1 τ N s := O1
    have t1 := R1.2.2.2.2.1
    obtain ⟨es, ekr⟩ := kn_t hx
    rw [ekr] at r1
    obtain ⟨h2, r2, o2, O2⟩ := m_known R1 N1
    have hM2 := O2.S
    show ∃ h', _ ∧ _ ∧ MO h' τ N (stX (eB (knX τ ν s) _)) ∧ ∀ q, eB (knX τ ν s) _ = .inr q → _
    cases hy : knX τ ν s with
    | inl e =>
      rw [hy] at O2
      have hF : MF h2 e.1 e.2 := O2
      have f3 : hi_ h2 458 79 = nI e.1 := hF.2.2.2.2.1
      have fn : (nI e.1 = 0) = False := by have := hF.2.2.1; have := hF.2.2.2.1; rw [nI_z (by omega)]; exact eq_false (by omega)
      have fz : ¬ nI e.1 ≤ 0 := nI_nle hF.2.2.1 (by have := hF.2.2.2.1; omega)
      refine ⟨h2, fun d => ?_, (o1.trans o2).mono FPm, hF, fun q hq => by cases hq⟩
      simp only [e172_0, e172_1, e172_4, e172_5, e172_6, e172_9, e172_10, e172_11, e172_14, e172_15, e172_16, e172_19, e172_22, e172_23, e172_26, e172_27, e172_30, e172_31, e172_34, e172_35, e172_37, e172_39, e172_42, e172_43, e172_44, e172_47, e172_48, e172_51, e172_53, e172_54, e172_57, e172_58, e172_59, e172_60, e172_61, e172_62, e172_63, e172_64, e172_65, e172_66, e172_69, e172_70, e172_71, e172_72, e172_75, e172_76, e172_77, e172_80, e172_81, e172_84, e172_87, e172_88, e172_89, e172_92, e172_93, e172_96, e172_97, e172_98, e172_99, e172_100, e172_101, e172_103, e172_106, e172_107, e172_108, e172_111, e172_113, e172_114, e172_117, e172_118, e172_119, e172_120, e172_121, e172_122, e172_123, e172_124, e172_125, e172_126, e172_127, e172_128, e172_131, e172_133, e172_134, e172_137, e172_138, e172_139, e172_140, e172_141, e172_142, e172_143, e172_144, e172_145, e172_146, e172_147, mk_458 hM, mp_96 hM, mk_475 hM, mp_97 hM, mk_476 hM, mk_458 hM1, mp_96 hM1, mk_475 hM1, mp_97 hM1, mk_476 hM1, mk_458 hM2, mp_96 hM2, mk_475 hM2, mp_97 hM2, mk_476 hM2, ↓reduceIte, Nat.reduceAdd, Nat.reduceLeDiff, Nat.reduceLT, Nat.reduceEqDiff, not_false_eq_true, false_or, true_or, or_true, or_false, n0_e, n1_ne, n1_11, bI_z, bI_1, bI_fo, va_rf_some, aBk_1, aBk_0, nI_add, nI_mul, hk_si, hp_si, hl_si, hk_sp, hk_sl, hk_cp, hp_cp, r1, t1, r2, f3, fn, fz, m_mustF hF]
    | inr w =>
      rw [hy] at O2
      have R2 : MR h2 τ N w := O2
      obtain ⟨ew, ekw⟩ := kn_t hy
      rw [ekw] at r2
      have f2 := R2.2.2.2.2.2.2.1
      have o12 : On FP h h2 := o1.trans o2
      have s2 : hi_ h2 458 85 = nI sd := (o12.i (fun q => by unfold FP at q; omega)).trans hs
      have fo2 : ∀ g, g < 7 → hi_ h2 475 (7 * sd + g) = f g := fun g hg => (o12.i (FP.ne (by decide))).trans (hf g hg)
      have sN : s.1 ≤ N := R1.2.2.2.1
      -- what may be wrong
      generalize hz : twoN (gueN ν (tn_ τ σ.1)) (gueN ν (tn_ τ s.1)) = z
      have W : ∃ h3, On FP h2 h3 ∧ MR h3 τ N (foeW f z w s.1) ∧ ∀ d, (run (d + 4) 172 0 [.ref 458, aU, aU, aU, aU] [] h) = (run (d + 4) 172 75 [.ref 458, .int (opI (gueN ν (tn_ τ σ.1))), .int (nI s.1), .int (opI (gueN ν (tn_ τ s.1))), .int (nI (if z.isSome = true then 1 else 0))] [] h3) := by
        cases hg : gueN ν (tn_ τ σ.1) with
        | none =>
          rw [hg] at hz r1
          have hz : z = none := hz.symm
          subst hz
          refine ⟨h2, On.refl, R2, fun d => ?_⟩
          simp only [e172_0, e172_1, e172_4, e172_5, e172_6, e172_9, e172_10, e172_11, e172_14, e172_15, e172_16, e172_19, e172_22, e172_23, e172_26, e172_27, e172_30, e172_31, e172_34, e172_35, e172_37, e172_39, e172_42, e172_43, e172_44, e172_47, e172_48, e172_51, e172_53, e172_54, e172_57, e172_58, e172_59, e172_60, e172_61, e172_62, e172_63, e172_64, e172_65, e172_66, e172_69, e172_70, e172_71, e172_72, e172_76, e172_77, e172_80, e172_81, e172_84, e172_87, e172_88, e172_89, e172_92, e172_93, e172_96, e172_97, e172_98, e172_99, e172_100, e172_101, e172_103, e172_106, e172_107, e172_108, e172_111, e172_113, e172_114, e172_117, e172_118, e172_119, e172_120, e172_121, e172_122, e172_123, e172_124, e172_125, e172_126, e172_127, e172_128, e172_131, e172_133, e172_134, e172_137, e172_138, e172_139, e172_140, e172_141, e172_142, e172_143, e172_144, e172_145, e172_146, e172_147, mk_458 hM, mp_96 hM, mk_475 hM, mp_97 hM, mk_476 hM, mk_458 hM1, mp_96 hM1, mk_475 hM1, mp_97 hM1, mk_476 hM1, mk_458 hM2, mp_96 hM2, mk_475 hM2, mp_97 hM2, mk_476 hM2, ↓reduceIte, Nat.reduceAdd, Nat.reduceLeDiff, Nat.reduceLT, Nat.reduceEqDiff, not_false_eq_true, false_or, true_or, or_true, or_false, n0_e, n1_ne, n1_11, bI_z, bI_1, bI_fo, va_rf_some, aBk_1, aBk_0, nI_add, nI_mul, hk_si, hp_si, hl_si, hk_sp, hk_sl, hk_cp, hp_cp, r1, t1, r2, f2, opI_n, neg1, Option.isSome_none, reduceCtorEq]
        | some g =>
          have hg7 := hG _ _ hg
          have gl : ¬ nI g < 0 := nI_pos (by omega)
          cases ho : gueN ν (tn_ τ s.1) with
          | none =>
            rw [hg, ho] at hz
            rw [hg] at r1
            rw [ho] at r2
            have hz : z = none := hz.symm
            subst hz
            refine ⟨h2, On.refl, R2, fun d => ?_⟩
            simp only [e172_0, e172_1, e172_4, e172_5, e172_6, e172_9, e172_10, e172_11, e172_14, e172_15, e172_16, e172_19, e172_22, e172_23, e172_26, e172_27, e172_30, e172_31, e172_34, e172_35, e172_37, e172_39, e172_42, e172_43, e172_44, e172_47, e172_48, e172_51, e172_53, e172_54, e172_57, e172_58, e172_59, e172_60, e172_61, e172_62, e172_63, e172_64, e172_65, e172_66, e172_69, e172_70, e172_71, e172_72, e172_76, e172_77, e172_80, e172_81, e172_84, e172_87, e172_88, e172_89, e172_92, e172_93, e172_96, e172_97, e172_98, e172_99, e172_100, e172_101, e172_103, e172_106, e172_107, e172_108, e172_111, e172_113, e172_114, e172_117, e172_118, e172_119, e172_120, e172_121, e172_122, e172_123, e172_124, e172_125, e172_126, e172_127, e172_128, e172_131, e172_133, e172_134, e172_137, e172_138, e172_139, e172_140, e172_141, e172_142, e172_143, e172_144, e172_145, e172_146, e172_147, mk_458 hM, mp_96 hM, mk_475 hM, mp_97 hM, mk_476 hM, mk_458 hM1, mp_96 hM1, mk_475 hM1, mp_97 hM1, mk_476 hM1, mk_458 hM2, mp_96 hM2, mk_475 hM2, mp_97 hM2, mk_476 hM2, ↓reduceIte, Nat.reduceAdd, Nat.reduceLeDiff, Nat.reduceLT, Nat.reduceEqDiff, not_false_eq_true, false_or, true_or, or_true, or_false, n0_e, n1_ne, n1_11, bI_z, bI_1, bI_fo, va_rf_some, aBk_1, aBk_0, nI_add, nI_mul, hk_si, hp_si, hl_si, hk_sp, hk_sl, hk_cp, hp_cp, r1, t1, r2, f2, opI_n, opI_s, gl, neg1, Option.isSome_none, reduceCtorEq]
          | some o =>
            rw [hg, ho] at hz
            rw [hg] at r1
            rw [ho] at r2
            have hz : z = some (g, o) := hz.symm
            subst hz
            have ho7 := hG _ _ ho
            have ol : ¬ nI o < 0 := nI_pos (by omega)
            have go : (nI g = nI o) = (g = o) := nI_eqL (by omega) (by omega)
            have g14 : 7 * sd + g < 14 := by omega
            obtain ⟨h3, r3, o3, R3⟩ := m_wrong R2 (c := 3) (j := s.1) (by decide) sN
            by_cases q : g = o ∨ shr_ (f g) (nI o) &&& nI 1 = nI 1
            · have ew' : foeW f (some (g, o)) w s.1 = wrongX w 3 s.1 := if_pos q
              rw [ew']
              refine ⟨h3, o3, R3, fun d => ?_⟩
              by_cases q1 : g = o
              · have go' : (nI g = nI o) = True := by rw [go]; exact eq_true q1
                simp only [e172_0, e172_1, e172_4, e172_5, e172_6, e172_9, e172_10, e172_11, e172_14, e172_15, e172_16, e172_19, e172_22, e172_23, e172_26, e172_27, e172_30, e172_31, e172_34, e172_35, e172_37, e172_39, e172_42, e172_43, e172_44, e172_47, e172_48, e172_51, e172_53, e172_54, e172_57, e172_58, e172_59, e172_60, e172_61, e172_62, e172_63, e172_64, e172_65, e172_66, e172_69, e172_70, e172_71, e172_72, e172_76, e172_77, e172_80, e172_81, e172_84, e172_87, e172_88, e172_89, e172_92, e172_93, e172_96, e172_97, e172_98, e172_99, e172_100, e172_101, e172_103, e172_106, e172_107, e172_108, e172_111, e172_113, e172_114, e172_117, e172_118, e172_119, e172_120, e172_121, e172_122, e172_123, e172_124, e172_125, e172_126, e172_127, e172_128, e172_131, e172_133, e172_134, e172_137, e172_138, e172_139, e172_140, e172_141, e172_142, e172_143, e172_144, e172_145, e172_146, e172_147, mk_458 hM, mp_96 hM, mk_475 hM, mp_97 hM, mk_476 hM, mk_458 hM1, mp_96 hM1, mk_475 hM1, mp_97 hM1, mk_476 hM1, mk_458 hM2, mp_96 hM2, mk_475 hM2, mp_97 hM2, mk_476 hM2, ↓reduceIte, Nat.reduceAdd, Nat.reduceLeDiff, Nat.reduceLT, Nat.reduceEqDiff, not_false_eq_true, false_or, true_or, or_true, or_false, n0_e, n1_ne, n1_11, bI_z, bI_1, bI_fo, va_rf_some, aBk_1, aBk_0, nI_add, nI_mul, hk_si, hp_si, hl_si, hk_sp, hk_sl, hk_cp, hp_cp, r1, t1, r2, f2, opI_s, gl, ol, go', r3, Option.isSome_some]
              · have q2 : (shr_ (f g) (nI o) &&& nI 1 = nI 1) = True := eq_true (q.resolve_left q1)
                simp only [e172_0, e172_1, e172_4, e172_5, e172_6, e172_9, e172_10, e172_11, e172_14, e172_15, e172_16, e172_19, e172_22, e172_23, e172_26, e172_27, e172_30, e172_31, e172_34, e172_35, e172_37, e172_39, e172_42, e172_43, e172_44, e172_47, e172_48, e172_51, e172_53, e172_54, e172_57, e172_58, e172_59, e172_60, e172_61, e172_62, e172_63, e172_64, e172_65, e172_66, e172_69, e172_70, e172_71, e172_72, e172_76, e172_77, e172_80, e172_81, e172_84, e172_87, e172_88, e172_89, e172_92, e172_93, e172_96, e172_97, e172_98, e172_99, e172_100, e172_101, e172_103, e172_106, e172_107, e172_108, e172_111, e172_113, e172_114, e172_117, e172_118, e172_119, e172_120, e172_121, e172_122, e172_123, e172_124, e172_125, e172_126, e172_127, e172_128, e172_131, e172_133, e172_134, e172_137, e172_138, e172_139, e172_140, e172_141, e172_142, e172_143, e172_144, e172_145, e172_146, e172_147, mk_458 hM, mp_96 hM, mk_475 hM, mp_97 hM, mk_476 hM, mk_458 hM1, mp_96 hM1, mk_475 hM1, mp_97 hM1, mk_476 hM1, mk_458 hM2, mp_96 hM2, mk_475 hM2, mp_97 hM2, mk_476 hM2, ↓reduceIte, Nat.reduceAdd, Nat.reduceLeDiff, Nat.reduceLT, Nat.reduceEqDiff, not_false_eq_true, false_or, true_or, or_true, or_false, n0_e, n1_ne, n1_11, bI_z, bI_1, bI_fo, va_rf_some, aBk_1, aBk_0, nI_add, nI_mul, hk_si, hp_si, hl_si, hk_sp, hk_sl, hk_cp, hp_cp, r1, t1, r2, f2, opI_s, gl, ol, go, q1, s2, g14, fo2 g hg7, q2, r3, Option.isSome_some]
            · have ew' : foeW f (some (g, o)) w s.1 = w := if_neg q
              rw [ew']
              have q1 : ¬ g = o := fun z => q (Or.inl z)
              have q2 : ¬ (shr_ (f g) (nI o) &&& nI 1 = nI 1) := fun z => q (Or.inr z)
              refine ⟨h2, On.refl, R2, fun d => ?_⟩
              simp only [e172_0, e172_1, e172_4, e172_5, e172_6, e172_9, e172_10, e172_11, e172_14, e172_15, e172_16, e172_19, e172_22, e172_23, e172_26, e172_27, e172_30, e172_31, e172_34, e172_35, e172_37, e172_39, e172_42, e172_43, e172_44, e172_47, e172_48, e172_51, e172_53, e172_54, e172_57, e172_58, e172_59, e172_60, e172_61, e172_62, e172_63, e172_64, e172_65, e172_66, e172_69, e172_70, e172_71, e172_72, e172_76, e172_77, e172_80, e172_81, e172_84, e172_87, e172_88, e172_89, e172_92, e172_93, e172_96, e172_97, e172_98, e172_99, e172_100, e172_101, e172_103, e172_106, e172_107, e172_108, e172_111, e172_113, e172_114, e172_117, e172_118, e172_119, e172_120, e172_121, e172_122, e172_123, e172_124, e172_125, e172_126, e172_127, e172_128, e172_131, e172_133, e172_134, e172_137, e172_138, e172_139, e172_140, e172_141, e172_142, e172_143, e172_144, e172_145, e172_146, e172_147, mk_458 hM, mp_96 hM, mk_475 hM, mp_97 hM, mk_476 hM, mk_458 hM1, mp_96 hM1, mk_475 hM1, mp_97 hM1, mk_476 hM1, mk_458 hM2, mp_96 hM2, mk_475 hM2, mp_97 hM2, mk_476 hM2, ↓reduceIte, Nat.reduceAdd, Nat.reduceLeDiff, Nat.reduceLT, Nat.reduceEqDiff, not_false_eq_true, false_or, true_or, or_true, or_false, n0_e, n1_ne, n1_11, bI_z, bI_1, bI_fo, va_rf_some, aBk_1, aBk_0, nI_add, nI_mul, hk_si, hp_si, hl_si, hk_sp, hk_sl, hk_cp, hp_cp, r1, t1, r2, f2, opI_s, gl, ol, go, q1, s2, g14, fo2 g hg7, q2, Option.isSome_some]
      obtain ⟨h3, o3, R3, st⟩ := W
      have hM3 := R3.1
      obtain ⟨h4, r4, o4, O4⟩ := m_must R3 (k := 4) (by decide) (by decide) (by decide)
      have hM4 := O4.S
      have o14 : On FP h h4 := (o12.trans o3).trans o4
      show ∃ h', _ ∧ _ ∧ MO h' τ N (stX (eB (mustX τ (foeW f z w s.1) 4) _)) ∧ ∀ q, eB (mustX τ (foeW f z w s.1) 4) _ = .inr q → _
      cases hm : mustX τ (foeW f z w s.1) 4 with
      | inl e =>
        rw [hm] at O4
        have hF : MF h4 e.1 e.2 := O4
        have f3 : hi_ h4 458 79 = nI e.1 := hF.2.2.2.2.1
        have fz : ¬ nI e.1 ≤ 0 := nI_nle hF.2.2.1 (by have := hF.2.2.2.1; omega)
        refine ⟨h4, fun d => (st d).trans ?_, o14.mono FPm, hF, fun q hq => by cases hq⟩
        simp only [e172_75, e172_76, e172_77, e172_80, e172_81, e172_84, e172_87, e172_88, e172_89, mk_458 hM3, mp_96 hM3, mk_475 hM3, mp_97 hM3, mk_476 hM3, mk_458 hM4, mp_96 hM4, mk_475 hM4, mp_97 hM4, mk_476 hM4, ↓reduceIte, Nat.reduceAdd, Nat.reduceLeDiff, Nat.reduceLT, Nat.reduceEqDiff, not_false_eq_true, false_or, true_or, or_true, or_false, n0_e, n1_ne, n1_11, bI_z, bI_1, bI_fo, va_rf_some, aBk_1, aBk_0, nI_add, nI_mul, hk_si, hp_si, hl_si, hk_sp, hk_sl, hk_cp, hp_cp, r4, f3, fz]
      | inr y =>
        rw [hm] at O4
        have R4 : MR h4 τ N y := O4
        have f4 := R4.2.2.2.2.2.2.1
        have hle0 : nI 0 ≤ 0 := by decide
        have s4 : hi_ h4 458 85 = nI sd := (o14.i (fun q => by unfold FP at q; omega)).trans hs
        have n4 : hi_ h4 476 sd = nI nf := (o14.i (FP.ne (by decide))).trans hn
        have fo4 : ∀ g, g < 7 → hi_ h4 475 (7 * sd + g) = f g := fun g hg => (o14.i (FP.ne (by decide))).trans (hf g hg)
        have oN : On (fun a f => a = 476 ∧ f = sd) h4 (si_ h4 476 sd (nI (nf + 1))) := On.si ⟨rfl, rfl⟩
        cases z with
        | none =>
          refine ⟨_, fun d => (st d).trans ?_, (o14.mono FPm).trans (oN.mono (fun a f q => Or.inr (Or.inl q))), R4.ol (oN.OL (L := fun _ => False)) (fun a f q => by omega) (fun q => q), fun q hq => ?_⟩
          · simp only [e172_75, e172_76, e172_77, e172_80, e172_81, e172_84, e172_87, e172_88, e172_89, e172_92, e172_93, e172_96, e172_97, e172_98, e172_99, e172_100, e172_101, e172_103, e172_106, mk_458 hM3, mp_96 hM3, mk_475 hM3, mp_97 hM3, mk_476 hM3, mk_458 hM4, mp_96 hM4, mk_475 hM4, mp_97 hM4, mk_476 hM4, ↓reduceIte, Nat.reduceAdd, Nat.reduceLeDiff, Nat.reduceLT, Nat.reduceEqDiff, not_false_eq_true, false_or, true_or, or_true, or_false, n0_e, n1_ne, n1_11, bI_z, bI_1, bI_fo, va_rf_some, aBk_1, aBk_0, nI_add, nI_mul, hk_si, hp_si, hl_si, hk_sp, hk_sl, hk_cp, hp_cp, r4, f4, hle0, s4, hs2, n4, Option.isSome_none, Option.isSome_some, reduceCtorEq]
          · cases hq
            exact ⟨fun g hg => (oN.i (fun q => by omega)).trans (fo4 g hg), hi_same⟩
        | some go =>
          obtain ⟨g, o⟩ := go
          obtain ⟨hg, ho⟩ : gueN ν (tn_ τ σ.1) = some g ∧ gueN ν (tn_ τ s.1) = some o := by
            revert hz
            cases gueN ν (tn_ τ σ.1) with
            | none => intro hz; cases hz
            | some a => cases gueN ν (tn_ τ s.1) with
              | none => intro hz; cases hz
              | some b => intro hz; cases hz; exact ⟨rfl, rfl⟩
          have hg7 := hG _ _ hg
          have ho7 := hG _ _ ho
          have g14 : 7 * sd + g < 14 := by omega
          have o14' : 7 * sd + o < 14 := by omega
          have x1 := shl_1 g (by omega)
          have x2 := shl_1 o (by omega)
          have oF : On (fun a f => (a = 475 ∧ 7 * sd ≤ f ∧ f < 7 * sd + 7) ∨ (a = 476 ∧ f = sd)) h4 (si_ (si_ (si_ h4 476 sd (nI (nf + 1))) 475 (7 * sd + g) (f g ||| nI (2 ^ o))) 475 (7 * sd + o) (up_ f g (f g ||| nI (2 ^ o)) o ||| nI (2 ^ g))) := ((On.si (Or.inr ⟨rfl, rfl⟩)).trans (On.si (Or.inl ⟨rfl, by omega, by omega⟩))).trans (On.si (Or.inl ⟨rfl, by omega, by omega⟩))
          have g1 : hi_ (si_ h4 476 sd (nI (nf + 1))) 475 (7 * sd + g) = f g := (hi_ne (by omega)).trans (fo4 g hg7)
          have s5 : hi_ (si_ h4 476 sd (nI (nf + 1))) 458 85 = nI sd := (hi_ne (by omega)).trans s4
          have s6 : hi_ (si_ (si_ h4 476 sd (nI (nf + 1))) 475 (7 * sd + g) (f g ||| nI (2 ^ o))) 458 85 = nI sd := (hi_ne (by omega)).trans s5
          have g2 : hi_ (si_ (si_ h4 476 sd (nI (nf + 1))) 475 (7 * sd + g) (f g ||| nI (2 ^ o))) 475 (7 * sd + o) = up_ f g (f g ||| nI (2 ^ o)) o := by
            unfold up_
            by_cases q : o = g
            · rw [if_pos q, q]; exact hi_same
            · rw [if_neg q, hi_ne (by omega), hi_ne (by omega)]; exact fo4 o ho7
          rw [hg, ho] at st
          refine ⟨_, fun d => (st d).trans ?_, (o14.mono FPm).trans (oF.mono (fun a f q => Or.inr q.symm)), R4.ol (oF.OL (L := fun _ => False)) (fun a f q => by omega) (fun q => q), fun q hq => ?_⟩
          · simp only [e172_75, e172_76, e172_77, e172_80, e172_81, e172_84, e172_87, e172_88, e172_89, e172_92, e172_93, e172_96, e172_97, e172_98, e172_99, e172_100, e172_101, e172_103, e172_106, e172_107, e172_108, e172_111, e172_113, e172_114, e172_117, e172_118, e172_119, e172_120, e172_121, e172_122, e172_123, e172_124, e172_125, e172_126, e172_127, e172_128, e172_131, e172_133, e172_134, e172_137, e172_138, e172_139, e172_140, e172_141, e172_142, e172_143, e172_144, e172_145, e172_146, e172_147, mk_458 hM3, mp_96 hM3, mk_475 hM3, mp_97 hM3, mk_476 hM3, mk_458 hM4, mp_96 hM4, mk_475 hM4, mp_97 hM4, mk_476 hM4, ↓reduceIte, Nat.reduceAdd, Nat.reduceLeDiff, Nat.reduceLT, Nat.reduceEqDiff, not_false_eq_true, false_or, true_or, or_true, or_false, n0_e, n1_ne, n1_11, bI_z, bI_1, bI_fo, va_rf_some, aBk_1, aBk_0, nI_add, nI_mul, hk_si, hp_si, hl_si, hk_sp, hk_sl, hk_cp, hp_cp, r4, f4, hle0, s4, hs2, n4, Option.isSome_none, Option.isSome_some, reduceCtorEq, opI_s, g14, o14', x1, x2, g1, g2, s5, s6]
          · cases hq
            refine ⟨fun k hk => ?_, ?_⟩
            · show _ = up_ (up_ f g (f g ||| nI (2 ^ o))) o (up_ f g (f g ||| nI (2 ^ o)) o ||| nI (2 ^ g)) k
              by_cases q : k = o
              · rw [q, hi_same]; exact (if_pos rfl).symm
              · rw [hi_ne (by omega)]
                refine Eq.trans ?_ (if_neg q).symm
                by_cases q2 : k = g
                · rw [q2, hi_same]; exact (if_pos rfl).symm
                · rw [hi_ne (by omega), hi_ne (by omega)]
                  exact (fo4 k hk).trans (if_neg q2).symm
            · rw [hi_ne (by omega), hi_ne (by omega)]; exact hi_same
end M26
