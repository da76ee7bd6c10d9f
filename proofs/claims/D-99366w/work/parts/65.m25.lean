set_option maxRecDepth 100000
/-! M: reading (13): a law -/
def brP (h : aH) : Nat → Nat → List (cdT × cdT × cdT) → cdT → Prop
  | p, b, [], e => hi_ h 481 b = 0 ∧ hi_ h 484 b = nI p ∧ hi_ h 485 b = nI (p + e.length) ∧ cdM h p e
  | p, b, q :: l, e => br1 h p b q ∧ brP h (p + ln3 q) (b + 1) l e
theorem br1.ag {h h' : aH} {p b : Nat} {q : cdT × cdT × cdT} (hb : br1 h p b q) (h1 : ∀ f, p ≤ f → f < p + ln3 q → hi_ h' 486 f = hi_ h 486 f ∧ hi_ h' 487 f = hi_ h 487 f) (h2 : ∀ a, 481 ≤ a → a ≤ 485 → hi_ h' a b = hi_ h a b) : br1 h' p b q := by
  obtain ⟨a1, a2, a3, a4, a5, a6, a7, a8⟩ := hb
  have e : ln3 q = q.1.length + q.2.1.length + q.2.2.length := rfl
  refine ⟨(h2 _ (by decide) (by decide)).trans a1, (h2 _ (by decide) (by decide)).trans a2, (h2 _ (by decide) (by decide)).trans a3, (h2 _ (by decide) (by decide)).trans a4, (h2 _ (by decide) (by decide)).trans a5, a6.ag (fun f f1 f2 => h1 f (by omega) (by omega)), a7.ag (fun f f1 f2 => h1 f (by omega) (by omega)), a8.ag (fun f f1 f2 => h1 f (by omega) (by omega))⟩
theorem brP.ag {h h' : aH} {e : cdT} : ∀ {l : List (cdT × cdT × cdT)} {p b : Nat}, brP h p b l e → (∀ f, p ≤ f → f < p + lnL l + e.length → hi_ h' 486 f = hi_ h 486 f ∧ hi_ h' 487 f = hi_ h 487 f) → (∀ a f, 481 ≤ a → a ≤ 485 → b ≤ f → f < b + l.length + 1 → hi_ h' a f = hi_ h a f) → brP h' p b l e
  | [], p, b, hb, h1, h2 => by
    obtain ⟨a1, a2, a3, a4⟩ := hb
    have z : lnL [] = 0 := rfl
    have z2 : ([] : List (cdT × cdT × cdT)).length = 0 := rfl
    rw [z] at h1
    rw [z2] at h2
    exact ⟨(h2 _ _ (by decide) (by decide) (by omega) (by omega)).trans a1, (h2 _ _ (by decide) (by decide) (by omega) (by omega)).trans a2, (h2 _ _ (by decide) (by decide) (by omega) (by omega)).trans a3, a4.ag (fun f f1 f2 => h1 f (by omega) (by omega))⟩
  | q :: l, p, b, hb, h1, h2 => by
    have z : lnL (q :: l) = ln3 q + lnL l := rfl
    rw [z] at h1
    rw [List.length_cons] at h2
    exact ⟨hb.1.ag (fun f f1 f2 => h1 f (by omega) (by omega)) (fun a f1 f2 => h2 a b f1 f2 (by omega) (by omega)), hb.2.ag (fun f f1 f2 => h1 f (by omega) (by omega)) (fun a f f1 f2 f3 f4 => h2 a f f1 f2 (by omega) (by omega))⟩
theorem brP.M {h : aH} {e : cdT} : ∀ {l : List (cdT × cdT × cdT)} {p b : Nat}, brP h p b l e → b + l.length < 260 → brM h b l e
  | [], p, b, hb, h1 => ⟨h1, hb.1, p, hb.2.1, hb.2.2.1, hb.2.2.2⟩
  | (x, y, z) :: l, p, b, hb, h1 => by
    rw [List.length_cons] at h1
    obtain ⟨⟨a1, a2, a3, a4, a5, a6, a7, a8⟩, hr⟩ := hb
    exact ⟨by omega, a1, ⟨p, _, _, a2, a3, a4, rfl, rfl, a5, a6, a7, a8⟩, hr.M (by omega)⟩
/-- what a law writes -/
def LLF (p B b Bb q a f : Nat) : Prop := EXs p B a f ∨ (a = 458 ∧ f = 102) ∨ (481 ≤ a ∧ a ≤ 485 ∧ b ≤ f ∧ f < Bb) ∨ ((a = 479 ∨ a = 480) ∧ f = q)
section M25
variable {d N b0 Bb k sd f0 : Nat} {h h' : aH} {τ : aTok} {x : aEr aPs} {σ : aPs}
theorem tl_end {p b i : Nat} (hv : ∀ j, tv_ τ j ≤ 9999) (h0 : b0 ≤ 420) (hO : MO h τ N x) (hx : ∀ σ, x = .inr σ → tk_ τ σ.1 ≠ 29 ∧ hi_ h 458 108 = nI p ∧ p ≤ b0 + σ.1 ∧ σ.2.1 ≤ 6) (hb : hi_ h 458 102 = nI b) (hb1 : b < 260) (hs : hi_ h 458 85 = nI sd) (hs2 : sd < 2) (hk : k < 4) :
    ∃ h', (∀ d, lwAt d 12 (nI k) (nI f0) i h = some (.returned none, h')) ∧ On (LLF p (b0 + 420) b (b + 1) (4 * sd + k)) h h' ∧ MO h' τ N (eB (stX (eB x (sumX τ))) (mustX τ · 4)) ∧ ∀ q s, eB x (sumX τ) = .inr q → mustX τ q.1 4 = .inr s → hi_ h' 458 108 = nI (p + q.2.length) ∧ hi_ h' 458 102 = nI (b + 1) ∧ brP h' p b [] q.2 ∧ hi_ h' 479 (4 * sd + k) = nI f0 ∧ hi_ h' 480 (4 * sd + k) = nI (b + 1) := by
  have hM := hO.S
  have o1 : On (fun a f => a = 481 ∧ f = b) h (si_ h 481 b (nI 0)) := On.si ⟨rfl, rfl⟩
  have v1 : hi_ (si_ h 481 b (nI 0)) 481 b = nI 0 := hi_same
  have st1 : ∀ d, lwAt d 12 (nI k) (nI f0) i h = lwAt d 139 (nI k) (nI f0) i (si_ h 481 b (nI 0)) := fun d => by
    unfold lwAt
    refine (e175_12).trans ?_
    cases x with
    | inl e =>
      have hF : MF h e.1 e.2 := hO
      have f3 : hi_ h 458 79 = nI e.1 := hF.2.2.2.2.1
      have fn : (nI e.1 = 0) = False := by have := hF.2.2.1; have := hF.2.2.2.1; rw [nI_z (by omega)]; exact eq_false (by omega)
      simp only [e175_0, e175_1, e175_2, e175_5, e175_6, e175_9, e175_10, e175_11, e175_13, e175_16, e175_19, e175_20, e175_22, e175_25, e175_28, e175_29, e175_30, e175_33, e175_34, e175_35, e175_38, e175_39, e175_42, e175_45, e175_46, e175_49, e175_50, e175_53, e175_54, e175_57, e175_58, e175_61, e175_62, e175_62z, e175_63, e175_64, e175_67, e175_68, e175_71, e175_72, e175_75, e175_76, e175_77, e175_80, e175_81, e175_83, e175_86, e175_87, e175_90, e175_91, e175_94, e175_95, e175_98, e175_99, e175_100, e175_103, e175_106, e175_107, e175_110, e175_111, e175_113, e175_116, e175_117, e175_120, e175_121, e175_123, e175_126, e175_129, e175_130, e175_133, e175_134, e175_137, e175_138, e175_138z, e175_140, e175_143, e175_144, e175_145, e175_148, e175_149, e175_152, e175_155, e175_156, e175_157, e175_160, e175_161, e175_162, e175_165, e175_166, e175_167, e175_168, e175_169, e175_170, e175_171, e175_174, e175_175, e175_176, e175_179, e175_180, e175_181, e175_182, e175_183, e175_186, e175_187, mk_458 hM, mp_100 hM, mk_479 hM, mp_101 hM, mk_480 hM, mp_103 hM, mk_481 hM, mp_104 hM, mk_482 hM, mp_105 hM, mk_483 hM, ↓reduceIte, Nat.reduceAdd, Nat.reduceLeDiff, Nat.reduceLT, Nat.reduceEqDiff, not_false_eq_true, false_or, true_or, or_true, or_false, n0_e, n1_ne, n1_11, bI_z, bI_1, bI_fo, va_rf_some, aBk_1, aBk_0, nI_add, nI_mul, hk_si, hp_si, hl_si, hk_sp, hk_sl, hk_cp, hp_cp, f3, fn, hb, hb1]
    | inr s =>
      have hF : MR h τ N s := hO
      have f3 := hF.2.2.2.2.2.2.1
      have ei := fun d => m_is (d := d) hF (k := 29) (by decide)
      rw [decide_eq_false (hx s rfl).1] at ei
      simp only [e175_0, e175_1, e175_2, e175_5, e175_6, e175_9, e175_10, e175_11, e175_13, e175_16, e175_19, e175_20, e175_22, e175_25, e175_28, e175_29, e175_30, e175_33, e175_34, e175_35, e175_38, e175_39, e175_42, e175_45, e175_46, e175_49, e175_50, e175_53, e175_54, e175_57, e175_58, e175_61, e175_62, e175_62z, e175_63, e175_64, e175_67, e175_68, e175_71, e175_72, e175_75, e175_76, e175_77, e175_80, e175_81, e175_83, e175_86, e175_87, e175_90, e175_91, e175_94, e175_95, e175_98, e175_99, e175_100, e175_103, e175_106, e175_107, e175_110, e175_111, e175_113, e175_116, e175_117, e175_120, e175_121, e175_123, e175_126, e175_129, e175_130, e175_133, e175_134, e175_137, e175_138, e175_138z, e175_140, e175_143, e175_144, e175_145, e175_148, e175_149, e175_152, e175_155, e175_156, e175_157, e175_160, e175_161, e175_162, e175_165, e175_166, e175_167, e175_168, e175_169, e175_170, e175_171, e175_174, e175_175, e175_176, e175_179, e175_180, e175_181, e175_182, e175_183, e175_186, e175_187, mk_458 hM, mp_100 hM, mk_479 hM, mp_101 hM, mk_480 hM, mp_103 hM, mk_481 hM, mp_104 hM, mk_482 hM, mp_105 hM, mk_483 hM, ↓reduceIte, Nat.reduceAdd, Nat.reduceLeDiff, Nat.reduceLT, Nat.reduceEqDiff, not_false_eq_true, false_or, true_or, or_true, or_false, n0_e, n1_ne, n1_11, bI_z, bI_1, bI_fo, va_rf_some, aBk_1, aBk_0, nI_add, nI_mul, hk_si, hp_si, hl_si, hk_sp, hk_sl, hk_cp, hp_cp, f3, ei, hb, hb1]
  generalize si_ h 481 b (nI 0) = h1 at o1 v1 st1
  have O1 := hO.on_nf o1 (fun a f q => by omega)
  have hM1 := O1.S
  have b1 : hi_ h1 458 102 = nI b := (o1.i (fun q => by omega)).trans hb
  obtain ⟨h2, r2, o2, O2, b2, g2⟩ := mo_term (p := p) hv h0 O1 (fun s hs => ⟨(o1.i (fun q => by omega)).trans (hx s hs).2.1, (hx s hs).2.2⟩) b1 hb1
  have hM2 := O2.S
  obtain ⟨h3, r3, o3, O3⟩ := mo_must O2 (k := 4) (by decide) (by decide) (by decide)
  have hM3 := O3.S
  have b3 : hi_ h3 458 102 = nI (b + 1) := (o3.i (fun q => by unfold FP at q; omega)).trans b2
  have s3 : hi_ h3 458 85 = nI sd := by rw [o3.i (fun q => by unfold FP at q; omega), o2.i (fun q => by unfold TRF EXs FP CO at q; omega), o1.i (fun q => by omega)]; exact hs
  have o13 : On (LLF p (b0 + 420) b (b + 1) (4 * sd + k)) h h3 := ((o1.mono (fun a f q => by unfold LLF; omega)).trans (o2.mono (fun a f q => by unfold TRF at q; unfold LLF; exact q.elim Or.inl (fun z => Or.inr (by omega))))).trans (o3.mono (fun _ _ q => Or.inl (Or.inl q)))
  have hle0 : nI 0 ≤ 0 := by decide
  cases hy : eB (stX (eB x (sumX τ))) (mustX τ · 4) with
  | inl e =>
    rw [hy] at O3
    have hF : MF h3 e.1 e.2 := O3
    have f3 : hi_ h3 458 79 = nI e.1 := hF.2.2.2.2.1
    have fz : ¬ nI e.1 ≤ 0 := nI_nle hF.2.2.1 (by have := hF.2.2.2.1; omega)
    refine ⟨h3, fun d => (st1 d).trans ?_, o13, hF, fun q s q1 q2 => ?_⟩
    · unfold lwAt
      simp only [e175_139, e175_140, e175_143, e175_144, e175_145, e175_148, e175_149, e175_152, e175_155, e175_156, e175_157, e175_160, e175_161, e175_162, e175_165, e175_166, e175_167, e175_168, e175_169, e175_170, e175_171, e175_174, e175_175, e175_176, e175_179, e175_180, e175_181, e175_182, e175_183, e175_186, e175_187, mk_458 hM1, mp_100 hM1, mk_479 hM1, mp_101 hM1, mk_480 hM1, mp_103 hM1, mk_481 hM1, mp_104 hM1, mk_482 hM1, mp_105 hM1, mk_483 hM1, mk_458 hM2, mp_100 hM2, mk_479 hM2, mp_101 hM2, mk_480 hM2, mp_103 hM2, mk_481 hM2, mp_104 hM2, mk_482 hM2, mp_105 hM2, mk_483 hM2, mk_458 hM3, mp_100 hM3, mk_479 hM3, mp_101 hM3, mk_480 hM3, mp_103 hM3, mk_481 hM3, mp_104 hM3, mk_482 hM3, mp_105 hM3, mk_483 hM3, ↓reduceIte, Nat.reduceAdd, Nat.reduceLeDiff, Nat.reduceLT, Nat.reduceEqDiff, not_false_eq_true, false_or, true_or, or_true, or_false, n0_e, n1_ne, n1_11, bI_z, bI_1, bI_fo, va_rf_some, aBk_1, aBk_0, nI_add, nI_mul, hk_si, hp_si, hl_si, hk_sp, hk_sl, hk_cp, hp_cp, r2, r3, f3, fz]
    · exfalso
      rw [q1] at hy
      have : mustX τ q.1 4 = .inl e := hy
      rw [q2] at this; cases this
  | inr s =>
    rw [hy] at O3
    have hF : MR h3 τ N s := O3
    have f3 := hF.2.2.2.2.2.2.1
    have gk : 4 * sd + k < 8 := by omega
    have o4 : On (fun a f => (a = 479 ∨ a = 480) ∧ f = 4 * sd + k) h3 (si_ (si_ h3 479 (4 * sd + k) (nI f0)) 480 (4 * sd + k) (nI (b + 1))) := (On.si ⟨Or.inl rfl, rfl⟩).trans (On.si ⟨Or.inr rfl, rfl⟩)
    have v4 : hi_ (si_ (si_ h3 479 (4 * sd + k) (nI f0)) 480 (4 * sd + k) (nI (b + 1))) 479 (4 * sd + k) = nI f0 := (hi_ne (by omega)).trans hi_same
    have w4 : hi_ (si_ (si_ h3 479 (4 * sd + k) (nI f0)) 480 (4 * sd + k) (nI (b + 1))) 480 (4 * sd + k) = nI (b + 1) := hi_same
    refine ⟨_, fun d => (st1 d).trans ?_, o13.trans (o4.mono (fun a f q => Or.inr (Or.inr (Or.inr q)))), MR.ol hF (o4.OL (L := fun _ => False)) (fun a f q => by omega) (fun q => q), fun q s' q1 q2 => ?_⟩
    · unfold lwAt
      simp only [e175_139, e175_140, e175_143, e175_144, e175_145, e175_148, e175_149, e175_152, e175_155, e175_156, e175_157, e175_160, e175_161, e175_162, e175_165, e175_166, e175_167, e175_168, e175_169, e175_170, e175_171, e175_174, e175_175, e175_176, e175_179, e175_180, e175_181, e175_182, e175_183, e175_186, e175_187, mk_458 hM1, mp_100 hM1, mk_479 hM1, mp_101 hM1, mk_480 hM1, mp_103 hM1, mk_481 hM1, mp_104 hM1, mk_482 hM1, mp_105 hM1, mk_483 hM1, mk_458 hM2, mp_100 hM2, mk_479 hM2, mp_101 hM2, mk_480 hM2, mp_103 hM2, mk_481 hM2, mp_104 hM2, mk_482 hM2, mp_105 hM2, mk_483 hM2, mk_458 hM3, mp_100 hM3, mk_479 hM3, mp_101 hM3, mk_480 hM3, mp_103 hM3, mk_481 hM3, mp_104 hM3, mk_482 hM3, mp_105 hM3, mk_483 hM3, ↓reduceIte, Nat.reduceAdd, Nat.reduceLeDiff, Nat.reduceLT, not_false_eq_true, false_or, true_or, or_true, or_false, n0_e, n1_ne, n1_11, bI_z, bI_1, bI_fo, va_rf_some, aBk_1, aBk_0, nI_add, nI_mul, hk_si, hp_si, hl_si, hk_sp, hk_sl, hk_cp, hp_cp, r2, r3, f3, hle0, s3, b3, gk, hi_si, Nat.reduceEqDiff, false_and, true_and, and_false, and_true]
    · obtain ⟨k1, k2, k3, k4⟩ := g2 q q1
      refine ⟨?_, ?_, ⟨?_, ?_, ?_, ?_⟩, v4, w4⟩
      · rw [o4.i (fun q => by omega), o3.i (fun q => by unfold FP at q; omega)]; exact k1
      · rw [o4.i (fun q => by omega)]; exact b3
      · rw [o4.i (fun q => by omega), o3.i (fun q => by unfold FP at q; omega), o2.i (fun q => by unfold TRF EXs FP CO at q; omega)]; exact v1
      · rw [o4.i (fun q => by omega), o3.i (fun q => by unfold FP at q; omega)]; exact k3
      · rw [o4.i (fun q => by omega), o3.i (fun q => by unfold FP at q; omega)]; exact k4
      · exact (k2.on o3 (fun f _ _ => ⟨fun q => by unfold FP at q; omega, fun q => by unfold FP at q; omega⟩)).on o4 (fun f _ _ => ⟨fun q => by omega, fun q => by omega⟩)
/-- what follows in a law, and the semicolon -/
def ifT (τ : aTok) (r : Nat) (σ : aPs) : aEr (aPs × aLw) := eB (ifX τ r σ) fun q => eB (mustX τ q.1 4) fun s => .inr (s, q.2)
def LwR (τ : aTok) (N b0 Bb sd k f0 i p b : Nat) (h : aH) (y : aEr (aPs × aLw)) : Prop := match y with
  | .inl e => ∃ h', (∀ d, lwAt d 12 (nI k) (nI f0) i h = some (.returned none, h')) ∧ On (LLF p (b0 + 420) b Bb (4 * sd + k)) h h' ∧ MF h' e.1 e.2
  | .inr q => ∃ h', (∀ d, lwAt d 12 (nI k) (nI f0) i h = some (.returned none, h')) ∧ On (LLF p (b0 + 420) b Bb (4 * sd + k)) h h' ∧ MR h' τ N q.1 ∧ hi_ h' 458 108 = nI (p + lnL q.2.1 + q.2.2.length) ∧ hi_ h' 458 102 = nI (b + q.2.1.length + 1) ∧ brP h' p b q.2.1 q.2.2 ∧ hi_ h' 479 (4 * sd + k) = nI f0 ∧ hi_ h' 480 (4 * sd + k) = nI (b + q.2.1.length + 1)
theorem LLF.up {p p' B b b' Bb Bb' q a f : Nat} (hp : p ≤ p') (hb : b ≤ b') (hB : Bb' ≤ Bb) (z : LLF p' B b' Bb' q a f) : LLF p B b Bb q a f := by
  unfold LLF at *
  rcases z with z | z | z | z
  · exact Or.inl (z.mono hp)
  · exact Or.inr (Or.inl z)
  · exact Or.inr (Or.inr (Or.inl (by omega)))
  · exact Or.inr (Or.inr (Or.inr z))
theorem tl_stop {p b i : Nat} (hv : ∀ j, tv_ τ j ≤ 9999) (h0 : b0 ≤ 420) (hR : MR h τ N σ) (h29 : tk_ τ σ.1 ≠ 29) (hc : hi_ h 458 108 = nI p) (hp : p ≤ b0 + σ.1) (h6 : σ.2.1 ≤ 6) (hb : hi_ h 458 102 = nI b) (hb1 : b < Bb) (hb2 : Bb ≤ 260) (hs : hi_ h 458 85 = nI sd) (hs2 : sd < 2) (hk : k < 4) :
    LwR τ N b0 Bb sd k f0 i p b h (eB (eB (sumX τ σ) fun q => .inr (q.1, (([] : List (cdT × cdT × cdT)), q.2))) fun q => eB (mustX τ q.1 4) fun s => .inr (s, q.2)) := by
  obtain ⟨h1, e1, o1, O1, g1⟩ := tl_end (i := i) (p := p) (f0 := f0) (x := .inr σ) hv h0 hR (fun s hs => by cases hs; exact ⟨h29, hc, hp, h6⟩) hb (by omega) hs hs2 hk
  have o1 := o1.mono (fun a f z => z.up (Nat.le_refl _) (Nat.le_refl _) (show b + 1 ≤ Bb by omega))
  have O1 : MO h1 τ N (eB (stX (sumX τ σ)) (mustX τ · 4)) := O1
  have g1 : ∀ q s, sumX τ σ = .inr q → _ := g1
  cases hq : sumX τ σ with
  | inl e =>
    rw [hq] at O1
    exact ⟨h1, e1, o1, O1⟩
  | inr q =>
    rw [hq] at O1
    have O1 : MO h1 τ N (mustX τ q.1 4) := O1
    show LwR τ N b0 Bb sd k f0 i p b h (eB (mustX τ q.1 4) fun s => .inr (s, ([], q.2)))
    cases hm : mustX τ q.1 4 with
    | inl e =>
      rw [hm] at O1
      exact ⟨h1, e1, o1, O1⟩
    | inr s =>
      rw [hm] at O1
      obtain ⟨k1, k2, k3, k4, k5⟩ := g1 q s hq hm
      exact ⟨h1, e1, o1, O1, k1, k2, k3, k4, k5⟩
theorem tl_loop (hv : ∀ j, tv_ τ j ≤ 9999) (h0 : b0 ≤ 420) (hb2 : Bb ≤ 260) (hs2 : sd < 2) (hk : k < 4) : ∀ (r i p b : Nat) (h : aH) (σ : aPs), i + r = 4 → MR h τ N σ → hi_ h 458 108 = nI p → p ≤ b0 + σ.1 → σ.2.1 ≤ 6 → hi_ h 458 102 = nI b → b + r + 2 ≤ Bb → hi_ h 458 85 = nI sd → LwR τ N b0 Bb sd k f0 i p b h (ifT τ r σ)
  | 0, i, p, b, h, σ, hi, hR, hc, hp, h6, hb, hb1, hs => by
    unfold ifT ifX
    by_cases q : tk_ τ σ.1 = 29
    · rw [if_pos q]
      have hM := hR.1
      have h4 := hR.2.2.2.2.2.2.1
      have ei := fun d => m_is (d := d) hR (k := 29) (by decide)
      rw [decide_eq_true q] at ei
      obtain ⟨h1, e1, o1, f1⟩ := m_fail hR (c := 2) (by decide)
      have hM1 := f1.1
      have e4 : (nI i = nI 4) = True := by rw [nI_eqL (by omega) (by decide)]; exact eq_true (by omega)
      have f3 := f1.2.2.2.2.1
      have fz : ¬ nI 2 ≤ 0 := by decide
      refine ⟨h1, fun d => ?_, o1.mono (fun _ _ q => Or.inl (Or.inl q)), f1⟩
      unfold lwAt
      refine (e175_12).trans ?_
      simp only [e175_0, e175_1, e175_2, e175_5, e175_6, e175_9, e175_10, e175_11, e175_13, e175_16, e175_19, e175_20, e175_22, e175_25, e175_28, e175_29, e175_30, e175_33, e175_34, e175_35, e175_38, e175_39, e175_42, e175_45, e175_46, e175_49, e175_50, e175_53, e175_54, e175_57, e175_58, e175_61, e175_62, e175_62z, e175_63, e175_64, e175_67, e175_68, e175_71, e175_72, e175_75, e175_76, e175_77, e175_80, e175_81, e175_83, e175_86, e175_87, e175_90, e175_91, e175_94, e175_95, e175_98, e175_99, e175_100, e175_103, e175_106, e175_107, e175_110, e175_111, e175_113, e175_116, e175_117, e175_120, e175_121, e175_123, e175_126, e175_129, e175_130, e175_133, e175_134, e175_137, e175_138, e175_138z, e175_139, e175_140, e175_143, e175_144, e175_145, e175_148, e175_149, e175_152, e175_155, e175_156, e175_157, e175_160, e175_161, e175_162, e175_165, e175_166, e175_167, e175_168, e175_169, e175_170, e175_171, e175_174, e175_175, e175_176, e175_179, e175_180, e175_181, e175_182, e175_183, e175_186, e175_187, mk_458 hM, mp_100 hM, mk_479 hM, mp_101 hM, mk_480 hM, mp_103 hM, mk_481 hM, mp_104 hM, mk_482 hM, mp_105 hM, mk_483 hM, mk_458 hM1, mp_100 hM1, mk_479 hM1, mp_101 hM1, mk_480 hM1, mp_103 hM1, mk_481 hM1, mp_104 hM1, mk_482 hM1, mp_105 hM1, mk_483 hM1, ↓reduceIte, Nat.reduceAdd, Nat.reduceLeDiff, Nat.reduceLT, Nat.reduceEqDiff, not_false_eq_true, false_or, true_or, or_true, or_false, n0_e, n1_ne, n1_11, bI_z, bI_1, bI_fo, va_rf_some, aBk_1, aBk_0, nI_add, nI_mul, hk_si, hp_si, hl_si, hk_sp, hk_sl, hk_cp, hp_cp, h4, ei, reduceCtorEq, e4, e1, f3, fz]
    · rw [if_neg q]
      exact tl_stop hv h0 hR q hc hp h6 hb (by omega) hb2 hs hs2 hk
  | r + 1, i, p, b, h, σ, hi, hR, hc, hp, h6, hb, hb1, hs => by
    unfold ifT ifX
    by_cases q : tk_ τ σ.1 = 29
    · rw [if_pos q]
      obtain ⟨h1, e1, o1, O1, b1, g1⟩ := tl_if (kk := nI k) (fr := nI f0) (i := i) hv h0 hR q hc hp h6 hb (by omega) (by omega)
      have o1' : On (LLF p (b0 + 420) b Bb (4 * sd + k)) h h1 := o1.mono (fun a f z => by
        unfold IFF at z; unfold LLF
        exact z.elim Or.inl (fun z => Or.inr (by omega)))
      have s1 : hi_ h1 458 85 = nI sd := (o1.i (fun z => by unfold IFF EXs FP CO at z; omega)).trans hs
      cases hq : ifO τ σ with
      | inl e =>
        rw [hq] at O1
        have O1 : MO h1 τ N (.inl e) := O1
        obtain ⟨h2, e2, o2, O2, -⟩ := tl_end (i := i + 1) (p := p) (k := k) (f0 := f0) (x := .inl e) hv h0 O1 (fun s hs => by cases hs) b1 (by omega) s1 hs2 hk
        exact ⟨h2, fun d => (e1 d).trans (e2 d), o1'.trans (o2.mono (fun a f z => z.up (Nat.le_refl _) (by omega) (by omega))), O2⟩
      | inr w =>
        obtain ⟨s, w⟩ := w
        rw [hq] at O1
        have O1 : MR h1 τ N s := O1
        obtain ⟨c1, k1⟩ := g1 _ hq
        obtain ⟨m1, m2, -⟩ := ifO_mono hv hq
        have c1 : hi_ h1 458 108 = nI (p + ln3 w) := c1
        have k1 : br1 h1 p b w := k1
        have I := tl_loop hv h0 hb2 hs2 hk r (i + 1) (p + ln3 w) (b + 1) h1 s (by omega) O1 c1 (by omega) (by rw [m2]; exact h6) b1 (by omega) s1
        unfold ifT at I
        show LwR τ N b0 Bb sd k f0 i p b h (eB (eB (ifX τ r s) fun y => .inr (y.1, (w :: y.2.1, y.2.2))) fun q => eB (mustX τ q.1 4) fun s => .inr (s, q.2))
        cases hz : ifX τ r s with
        | inl e =>
          rw [hz] at I
          obtain ⟨h2, e2, o2, f2⟩ := I
          exact ⟨h2, fun d => (e1 d).trans (e2 d), o1'.trans (o2.mono (fun a f z => z.up (by omega) (by omega) (Nat.le_refl _))), f2⟩
        | inr y =>
          rw [hz] at I
          have I : LwR τ N b0 Bb sd k f0 (i + 1) (p + ln3 w) (b + 1) h1 (eB (mustX τ y.1 4) fun s => .inr (s, y.2)) := I
          show LwR τ N b0 Bb sd k f0 i p b h (eB (mustX τ y.1 4) fun s => .inr (s, (w :: y.2.1, y.2.2)))
          cases hm : mustX τ y.1 4 with
          | inl e =>
            rw [hm] at I
            obtain ⟨h2, e2, o2, f2⟩ := I
            exact ⟨h2, fun d => (e1 d).trans (e2 d), o1'.trans (o2.mono (fun a f z => z.up (by omega) (by omega) (Nat.le_refl _))), f2⟩
          | inr s2 =>
            rw [hm] at I
            obtain ⟨h2, e2, o2, R2, c2, b2, k2, l1, l2⟩ := I
            have c2 : hi_ h2 458 108 = nI (p + ln3 w + lnL y.2.1 + y.2.2.length) := c2
            have b2 : hi_ h2 458 102 = nI (b + 1 + y.2.1.length + 1) := b2
            have l2 : hi_ h2 480 (4 * sd + k) = nI (b + 1 + y.2.1.length + 1) := l2
            have z : lnL (w :: y.2.1) = ln3 w + lnL y.2.1 := rfl
            refine ⟨h2, fun d => (e1 d).trans (e2 d), o1'.trans (o2.mono (fun a f z => z.up (by omega) (by omega) (Nat.le_refl _))), R2, ?_, ?_, ⟨k1.ag (fun f f1 f2 => ⟨o2.i (fun q => by unfold LLF EXs FP CO at q; omega), o2.i (fun q => by unfold LLF EXs FP CO at q; omega)⟩) (fun a f1 f2 => o2.i (fun q => by unfold LLF EXs FP CO at q; omega)), k2⟩, l1, ?_⟩
            · show hi_ h2 458 108 = nI (p + lnL (w :: y.2.1) + y.2.2.length)
              rw [c2, z]; congr 1; omega
            · show hi_ h2 458 102 = nI (b + (w :: y.2.1).length + 1)
              rw [b2, List.length_cons]; congr 1; omega
            · show hi_ h2 480 (4 * sd + k) = nI (b + (w :: y.2.1).length + 1)
              rw [l2, List.length_cons]; congr 1; omega
    · rw [if_neg q]
      exact tl_stop hv h0 hR q hc hp h6 hb (by omega) hb2 hs hs2 hk
end M25
