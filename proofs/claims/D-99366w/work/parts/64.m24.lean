set_option maxRecDepth 100000
/-! M: reading (12): an if of a law -/
def br1 (h : aH) (p b : Nat) (q : cdT × cdT × cdT) : Prop := hi_ h 481 b = 1 ∧ hi_ h 482 b = nI p ∧ hi_ h 483 b = nI (p + q.1.length) ∧ hi_ h 484 b = nI (p + q.1.length + q.2.1.length) ∧ hi_ h 485 b = nI (p + q.1.length + q.2.1.length + q.2.2.length) ∧ cdM h p q.1 ∧ cdM h (p + q.1.length) q.2.1 ∧ cdM h (p + q.1.length + q.2.1.length) q.2.2
/-- what an if writes -/
def IFF (p B b a f : Nat) : Prop := EXs p B a f ∨ (a = 458 ∧ f = 102) ∨ (481 ≤ a ∧ a ≤ 485 ∧ f = b)
noncomputable def lwAt (d pc : Nat) (kk fr : Int32) (i : Nat) (h : aH) : aR := (run (d + 5) 175 pc [.ref 458, .int kk, .int fr, .int (nI i)] [] h)
theorem EXs.mono {p p' B a f : Nat} (hp : p ≤ p') (q : EXs p' B a f) : EXs p B a f := by unfold EXs FP CO at *; omega
theorem EXs.iff {p p' B b a f : Nat} (hp : p ≤ p') (q : EXs p' B a f) : IFF p B b a f := Or.inl (q.mono hp)
theorem TRF.iff {p p' B b a f : Nat} (hp : p ≤ p') (q : TRF p' B b a f) : IFF p B b a f := by
  unfold TRF at q; unfold IFF
  rcases q with q | q | q
  · exact Or.inl (q.mono hp)
  · exact Or.inr (Or.inl q)
  · exact Or.inr (Or.inr (by omega))
theorem FP.iff {p B b a f : Nat} (q : FP a f) : IFF p B b a f := Or.inl (Or.inl q)
section M24
variable {d N p b0 b : Nat} {h h' : aH} {τ : aTok} {x : aEr aPs} {σ : aPs} {kk fr : Int32}
theorem EXs.nf {B a f : Nat} (q : EXs p B a f) (h1 : a ≠ 458) : a = 486 ∨ a = 487 ∨ a = 488 := by unfold EXs FP CO at q; omega
theorem ifO_st : stX (ifO τ σ) = eB (stX (eB (eB (stX (eB (eB (stX (eB (goX τ σ) (sumX τ))) (mustX τ · 13)) (sumX τ))) (mustX τ · 30)) (sumX τ))) (mustX τ · 31) := by
  unfold ifO
  cases goX τ σ with
  | inl e => rfl
  | inr s =>
    show stX (eB (sumX τ s) _) = eB (stX (eB (eB (stX (eB (eB (stX (sumX τ s)) _) _)) _) _)) _
    cases sumX τ s with
    | inl e => rfl
    | inr q =>
      show stX (eB (mustX τ q.1 13) _) = eB (stX (eB (eB (stX (eB (mustX τ q.1 13) _)) _) _)) _
      cases mustX τ q.1 13 with
      | inl e => rfl
      | inr s =>
        show stX (eB (sumX τ s) _) = eB (stX (eB (eB (stX (sumX τ s)) _) _)) _
        cases sumX τ s with
        | inl e => rfl
        | inr q =>
          show stX (eB (mustX τ q.1 30) _) = eB (stX (eB (mustX τ q.1 30) _)) _
          cases mustX τ q.1 30 with
          | inl e => rfl
          | inr s =>
            show stX (eB (sumX τ s) _) = eB (stX (sumX τ s)) _
            cases sumX τ s with
            | inl e => rfl
            | inr q =>
              show stX (eB (mustX τ q.1 31) _) = mustX τ q.1 31
              cases mustX τ q.1 31 with
              | inl e => rfl
              | inr s => rfl
theorem tl_if (hv : ∀ j, tv_ τ j ≤ 9999) (h0 : b0 ≤ 420) (hR : MR h τ N σ) (hk : tk_ τ σ.1 = 29) (hc : hi_ h 458 108 = nI p) (hp : p ≤ b0 + σ.1) (h6 : σ.2.1 ≤ 6) (hb : hi_ h 458 102 = nI b) (hb1 : b < 260) {i : Nat} (hi : i < 4) :
    ∃ h', (∀ d, lwAt d 12 kk fr i h = lwAt d 12 kk fr (i + 1) h') ∧ On (IFF p (b0 + 420) b) h h' ∧ MO h' τ N (stX (ifO τ σ)) ∧ hi_ h' 458 102 = nI (b + 1) ∧ ∀ q, ifO τ σ = .inr q → hi_ h' 458 108 = nI (p + ln3 q.2) ∧ br1 h' p b q.2 := by
  have hM := hR.1
  have h4 := hR.2.2.2.2.2.2.1
  have ei := fun d => m_is (d := d) hR (k := 29) (by decide)
  rw [decide_eq_true hk] at ei
  have e4 : (nI i = nI 4) = False := by rw [nI_eqL (by omega) (by decide)]; exact eq_false (by omega)
  have hle0 : nI 0 ≤ 0 := by decide
  -- on
  obtain ⟨h1, r1, o1, O1⟩ := m_goesOn hR (hR.nx (by omega) (by omega))
  have hM1 := O1.S
  have c1 : hi_ h1 458 108 = nI p := (o1.i (fun q => by unfold FP at q; omega)).trans hc
  have b1 : hi_ h1 458 102 = nI b := (o1.i (fun q => by unfold FP at q; omega)).trans hb
  -- a test begins
  have oA : On (fun a f => (a = 481 ∨ a = 482) ∧ f = b) h1 (si_ (si_ h1 481 b (nI 1)) 482 b (nI p)) := (On.si ⟨Or.inl rfl, rfl⟩).trans (On.si ⟨Or.inr rfl, rfl⟩)
  generalize hh2 : si_ (si_ h1 481 b (nI 1)) 482 b (nI p) = h2 at oA
  have O2 : MO h2 τ N (goX τ σ) := O1.on_nf oA (fun a f q => by omega)
  have hM2 := O2.S
  have c2 : hi_ h2 458 108 = nI p := (oA.i (fun q => by omega)).trans c1
  have b2 : hi_ h2 458 102 = nI b := (oA.i (fun q => by omega)).trans b1
  obtain ⟨h3, r3, o3, O3, g3⟩ := mo_expression (p := p) hv h0 O2 (fun s hs => by
    obtain ⟨-, es⟩ := go_inr hs
    rw [es]
    exact ⟨c2, by show p ≤ b0 + (σ.1 + 1); omega, h6⟩)
  have hM3 := O3.S
  have b3 : hi_ h3 458 102 = nI b := (o3.i (fun q => by unfold EXs FP CO at q; omega)).trans b2
  obtain ⟨h4', r4, o4, O4⟩ := mo_must O3 (k := 13) (by decide) (by decide) (by decide)
  have hM4 := O4.S
  have b4 : hi_ h4' 458 102 = nI b := (o4.i (fun q => by unfold FP at q; omega)).trans b3
  have oB : On (fun a f => a = 483 ∧ f = b) h4' (si_ h4' 483 b (hi_ h4' 458 108)) := On.si ⟨rfl, rfl⟩
  have v5 : hi_ (si_ h4' 483 b (hi_ h4' 458 108)) 483 b = hi_ h4' 458 108 := hi_same
  generalize hh5 : si_ h4' 483 b (hi_ h4' 458 108) = h5 at oB v5
  have O5 := O4.on_nf oB (fun a f q => by omega)
  have hM5 := O5.S
  have b5 : hi_ h5 458 102 = nI b := (oB.i (fun q => by omega)).trans b4
  -- the first sum's end
  generalize hX1 : eB (goX τ σ) (sumX τ) = X1 at O3 O4 O5 g3
  generalize hY1 : eB (stX X1) (mustX τ · 13) = Y1 at O4 O5
  have hY1' : ∀ s, Y1 = .inr s → ∃ s1 u1, X1 = .inr (s1, u1) ∧ s = (s1.1 + 1, s1.2) ∧ σ.1 + 1 + u1.length ≤ s1.1 ∧ s1.2 = σ.2 := by
    intro s hs
    rw [← hY1] at hs
    obtain ⟨a, ha, hs⟩ := eB_inr hs
    obtain ⟨⟨s1, u1⟩, hx, ha⟩ := eB_inr ha
    cases ha
    obtain ⟨-, -, es⟩ := must_inr hs
    refine ⟨s1, u1, hx, es, ?_⟩
    rw [← hX1] at hx
    obtain ⟨s0, hg, hx⟩ := eB_inr hx
    obtain ⟨-, e0⟩ := go_inr hg
    obtain ⟨m1, -, m3, -⟩ := sum_mono hv hx
    subst e0
    exact ⟨m1, m3⟩
  obtain ⟨p1, hp1, hp1'⟩ : ∃ p1, p ≤ p1 ∧ ∀ s1 u1, X1 = .inr (s1, u1) → p1 = p + u1.length := by
    cases X1 with
    | inl e => exact ⟨p, Nat.le_refl _, fun s u z => by cases z⟩
    | inr q => exact ⟨p + q.2.length, Nat.le_add_right _ _, fun s u z => by cases z; rfl⟩
  have c4 : ∀ s1 u1, X1 = .inr (s1, u1) → hi_ h4' 458 108 = nI p1 ∧ cdM h5 p u1 := fun s1 u1 hx => by
    obtain ⟨k1, k2⟩ := g3 _ hx
    rw [hp1' _ _ hx]
    exact ⟨(o4.i (fun q => by unfold FP at q; omega)).trans k1, (k2.on o4 (fun f _ _ => ⟨fun q => by unfold FP at q; omega, fun q => by unfold FP at q; omega⟩)).on oB (fun f _ _ => ⟨fun q => by omega, fun q => by omega⟩)⟩
  have c5 : ∀ s1 u1, X1 = .inr (s1, u1) → hi_ h5 458 108 = nI p1 := fun s1 u1 hx => (oB.i (fun q => by omega)).trans (c4 s1 u1 hx).1
  -- the second sum
  have step : ∃ h6, On (EXs p1 (b0 + 420)) h5 h6 ∧ MO h6 τ N (stX (eB Y1 (sumX τ))) ∧ (∀ q, eB Y1 (sumX τ) = .inr q → hi_ h6 458 108 = nI (p1 + q.2.length) ∧ cdM h6 p1 q.2) ∧ ∀ d, lwAt d 12 kk fr i h = lwAt d 110 kk fr (i + 1) h6 := by
    obtain ⟨h6', r6, o6, O6, g6⟩ := mo_expression (p := p1) hv h0 O5 (fun s hs => by
      obtain ⟨s1, u1, hx, es, m1, m2⟩ := hY1' s hs
      have := hp1' _ _ hx
      rw [es]
      refine ⟨c5 _ _ hx, by show p1 ≤ b0 + (s1.1 + 1); omega, by show s1.2.1 ≤ 6; rw [m2]; exact h6⟩)
    cases hy : Y1 with
    | inl e =>
      rw [hy] at O5
      refine ⟨h5, On.refl, O5, fun q hq => (by cases hq), fun d => ?_⟩
      have hF : MF h5 e.1 e.2 := O5
      have f3 : hi_ h5 458 79 = nI e.1 := hF.2.2.2.2.1
      have fn : (nI e.1 = 0) = False := by have := hF.2.2.1; have := hF.2.2.2.1; rw [nI_z (by omega)]; exact eq_false (by omega)
      unfold lwAt
      refine (e175_12).trans ?_
      simp only [e175_13, e175_16, e175_19, e175_20, e175_22, e175_25, e175_28, e175_29, e175_30, e175_33, e175_34, e175_35, e175_38, e175_39, e175_42, e175_45, e175_46, e175_49, e175_50, e175_53, e175_54, e175_57, e175_58, e175_61, e175_62, e175_62z, e175_63, e175_64, e175_67, e175_68, e175_71, e175_72, e175_75, e175_76, e175_77, e175_80, e175_81, e175_83, e175_86, e175_87, e175_90, e175_91, e175_94, e175_95, e175_98, e175_99, e175_100, e175_103, e175_106, mk_458 hM, mp_100 hM, mk_479 hM, mp_101 hM, mk_480 hM, mp_103 hM, mk_481 hM, mp_104 hM, mk_482 hM, mp_105 hM, mk_483 hM, mk_458 hM1, mp_100 hM1, mk_479 hM1, mp_101 hM1, mk_480 hM1, mp_103 hM1, mk_481 hM1, mp_104 hM1, mk_482 hM1, mp_105 hM1, mk_483 hM1, mk_458 hM2, mp_100 hM2, mk_479 hM2, mp_101 hM2, mk_480 hM2, mp_103 hM2, mk_481 hM2, mp_104 hM2, mk_482 hM2, mp_105 hM2, mk_483 hM2, mk_458 hM3, mp_100 hM3, mk_479 hM3, mp_101 hM3, mk_480 hM3, mp_103 hM3, mk_481 hM3, mp_104 hM3, mk_482 hM3, mp_105 hM3, mk_483 hM3, mk_458 hM4, mp_100 hM4, mk_479 hM4, mp_101 hM4, mk_480 hM4, mp_103 hM4, mk_481 hM4, mp_104 hM4, mk_482 hM4, mp_105 hM4, mk_483 hM4, mk_458 hM5, mp_100 hM5, mk_479 hM5, mp_101 hM5, mk_480 hM5, mp_103 hM5, mk_481 hM5, mp_104 hM5, mk_482 hM5, mp_105 hM5, mk_483 hM5, ↓reduceIte, Nat.reduceAdd, Nat.reduceLeDiff, Nat.reduceLT, not_false_eq_true, false_or, true_or, or_true, or_false, n0_e, n1_ne, n1_11, bI_z, bI_1, bI_fo, va_rf_some, aBk_1, aBk_0, nI_add, nI_mul, hk_si, hp_si, hl_si, hk_sp, hk_sl, hk_cp, hp_cp, h4, ei, reduceCtorEq, e4, hle0, r1, b1, c1, hb1, hi_si, Nat.reduceEqDiff, false_and, true_and, and_false, and_true]
      rw [hh2]
      simp only [e175_76, e175_77, e175_80, e175_81, e175_83, e175_86, e175_87, e175_90, e175_91, e175_94, e175_95, e175_98, mk_458 hM2, mp_100 hM2, mk_479 hM2, mp_101 hM2, mk_480 hM2, mp_103 hM2, mk_481 hM2, mp_104 hM2, mk_482 hM2, mp_105 hM2, mk_483 hM2, mk_458 hM3, mp_100 hM3, mk_479 hM3, mp_101 hM3, mk_480 hM3, mp_103 hM3, mk_481 hM3, mp_104 hM3, mk_482 hM3, mp_105 hM3, mk_483 hM3, mk_458 hM4, mp_100 hM4, mk_479 hM4, mp_101 hM4, mk_480 hM4, mp_103 hM4, mk_481 hM4, mp_104 hM4, mk_482 hM4, mp_105 hM4, mk_483 hM4, ↓reduceIte, Nat.reduceAdd, Nat.reduceLeDiff, Nat.reduceLT, not_false_eq_true, false_or, true_or, or_true, or_false, n0_e, n1_ne, n1_11, bI_z, bI_1, bI_fo, va_rf_some, aBk_1, aBk_0, nI_add, nI_mul, hk_si, hp_si, hl_si, hk_sp, hk_sl, hk_cp, hp_cp, r3, r4, b4, hb1, hi_si, Nat.reduceEqDiff, false_and, true_and, and_false, and_true]
      rw [hh5]
      simp only [e175_99, e175_100, e175_103, e175_106, mk_458 hM5, mp_100 hM5, mk_479 hM5, mp_101 hM5, mk_480 hM5, mp_103 hM5, mk_481 hM5, mp_104 hM5, mk_482 hM5, mp_105 hM5, mk_483 hM5, ↓reduceIte, Nat.reduceAdd, Nat.reduceLeDiff, Nat.reduceLT, Nat.reduceEqDiff, not_false_eq_true, false_or, true_or, or_true, or_false, n0_e, n1_ne, n1_11, bI_z, bI_1, bI_fo, va_rf_some, aBk_1, aBk_0, nI_add, nI_mul, hk_si, hp_si, hl_si, hk_sp, hk_sl, hk_cp, hp_cp, f3, fn]
    | inr s =>
      rw [hy] at O5 O6 g6
      refine ⟨h6', o6, O6, g6, fun d => ?_⟩
      have hF : MR h5 τ N s := O5
      have f3 := hF.2.2.2.2.2.2.1
      unfold lwAt
      refine (e175_12).trans ?_
      simp only [e175_13, e175_16, e175_19, e175_20, e175_22, e175_25, e175_28, e175_29, e175_30, e175_33, e175_34, e175_35, e175_38, e175_39, e175_42, e175_45, e175_46, e175_49, e175_50, e175_53, e175_54, e175_57, e175_58, e175_61, e175_62, e175_62z, e175_63, e175_64, e175_67, e175_68, e175_71, e175_72, e175_75, e175_76, e175_77, e175_80, e175_81, e175_83, e175_86, e175_87, e175_90, e175_91, e175_94, e175_95, e175_98, e175_99, e175_100, e175_103, e175_106, mk_458 hM, mp_100 hM, mk_479 hM, mp_101 hM, mk_480 hM, mp_103 hM, mk_481 hM, mp_104 hM, mk_482 hM, mp_105 hM, mk_483 hM, mk_458 hM1, mp_100 hM1, mk_479 hM1, mp_101 hM1, mk_480 hM1, mp_103 hM1, mk_481 hM1, mp_104 hM1, mk_482 hM1, mp_105 hM1, mk_483 hM1, mk_458 hM2, mp_100 hM2, mk_479 hM2, mp_101 hM2, mk_480 hM2, mp_103 hM2, mk_481 hM2, mp_104 hM2, mk_482 hM2, mp_105 hM2, mk_483 hM2, mk_458 hM3, mp_100 hM3, mk_479 hM3, mp_101 hM3, mk_480 hM3, mp_103 hM3, mk_481 hM3, mp_104 hM3, mk_482 hM3, mp_105 hM3, mk_483 hM3, mk_458 hM4, mp_100 hM4, mk_479 hM4, mp_101 hM4, mk_480 hM4, mp_103 hM4, mk_481 hM4, mp_104 hM4, mk_482 hM4, mp_105 hM4, mk_483 hM4, mk_458 hM5, mp_100 hM5, mk_479 hM5, mp_101 hM5, mk_480 hM5, mp_103 hM5, mk_481 hM5, mp_104 hM5, mk_482 hM5, mp_105 hM5, mk_483 hM5, ↓reduceIte, Nat.reduceAdd, Nat.reduceLeDiff, Nat.reduceLT, not_false_eq_true, false_or, true_or, or_true, or_false, n0_e, n1_ne, n1_11, bI_z, bI_1, bI_fo, va_rf_some, aBk_1, aBk_0, nI_add, nI_mul, hk_si, hp_si, hl_si, hk_sp, hk_sl, hk_cp, hp_cp, h4, ei, reduceCtorEq, e4, hle0, r1, b1, c1, hb1, hi_si, Nat.reduceEqDiff, false_and, true_and, and_false, and_true]
      rw [hh2]
      simp only [e175_76, e175_77, e175_80, e175_81, e175_83, e175_86, e175_87, e175_90, e175_91, e175_94, e175_95, e175_98, mk_458 hM2, mp_100 hM2, mk_479 hM2, mp_101 hM2, mk_480 hM2, mp_103 hM2, mk_481 hM2, mp_104 hM2, mk_482 hM2, mp_105 hM2, mk_483 hM2, mk_458 hM3, mp_100 hM3, mk_479 hM3, mp_101 hM3, mk_480 hM3, mp_103 hM3, mk_481 hM3, mp_104 hM3, mk_482 hM3, mp_105 hM3, mk_483 hM3, mk_458 hM4, mp_100 hM4, mk_479 hM4, mp_101 hM4, mk_480 hM4, mp_103 hM4, mk_481 hM4, mp_104 hM4, mk_482 hM4, mp_105 hM4, mk_483 hM4, ↓reduceIte, Nat.reduceAdd, Nat.reduceLeDiff, Nat.reduceLT, not_false_eq_true, false_or, true_or, or_true, or_false, n0_e, n1_ne, n1_11, bI_z, bI_1, bI_fo, va_rf_some, aBk_1, aBk_0, nI_add, nI_mul, hk_si, hp_si, hl_si, hk_sp, hk_sl, hk_cp, hp_cp, r3, r4, b4, hb1, hi_si, Nat.reduceEqDiff, false_and, true_and, and_false, and_true]
      rw [hh5]
      simp only [e175_99, e175_100, e175_103, e175_106, e175_107, mk_458 hM5, mp_100 hM5, mk_479 hM5, mp_101 hM5, mk_480 hM5, mp_103 hM5, mk_481 hM5, mp_104 hM5, mk_482 hM5, mp_105 hM5, mk_483 hM5, ↓reduceIte, Nat.reduceAdd, Nat.reduceLeDiff, Nat.reduceLT, Nat.reduceEqDiff, not_false_eq_true, false_or, true_or, or_true, or_false, n0_e, n1_ne, n1_11, bI_z, bI_1, bI_fo, va_rf_some, aBk_1, aBk_0, nI_add, nI_mul, hk_si, hp_si, hl_si, hk_sp, hk_sl, hk_cp, hp_cp, f3, r6]
  obtain ⟨h6', o6, O6, g6, st6⟩ := step
  generalize hX2 : eB Y1 (sumX τ) = X2 at O6 g6
  have hM6 := O6.S
  have b6 : hi_ h6' 458 102 = nI b := (o6.i (fun q => by unfold EXs FP CO at q; omega)).trans b5
  obtain ⟨h7, r7, o7, O7⟩ := mo_must O6 (k := 30) (by decide) (by decide) (by decide)
  have hM7 := O7.S
  have b7 : hi_ h7 458 102 = nI b := (o7.i (fun q => by unfold FP at q; omega)).trans b6
  generalize hY2 : eB (stX X2) (mustX τ · 30) = Y2 at O7
  have hY2' : ∀ s, Y2 = .inr s → ∃ s1 u1 s3 u3, X1 = .inr (s1, u1) ∧ X2 = .inr (s3, u3) ∧ s = (s3.1 + 1, s3.2) ∧ σ.1 + 1 + u1.length + u3.length ≤ s3.1 ∧ s3.2 = σ.2 := by
    intro s hs
    rw [← hY2] at hs
    obtain ⟨a, ha, hs⟩ := eB_inr hs
    obtain ⟨⟨s3, u3⟩, hx, ha⟩ := eB_inr ha
    cases ha
    obtain ⟨-, -, es⟩ := must_inr hs
    have hx2 := hx
    rw [← hX2] at hx
    obtain ⟨s2, hg, hx⟩ := eB_inr hx
    obtain ⟨s1, u1, k1, k2, k3, k4⟩ := hY1' s2 hg
    obtain ⟨m1, -, m3, -⟩ := sum_mono hv hx
    subst k2
    have m1 : s1.1 + 1 + u3.length ≤ s3.1 := m1
    exact ⟨s1, u1, s3, u3, k1, hx2, es, by omega, by rw [m3]; exact k4⟩
  obtain ⟨p2, hp2, hp2'⟩ : ∃ p2, p1 ≤ p2 ∧ ∀ s3 u3, X2 = .inr (s3, u3) → p2 = p1 + u3.length := by
    cases X2 with
    | inl e => exact ⟨p1, Nat.le_refl _, fun s u z => by cases z⟩
    | inr q => exact ⟨p1 + q.2.length, Nat.le_add_right _ _, fun s u z => by cases z; rfl⟩
  have c7 : ∀ s3 u3, X2 = .inr (s3, u3) → hi_ h7 458 108 = nI p2 ∧ cdM h7 p1 u3 := fun s3 u3 hx => by
    obtain ⟨k1, k2⟩ := g6 _ hx
    rw [hp2' _ _ hx]
    exact ⟨(o7.i (fun q => by unfold FP at q; omega)).trans k1, k2.on o7 (fun f _ _ => ⟨fun q => by unfold FP at q; omega, fun q => by unfold FP at q; omega⟩)⟩
  -- the term
  obtain ⟨h8, r8, o8, O8, b8, g8⟩ := mo_term (p := p2) hv h0 O7 (fun s hs => by
    obtain ⟨s1, u1, s3, u3, k1, k2, es, m1, m2⟩ := hY2' s hs
    have := hp1' _ _ k1
    have := hp2' _ _ k2
    rw [es]
    exact ⟨(c7 _ _ k2).1, by show p2 ≤ b0 + (s3.1 + 1); omega, by show s3.2.1 ≤ 6; rw [m2]; exact h6⟩) b7 hb1
  have hM8 := O8.S
  obtain ⟨h9, r9, o9, O9⟩ := mo_must O8 (k := 31) (by decide) (by decide) (by decide)
  have hM9 := O9.S
  have o78 : On (TRF p2 (b0 + 420) b) h7 h9 := o8.trans (o9.mono (fun _ _ q => Or.inl (Or.inl q)))
  refine ⟨h9, fun d => (st6 d).trans ?_, ?_, ?_, (o9.i (fun q => by unfold FP at q; omega)).trans b8, fun q hq => ?_⟩
  · unfold lwAt
    simp only [e175_110, e175_111, e175_113, e175_116, e175_117, e175_120, e175_121, e175_123, e175_126, mk_458 hM6, mp_100 hM6, mk_479 hM6, mp_101 hM6, mk_480 hM6, mp_103 hM6, mk_481 hM6, mp_104 hM6, mk_482 hM6, mp_105 hM6, mk_483 hM6, mk_458 hM7, mp_100 hM7, mk_479 hM7, mp_101 hM7, mk_480 hM7, mp_103 hM7, mk_481 hM7, mp_104 hM7, mk_482 hM7, mp_105 hM7, mk_483 hM7, mk_458 hM8, mp_100 hM8, mk_479 hM8, mp_101 hM8, mk_480 hM8, mp_103 hM8, mk_481 hM8, mp_104 hM8, mk_482 hM8, mp_105 hM8, mk_483 hM8, ↓reduceIte, Nat.reduceAdd, Nat.reduceLeDiff, Nat.reduceLT, Nat.reduceEqDiff, not_false_eq_true, false_or, true_or, or_true, or_false, n0_e, n1_ne, n1_11, bI_z, bI_1, bI_fo, va_rf_some, aBk_1, aBk_0, nI_add, nI_mul, hk_si, hp_si, hl_si, hk_sp, hk_sl, hk_cp, hp_cp, r7, r8, r9]
  · exact ((((((o1.mono (fun _ _ q => q.iff)).trans (oA.mono (fun a f q => Or.inr (Or.inr (by omega))))).trans (o3.mono (fun _ _ q => q.iff (Nat.le_refl _)))).trans (o4.mono (fun _ _ q => q.iff))).trans (oB.mono (fun a f q => Or.inr (Or.inr (by omega))))).trans (o6.mono (fun _ _ q => q.iff hp1))).trans ((o7.mono (fun _ _ q => q.iff)).trans (o78.mono (fun _ _ q => q.iff (Nat.le_trans hp1 hp2))))
  · rw [ifO_st, hX1, hY1, hX2, hY2]; exact O9
  · have hq' := hq
    unfold ifO at hq
    obtain ⟨s0, q1, hq⟩ := eB_inr hq
    obtain ⟨⟨s1, u1⟩, q2, hq⟩ := eB_inr hq
    obtain ⟨s2, q3, hq⟩ := eB_inr hq
    obtain ⟨⟨s3, u3⟩, q4, hq⟩ := eB_inr hq
    obtain ⟨s4, q5, hq⟩ := eB_inr hq
    obtain ⟨⟨s5, u5⟩, q6, hq⟩ := eB_inr hq
    obtain ⟨s6, q7, hq⟩ := eB_inr hq
    cases hq
    have x1 : X1 = .inr (s1, u1) := by rw [← hX1, q1]; exact q2
    have y1 : Y1 = .inr s2 := by rw [← hY1, x1]; exact q3
    have x2 : X2 = .inr (s3, u3) := by rw [← hX2, y1]; exact q4
    have y2 : Y2 = .inr s4 := by rw [← hY2, x2]; exact q5
    have x3 : eB Y2 (sumX τ) = .inr (s5, u5) := by rw [y2]; exact q6
    obtain ⟨k1, k2⟩ := c4 _ _ x1
    obtain ⟨k3, k4⟩ := c7 _ _ x2
    obtain ⟨k5, k6, k7, k8⟩ := g8 _ x3
    have e1 := hp1' _ _ x1
    have e2 := hp2' _ _ x2
    have n9 : ∀ f, f ≠ 108 → ¬ FP 486 f := fun f _ q => by unfold FP at q; omega
    -- from h2, h5, h7 to h9
    have f57 : On (EXs p1 (b0 + 420)) h5 h7 := o6.trans o7.ex_f
    have f59 : On (TRF p1 (b0 + 420) b) h5 h9 := (f57.mono (fun _ _ q => Or.inl q)).trans (o78.mono (fun a f q => by unfold TRF at *; exact q.imp (fun z => z.mono hp2) id))
    have f25 : On (fun a f => EXs p (b0 + 420) a f ∨ (a = 483 ∧ f = b)) h2 h5 := ((o3.mono (fun _ _ q => Or.inl q)).trans (o4.mono (fun _ _ q => Or.inl (Or.inl q)))).trans (oB.mono (fun _ _ q => Or.inr q))
    have l9 : ln3 (u1, u3, u5) = u1.length + u3.length + u5.length := rfl
    have n481 : ∀ f, ¬ TRF p1 (b0 + 420) b 481 f ∧ ¬ TRF p1 (b0 + 420) b 482 f ∧ ¬ TRF p1 (b0 + 420) b 483 f := fun f => ⟨fun q => by unfold TRF EXs FP CO at q; omega, fun q => by unfold TRF EXs FP CO at q; omega, fun q => by unfold TRF EXs FP CO at q; omega⟩
    have m481 : ¬ (EXs p (b0 + 420) 481 b ∨ (481 = 483 ∧ b = b)) ∧ ¬ (EXs p (b0 + 420) 482 b ∨ (482 = 483 ∧ b = b)) := ⟨fun q => by unfold EXs FP CO at q; omega, fun q => by unfold EXs FP CO at q; omega⟩
    refine ⟨?_, ?_, ?_, ?_, ?_, ?_, ?_, ?_, ?_⟩
    · rw [l9, o9.i (fun q => by unfold FP at q; omega), k5]
      congr 1
      show p2 + u5.length = p + (u1.length + u3.length + u5.length)
      omega
    · rw [f59.i (n481 b).1, f25.i m481.1, ← hh2, hi_ne (by omega), hi_same]; rfl
    · rw [f59.i (n481 b).2.1, f25.i m481.2, ← hh2, hi_same]
    · show hi_ h9 483 b = nI (p + u1.length)
      rw [f59.i (n481 b).2.2, v5, k1, e1]
    · show hi_ h9 484 b = nI (p + u1.length + u3.length)
      rw [o9.i (fun q => by unfold FP at q; omega), k7, e2, e1]
    · show hi_ h9 485 b = nI (p + u1.length + u3.length + u5.length)
      rw [o9.i (fun q => by unfold FP at q; omega), k8, e2, e1]
    · show cdM h9 p u1
      exact k2.on f59 (fun f _ _ => ⟨fun q => by unfold TRF EXs FP CO at q; omega, fun q => by unfold TRF EXs FP CO at q; omega⟩)
    · show cdM h9 (p + u1.length) u3
      rw [← e1]
      exact k4.on o78 (fun f _ _ => ⟨fun q => by unfold TRF EXs FP CO at q; omega, fun q => by unfold TRF EXs FP CO at q; omega⟩)
    · show cdM h9 (p + u1.length + u3.length) u5
      rw [← e1, ← e2]
      exact k6.on o9 (fun f _ _ => ⟨fun q => by unfold FP at q; omega, fun q => by unfold FP at q; omega⟩)
end M24
