set_option maxRecDepth 100000
/-! X: reading (9): P.law, its ifs -/
section XL90
variable {n N : Nat} {h h' : aH} {β : Nat → Nat} {σ : aPs} {l x y z : Nat} {acc : List (cdT × cdT × cdT)} {p q r : Option cdT}
theorem XPF.xl {a f : Nat} (w : XPF a f) : XPL l a f := Or.inl w
theorem LwQ.lw (hL : LwQ h l x y z acc p q r) : hk_ h l = (12, 0) ∧ 64 ≤ l := ⟨hL.1.2.1, by have := hL.1.1; omega⟩
/-- a sign in a law -/
theorem xl_sign (hE : EXr h β n N σ) (hL : LwQ h l x y z acc p q r) : match mustX (tz β n) σ 13 with
    | .inl e => ∃ h', (∀ d, lwX d 45 l h = some (.threw 65, h')) ∧ On XPF h h' ∧ FZ h' ∧ XF h' e.1 e.2
    | .inr s => ∃ h', (∀ d, lwX d 45 l h = lwX d 51 l h') ∧ On XPF h h' ∧ EXr h' β n N s ∧ LwQ h' l x y z acc p q r := by
  have hX := hE.1.1
  obtain ⟨o, h1, e1, o1, f1⟩ := p_sign hE.1 (k := 13) (by unfold sgk; omega)
  have c : chr 13 = 60 := rfl
  rw [c] at e1
  cases hx : mustX (tz β n) σ 13 with
  | inl e =>
    rw [hx] at f1
    obtain ⟨f0, f1⟩ := f1
    rw [f0] at e1
    refine ⟨h1, fun d => ?_, o1, hE.2.2.px o1, f1⟩
    unfold lwX
    simp only [e90_45, e90_46, e90_48, xk_64 hX, xk_73 hX, xk_66 hX, xk_65 hX, ↓reduceIte, Nat.reduceAdd, Nat.reduceLeDiff, Nat.reduceLT, Nat.reduceEqDiff, not_false_eq_true, false_or, true_or, or_true, or_false, n0_e, n1_ne, n1_11, bI_z, bI_1, bI_fo, va_rf_some, aBk_1, aBk_0, nI_add, nI_mul, hk_si, hp_si, hl_si, hk_sp, hk_sl, hk_cp, hp_cp, e1, bx_84, bx_85, bx_86, bx_87, bx_88, bx_89, bx_90, bx_91, bx_92, bx_93, bx_94, bx_95, bx_96, bx_97, bx_98, bx_99, bx_100, bx_101, bx_102, bx_103, bx_104]
  | inr s =>
    rw [hx] at f1
    obtain ⟨f0, f1⟩ := f1
    rw [f0] at e1
    refine ⟨h1, fun d => ?_, o1, hE.px o1 f1, hL.xp hE.2.2 o1.OA⟩
    unfold lwX
    simp only [e90_45, e90_46, e90_48, xk_64 hX, xk_73 hX, xk_66 hX, xk_65 hX, ↓reduceIte, Nat.reduceAdd, Nat.reduceLeDiff, Nat.reduceLT, Nat.reduceEqDiff, not_false_eq_true, false_or, true_or, or_true, or_false, n0_e, n1_ne, n1_11, bI_z, bI_1, bI_fo, va_rf_some, aBk_1, aBk_0, nI_add, nI_mul, hk_si, hp_si, hl_si, hk_sp, hk_sl, hk_cp, hp_cp, e1]
theorem xl_w30 (hE : EXr h β n N σ) (hL : LwQ h l x y z acc p q r) : match mustX (tz β n) σ 30 with
    | .inl e => ∃ h', (∀ d, lwX d 64 l h = some (.threw 65, h')) ∧ On XPF h h' ∧ FZ h' ∧ XF h' e.1 e.2
    | .inr s => ∃ h', (∀ d, lwX d 64 l h = lwX d 70 l h') ∧ On XPF h h' ∧ EXr h' β n N s ∧ LwQ h' l x y z acc p q r := by
  have hX := hE.1.1
  obtain ⟨o, h1, e1, o1, f1⟩ := p_word hE.1 (w := 10) (by decide)
  have f1 : XO h1 (tz β n) N (mustX (tz β n) σ 30) none o := f1
  cases hx : mustX (tz β n) σ 30 with
  | inl e =>
    rw [hx] at f1
    obtain ⟨f0, f1⟩ := f1
    rw [f0] at e1
    refine ⟨h1, fun d => ?_, o1, hE.2.2.px o1, f1⟩
    unfold lwX
    simp only [e90_64, e90_65, e90_67, xk_64 hX, xk_73 hX, xk_66 hX, xk_65 hX, ↓reduceIte, Nat.reduceAdd, Nat.reduceLeDiff, Nat.reduceLT, Nat.reduceEqDiff, not_false_eq_true, false_or, true_or, or_true, or_false, n0_e, n1_ne, n1_11, bI_z, bI_1, bI_fo, va_rf_some, aBk_1, aBk_0, nI_add, nI_mul, hk_si, hp_si, hl_si, hk_sp, hk_sl, hk_cp, hp_cp, e1, bx_84, bx_85, bx_86, bx_87, bx_88, bx_89, bx_90, bx_91, bx_92, bx_93, bx_94, bx_95, bx_96, bx_97, bx_98, bx_99, bx_100, bx_101, bx_102, bx_103, bx_104]
  | inr s =>
    rw [hx] at f1
    obtain ⟨f0, f1⟩ := f1
    rw [f0] at e1
    refine ⟨h1, fun d => ?_, o1, hE.px o1 f1, hL.xp hE.2.2 o1.OA⟩
    unfold lwX
    simp only [e90_64, e90_65, e90_67, xk_64 hX, xk_73 hX, xk_66 hX, xk_65 hX, ↓reduceIte, Nat.reduceAdd, Nat.reduceLeDiff, Nat.reduceLT, Nat.reduceEqDiff, not_false_eq_true, false_or, true_or, or_true, or_false, n0_e, n1_ne, n1_11, bI_z, bI_1, bI_fo, va_rf_some, aBk_1, aBk_0, nI_add, nI_mul, hk_si, hp_si, hl_si, hk_sp, hk_sl, hk_cp, hp_cp, e1]
theorem xl_w31 (hE : EXr h β n N σ) (hL : LwQ h l x y z acc p q r) : match mustX (tz β n) σ 31 with
    | .inl e => ∃ h', (∀ d, lwX d 83 l h = some (.threw 65, h')) ∧ On XPF h h' ∧ FZ h' ∧ XF h' e.1 e.2
    | .inr s => ∃ h', (∀ d, lwX d 83 l h = lwX d 89 l h') ∧ On XPF h h' ∧ EXr h' β n N s ∧ LwQ h' l x y z acc p q r := by
  have hX := hE.1.1
  obtain ⟨o, h1, e1, o1, f1⟩ := p_word hE.1 (w := 11) (by decide)
  have f1 : XO h1 (tz β n) N (mustX (tz β n) σ 31) none o := f1
  cases hx : mustX (tz β n) σ 31 with
  | inl e =>
    rw [hx] at f1
    obtain ⟨f0, f1⟩ := f1
    rw [f0] at e1
    refine ⟨h1, fun d => ?_, o1, hE.2.2.px o1, f1⟩
    unfold lwX
    simp only [e90_83, e90_84, e90_86, xk_64 hX, xk_73 hX, xk_66 hX, xk_65 hX, ↓reduceIte, Nat.reduceAdd, Nat.reduceLeDiff, Nat.reduceLT, Nat.reduceEqDiff, not_false_eq_true, false_or, true_or, or_true, or_false, n0_e, n1_ne, n1_11, bI_z, bI_1, bI_fo, va_rf_some, aBk_1, aBk_0, nI_add, nI_mul, hk_si, hp_si, hl_si, hk_sp, hk_sl, hk_cp, hp_cp, e1, bx_84, bx_85, bx_86, bx_87, bx_88, bx_89, bx_90, bx_91, bx_92, bx_93, bx_94, bx_95, bx_96, bx_97, bx_98, bx_99, bx_100, bx_101, bx_102, bx_103, bx_104]
  | inr s =>
    rw [hx] at f1
    obtain ⟨f0, f1⟩ := f1
    rw [f0] at e1
    refine ⟨h1, fun d => ?_, o1, hE.px o1 f1, hL.xp hE.2.2 o1.OA⟩
    unfold lwX
    simp only [e90_83, e90_84, e90_86, xk_64 hX, xk_73 hX, xk_66 hX, xk_65 hX, ↓reduceIte, Nat.reduceAdd, Nat.reduceLeDiff, Nat.reduceLT, Nat.reduceEqDiff, not_false_eq_true, false_or, true_or, or_true, or_false, n0_e, n1_ne, n1_11, bI_z, bI_1, bI_fo, va_rf_some, aBk_1, aBk_0, nI_add, nI_mul, hk_si, hp_si, hl_si, hk_sp, hk_sl, hk_cp, hp_cp, e1]
/-- what comes of an if -/
def IfR (β : Nat → Nat) (n N l x y z : Nat) (σ : aPs) (h : aH) (pc : Nat) (acc : List (cdT × cdT × cdT)) (v : aEr (aPs × (cdT × cdT × cdT))) : Prop := match v with
  | .inl e => ∃ h', (∀ d, lwX d pc l h = some (.threw 65, h')) ∧ OA (8 * (402 - σ.1)) (64 * (402 - σ.1)) (XPL l) (PLx x y z) h h' ∧ FZ h' ∧ XF h' e.1 e.2
  | .inr s => ∃ h', (∀ d, lwX d pc l h = lwX d 14 l h') ∧ OA (8 * (s.1.1 - σ.1)) (64 * (s.1.1 - σ.1)) (XPL l) (PLx x y z) h h' ∧ EXr h' β n N s.1 ∧ LwQ h' l x y z (acc ++ [s.2]) none none none ∧ σ.1 ≤ s.1.1 ∧ s.1.2 = σ.2
/-- a step ahead -/
theorem IfR.seq {s : aPs} {pc pc' c c' : Nat} {v : aEr (aPs × (cdT × cdT × cdT))} (hs1 : σ.1 ≤ s.1) (h4 : s.1 ≤ 400) (hs2 : s.2 = σ.2) (o : OA c c' (XPL l) (PLx x y z) h h') (hc : c ≤ 8 * (s.1 - σ.1)) (hc' : c' ≤ 64 * (s.1 - σ.1)) (he : ∀ d, lwX d pc l h = lwX d pc' l h') (hS : IfR β n N l x y z s h' pc' acc v) : IfR β n N l x y z σ h pc acc v := by
  cases v with
  | inl e =>
    obtain ⟨h2, e2, o2, f2⟩ := hS
    exact ⟨h2, fun d => (he d).trans (e2 d), (o.trans o2).le (by omega) (by omega), f2⟩
  | inr w =>
    obtain ⟨h2, e2, o2, f1, f2, f3, f4⟩ := hS
    exact ⟨h2, fun d => (he d).trans (e2 d), (o.trans o2).le (by omega) (by omega), f1, f2, by omega, f4.trans hs2⟩
theorem IfR.thr {pc : Nat} {e : Nat × Nat} {h1 : aH} {c c' : Nat} (he : ∀ d, lwX d pc l h = some (.threw 65, h1)) (o : OA c c' (XPL l) (PLx x y z) h h1) (hc : c ≤ 8 * (402 - σ.1)) (hc' : c' ≤ 64 * (402 - σ.1)) (hF : FZ h1) (hf : XF h1 e.1 e.2) : IfR β n N l x y z σ h pc acc (.inl e) := ⟨h1, he, o.le hc hc', hF, hf⟩
theorem onLx (o : On XPF h h') : OA 0 0 (XPL l) (PLx x y z) h h' := (o.mono (fun _ _ w => XPF.xl (l := l) w)).OA
theorem xl_if (hV : BV β n) (hE : EXr h β n N σ) (h0 : σ.2.1 = 0) (hk : tk_ (tz β n) σ.1 = 29) (hL : LwQ h l x y z acc none none none) (h4 : acc.length < 4) : IfR β n N l x y z σ h 14 acc (ifO (tz β n) σ) := by
  have hX := hE.1.1
  have hle := hE.le
  have lk := hL.lw
  have ei := fun d => p_isWord (d := d) hE.1 (w := 9) (by decide)
  rw [decide_eq_true hk] at ei
  obtain ⟨o, h1, e1, o1, f1⟩ := p_begins hE.1 (by omega) (by omega) (has := acc.length) (most := 4) (by omega) (by decide)
  have er : roomX (tz β n) acc.length 4 σ = goX (tz β n) σ := if_neg (by omega)
  rw [er] at f1
  have a3 := hL.1.2.2.1
  unfold ifO
  cases hg : goX (tz β n) σ with
  | inl e =>
    rw [hg] at f1
    obtain ⟨f0, f1⟩ := f1
    rw [f0] at e1
    refine IfR.thr (fun d => ?_) (onLx o1) (Nat.zero_le _) (Nat.zero_le _) (hE.2.2.px o1) f1
    unfold lwX
    refine (e90_14).trans ?_
    simp only [e90_0, e90_3, e90_4, e90_7, e90_8, e90_9, e90_11, e90_15, e90_17, e90_20, e90_23, e90_24, e90_25, e90_28, e90_29, e90_32, e90_33, e90_36, e90_37, e90_40, e90_41, e90_44, e90_45, e90_46, e90_48, e90_51, e90_52, e90_55, e90_56, e90_59, e90_60, e90_63, e90_64, e90_65, e90_67, e90_70, e90_71, e90_74, e90_75, e90_78, e90_79, e90_82, e90_83, e90_84, e90_86, e90_89, e90_90, e90_91, e90_94, e90_95, e90_96, e90_99, e90_102, e90_103, e90_106, e90_107, e90_110, e90_111, e90_114, e90_115, e90_116, xk_64 hX, xk_73 hX, xk_66 hX, xk_65 hX, ↓reduceIte, Nat.reduceAdd, Nat.reduceLeDiff, Nat.reduceLT, Nat.reduceEqDiff, not_false_eq_true, false_or, true_or, or_true, or_false, n0_e, n1_ne, n1_11, bI_z, bI_1, bI_fo, va_rf_some, aBk_1, aBk_0, nI_add, nI_mul, hk_si, hp_si, hl_si, hk_sp, hk_sl, hk_cp, hp_cp, ei, reduceCtorEq, lk.1, a3, e1, bx_84, bx_85, bx_86, bx_87, bx_88, bx_89, bx_90, bx_91, bx_92, bx_93, bx_94, bx_95, bx_96, bx_97, bx_98, bx_99, bx_100, bx_101, bx_102, bx_103, bx_104]
  | inr s0 =>
    rw [hg] at f1
    obtain ⟨f0, f1⟩ := f1
    rw [f0] at e1
    have E1 := hE.px o1 f1
    have L1 := hL.xp hE.2.2 o1.OA
    have es := (go_inr hg).2
    have s1 : s0.1 = σ.1 + 1 := by rw [es]
    have s2 : s0.2 = σ.2 := by rw [es]
    refine IfR.seq (s := s0) (by omega) E1.le s2 (onLx o1) (Nat.zero_le _) (Nat.zero_le _) (pc' := 32) (fun d => ?_) ?_
    · unfold lwX
      refine (e90_14).trans ?_
      simp only [e90_0, e90_3, e90_4, e90_7, e90_8, e90_9, e90_11, e90_15, e90_17, e90_20, e90_23, e90_24, e90_25, e90_28, e90_29, e90_33, e90_36, e90_37, e90_40, e90_41, e90_44, e90_45, e90_46, e90_48, e90_51, e90_52, e90_55, e90_56, e90_59, e90_60, e90_63, e90_64, e90_65, e90_67, e90_70, e90_71, e90_74, e90_75, e90_78, e90_79, e90_82, e90_83, e90_84, e90_86, e90_89, e90_90, e90_91, e90_94, e90_95, e90_96, e90_99, e90_102, e90_103, e90_106, e90_107, e90_110, e90_111, e90_114, e90_115, e90_116, xk_64 hX, xk_73 hX, xk_66 hX, xk_65 hX, ↓reduceIte, Nat.reduceAdd, Nat.reduceLeDiff, Nat.reduceLT, Nat.reduceEqDiff, not_false_eq_true, false_or, true_or, or_true, or_false, n0_e, n1_ne, n1_11, bI_z, bI_1, bI_fo, va_rf_some, aBk_1, aBk_0, nI_add, nI_mul, hk_si, hp_si, hl_si, hk_sp, hk_sl, hk_cp, hp_cp, ei, reduceCtorEq, lk.1, a3, e1]
    have z0 : s0.2.1 = 0 := by rw [s2]; exact h0
    have A := xl_less hV E1 z0 L1 h4
    show IfR β n N l x y z s0 h1 32 acc (eB (sumX (tz β n) s0) _)
    cases hx : sumX (tz β n) s0 with
    | inl e =>
      rw [hx] at A
      obtain ⟨h2, e2, o2, F2, f2⟩ := A
      exact IfR.thr e2 o2 (by omega) (by omega) F2 f2
    | inr a =>
      rw [hx] at A
      obtain ⟨h2, e2, o2, E2, L2, m3, m2⟩ := A
      refine IfR.seq (s := a.1) (by omega) E2.le m3 o2 (Nat.le_refl _) (Nat.le_refl _) e2 ?_
      have B := xl_sign E2 L2
      show IfR β n N l x y z a.1 h2 45 acc (eB (mustX (tz β n) a.1 13) _)
      cases hy : mustX (tz β n) a.1 13 with
      | inl e =>
        rw [hy] at B
        obtain ⟨h3, e3, o3, F3, f3⟩ := B
        exact IfR.thr e3 (onLx o3) (Nat.zero_le _) (Nat.zero_le _) F3 f3
      | inr s3 =>
        rw [hy] at B
        obtain ⟨h3, e3, o3, E3, L3⟩ := B
        have ey := (must_inr hy).2.2
        have y1 : s3.1 = a.1.1 + 1 := by rw [ey]
        have y2 : s3.2 = a.1.2 := by rw [ey]
        refine IfR.seq (s := s3) (by omega) E3.le y2 (onLx o3) (Nat.zero_le _) (Nat.zero_le _) e3 ?_
        have z3 : s3.2.1 = 0 := by rw [y2, m3]; exact z0
        have C := xl_than hV E3 z3 L3 h4
        show IfR β n N l x y z s3 h3 51 acc (eB (sumX (tz β n) s3) _)
        cases hx2 : sumX (tz β n) s3 with
        | inl e =>
          rw [hx2] at C
          obtain ⟨h4', e4, o4, F4, f4⟩ := C
          exact IfR.thr e4 o4 (by omega) (by omega) F4 f4
        | inr b =>
          rw [hx2] at C
          obtain ⟨h4', e4, o4, E4, L4, n3, n2⟩ := C
          refine IfR.seq (s := b.1) (by omega) E4.le n3 o4 (Nat.le_refl _) (Nat.le_refl _) e4 ?_
          have Dd := xl_w30 E4 L4
          show IfR β n N l x y z b.1 h4' 64 acc (eB (mustX (tz β n) b.1 30) _)
          cases hy2 : mustX (tz β n) b.1 30 with
          | inl e =>
            rw [hy2] at Dd
            obtain ⟨h5, e5, o5, F5, f5⟩ := Dd
            exact IfR.thr e5 (onLx o5) (Nat.zero_le _) (Nat.zero_le _) F5 f5
          | inr s5 =>
            rw [hy2] at Dd
            obtain ⟨h5, e5, o5, E5, L5⟩ := Dd
            have ey2 := (must_inr hy2).2.2
            have w1 : s5.1 = b.1.1 + 1 := by rw [ey2]
            have w2 : s5.2 = b.1.2 := by rw [ey2]
            refine IfR.seq (s := s5) (by omega) E5.le w2 (onLx o5) (Nat.zero_le _) (Nat.zero_le _) e5 ?_
            have z5 : s5.2.1 = 0 := by rw [w2, n3]; exact z3
            have G := xl_then hV E5 z5 L5 (by omega)
            show IfR β n N l x y z s5 h5 70 acc (eB (sumX (tz β n) s5) _)
            cases hx3 : sumX (tz β n) s5 with
            | inl e =>
              rw [hx3] at G
              obtain ⟨h6, e6, o6, F6, f6⟩ := G
              exact IfR.thr e6 o6 (by omega) (by omega) F6 f6
            | inr c =>
              rw [hx3] at G
              obtain ⟨h6, e6, o6, E6, L6, k3, k2⟩ := G
              refine IfR.seq (s := c.1) (by omega) E6.le k3 o6 (Nat.le_refl _) (Nat.le_refl _) e6 ?_
              have K := xl_w31 E6 L6
              show IfR β n N l x y z c.1 h6 83 acc (eB (mustX (tz β n) c.1 31) _)
              cases hy3 : mustX (tz β n) c.1 31 with
              | inl e =>
                rw [hy3] at K
                obtain ⟨h7, e7, o7, F7, f7⟩ := K
                exact IfR.thr e7 (onLx o7) (Nat.zero_le _) (Nat.zero_le _) F7 f7
              | inr s7 =>
                rw [hy3] at K
                obtain ⟨h7, e7, o7, E7, L7⟩ := K
                have ey3 := (must_inr hy3).2.2
                have v1 : s7.1 = c.1.1 + 1 := by rw [ey3]
                have v2 : s7.2 = c.1.2 := by rw [ey3]
                have lk7 := L7.lw
                have a37 := L7.1.2.2.1
                have l5 := L7.1.1
                have F7 := E7.2.2
                have ll := F7.lt lk7.1 (by decide)
                refine ⟨si_ h7 l 140 (nI (acc.length + 1)), fun d => (e7 d).trans ?_, ((onLx (l := l) (x := x) (y := y) (z := z) o7).sis (Or.inr ⟨rfl, rfl⟩)).le (Nat.zero_le _) (Nat.zero_le _), E7.si l5 ll, L7.nx F7 h4, by show c.1.1 ≤ s7.1; omega, v2⟩
                unfold lwX
                have l6 := lk7.2
                simp only [e90_89, e90_90, e90_91, e90_94, e90_95, e90_96, e90_99, ↓reduceIte, Nat.reduceAdd, Nat.reduceLeDiff, Nat.reduceLT, Nat.reduceEqDiff, not_false_eq_true, false_or, true_or, or_true, or_false, n0_e, n1_ne, n1_11, bI_z, bI_1, bI_fo, va_rf_some, aBk_1, aBk_0, nI_add, nI_mul, hk_si, hp_si, hl_si, hk_sp, hk_sl, hk_cp, hp_cp, lk7.1, l6, a37]
end XL90
