set_option maxRecDepth 100000
/-! X: reading (8): P.law -/
noncomputable def lwX (d pc l : Nat) (h : aH) : aR := (run (d + 29) 90 pc [.ref 73, .ref l] [] h)
def XPL (l a f : Nat) : Prop := XPF a f ∨ (a = l ∧ f = 140)
def PLx (x y z a _f : Nat) : Prop := a = x ∨ a = y ∨ a = z
section XL89
variable {n N : Nat} {h h' : aH} {β : Nat → Nat} {σ : aPs} {l x y z : Nat} {acc : List (cdT × cdT × cdT)} {p q r : Option cdT}
theorem xs_sum0 (hV : BV β n) (hE : EXr h β n N σ) (h0 : σ.2.1 = 0) : match sumX (tz β n) σ with
    | .inl e => ∃ h', (∀ d, (run (d + 28) 95 0 [.ref 73, aU, aU] [] h) = some (.threw 65, h')) ∧ OA (8 * (401 - σ.1)) (64 * (401 - σ.1)) XPF NPx h h' ∧ FZ h' ∧ XF h' e.1 e.2
    | .inr q => ∃ h' a, (∀ d, (run (d + 28) 95 0 [.ref 73, aU, aU] [] h) = some (.returned (some (.ref a)), h')) ∧ OA (8 * (q.1.1 - σ.1)) (64 * (q.1.1 - σ.1)) XPF NPx h h' ∧ EXr h' β n N q.1 ∧ SR h' 400 a q.2 ∧ q.1.2 = σ.2 ∧ σ.1 < q.1.1 := by
  have A := xs_sum hV hE (by omega)
  cases hx : sumX (tz β n) σ with
  | inl e =>
    rw [hx] at A
    obtain ⟨h1, e1, o1, f1⟩ := A
    rw [h0] at e1
    exact ⟨h1, fun d => e1 d, o1.le (by omega) (by omega), f1⟩
  | inr q =>
    rw [hx] at A
    obtain ⟨h1, a, e1, o1, E1, S1⟩ := A
    rw [h0] at e1
    obtain ⟨m1, m2, m3, -⟩ := sum_mono (tz_v hV) hx
    have := E1.le
    exact ⟨h1, a, fun d => e1 d, o1.le (by omega) (by omega), E1, S1.up (by omega), m3, m2⟩
theorem xl_less (hV : BV β n) (hE : EXr h β n N σ) (h0 : σ.2.1 = 0) (hL : LwQ h l x y z acc p q r) (h4 : acc.length < 4) : match sumX (tz β n) σ with
    | .inl e => ∃ h', (∀ d, lwX d 32 l h = some (.threw 65, h')) ∧ OA (8 * (401 - σ.1)) (64 * (401 - σ.1)) (XPL l) (PLx x y z) h h' ∧ FZ h' ∧ XF h' e.1 e.2
    | .inr s => ∃ h', (∀ d, lwX d 32 l h = lwX d 45 l h') ∧ OA (8 * (s.1.1 - σ.1)) (64 * (s.1.1 - σ.1)) (XPL l) (PLx x y z) h h' ∧ EXr h' β n N s.1 ∧ LwQ h' l x y z acc (some s.2) q r ∧ s.1.2 = σ.2 ∧ σ.1 < s.1.1 := by
  have hX := hE.1.1
  have A := xs_sum0 hV hE h0
  obtain ⟨⟨a1, a2, a3, a4, a5, a6, a7⟩, ⟨b1, b2, b3, b4, b5, b6, b7, b8, b9⟩, -⟩ := id hL
  cases hx : sumX (tz β n) σ with
  | inl e =>
    rw [hx] at A
    obtain ⟨h1, e1, o1, f1⟩ := A
    refine ⟨h1, fun d => ?_, o1.mono (Nat.le_refl _) (Nat.le_refl _) (fun _ _ q => Or.inl q) (fun _ _ q => q.elim), f1⟩
    unfold lwX
    simp only [e90_32, e90_33, e90_36, e90_37, e90_40, e90_41, e90_44, e90_45, xk_64 hX, xk_73 hX, xk_66 hX, xk_65 hX, ↓reduceIte, Nat.reduceAdd, Nat.reduceLeDiff, Nat.reduceLT, Nat.reduceEqDiff, not_false_eq_true, false_or, true_or, or_true, or_false, n0_e, n1_ne, n1_11, bI_z, bI_1, bI_fo, va_rf_some, aBk_1, aBk_0, nI_add, nI_mul, hk_si, hp_si, hl_si, hk_sp, hk_sl, hk_cp, hp_cp, a2, a3, a5, a6, a7, e1, bx_84, bx_85, bx_86, bx_87, bx_88, bx_89, bx_90, bx_91, bx_92, bx_93, bx_94, bx_95, bx_96, bx_97, bx_98, bx_99, bx_100, bx_101, bx_102, bx_103, bx_104]
  | inr s =>
    rw [hx] at A
    obtain ⟨h1, a, e1, o1, E1, S1, m3, m2⟩ := A
    have F1 := E1.2.2
    have L1 := hL.xp hE.2.2 o1
    have L2 := L1.st F1 (w := x) (by simp) S1
    simp only [b7, b8, b9, b7.symm, b8.symm, b9.symm, if_true, if_false] at L2
    obtain ⟨-, ⟨-, -, -, k4, k5, k6, -⟩, -⟩ := L1
    have hX1 := E1.1.1
    have wl := F1.lt k4 (by decide)
    have st := sto_111 S1.kk
    have w6 : 64 ≤ x := by omega
    refine ⟨_, fun d => ?_, ((o1.mono (Nat.le_refl _) (Nat.le_refl _) (fun _ _ q => Or.inl q) (fun _ _ q => q.elim)).sps (by unfold PLx; simp)), E1.sp b1 wl, L2, m3, m2⟩
    unfold lwX
    simp only [e90_32, e90_33, e90_36, e90_37, e90_40, e90_41, e90_44, xk_64 hX, xk_73 hX, xk_66 hX, xk_65 hX, xk_64 hX1, xk_73 hX1, xk_66 hX1, xk_65 hX1, ↓reduceIte, Nat.reduceAdd, Nat.reduceLeDiff, Nat.reduceLT, Nat.reduceEqDiff, not_false_eq_true, false_or, true_or, or_true, or_false, n0_e, n1_ne, n1_11, bI_z, bI_1, bI_fo, va_rf_some, aBk_1, aBk_0, nI_add, nI_mul, hk_si, hp_si, hl_si, hk_sp, hk_sl, hk_cp, hp_cp, a2, a3, a5, a6, a7, e1, k4, k5, k6, st, w6, h4]
theorem xl_than (hV : BV β n) (hE : EXr h β n N σ) (h0 : σ.2.1 = 0) (hL : LwQ h l x y z acc p q r) (h4 : acc.length < 4) : match sumX (tz β n) σ with
    | .inl e => ∃ h', (∀ d, lwX d 51 l h = some (.threw 65, h')) ∧ OA (8 * (401 - σ.1)) (64 * (401 - σ.1)) (XPL l) (PLx x y z) h h' ∧ FZ h' ∧ XF h' e.1 e.2
    | .inr s => ∃ h', (∀ d, lwX d 51 l h = lwX d 64 l h') ∧ OA (8 * (s.1.1 - σ.1)) (64 * (s.1.1 - σ.1)) (XPL l) (PLx x y z) h h' ∧ EXr h' β n N s.1 ∧ LwQ h' l x y z acc p (some s.2) r ∧ s.1.2 = σ.2 ∧ σ.1 < s.1.1 := by
  have hX := hE.1.1
  have A := xs_sum0 hV hE h0
  obtain ⟨⟨a1, a2, a3, a4, a5, a6, a7⟩, ⟨b1, b2, b3, b4, b5, b6, b7, b8, b9⟩, -⟩ := id hL
  cases hx : sumX (tz β n) σ with
  | inl e =>
    rw [hx] at A
    obtain ⟨h1, e1, o1, f1⟩ := A
    refine ⟨h1, fun d => ?_, o1.mono (Nat.le_refl _) (Nat.le_refl _) (fun _ _ q => Or.inl q) (fun _ _ q => q.elim), f1⟩
    unfold lwX
    simp only [e90_51, e90_52, e90_55, e90_56, e90_59, e90_60, e90_63, e90_64, xk_64 hX, xk_73 hX, xk_66 hX, xk_65 hX, ↓reduceIte, Nat.reduceAdd, Nat.reduceLeDiff, Nat.reduceLT, Nat.reduceEqDiff, not_false_eq_true, false_or, true_or, or_true, or_false, n0_e, n1_ne, n1_11, bI_z, bI_1, bI_fo, va_rf_some, aBk_1, aBk_0, nI_add, nI_mul, hk_si, hp_si, hl_si, hk_sp, hk_sl, hk_cp, hp_cp, a2, a3, a5, a6, a7, e1, bx_84, bx_85, bx_86, bx_87, bx_88, bx_89, bx_90, bx_91, bx_92, bx_93, bx_94, bx_95, bx_96, bx_97, bx_98, bx_99, bx_100, bx_101, bx_102, bx_103, bx_104]
  | inr s =>
    rw [hx] at A
    obtain ⟨h1, a, e1, o1, E1, S1, m3, m2⟩ := A
    have F1 := E1.2.2
    have L1 := hL.xp hE.2.2 o1
    have L2 := L1.st F1 (w := y) (by simp) S1
    simp only [b7, b8, b9, b7.symm, b8.symm, b9.symm, if_true, if_false] at L2
    obtain ⟨-, ⟨-, -, -, k4, k5, k6, -⟩, -⟩ := L1
    have hX1 := E1.1.1
    have wl := F1.lt k5 (by decide)
    have st := sto_111 S1.kk
    have w6 : 64 ≤ y := by omega
    refine ⟨_, fun d => ?_, ((o1.mono (Nat.le_refl _) (Nat.le_refl _) (fun _ _ q => Or.inl q) (fun _ _ q => q.elim)).sps (by unfold PLx; simp)), E1.sp b2 wl, L2, m3, m2⟩
    unfold lwX
    simp only [e90_51, e90_52, e90_55, e90_56, e90_59, e90_60, e90_63, xk_64 hX, xk_73 hX, xk_66 hX, xk_65 hX, xk_64 hX1, xk_73 hX1, xk_66 hX1, xk_65 hX1, ↓reduceIte, Nat.reduceAdd, Nat.reduceLeDiff, Nat.reduceLT, Nat.reduceEqDiff, not_false_eq_true, false_or, true_or, or_true, or_false, n0_e, n1_ne, n1_11, bI_z, bI_1, bI_fo, va_rf_some, aBk_1, aBk_0, nI_add, nI_mul, hk_si, hp_si, hl_si, hk_sp, hk_sl, hk_cp, hp_cp, a2, a3, a5, a6, a7, e1, k4, k5, k6, st, w6, h4]
theorem xl_then (hV : BV β n) (hE : EXr h β n N σ) (h0 : σ.2.1 = 0) (hL : LwQ h l x y z acc p q r) (h4 : acc.length < 5) : match sumX (tz β n) σ with
    | .inl e => ∃ h', (∀ d, lwX d 70 l h = some (.threw 65, h')) ∧ OA (8 * (401 - σ.1)) (64 * (401 - σ.1)) (XPL l) (PLx x y z) h h' ∧ FZ h' ∧ XF h' e.1 e.2
    | .inr s => ∃ h', (∀ d, lwX d 70 l h = lwX d 83 l h') ∧ OA (8 * (s.1.1 - σ.1)) (64 * (s.1.1 - σ.1)) (XPL l) (PLx x y z) h h' ∧ EXr h' β n N s.1 ∧ LwQ h' l x y z acc p q (some s.2) ∧ s.1.2 = σ.2 ∧ σ.1 < s.1.1 := by
  have hX := hE.1.1
  have A := xs_sum0 hV hE h0
  obtain ⟨⟨a1, a2, a3, a4, a5, a6, a7⟩, ⟨b1, b2, b3, b4, b5, b6, b7, b8, b9⟩, -⟩ := id hL
  cases hx : sumX (tz β n) σ with
  | inl e =>
    rw [hx] at A
    obtain ⟨h1, e1, o1, f1⟩ := A
    refine ⟨h1, fun d => ?_, o1.mono (Nat.le_refl _) (Nat.le_refl _) (fun _ _ q => Or.inl q) (fun _ _ q => q.elim), f1⟩
    unfold lwX
    simp only [e90_70, e90_71, e90_74, e90_75, e90_78, e90_79, e90_82, e90_83, xk_64 hX, xk_73 hX, xk_66 hX, xk_65 hX, ↓reduceIte, Nat.reduceAdd, Nat.reduceLeDiff, Nat.reduceLT, Nat.reduceEqDiff, not_false_eq_true, false_or, true_or, or_true, or_false, n0_e, n1_ne, n1_11, bI_z, bI_1, bI_fo, va_rf_some, aBk_1, aBk_0, nI_add, nI_mul, hk_si, hp_si, hl_si, hk_sp, hk_sl, hk_cp, hp_cp, a2, a3, a5, a6, a7, e1, bx_84, bx_85, bx_86, bx_87, bx_88, bx_89, bx_90, bx_91, bx_92, bx_93, bx_94, bx_95, bx_96, bx_97, bx_98, bx_99, bx_100, bx_101, bx_102, bx_103, bx_104]
  | inr s =>
    rw [hx] at A
    obtain ⟨h1, a, e1, o1, E1, S1, m3, m2⟩ := A
    have F1 := E1.2.2
    have L1 := hL.xp hE.2.2 o1
    have L2 := L1.st F1 (w := z) (by simp) S1
    simp only [b7, b8, b9, b7.symm, b8.symm, b9.symm, if_true, if_false] at L2
    obtain ⟨-, ⟨-, -, -, k4, k5, k6, -⟩, -⟩ := L1
    have hX1 := E1.1.1
    have wl := F1.lt k6 (by decide)
    have st := sto_111 S1.kk
    have w6 : 64 ≤ z := by omega
    refine ⟨_, fun d => ?_, ((o1.mono (Nat.le_refl _) (Nat.le_refl _) (fun _ _ q => Or.inl q) (fun _ _ q => q.elim)).sps (by unfold PLx; simp)), E1.sp b3 wl, L2, m3, m2⟩
    unfold lwX
    simp only [e90_70, e90_71, e90_74, e90_75, e90_78, e90_79, e90_82, xk_64 hX, xk_73 hX, xk_66 hX, xk_65 hX, xk_64 hX1, xk_73 hX1, xk_66 hX1, xk_65 hX1, ↓reduceIte, Nat.reduceAdd, Nat.reduceLeDiff, Nat.reduceLT, Nat.reduceEqDiff, not_false_eq_true, false_or, true_or, or_true, or_false, n0_e, n1_ne, n1_11, bI_z, bI_1, bI_fo, va_rf_some, aBk_1, aBk_0, nI_add, nI_mul, hk_si, hp_si, hl_si, hk_sp, hk_sl, hk_cp, hp_cp, a2, a3, a5, a6, a7, e1, k4, k5, k6, st, w6, h4]
theorem xl_else (hV : BV β n) (hE : EXr h β n N σ) (h0 : σ.2.1 = 0) (hL : LwQ h l x y z acc p q r) (h4 : acc.length < 5) : match sumX (tz β n) σ with
    | .inl e => ∃ h', (∀ d, lwX d 102 l h = some (.threw 65, h')) ∧ OA (8 * (401 - σ.1)) (64 * (401 - σ.1)) (XPL l) (PLx x y z) h h' ∧ FZ h' ∧ XF h' e.1 e.2
    | .inr s => ∃ h', (∀ d, lwX d 102 l h = lwX d 115 l h') ∧ OA (8 * (s.1.1 - σ.1)) (64 * (s.1.1 - σ.1)) (XPL l) (PLx x y z) h h' ∧ EXr h' β n N s.1 ∧ LwQ h' l x y z acc p q (some s.2) ∧ s.1.2 = σ.2 ∧ σ.1 < s.1.1 := by
  have hX := hE.1.1
  have A := xs_sum0 hV hE h0
  obtain ⟨⟨a1, a2, a3, a4, a5, a6, a7⟩, ⟨b1, b2, b3, b4, b5, b6, b7, b8, b9⟩, -⟩ := id hL
  cases hx : sumX (tz β n) σ with
  | inl e =>
    rw [hx] at A
    obtain ⟨h1, e1, o1, f1⟩ := A
    refine ⟨h1, fun d => ?_, o1.mono (Nat.le_refl _) (Nat.le_refl _) (fun _ _ q => Or.inl q) (fun _ _ q => q.elim), f1⟩
    unfold lwX
    simp only [e90_102, e90_103, e90_106, e90_107, e90_110, e90_111, e90_114, e90_115, xk_64 hX, xk_73 hX, xk_66 hX, xk_65 hX, ↓reduceIte, Nat.reduceAdd, Nat.reduceLeDiff, Nat.reduceLT, Nat.reduceEqDiff, not_false_eq_true, false_or, true_or, or_true, or_false, n0_e, n1_ne, n1_11, bI_z, bI_1, bI_fo, va_rf_some, aBk_1, aBk_0, nI_add, nI_mul, hk_si, hp_si, hl_si, hk_sp, hk_sl, hk_cp, hp_cp, a2, a3, a5, a6, a7, e1, bx_84, bx_85, bx_86, bx_87, bx_88, bx_89, bx_90, bx_91, bx_92, bx_93, bx_94, bx_95, bx_96, bx_97, bx_98, bx_99, bx_100, bx_101, bx_102, bx_103, bx_104]
  | inr s =>
    rw [hx] at A
    obtain ⟨h1, a, e1, o1, E1, S1, m3, m2⟩ := A
    have F1 := E1.2.2
    have L1 := hL.xp hE.2.2 o1
    have L2 := L1.st F1 (w := z) (by simp) S1
    simp only [b7, b8, b9, b7.symm, b8.symm, b9.symm, if_true, if_false] at L2
    obtain ⟨-, ⟨-, -, -, k4, k5, k6, -⟩, -⟩ := L1
    have hX1 := E1.1.1
    have wl := F1.lt k6 (by decide)
    have st := sto_111 S1.kk
    have w6 : 64 ≤ z := by omega
    refine ⟨_, fun d => ?_, ((o1.mono (Nat.le_refl _) (Nat.le_refl _) (fun _ _ q => Or.inl q) (fun _ _ q => q.elim)).sps (by unfold PLx; simp)), E1.sp b3 wl, L2, m3, m2⟩
    unfold lwX
    simp only [e90_102, e90_103, e90_106, e90_107, e90_110, e90_111, e90_114, xk_64 hX, xk_73 hX, xk_66 hX, xk_65 hX, xk_64 hX1, xk_73 hX1, xk_66 hX1, xk_65 hX1, ↓reduceIte, Nat.reduceAdd, Nat.reduceLeDiff, Nat.reduceLT, Nat.reduceEqDiff, not_false_eq_true, false_or, true_or, or_true, or_false, n0_e, n1_ne, n1_11, bI_z, bI_1, bI_fo, va_rf_some, aBk_1, aBk_0, nI_add, nI_mul, hk_si, hp_si, hl_si, hk_sp, hk_sl, hk_cp, hp_cp, a2, a3, a5, a6, a7, e1, k4, k5, k6, st, w6, h4]
end XL89
