set_option maxRecDepth 100000
/-! X: reading (10): P.law whole -/
theorem OA.tf {c s c' s' : Nat} {S P S' P' : Nat → Nat → Prop} {h h' h'' : aH} (a : OA c s S P h h') (b : OA c' s' S' P' h' h'') (hS : ∀ x f, S' x f → S x f ∨ hz_ h ≤ x) (hP : ∀ x f, P' x f → P x f ∨ hz_ h ≤ x) : OA (c + c') (s + s') S P h h'' := by
  obtain ⟨a1, a2, a3, a4, a5, a6, a7, a8⟩ := a
  obtain ⟨b1, b2, b3, b4, b5, b6, b7, b8⟩ := b
  exact ⟨by omega, by omega, by omega, by omega, fun x hx => (b5 x (by omega)).trans (a5 x hx), fun x f hx hn => (b6 x f (by omega) (fun q => (hP x f q).elim hn (fun z => by omega))).trans (a6 x f hx hn), fun x f hx hn => (b7 x f (by omega) (fun q => (hS x f q).elim hn (fun z => by omega))).trans (a7 x f hx hn), fun x f => (b8 x f).trans (a8 x f)⟩
section XL91
variable {n N : Nat} {h h' : aH} {β : Nat → Nat} {σ : aPs} {l x y z : Nat}
/-- the rest of a law -/
def LxR (β : Nat → Nat) (n N l x y z : Nat) (σ : aPs) (h : aH) (acc : List (cdT × cdT × cdT)) (v : aEr (aPs × aLw)) : Prop := match v with
  | .inl e => ∃ h', (∀ d, lwX d 14 l h = some (.threw 65, h')) ∧ OA (8 * (402 - σ.1)) (64 * (402 - σ.1)) (XPL l) (PLx x y z) h h' ∧ FZ h' ∧ XF h' e.1 e.2
  | .inr s => ∃ h', (∀ d, lwX d 14 l h = some (.returned (some (.ref l)), h')) ∧ OA (8 * (s.1.1 - σ.1)) (64 * (s.1.1 - σ.1)) (XPL l) (PLx x y z) h h' ∧ EXr h' β n N s.1 ∧ XL h' l (acc ++ s.2.1, s.2.2) ∧ σ.1 < s.1.1
theorem xl_stop (hV : BV β n) (hE : EXr h β n N σ) (h0 : σ.2.1 = 0) (hk : tk_ (tz β n) σ.1 ≠ 29) {acc : List (cdT × cdT × cdT)} (hL : LwQ h l x y z acc none none none) : LxR β n N l x y z σ h acc (eB (sumX (tz β n) σ) fun q => .inr (q.1, ([], q.2))) := by
  have hX := hE.1.1
  have lk := hL.lw
  have a4 := hL.1.2.2.2.1
  have ei := fun d => p_isWord (d := d) hE.1 (w := 9) (by decide)
  rw [decide_eq_false hk] at ei
  have st : ∀ d, lwX d 14 l h = lwX d 102 l h := fun d => by
    unfold lwX
    refine (e90_14).trans ?_
    simp only [e90_0, e90_3, e90_4, e90_7, e90_8, e90_9, e90_11, e90_15, e90_17, e90_20, e90_23, e90_24, e90_25, e90_28, e90_29, e90_32, e90_33, e90_36, e90_37, e90_40, e90_41, e90_44, e90_45, e90_46, e90_48, e90_51, e90_52, e90_55, e90_56, e90_59, e90_60, e90_63, e90_64, e90_65, e90_67, e90_70, e90_71, e90_74, e90_75, e90_78, e90_79, e90_82, e90_83, e90_84, e90_86, e90_89, e90_90, e90_91, e90_94, e90_95, e90_96, e90_99, e90_103, e90_106, e90_107, e90_110, e90_111, e90_114, e90_115, e90_116, xk_64 hX, xk_73 hX, xk_66 hX, xk_65 hX, ↓reduceIte, Nat.reduceAdd, Nat.reduceLeDiff, Nat.reduceLT, Nat.reduceEqDiff, not_false_eq_true, false_or, true_or, or_true, or_false, n0_e, n1_ne, n1_11, bI_z, bI_1, bI_fo, va_rf_some, aBk_1, aBk_0, nI_add, nI_mul, hk_si, hp_si, hl_si, hk_sp, hk_sl, hk_cp, hp_cp, ei]
  have A := xl_else hV hE h0 hL (by omega)
  cases hx : sumX (tz β n) σ with
  | inl e =>
    rw [hx] at A
    obtain ⟨h1, e1, o1, f1⟩ := A
    exact ⟨h1, fun d => (st d).trans (e1 d), o1.le (by omega) (by omega), f1⟩
  | inr s =>
    rw [hx] at A
    obtain ⟨h1, e1, o1, E1, L1, m3, m2⟩ := A
    refine ⟨h1, fun d => ((st d).trans (e1 d)).trans ?_, o1, E1, ?_, m2⟩
    · unfold lwX
      simp only [e90_115, e90_116, ↓reduceIte, Nat.reduceAdd, Nat.reduceLeDiff, Nat.reduceLT, Nat.reduceEqDiff, not_false_eq_true, false_or, true_or, or_true, or_false, n0_e, n1_ne, n1_11, bI_z, bI_1, bI_fo, va_rf_some, aBk_1, aBk_0, nI_add, nI_mul, hk_si, hp_si, hl_si, hk_sp, hk_sl, hk_cp, hp_cp]
    · show XL h1 l (acc ++ [], s.2)
      rw [List.append_nil]
      exact L1.X
theorem xl_loop (hV : BV β n) : ∀ (r : Nat) (acc : List (cdT × cdT × cdT)) (h : aH) (σ : aPs), acc.length + r = 4 → EXr h β n N σ → σ.2.1 = 0 → LwQ h l x y z acc none none none → LxR β n N l x y z σ h acc (ifX (tz β n) r σ)
  | 0, acc, h, σ, hr, hE, h0, hL => by
    unfold ifX
    by_cases q : tk_ (tz β n) σ.1 = 29
    · rw [if_pos q]
      have hX := hE.1.1
      have lk := hL.lw
      have a3 := hL.1.2.2.1
      have ei := fun d => p_isWord (d := d) hE.1 (w := 9) (by decide)
      rw [decide_eq_true q] at ei
      obtain ⟨o, h1, e1, o1, f1⟩ := p_begins hE.1 (by omega) (by omega) (has := acc.length) (most := 4) (by omega) (by decide)
      have er : roomX (tz β n) acc.length 4 σ = failX (tz β n) σ 2 := if_pos (by omega)
      rw [er] at f1
      obtain ⟨f0, f1⟩ := f1
      rw [f0] at e1
      refine ⟨h1, fun d => ?_, (onLx o1).le (Nat.zero_le _) (Nat.zero_le _), hE.2.2.px o1, f1⟩
      unfold lwX
      refine (e90_14).trans ?_
      simp only [e90_0, e90_3, e90_4, e90_7, e90_8, e90_9, e90_11, e90_15, e90_17, e90_20, e90_23, e90_24, e90_25, e90_28, e90_29, e90_32, e90_33, e90_36, e90_37, e90_40, e90_41, e90_44, e90_45, e90_46, e90_48, e90_51, e90_52, e90_55, e90_56, e90_59, e90_60, e90_63, e90_64, e90_65, e90_67, e90_70, e90_71, e90_74, e90_75, e90_78, e90_79, e90_82, e90_83, e90_84, e90_86, e90_89, e90_90, e90_91, e90_94, e90_95, e90_96, e90_99, e90_102, e90_103, e90_106, e90_107, e90_110, e90_111, e90_114, e90_115, e90_116, xk_64 hX, xk_73 hX, xk_66 hX, xk_65 hX, ↓reduceIte, Nat.reduceAdd, Nat.reduceLeDiff, Nat.reduceLT, Nat.reduceEqDiff, not_false_eq_true, false_or, true_or, or_true, or_false, n0_e, n1_ne, n1_11, bI_z, bI_1, bI_fo, va_rf_some, aBk_1, aBk_0, nI_add, nI_mul, hk_si, hp_si, hl_si, hk_sp, hk_sl, hk_cp, hp_cp, ei, reduceCtorEq, lk.1, a3, e1, bx_84, bx_85, bx_86, bx_87, bx_88, bx_89, bx_90, bx_91, bx_92, bx_93, bx_94, bx_95, bx_96, bx_97, bx_98, bx_99, bx_100, bx_101, bx_102, bx_103, bx_104]
    · rw [if_neg q]
      exact xl_stop hV hE h0 q hL
  | r + 1, acc, h, σ, hr, hE, h0, hL => by
    unfold ifX
    by_cases q : tk_ (tz β n) σ.1 = 29
    · rw [if_pos q]
      have A := xl_if hV hE h0 q hL (by omega)
      cases hx : ifO (tz β n) σ with
      | inl e =>
        rw [hx] at A
        exact A
      | inr s =>
        rw [hx] at A
        obtain ⟨h1, e1, o1, E1, L1, m1, m2⟩ := A
        have I := xl_loop hV r (acc ++ [s.2]) h1 s.1 (by rw [List.length_append, List.length_singleton]; omega) E1 (by rw [m2]; exact h0) L1
        have s4 := E1.le
        show LxR β n N l x y z σ h acc (eB (ifX (tz β n) r s.1) _)
        cases hy : ifX (tz β n) r s.1 with
        | inl e =>
          rw [hy] at I
          obtain ⟨h2, e2, o2, f2⟩ := I
          exact ⟨h2, fun d => (e1 d).trans (e2 d), (o1.trans o2).le (by omega) (by omega), f2⟩
        | inr w =>
          rw [hy] at I
          obtain ⟨h2, e2, o2, E2, X2, m3⟩ := I
          refine ⟨h2, fun d => (e1 d).trans (e2 d), (o1.trans o2).le (by show _ ≤ 8 * (w.1.1 - σ.1); omega) (by show _ ≤ 64 * (w.1.1 - σ.1); omega), E2, ?_, by show σ.1 < w.1.1; omega⟩
          rw [List.append_assoc] at X2
          exact X2
    · rw [if_neg q]
      exact xl_stop hV hE h0 q hL
/-- a new law -/
theorem w_init {l : Nat} (hF : FZ h) (hk : hk_ h l = (12, 0)) (hl : 504 ≤ l) (hi : hi_ h l 140 = 0) : ∃ h' x y z, (∀ d, (run (d) 303 0 [.ref l] [] h) = some (.returned none, h')) ∧ OA 3 13 NPx (fun a _ => a = l) h h' ∧ FZ h' ∧ LwQ h' l x y z [] none none none ∧ hz_ h ≤ x ∧ hz_ h ≤ y ∧ hz_ h ≤ z := by
  have ll := hF.lt hk (by decide)
  have h6 : 64 ≤ l := by omega
  have h98 : (12 : Nat) < 98 := by decide
  -- the three rows
  have o1 : OA (0 + 1) (0 + 4) NPx (fun a _ => a = l) h (nw_ h 111 4 4) := OA.refl.nw
  have F1 := hF.nw (κ := 111) (n := 4) (u := 4)
  have k1 : hk_ (nw_ h 111 4 4) l = (12, 0) := (o1.k ll).trans hk
  have o2 := o1.sps (x := l) (f := 137) (v := some (hz_ h)) rfl
  have F2 := F1.sp (x := l) (f := 137) (v := some (hz_ h)) (Nat.lt_succ_of_lt ll)
  have o3 := o2.nw (κ := 111) (n := 4) (u := 4)
  have F3 := F2.nw (κ := 111) (n := 4) (u := 4)
  have o4 := o3.sps (x := l) (f := 138) (v := some (hz_ h + 1)) rfl
  have F4 := F3.sp (x := l) (f := 138) (v := some (hz_ h + 1)) (Nat.lt_succ_of_lt (Nat.lt_succ_of_lt ll))
  have o5 := o4.nw (κ := 111) (n := 5) (u := 5)
  have F5 := F4.nw (κ := 111) (n := 5) (u := 5)
  have o6 := o5.sps (x := l) (f := 139) (v := some (hz_ h + 1 + 1)) rfl
  have F6 := F5.sp (x := l) (f := 139) (v := some (hz_ h + 1 + 1)) (Nat.lt_succ_of_lt (Nat.lt_succ_of_lt (Nat.lt_succ_of_lt ll)))
  have k3 := (o3.k ll).trans hk
  have k5 := (o5.k ll).trans hk
  have m4 : (4 : Nat) ≤ 1000000 := by decide
  have m5 : (5 : Nat) ≤ 1000000 := by decide
  have z1 : hz_ (sp_ (nw_ h 111 4 4) l 137 (some (hz_ h))) = hz_ h + 1 := rfl
  have z2 : hz_ (sp_ (nw_ (sp_ (nw_ h 111 4 4) l 137 (some (hz_ h))) 111 4 4) l 138 (some (hz_ h + 1))) = hz_ h + 1 + 1 := rfl
  refine ⟨_, hz_ h, hz_ h + 1, hz_ h + 1 + 1, fun d => ?_, o6, F6, ⟨⟨hl, (o6.k ll).trans hk, ?_, Nat.zero_le _, ?_, ?_, ?_⟩, ⟨by omega, by omega, by omega, ?_, ?_, ?_, by omega, by omega, by omega⟩, fun i hi => absurd hi (Nat.not_lt_zero i), fun _ e => (by cases e), fun _ e => (by cases e), fun _ e => (by cases e)⟩, Nat.le_refl _, by omega, by omega⟩
  · simp only [e303_0, e303_1, e303_4, e303_5, e303_6, e303_9, e303_9n, e303_12, e303_13, e303_14, e303_17, e303_17n, e303_20, e303_21, e303_22, e303_25, e303_25n, e303_28, ↓reduceIte, Nat.reduceAdd, Nat.reduceLeDiff, Nat.reduceLT, Nat.reduceEqDiff, not_false_eq_true, false_or, true_or, or_true, or_false, n0_e, n1_ne, n1_11, bI_z, bI_1, bI_fo, va_rf_some, aBk_1, aBk_0, nI_add, nI_mul, hk_si, hp_si, hl_si, hk_sp, hk_sl, hk_cp, hp_cp, hk, k1, h98, h6, m4, m5, k3, k5, z1, z2]
  · exact hi
  · show (if l = l ∧ 137 = 139 then _ else if l = l ∧ 137 = 138 then _ else if l = l ∧ 137 = 137 then _ else _) = _
    rw [if_neg (by omega), if_neg (by omega), if_pos ⟨rfl, rfl⟩]
  · show (if l = l ∧ 138 = 139 then _ else if l = l ∧ 138 = 138 then _ else _) = _
    rw [if_neg (by omega), if_pos ⟨rfl, rfl⟩]
  · exact if_pos ⟨rfl, rfl⟩
  · show (if hz_ h = hz_ h + 1 + 1 then _ else if hz_ h = hz_ h + 1 then _ else if hz_ h = hz_ h then _ else _) = _
    rw [if_neg (by omega), if_neg (by omega), if_pos rfl]
  · show (if hz_ h + 1 = hz_ h + 1 + 1 then _ else if hz_ h + 1 = hz_ h + 1 then _ else _) = _
    rw [if_neg (by omega), if_pos rfl]
  · exact if_pos rfl
theorem EXr.oan {c s : Nat} {S P : Nat → Nat → Prop} (hE : EXr h β n N σ) (o : OA c s S P h h') (hF : FZ h') (hs : ∀ a f, S a f → 504 ≤ a) (hP : ∀ a f, P a f → 504 ≤ a) : EXr h' β n N σ := ⟨hE.1.oa o hE.2.2.1 (fun a f q => by have := hs a f q; omega) (fun a f q => by have := hP a f q; omega), hE.2.1.oa o hE.2.2.1 (fun a f q => by have := hs a f q; omega), hF⟩
theorem x_law (hV : BV β n) (hE : EXr h β n N σ) (h0 : σ.2.1 = 0) : match lawX (tz β n) σ with
    | .inl e => ∃ h', (∀ d, (run (d + 29) 90 0 [.ref 73, aU] [] h) = some (.threw 65, h')) ∧ OA (8 * (403 - σ.1)) (64 * (403 - σ.1)) XPF NPx h h' ∧ FZ h' ∧ XF h' e.1 e.2
    | .inr s => ∃ h' l, (∀ d, (run (d + 29) 90 0 [.ref 73, aU] [] h) = some (.returned (some (.ref l)), h')) ∧ OA (8 * (s.1.1 - σ.1)) (64 * (s.1.1 - σ.1)) XPF NPx h h' ∧ EXr h' β n N s.1 ∧ XL h' l s.2 := by
  have hX := hE.1.1
  have hF := hE.2.2
  have hle := hE.le
  have z5 := hF.1
  have E1 := hE.nw (κ := 12) (m := 0) (u := 4)
  have k1 : hk_ (nw_ h 12 0 4) (hz_ h) = (12, 0) := if_pos rfl
  have i1 : hi_ (nw_ h 12 0 4) (hz_ h) 140 = 0 := ((hF.2 (hz_ h) (Nat.le_refl _)).2 140).2
  obtain ⟨h2, x, y, z, e2, o2, F2, L2, gx, gy, gz⟩ := w_init E1.2.2 k1 z5 i1
  have gx : hz_ h + 1 ≤ x := gx
  have gy : hz_ h + 1 ≤ y := gy
  have gz : hz_ h + 1 ≤ z := gz
  have o1 : OA (0 + 1) (0 + 4) XPF NPx h (nw_ h 12 0 4) := OA.refl.nw
  have o12 : OA (0 + 1 + 3) (0 + 4 + 13) XPF NPx h h2 := o1.tf o2 (fun _ _ q => q.elim) (fun a f q => Or.inr (by have : a = hz_ h := q; omega))
  have E2 := E1.oan o2 F2 (fun _ _ q => q.elim) (fun a f q => by have : a = hz_ h := q; omega)
  have hX1 := E1.1.1
  have hX2 := E2.1.1
  have h98 : (12 : Nat) < 98 := by decide
  obtain ⟨o, h3, e3, o3, f3⟩ := p_sign E2.1 (k := 5) (by unfold sgk; omega)
  have c5 : chr 5 = 61 := rfl
  rw [c5] at e3
  unfold lawX
  cases hm : mustX (tz β n) σ 5 with
  | inl e =>
    rw [hm] at f3
    obtain ⟨f0, f3⟩ := f3
    rw [f0] at e3
    refine ⟨h3, fun d => ?_, (o12.trans o3.OA).le (by omega) (by omega), F2.px o3, f3⟩
    simp only [e90_0, e90_3, e90_4, e90_7, e90_8, e90_9, e90_11, e90_15, e90_17, e90_20, e90_23, e90_24, e90_25, e90_28, e90_29, e90_32, e90_33, e90_36, e90_37, e90_40, e90_41, e90_44, e90_45, e90_46, e90_48, e90_51, e90_52, e90_55, e90_56, e90_59, e90_60, e90_63, e90_64, e90_65, e90_67, e90_70, e90_71, e90_74, e90_75, e90_78, e90_79, e90_82, e90_83, e90_84, e90_86, e90_89, e90_90, e90_91, e90_94, e90_95, e90_96, e90_99, e90_102, e90_103, e90_106, e90_107, e90_110, e90_111, e90_114, e90_115, e90_116, xk_64 hX, xk_73 hX, xk_66 hX, xk_65 hX, xk_64 hX1, xk_73 hX1, xk_66 hX1, xk_65 hX1, xk_64 hX2, xk_73 hX2, xk_66 hX2, xk_65 hX2, ↓reduceIte, Nat.reduceAdd, Nat.reduceLeDiff, Nat.reduceLT, Nat.reduceEqDiff, not_false_eq_true, false_or, true_or, or_true, or_false, n0_e, n1_ne, n1_11, bI_z, bI_1, bI_fo, va_rf_some, aBk_1, aBk_0, nI_add, nI_mul, hk_si, hp_si, hl_si, hk_sp, hk_sl, hk_cp, hp_cp, k1, h98, e2, e3, bx_84, bx_85, bx_86, bx_87, bx_88, bx_89, bx_90, bx_91, bx_92, bx_93, bx_94, bx_95, bx_96, bx_97, bx_98, bx_99, bx_100, bx_101, bx_102, bx_103, bx_104]
  | inr s =>
    rw [hm] at f3
    obtain ⟨f0, f3⟩ := f3
    rw [f0] at e3
    have es := (must_inr hm).2.2
    have s1 : s.1 = σ.1 + 1 := by rw [es]
    have E3 := E2.px o3 f3
    have L3 := L2.xp F2 o3.OA
    have I := xl_loop hV 4 [] h3 s rfl E3 (by rw [es]; exact h0) L3
    have st : ∀ d, (run (d + 29) 90 0 [.ref 73, aU] [] h) = lwX d 14 (hz_ h) h3 := fun d => by
      unfold lwX
      simp only [e90_0, e90_3, e90_4, e90_7, e90_8, e90_9, e90_11, e90_15, e90_17, e90_20, e90_23, e90_24, e90_25, e90_28, e90_29, e90_32, e90_33, e90_36, e90_37, e90_40, e90_41, e90_44, e90_45, e90_46, e90_48, e90_51, e90_52, e90_55, e90_56, e90_59, e90_60, e90_63, e90_64, e90_65, e90_67, e90_70, e90_71, e90_74, e90_75, e90_78, e90_79, e90_82, e90_83, e90_84, e90_86, e90_89, e90_90, e90_91, e90_94, e90_95, e90_96, e90_99, e90_102, e90_103, e90_106, e90_107, e90_110, e90_111, e90_114, e90_115, e90_116, xk_64 hX, xk_73 hX, xk_66 hX, xk_65 hX, xk_64 hX1, xk_73 hX1, xk_66 hX1, xk_65 hX1, xk_64 hX2, xk_73 hX2, xk_66 hX2, xk_65 hX2, ↓reduceIte, Nat.reduceAdd, Nat.reduceLeDiff, Nat.reduceLT, Nat.reduceEqDiff, not_false_eq_true, false_or, true_or, or_true, or_false, n0_e, n1_ne, n1_11, bI_z, bI_1, bI_fo, va_rf_some, aBk_1, aBk_0, nI_add, nI_mul, hk_si, hp_si, hl_si, hk_sp, hk_sl, hk_cp, hp_cp, k1, h98, e2, e3]
    have fS : ∀ a f, XPL (hz_ h) a f → XPF a f ∨ hz_ h ≤ a := fun a f q => q.imp id (fun w => by omega)
    have fP : ∀ a f, PLx x y z a f → NPx a f ∨ hz_ h ≤ a := fun a f q => Or.inr (by unfold PLx at q; omega)
    show match ifX (tz β n) 4 s with
      | .inl e => _
      | .inr s => _
    cases hy : ifX (tz β n) 4 s with
    | inl e =>
      rw [hy] at I
      obtain ⟨h4, e4, o4, F4, f4⟩ := I
      exact ⟨h4, fun d => (st d).trans (e4 d), ((o12.trans o3.OA).tf o4 fS fP).le (by omega) (by omega), F4, f4⟩
    | inr w =>
      rw [hy] at I
      obtain ⟨h4, e4, o4, E4, X4, m4⟩ := I
      refine ⟨h4, hz_ h, fun d => (st d).trans (e4 d), ((o12.trans o3.OA).tf o4 fS fP).le (by show _ ≤ 8 * (w.1.1 - σ.1); omega) (by show _ ≤ 64 * (w.1.1 - σ.1); omega), E4, X4⟩
end XL91
