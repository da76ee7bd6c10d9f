set_option maxRecDepth 100000
/-! X: reading (6): what follows in a part, in a sum; all sums -/
section XS87
variable {n N m : Nat} {h h' : aH} {β : Nat → Nat} {σ : aPs}
theorem xl_part (hV : BV β n) (U : exU0 β n N m) (L : exL1 β n N m) : exL1 β n N (m + 1) := by
  intro h σ c a z hE hS h6 hn
  obtain ⟨hR, hW, hF⟩ := id hE
  have hX := hR.1
  have hle := hE.le
  have h40 := hR.2.1.1
  have g1 : σ.1 < 2001 := by omega
  have a2 := hR.2.2.2.2.1
  have i1 := fun d => p_isSign (d := d) hR (k := 10) (by unfold sgk; omega)
  have i2 := fun d => p_isSign (d := d) hR (k := 15) (by unfold sgk; omega)
  have c1 : chr 10 = 42 := rfl
  have c2 : chr 15 = 47 := rfl
  rw [c1] at i1
  rw [c2] at i2
  rw [ex1]
  by_cases q : tk_ (tz β n) σ.1 = 10 ∨ tk_ (tz β n) σ.1 = 15
  · rw [if_pos q]
    have kw := (hR.2.2.1 σ.1 hR.2.2.2.1).2.2.2.2 (by unfold sgk; omega)
    obtain ⟨o, h1, e1, o1, f1⟩ := p_pass hR (hR.nx (by omega) (by omega))
    have pre : ∀ D x, plAt a z D h = x ↔ aBk (D + 9) 96 37 [.ref 73, .ref a, .int (nI (chr (tk_ (tz β n) σ.1)))] [] true (run (D + 8) 89 0 [.ref 73] [] h) = x := fun D x => by
      unfold plAt
      rcases q with q | q
      · rw [decide_eq_true q] at i1
        refine Iff.of_eq (congrArg (· = x) ?_)
        refine (e96_5).trans ?_
        simp only [e96_0, e96_1, e96_4, e96_6, e96_8, e96_11, e96_14, e96_15, e96_17, e96_20, e96_23, e96_24, e96_27, e96_30, e96_31, e96_34, e96_35, e96_36, e96_37, e96_40, e96_43, e96_44, e96_45, e96_46, e96_47, e96_50, e96_53, e96_54, e96_57, e96_58, xk_64 hX, xk_73 hX, xk_66 hX, xk_65 hX, xp_35 hX, xk_72 hX, xp_37 hX, ↓reduceIte, Nat.reduceAdd, Nat.reduceLeDiff, Nat.reduceLT, Nat.reduceEqDiff, not_false_eq_true, false_or, true_or, or_true, or_false, n0_e, n1_ne, n1_11, bI_z, bI_1, bI_fo, va_rf_some, aBk_1, aBk_0, nI_add, nI_mul, hk_si, hp_si, hl_si, hk_sp, hk_sl, hk_cp, hp_cp, i1, reduceCtorEq, a2, g1, kw]
      · rw [decide_eq_false (by omega)] at i1
        rw [decide_eq_true q] at i2
        refine Iff.of_eq (congrArg (· = x) ?_)
        refine (e96_5).trans ?_
        simp only [e96_0, e96_1, e96_4, e96_6, e96_8, e96_11, e96_14, e96_15, e96_17, e96_20, e96_23, e96_24, e96_27, e96_30, e96_31, e96_34, e96_35, e96_36, e96_37, e96_40, e96_43, e96_44, e96_45, e96_46, e96_47, e96_50, e96_53, e96_54, e96_57, e96_58, xk_64 hX, xk_73 hX, xk_66 hX, xk_65 hX, xp_35 hX, xk_72 hX, xp_37 hX, ↓reduceIte, Nat.reduceAdd, Nat.reduceLeDiff, Nat.reduceLT, Nat.reduceEqDiff, not_false_eq_true, false_or, true_or, or_true, or_false, n0_e, n1_ne, n1_11, bI_z, bI_1, bI_fo, va_rf_some, aBk_1, aBk_0, nI_add, nI_mul, hk_si, hp_si, hl_si, hk_sp, hk_sl, hk_cp, hp_cp, i1, i2, reduceCtorEq, a2, g1, kw]
    cases hg : goX (tz β n) σ with
    | inl e =>
      rw [hg] at f1
      refine ⟨h1, fun d => (pre _ _).mpr ?_, o1.OA.le (by omega) (by omega), hF.px o1, f1.2⟩
      rw [f1.1] at e1
      rw [e1, bx_96]
    | inr s =>
      rw [hg] at f1
      obtain ⟨f0, R1⟩ := f1
      rw [f0] at e1
      have es1 := (go_inr hg).2
      have s1 : s.1 = σ.1 + 1 := by rw [es1]
      have s2 : s.2.1 = σ.2.1 := by rw [es1]
      have E1 := hE.px o1 R1
      have E2 := E1.nw (κ := 15) (m := 0) (u := 3)
      have z1 := E1.2.2.1
      have hX2 := E2.1.1
      have zz := o1.z
      have k2 : hk_ (nw_ h1 15 0 3) (hz_ h1) = (15, 0) := if_pos rfl
      have A := U _ s E2 (by rw [s2]; exact h6) (by omega)
      have o12 : OA (0 + 1) (0 + 3) XPF NPx h (nw_ h1 15 0 3) := (o1.OA (P := NPx)).nw
      have S2 : SR (nw_ h1 15 0 3) c.length a c := hS.oa hF o12 (fun x f q => q.na) (fun _ _ q => q.elim)
      show SmR β n N σ h (eB (exX (tz β n) m 0 s []) _) (plAt a z)
      cases hx : exX (tz β n) m 0 s [] with
      | inl e =>
        rw [hx] at A
        obtain ⟨h3, e3, o3, f3⟩ := A
        rw [s2] at e3
        refine ⟨h3, fun d => (pre _ _).mpr ?_, (o12.trans o3).le (by omega) (by omega), f3⟩
        have e3 := e3 d
        unfold uAt at e3
        generalize d + 3 * (6 - σ.2.1) = D at *
        simp only [e96_0, e96_1, e96_4, e96_6, e96_8, e96_11, e96_14, e96_15, e96_17, e96_20, e96_23, e96_24, e96_27, e96_30, e96_31, e96_34, e96_35, e96_36, e96_37, e96_40, e96_43, e96_44, e96_45, e96_46, e96_47, e96_50, e96_53, e96_54, e96_57, e96_58, xk_64 hX, xk_73 hX, xk_66 hX, xk_65 hX, xp_35 hX, xk_72 hX, xp_37 hX, xk_64 hX2, xk_73 hX2, xk_66 hX2, xk_65 hX2, xp_35 hX2, xk_72 hX2, xp_37 hX2, ↓reduceIte, Nat.reduceAdd, Nat.reduceLeDiff, Nat.reduceLT, Nat.reduceEqDiff, not_false_eq_true, false_or, true_or, or_true, or_false, n0_e, n1_ne, n1_11, bI_z, bI_1, bI_fo, va_rf_some, aBk_1, aBk_0, nI_add, nI_mul, hk_si, hp_si, hl_si, hk_sp, hk_sl, hk_cp, hp_cp, e1, e3, bx_84, bx_85, bx_86, bx_87, bx_88, bx_89, bx_90, bx_91, bx_92, bx_93, bx_94, bx_95, bx_96, bx_97, bx_98, bx_99, bx_100, bx_101, bx_102, bx_103, bx_104]
      | inr r =>
        rw [hx] at A
        obtain ⟨h3, b, e3, o3, E3, S3⟩ := A
        rw [s2] at e3
        have jl : hz_ h1 < hz_ (nw_ h1 15 0 3) := Nat.lt_succ_self _
        have kj : hk_ h3 (hz_ h1) = (15, 0) := (o3.k jl).trans k2
        have pj : ∀ f, hp_ h3 (hz_ h1) f = none := fun f => (o3.p jl (fun q => q)).trans ((E1.2.2.2 (hz_ h1) (Nat.le_refl _)).2 f).1
        have S3' := S2.oa E2.2.2 o3 (fun x f q => q.na) (fun _ _ q => q.elim)
        obtain ⟨E4, S4⟩ := x_join (k := tk_ (tz β n) σ.1) E3 kj z1 S3' S3 (by omega) pj
        have oi := fun d => o_init (d := d) (v := nI (chr (tk_ (tz β n) σ.1))) (x := a) (y := b) kj (by omega)
        have hX3 := E3.1.1
        obtain ⟨m1, m2, m3, -⟩ := (ex_mono (tz_v hV) m).1 _ _ _ _ hx
        have mo : r.1.2.1 = s.2.1 := by rw [m3]
        have m2 : s.1 < r.1.1 := m2
        have o4 : OA (0 + 1 + (r.1.1 - s.1)) (0 + 3 + 3 * (r.1.1 - s.1)) XPF NPx h (sp_ (sp_ (si_ h3 (hz_ h1) 143 (nI (chr (tk_ (tz β n) σ.1)))) (hz_ h1) 144 (some a)) (hz_ h1) 145 (some b)) := (((o12.trans o3).sif (by omega)).spf (by omega)).spf (by omega)
        refine SmR.seq (s := r.1) (by omega) E3.le (by rw [mo, s2]) o4 (by omega) (by omega) (fun w hw => ((ex_mono (tz_v hV) m).2 1 (by omega) _ _ _ _ hw).2.1) (fun d => (pre _ _).mpr ?_) (L _ r.1 _ (hz_ h1) (.int (nI (chr (tk_ (tz β n) σ.1)))) E4 S4 (by rw [mo, s2]; exact h6) (by omega))
        have e3 := e3 d
        unfold uAt at e3
        unfold plAt
        generalize d + 3 * (6 - σ.2.1) = D at *
        have h98 : (15 : Nat) < 98 := by decide
        simp only [e96_0, e96_1, e96_4, e96_6, e96_8, e96_11, e96_14, e96_15, e96_17, e96_20, e96_23, e96_24, e96_27, e96_30, e96_31, e96_34, e96_35, e96_36, e96_37, e96_40, e96_43, e96_44, e96_45, e96_46, e96_47, e96_50, e96_53, e96_54, e96_57, e96_58, xk_64 hX, xk_73 hX, xk_66 hX, xk_65 hX, xp_35 hX, xk_72 hX, xp_37 hX, xk_64 hX2, xk_73 hX2, xk_66 hX2, xk_65 hX2, xp_35 hX2, xk_72 hX2, xp_37 hX2, xk_64 hX3, xk_73 hX3, xk_66 hX3, xk_65 hX3, xp_35 hX3, xk_72 hX3, xp_37 hX3, ↓reduceIte, Nat.reduceAdd, Nat.reduceLeDiff, Nat.reduceLT, Nat.reduceEqDiff, not_false_eq_true, false_or, true_or, or_true, or_false, n0_e, n1_ne, n1_11, bI_z, bI_1, bI_fo, va_rf_some, aBk_1, aBk_0, nI_add, nI_mul, hk_si, hp_si, hl_si, hk_sp, hk_sl, hk_cp, hp_cp, e1, e3, kj, h98, oi]
  · rw [if_neg q]
    rw [decide_eq_false (by omega)] at i1 i2
    refine ⟨h, a, fun d => ?_, OA.refl.le (Nat.zero_le _) (Nat.zero_le _), hE, hS⟩
    unfold plAt
    generalize d + 3 * (6 - σ.2.1) = D at *
    refine (e96_5).trans ?_
    simp only [e96_0, e96_1, e96_4, e96_6, e96_8, e96_11, e96_14, e96_15, e96_17, e96_20, e96_23, e96_24, e96_27, e96_30, e96_31, e96_34, e96_35, e96_36, e96_37, e96_40, e96_43, e96_44, e96_45, e96_46, e96_47, e96_50, e96_53, e96_54, e96_57, e96_58, xk_64 hX, xk_73 hX, xk_66 hX, xk_65 hX, xp_35 hX, xk_72 hX, xp_37 hX, ↓reduceIte, Nat.reduceAdd, Nat.reduceLeDiff, Nat.reduceLT, Nat.reduceEqDiff, not_false_eq_true, false_or, true_or, or_true, or_false, n0_e, n1_ne, n1_11, bI_z, bI_1, bI_fo, va_rf_some, aBk_1, aBk_0, nI_add, nI_mul, hk_si, hp_si, hl_si, hk_sp, hk_sl, hk_cp, hp_cp, i1, i2]
theorem eB2 {α β γ : Type} {x : aEr α} {f : α → aEr β} {g : β → aEr γ} : (eB x fun q => eB (f q) g) = eB (eB x f) g := by
  cases x with
  | inl e => rfl
  | inr a => rfl
theorem xl_sum (hV : BV β n) (U : exU0 β n N m) (L : exL1 β n N m) (L2 : exL2 β n N m) : exL2 β n N (m + 1) := by
  intro h σ c a z hE hS h6 hn
  obtain ⟨hR, hW, hF⟩ := id hE
  have hX := hR.1
  have hle := hE.le
  have h40 := hR.2.1.1
  have g1 : σ.1 < 2001 := by omega
  have a2 := hR.2.2.2.2.1
  have i1 := fun d => p_isSign (d := d) hR (k := 8) (by unfold sgk; omega)
  have i2 := fun d => p_isSign (d := d) hR (k := 9) (by unfold sgk; omega)
  have c1 : chr 8 = 43 := rfl
  have c2 : chr 9 = 45 := rfl
  rw [c1] at i1
  rw [c2] at i2
  rw [ex2]
  by_cases q : tk_ (tz β n) σ.1 = 8 ∨ tk_ (tz β n) σ.1 = 9
  · rw [if_pos q]
    have kw := (hR.2.2.1 σ.1 hR.2.2.2.1).2.2.2.2 (by unfold sgk; omega)
    obtain ⟨o, h1, e1, o1, f1⟩ := p_pass hR (hR.nx (by omega) (by omega))
    have pre : ∀ D x, slAt a z D h = x ↔ aBk (D + 10) 95 37 [.ref 73, .ref a, .int (nI (chr (tk_ (tz β n) σ.1)))] [] true (run (D + 9) 89 0 [.ref 73] [] h) = x := fun D x => by
      unfold slAt
      rcases q with q | q
      · rw [decide_eq_true q] at i1
        refine Iff.of_eq (congrArg (· = x) ?_)
        refine (e95_5).trans ?_
        simp only [e95_0, e95_1, e95_4, e95_6, e95_8, e95_11, e95_14, e95_15, e95_17, e95_20, e95_23, e95_24, e95_27, e95_30, e95_31, e95_34, e95_35, e95_36, e95_37, e95_40, e95_43, e95_44, e95_45, e95_46, e95_47, e95_50, e95_53, e95_54, e95_57, e95_58, xk_64 hX, xk_73 hX, xk_66 hX, xk_65 hX, xp_35 hX, xk_72 hX, xp_37 hX, ↓reduceIte, Nat.reduceAdd, Nat.reduceLeDiff, Nat.reduceLT, Nat.reduceEqDiff, not_false_eq_true, false_or, true_or, or_true, or_false, n0_e, n1_ne, n1_11, bI_z, bI_1, bI_fo, va_rf_some, aBk_1, aBk_0, nI_add, nI_mul, hk_si, hp_si, hl_si, hk_sp, hk_sl, hk_cp, hp_cp, i1, reduceCtorEq, a2, g1, kw]
      · rw [decide_eq_false (by omega)] at i1
        rw [decide_eq_true q] at i2
        refine Iff.of_eq (congrArg (· = x) ?_)
        refine (e95_5).trans ?_
        simp only [e95_0, e95_1, e95_4, e95_6, e95_8, e95_11, e95_14, e95_15, e95_17, e95_20, e95_23, e95_24, e95_27, e95_30, e95_31, e95_34, e95_35, e95_36, e95_37, e95_40, e95_43, e95_44, e95_45, e95_46, e95_47, e95_50, e95_53, e95_54, e95_57, e95_58, xk_64 hX, xk_73 hX, xk_66 hX, xk_65 hX, xp_35 hX, xk_72 hX, xp_37 hX, ↓reduceIte, Nat.reduceAdd, Nat.reduceLeDiff, Nat.reduceLT, Nat.reduceEqDiff, not_false_eq_true, false_or, true_or, or_true, or_false, n0_e, n1_ne, n1_11, bI_z, bI_1, bI_fo, va_rf_some, aBk_1, aBk_0, nI_add, nI_mul, hk_si, hp_si, hl_si, hk_sp, hk_sl, hk_cp, hp_cp, i1, i2, reduceCtorEq, a2, g1, kw]
    cases hg : goX (tz β n) σ with
    | inl e =>
      rw [hg] at f1
      refine ⟨h1, fun d => (pre _ _).mpr ?_, o1.OA.le (by omega) (by omega), hF.px o1, f1.2⟩
      rw [f1.1] at e1
      rw [e1, bx_95]
    | inr s =>
      rw [hg] at f1
      obtain ⟨f0, R1⟩ := f1
      rw [f0] at e1
      have es1 := (go_inr hg).2
      have s1 : s.1 = σ.1 + 1 := by rw [es1]
      have s2 : s.2.1 = σ.2.1 := by rw [es1]
      have E1 := hE.px o1 R1
      have E2 := E1.nw (κ := 15) (m := 0) (u := 3)
      have z1 := E1.2.2.1
      have hX2 := E2.1.1
      have zz := o1.z
      have k2 : hk_ (nw_ h1 15 0 3) (hz_ h1) = (15, 0) := if_pos rfl
      have A := xp_part hV U L (σ := s) E2 (by rw [s2]; exact h6) (by omega)
      have o12 : OA (0 + 1) (0 + 3) XPF NPx h (nw_ h1 15 0 3) := (o1.OA (P := NPx)).nw
      have S2 : SR (nw_ h1 15 0 3) c.length a c := hS.oa hF o12 (fun x f q => q.na) (fun _ _ q => q.elim)
      show SmR β n N σ h (eB (exX (tz β n) m 0 s []) (fun q => eB (exX (tz β n) m 1 q.1 q.2) fun q => exX (tz β n) m 2 q.1 (c ++ q.2 ++ [(oc (tk_ (tz β n) σ.1), 0)]))) (slAt a z)
      cases hx : eB (exX (tz β n) m 0 s []) fun q => exX (tz β n) m 1 q.1 q.2 with
      | inl e =>
        rw [hx] at A
        obtain ⟨h3, e3, o3, f3⟩ := A
        rw [s2] at e3
        rw [eB2, hx]
        refine ⟨h3, fun d => (pre _ _).mpr ?_, (o12.trans o3).le (by omega) (by omega), f3⟩
        have e3 := e3 d
        unfold pAt at e3
        generalize d + 3 * (6 - σ.2.1) = D at *
        simp only [e95_0, e95_1, e95_4, e95_6, e95_8, e95_11, e95_14, e95_15, e95_17, e95_20, e95_23, e95_24, e95_27, e95_30, e95_31, e95_34, e95_35, e95_36, e95_37, e95_40, e95_43, e95_44, e95_45, e95_46, e95_47, e95_50, e95_53, e95_54, e95_57, e95_58, xk_64 hX, xk_73 hX, xk_66 hX, xk_65 hX, xp_35 hX, xk_72 hX, xp_37 hX, xk_64 hX2, xk_73 hX2, xk_66 hX2, xk_65 hX2, xp_35 hX2, xk_72 hX2, xp_37 hX2, ↓reduceIte, Nat.reduceAdd, Nat.reduceLeDiff, Nat.reduceLT, Nat.reduceEqDiff, not_false_eq_true, false_or, true_or, or_true, or_false, n0_e, n1_ne, n1_11, bI_z, bI_1, bI_fo, va_rf_some, aBk_1, aBk_0, nI_add, nI_mul, hk_si, hp_si, hl_si, hk_sp, hk_sl, hk_cp, hp_cp, e1, e3, bx_84, bx_85, bx_86, bx_87, bx_88, bx_89, bx_90, bx_91, bx_92, bx_93, bx_94, bx_95, bx_96, bx_97, bx_98, bx_99, bx_100, bx_101, bx_102, bx_103, bx_104]
      | inr r =>
        rw [hx] at A
        obtain ⟨h3, b, e3, o3, E3, S3⟩ := A
        rw [s2] at e3
        have jl : hz_ h1 < hz_ (nw_ h1 15 0 3) := Nat.lt_succ_self _
        have kj : hk_ h3 (hz_ h1) = (15, 0) := (o3.k jl).trans k2
        have pj : ∀ f, hp_ h3 (hz_ h1) f = none := fun f => (o3.p jl (fun q => q)).trans ((E1.2.2.2 (hz_ h1) (Nat.le_refl _)).2 f).1
        have S3' := S2.oa E2.2.2 o3 (fun x f q => q.na) (fun _ _ q => q.elim)
        obtain ⟨E4, S4⟩ := x_join (k := tk_ (tz β n) σ.1) E3 kj z1 S3' S3 (by omega) pj
        have oi := fun d => o_init (d := d) (v := nI (chr (tk_ (tz β n) σ.1))) (x := a) (y := b) kj (by omega)
        have hX3 := E3.1.1
        obtain ⟨⟨t1, u1⟩, y1, y2⟩ := eB_inr hx
        obtain ⟨m1, m2, m3, -⟩ := (ex_mono (tz_v hV) m).1 _ _ _ _ y1
        obtain ⟨l1, l2, l3, -⟩ := (ex_mono (tz_v hV) m).2 1 (Or.inl rfl) _ _ _ _ y2
        have mo : r.1.2.1 = s.2.1 := by rw [l3, m3]
        have l2 : t1.1 ≤ r.1.1 := l2
        have m2 : s.1 < t1.1 := m2
        have o4 : OA (0 + 1 + (r.1.1 - s.1)) (0 + 3 + 3 * (r.1.1 - s.1)) XPF NPx h (sp_ (sp_ (si_ h3 (hz_ h1) 143 (nI (chr (tk_ (tz β n) σ.1)))) (hz_ h1) 144 (some a)) (hz_ h1) 145 (some b)) := (((o12.trans o3).sif (by omega)).spf (by omega)).spf (by omega)
        rw [eB2, hx]
        refine SmR.seq (s := r.1) (by omega) E3.le (by rw [mo, s2]) o4 (by omega) (by omega) (fun w hw => ((ex_mono (tz_v hV) m).2 2 (by omega) _ _ _ _ hw).2.1) (fun d => (pre _ _).mpr ?_) (L2 _ r.1 _ (hz_ h1) (.int (nI (chr (tk_ (tz β n) σ.1)))) E4 S4 (by rw [mo, s2]; exact h6) (by omega))
        have e3 := e3 d
        unfold pAt at e3
        unfold slAt
        generalize d + 3 * (6 - σ.2.1) = D at *
        have h98 : (15 : Nat) < 98 := by decide
        simp only [e95_0, e95_1, e95_4, e95_6, e95_8, e95_11, e95_14, e95_15, e95_17, e95_20, e95_23, e95_24, e95_27, e95_30, e95_31, e95_34, e95_35, e95_36, e95_37, e95_40, e95_43, e95_44, e95_45, e95_46, e95_47, e95_50, e95_53, e95_54, e95_57, e95_58, xk_64 hX, xk_73 hX, xk_66 hX, xk_65 hX, xp_35 hX, xk_72 hX, xp_37 hX, xk_64 hX2, xk_73 hX2, xk_66 hX2, xk_65 hX2, xp_35 hX2, xk_72 hX2, xp_37 hX2, xk_64 hX3, xk_73 hX3, xk_66 hX3, xk_65 hX3, xp_35 hX3, xk_72 hX3, xp_37 hX3, ↓reduceIte, Nat.reduceAdd, Nat.reduceLeDiff, Nat.reduceLT, Nat.reduceEqDiff, not_false_eq_true, false_or, true_or, or_true, or_false, n0_e, n1_ne, n1_11, bI_z, bI_1, bI_fo, va_rf_some, aBk_1, aBk_0, nI_add, nI_mul, hk_si, hp_si, hl_si, hk_sp, hk_sl, hk_cp, hp_cp, e1, e3, kj, h98, oi]
  · rw [if_neg q]
    rw [decide_eq_false (by omega)] at i1 i2
    refine ⟨h, a, fun d => ?_, OA.refl.le (Nat.zero_le _) (Nat.zero_le _), hE, hS⟩
    unfold slAt
    generalize d + 3 * (6 - σ.2.1) = D at *
    refine (e95_5).trans ?_
    simp only [e95_0, e95_1, e95_4, e95_6, e95_8, e95_11, e95_14, e95_15, e95_17, e95_20, e95_23, e95_24, e95_27, e95_30, e95_31, e95_34, e95_35, e95_36, e95_37, e95_40, e95_43, e95_44, e95_45, e95_46, e95_47, e95_50, e95_53, e95_54, e95_57, e95_58, xk_64 hX, xk_73 hX, xk_66 hX, xk_65 hX, xp_35 hX, xk_72 hX, xp_37 hX, ↓reduceIte, Nat.reduceAdd, Nat.reduceLeDiff, Nat.reduceLT, Nat.reduceEqDiff, not_false_eq_true, false_or, true_or, or_true, or_false, n0_e, n1_ne, n1_11, bI_z, bI_1, bI_fo, va_rf_some, aBk_1, aBk_0, nI_add, nI_mul, hk_si, hp_si, hl_si, hk_sp, hk_sl, hk_cp, hp_cp, i1, i2]
theorem x_unitO (hV : BV β n) (U : exU0 β n N m) (L : exL1 β n N m) (L2 : exL2 β n N m) (hE : EXr h β n N σ) (h6 : σ.2.1 ≤ 6) (hn : 401 ≤ m + 1 + σ.1) (hk : tk_ (tz β n) σ.1 = 6) : SmR β n N σ h (if σ.2.1 = 6 then .inl (2, tp_ (tz β n) σ.1) else
        eB (goX (tz β n) (opn σ)) fun s => eB (exX (tz β n) m 0 s []) fun q => eB (exX (tz β n) m 1 q.1 q.2) fun q => eB (exX (tz β n) m 2 q.1 q.2) fun q => eB (mustX (tz β n) q.1 7) fun s => .inr (cls s, q.2)) uAt := by
  obtain ⟨hR, hW, hF⟩ := id hE
  obtain ⟨hX, hT, hK, t1, t2, t3, t5, t6, t7⟩ := id hR
  have hle := hE.le
  have h40 := hT.1
  have es := fun d => p_sort (d := d) hR (by omega)
  rw [hk] at es
  have e5 : srt 6 = 2 := rfl
  rw [e5] at es
  have e21 : (nI 2 = nI 1) = False := by decide
  have e23 : (nI 2 = nI 3) = False := by decide
  have ei := fun d => p_isSign (d := d) hR (k := 6) (by unfold sgk; omega)
  rw [decide_eq_true hk] at ei
  have c6 : chr 6 = 40 := rfl
  rw [c6] at ei
  have eo : (nI σ.2.1 = nI 6) = (σ.2.1 = 6) := nI_eqL (by omega) (by decide)
  by_cases q : σ.2.1 = 6
  · rw [if_pos q]
    obtain ⟨h1, e1, o1, f1⟩ := p_wrong (c := 2) hR
    have hX1 := f1.1
    refine ⟨h1, fun d => ?_, o1.OA.le (by omega) (by omega), hF.px o1, f1⟩
    have eo' : (nI σ.2.1 = nI 6) = True := by rw [eo]; exact eq_true q
    unfold uAt
    generalize d + 3 * (6 - σ.2.1) = D at *
    simp only [e97_0, e97_1, e97_4, e97_5, e97_8, e97_9, e97_12, e97_15, e97_16, e97_17, e97_20, e97_21, e97_24, e97_25, e97_26, e97_29, e97_32, e97_33, e97_34, e97_37, e97_38, e97_41, e97_42, e97_45, e97_48, e97_49, e97_52, e97_53, e97_55, e97_58, e97_59, e97_62, e97_65, e97_66, e97_67, e97_70, e97_73, e97_74, e97_77, e97_78, e97_79, e97_80, e97_82, e97_83, e97_86, e97_87, e97_88, e97_90, e97_93, e97_96, e97_97, e97_98, e97_101, e97_102, e97_103, e97_106, e97_108, e97_111, e97_112, e97_113, e97_116, e97_117, e97_118, e97_119, e97_122, e97_123, e97_124, e97_127, e97_128, e97_131, e97_132, e97_135, e97_136, e97_137, e97_139, e97_142, e97_143, e97_144, e97_147, e97_148, e97_149, e97_152, e97_153, xk_64 hX, xk_73 hX, xk_66 hX, xk_65 hX, xp_35 hX, xk_72 hX, xp_37 hX, xk_64 hX1, xk_73 hX1, xk_66 hX1, xk_65 hX1, xp_35 hX1, xk_72 hX1, xp_37 hX1, ↓reduceIte, Nat.reduceAdd, Nat.reduceLeDiff, Nat.reduceLT, Nat.reduceEqDiff, not_false_eq_true, false_or, true_or, or_true, or_false, n0_e, n1_ne, n1_11, bI_z, bI_1, bI_fo, va_rf_some, aBk_1, aBk_0, nI_add, nI_mul, hk_si, hp_si, hl_si, hk_sp, hk_sl, hk_cp, hp_cp, es, e21, e23, ei, reduceCtorEq, t3, eo', e1, bx_84, bx_85, bx_86, bx_87, bx_88, bx_89, bx_90, bx_91, bx_92, bx_93, bx_94, bx_95, bx_96, bx_97, bx_98, bx_99, bx_100, bx_101, bx_102, bx_103, bx_104]
  · rw [if_neg q]
    have o0 : On XPF h (si_ h 73 41 (nI (σ.2.1 + 1))) := On.si (Or.inl ⟨rfl, by decide, by decide⟩)
    have R0 : XR (si_ h 73 41 (nI (σ.2.1 + 1))) (tz β n) N (opn σ) := by
      refine ⟨hX.on o0, hT, hK.on o0 (fun a f q => by unfold XPF at q; omega), t1, (hi_ne (by omega)).trans t2, hi_same, t5, (hi_ne (by omega)).trans t6, fun z => ⟨(t7 z).1, (hi_ne (by omega)).trans (t7 z).2⟩⟩
    have hX0 := R0.1
    have E0 := hE.px o0 R0
    have k6 : tk_ (tz β n) (opn σ).1 = 6 := hk
    obtain ⟨o, h1, e1, o1, f1⟩ := p_pass R0 (R0.nx (by omega) (by omega))
    have o01 := o0.trans o1
    cases hg : goX (tz β n) (opn σ) with
    | inl e =>
      rw [hg] at f1
      refine ⟨h1, fun d => ?_, o01.OA.le (by omega) (by omega), hF.px o01, f1.2⟩
      rw [f1.1] at e1
      unfold uAt
      generalize d + 3 * (6 - σ.2.1) = D at *
      simp only [e97_0, e97_1, e97_4, e97_5, e97_8, e97_9, e97_12, e97_15, e97_16, e97_17, e97_20, e97_21, e97_24, e97_25, e97_26, e97_29, e97_32, e97_33, e97_34, e97_37, e97_38, e97_41, e97_42, e97_45, e97_48, e97_49, e97_52, e97_53, e97_55, e97_58, e97_59, e97_62, e97_65, e97_66, e97_67, e97_70, e97_73, e97_74, e97_77, e97_78, e97_79, e97_80, e97_82, e97_83, e97_86, e97_87, e97_88, e97_90, e97_93, e97_96, e97_97, e97_98, e97_101, e97_102, e97_103, e97_106, e97_108, e97_111, e97_112, e97_113, e97_116, e97_117, e97_118, e97_119, e97_122, e97_123, e97_124, e97_127, e97_128, e97_131, e97_132, e97_135, e97_136, e97_137, e97_139, e97_142, e97_143, e97_144, e97_147, e97_148, e97_149, e97_152, e97_153, xk_64 hX, xk_73 hX, xk_66 hX, xk_65 hX, xp_35 hX, xk_72 hX, xp_37 hX, xk_64 hX0, xk_73 hX0, xk_66 hX0, xk_65 hX0, xp_35 hX0, xk_72 hX0, xp_37 hX0, ↓reduceIte, Nat.reduceAdd, Nat.reduceLeDiff, Nat.reduceLT, Nat.reduceEqDiff, not_false_eq_true, false_or, true_or, or_true, or_false, n0_e, n1_ne, n1_11, bI_z, bI_1, bI_fo, va_rf_some, aBk_1, aBk_0, nI_add, nI_mul, hk_si, hp_si, hl_si, hk_sp, hk_sl, hk_cp, hp_cp, es, e21, e23, ei, reduceCtorEq, t3, eo, q, e1, bx_84, bx_85, bx_86, bx_87, bx_88, bx_89, bx_90, bx_91, bx_92, bx_93, bx_94, bx_95, bx_96, bx_97, bx_98, bx_99, bx_100, bx_101, bx_102, bx_103, bx_104]
    | inr s =>
      rw [hg] at f1
      obtain ⟨f0, R1⟩ := f1
      rw [f0] at e1
      have hX1 := R1.1
      have es1 := (go_inr hg).2
      have s1 : s.1 = σ.1 + 1 := by rw [es1]; rfl
      have s2 : s.2.1 = σ.2.1 + 1 := by rw [es1]; rfl
      have E1 := E0.px o1 R1
      have A := xp_sum hV U L L2 E1 (by omega) (by omega)
      have ee : (eB (exX (tz β n) m 0 s []) fun q => eB (exX (tz β n) m 1 q.1 q.2) fun q => eB (exX (tz β n) m 2 q.1 q.2) fun q => eB (mustX (tz β n) q.1 7) fun s => (.inr (cls s, q.2) : aEr (aPs × cdT))) = eB (sumN (tz β n) m s) (fun q => eB (mustX (tz β n) q.1 7) fun s => .inr (cls s, q.2)) := by
        unfold sumN
        cases exX (tz β n) m 0 s [] with
        | inl e => rfl
        | inr q =>
          show eB (exX (tz β n) m 1 q.1 q.2) _ = eB (eB (exX (tz β n) m 1 q.1 q.2) _) _
          cases exX (tz β n) m 1 q.1 q.2 with
          | inl e => rfl
          | inr q => rfl
      show SmR β n N σ h (eB (exX (tz β n) m 0 s []) _) uAt
      rw [ee]
      have dd : ∀ d, d + 3 * (6 - σ.2.1) + 7 = d + 3 * (6 - s.2.1) + 10 := fun d => by omega
      have st : ∀ d, uAt (d + 3 * (6 - σ.2.1)) h = aBk (d + 3 * (6 - σ.2.1) + 8) 97 132 [.ref 73, aU] [] true (smAt (d + 3 * (6 - s.2.1)) h1) := fun d => by
        unfold uAt smAt
        rw [← dd d]
        generalize d + 3 * (6 - σ.2.1) = D at *
        simp only [e97_0, e97_1, e97_4, e97_5, e97_8, e97_9, e97_12, e97_15, e97_16, e97_17, e97_20, e97_21, e97_24, e97_25, e97_26, e97_29, e97_32, e97_33, e97_34, e97_37, e97_38, e97_41, e97_42, e97_45, e97_48, e97_49, e97_52, e97_53, e97_55, e97_58, e97_59, e97_62, e97_65, e97_66, e97_67, e97_70, e97_73, e97_74, e97_77, e97_78, e97_79, e97_80, e97_82, e97_83, e97_86, e97_87, e97_88, e97_90, e97_93, e97_96, e97_97, e97_98, e97_101, e97_102, e97_103, e97_106, e97_108, e97_111, e97_112, e97_113, e97_116, e97_117, e97_118, e97_119, e97_122, e97_123, e97_124, e97_127, e97_128, e97_131, e97_132, e97_136, e97_137, e97_139, e97_143, e97_144, e97_147, e97_148, e97_149, e97_152, e97_153, xk_64 hX, xk_73 hX, xk_66 hX, xk_65 hX, xp_35 hX, xk_72 hX, xp_37 hX, xk_64 hX0, xk_73 hX0, xk_66 hX0, xk_65 hX0, xp_35 hX0, xk_72 hX0, xp_37 hX0, xk_64 hX1, xk_73 hX1, xk_66 hX1, xk_65 hX1, xp_35 hX1, xk_72 hX1, xp_37 hX1, ↓reduceIte, Nat.reduceAdd, Nat.reduceLeDiff, Nat.reduceLT, Nat.reduceEqDiff, not_false_eq_true, false_or, true_or, or_true, or_false, n0_e, n1_ne, n1_11, bI_z, bI_1, bI_fo, va_rf_some, aBk_1, aBk_0, nI_add, nI_mul, hk_si, hp_si, hl_si, hk_sp, hk_sl, hk_cp, hp_cp, es, e21, e23, ei, reduceCtorEq, t3, eo, q, e1]
      cases hx : sumN (tz β n) m s with
      | inl e =>
        rw [hx] at A
        obtain ⟨h2, e2, o2, f2⟩ := A
        refine ⟨h2, fun d => ?_, (o01.OA.trans o2).le (by omega) (by omega), f2⟩
        rw [st d, e2 d, bx_97]
      | inr r =>
        rw [hx] at A
        obtain ⟨h2, a, e2, o2, E2, S2⟩ := A
        obtain ⟨m1, m2, m3, -⟩ := sumN_mono (tz_v hV) hx
        have hX2 := E2.1.1
        have r2 : r.1.2.1 = σ.2.1 + 1 := by rw [m3]; exact s2
        obtain ⟨ou, h3, e3, o3, f3⟩ := p_sign E2.1 (k := 7) (by unfold sgk; omega)
        have c7 : chr 7 = 41 := rfl
        rw [c7] at e3
        have S3 := S2.oa E2.2.2 (o3.OA (P := NPx)) (fun x f q => q.na) (fun _ _ q => q.elim)
        have F3 := E2.2.2.px o3
        show SmR β n N σ h (eB (mustX (tz β n) r.1 7) _) uAt
        cases hm : mustX (tz β n) r.1 7 with
        | inl e =>
          rw [hm] at f3
          obtain ⟨f30, f31⟩ := f3
          rw [f30] at e3
          have r4 := E2.le
          refine ⟨h3, fun d => ?_, ((o01.OA.trans o2).trans o3.OA).le (by omega) (by omega), F3, f31⟩
          rw [st d, e2 d]
          generalize d + 3 * (6 - σ.2.1) = D at *
          simp only [e97_0, e97_1, e97_4, e97_5, e97_8, e97_9, e97_12, e97_15, e97_16, e97_17, e97_20, e97_21, e97_24, e97_25, e97_26, e97_29, e97_32, e97_33, e97_34, e97_37, e97_38, e97_41, e97_42, e97_45, e97_48, e97_49, e97_52, e97_53, e97_55, e97_58, e97_59, e97_62, e97_65, e97_66, e97_67, e97_70, e97_73, e97_74, e97_77, e97_78, e97_79, e97_80, e97_82, e97_83, e97_86, e97_87, e97_88, e97_90, e97_93, e97_96, e97_97, e97_98, e97_101, e97_102, e97_103, e97_106, e97_108, e97_111, e97_112, e97_113, e97_116, e97_117, e97_118, e97_119, e97_122, e97_123, e97_124, e97_127, e97_128, e97_131, e97_132, e97_135, e97_136, e97_137, e97_139, e97_142, e97_143, e97_144, e97_147, e97_148, e97_149, e97_152, e97_153, xk_64 hX2, xk_73 hX2, xk_66 hX2, xk_65 hX2, xp_35 hX2, xk_72 hX2, xp_37 hX2, ↓reduceIte, Nat.reduceAdd, Nat.reduceLeDiff, Nat.reduceLT, Nat.reduceEqDiff, not_false_eq_true, false_or, true_or, or_true, or_false, n0_e, n1_ne, n1_11, bI_z, bI_1, bI_fo, va_rf_some, aBk_1, aBk_0, nI_add, nI_mul, hk_si, hp_si, hl_si, hk_sp, hk_sl, hk_cp, hp_cp, e3, bx_84, bx_85, bx_86, bx_87, bx_88, bx_89, bx_90, bx_91, bx_92, bx_93, bx_94, bx_95, bx_96, bx_97, bx_98, bx_99, bx_100, bx_101, bx_102, bx_103, bx_104]
        | inr w =>
          rw [hm] at f3
          obtain ⟨f30, R3⟩ := f3
          rw [f30] at e3
          have ew := (must_inr hm).2.2
          have w1 : w.1 = r.1.1 + 1 := by rw [ew]
          have w2 : w.2.1 = σ.2.1 + 1 := by rw [ew]; exact r2
          obtain ⟨hX3, hT3, hK3, y1, y2, y3, y5, y6, y7⟩ := id R3
          rw [w2] at y3
          have o4 : On XPF h3 (si_ h3 73 41 (nI σ.2.1)) := On.si (Or.inl ⟨rfl, by decide, by decide⟩)
          have R4 : XR (si_ h3 73 41 (nI σ.2.1)) (tz β n) N (cls w) := by
            refine ⟨hX3.on o4, hT3, hK3.on o4 (fun a f q => by unfold XPF at q; omega), y1, (hi_ne (by omega)).trans y2, ?_, y5, (hi_ne (by omega)).trans y6, fun z => ⟨(y7 z).1, (hi_ne (by omega)).trans (y7 z).2⟩⟩
            rw [hi_same]
            show nI σ.2.1 = nI (w.2.1 - 1)
            rw [w2]; rfl
          have E3 : EXr h3 β n N w := E2.px o3 R3
          have E4 := E3.px o4 R4
          refine ⟨_, a, fun d => ?_, (((o01.OA.trans o2).trans o3.OA).trans o4.OA).le (by show _ ≤ w.1 - σ.1; omega) (by show _ ≤ 3 * (w.1 - σ.1); omega), E4, S3.oa F3 (o4.OA (P := NPx)) (fun x f q => q.na) (fun _ _ q => q.elim)⟩
          rw [st d, e2 d]
          generalize d + 3 * (6 - σ.2.1) = D at *
          simp only [e97_0, e97_1, e97_4, e97_5, e97_8, e97_9, e97_12, e97_15, e97_16, e97_17, e97_20, e97_21, e97_24, e97_25, e97_26, e97_29, e97_32, e97_33, e97_34, e97_37, e97_38, e97_41, e97_42, e97_45, e97_48, e97_49, e97_52, e97_53, e97_55, e97_58, e97_59, e97_62, e97_65, e97_66, e97_67, e97_70, e97_73, e97_74, e97_77, e97_78, e97_79, e97_80, e97_82, e97_83, e97_86, e97_87, e97_88, e97_90, e97_93, e97_96, e97_97, e97_98, e97_101, e97_102, e97_103, e97_106, e97_108, e97_111, e97_112, e97_113, e97_116, e97_117, e97_118, e97_119, e97_122, e97_123, e97_124, e97_127, e97_128, e97_131, e97_132, e97_135, e97_136, e97_137, e97_139, e97_142, e97_143, e97_144, e97_147, e97_148, e97_149, e97_152, e97_153, xk_64 hX2, xk_73 hX2, xk_66 hX2, xk_65 hX2, xp_35 hX2, xk_72 hX2, xp_37 hX2, xk_64 hX3, xk_73 hX3, xk_66 hX3, xk_65 hX3, xp_35 hX3, xk_72 hX3, xp_37 hX3, ↓reduceIte, Nat.reduceAdd, Nat.reduceLeDiff, Nat.reduceLT, Nat.reduceEqDiff, not_false_eq_true, false_or, true_or, or_true, or_false, n0_e, n1_ne, n1_11, bI_z, bI_1, bI_fo, va_rf_some, aBk_1, aBk_0, nI_add, nI_mul, hk_si, hp_si, hl_si, hk_sp, hk_sl, hk_cp, hp_cp, e3, y3, nI_s1]
theorem xu_unit (hV : BV β n) (U : exU0 β n N m) (L : exL1 β n N m) (L2 : exL2 β n N m) : exU0 β n N (m + 1) := by
  intro h σ hE h6 hn
  rw [ex0]
  by_cases q : tk_ (tz β n) σ.1 = 2 ∨ (32 ≤ tk_ (tz β n) σ.1 ∧ tk_ (tz β n) σ.1 ≤ 40)
  · rw [if_pos q]
    rcases q with q | q
    · exact x_unitI hV hE q
    · exact x_unitV hE q
  · rw [if_neg q]
    by_cases q6 : tk_ (tz β n) σ.1 = 6
    · rw [if_pos q6]
      exact x_unitO hV U L L2 hE h6 hn q6
    · rw [if_neg q6]
      exact x_unitE hE (by omega) (by omega) q6
theorem xs_all (hV : BV β n) : ∀ m, exU0 β n N m ∧ exL1 β n N m ∧ exL2 β n N m
  | 0 => ⟨fun h σ hE _ hn => absurd hE.le (by omega), fun h σ c a z hE _ _ hn => absurd hE.le (by omega), fun h σ c a z hE _ _ hn => absurd hE.le (by omega)⟩
  | m + 1 => by
    obtain ⟨a, b, c⟩ := xs_all hV m
    exact ⟨xu_unit hV a b c, xl_part hV a b, xl_sum hV a b c⟩
theorem xs_sumN (hV : BV β n) (hE : EXr h β n N σ) (h6 : σ.2.1 ≤ 6) (hn : 401 ≤ m + σ.1) : SmR β n N σ h (sumN (tz β n) m σ) smAt := xp_sum hV (xs_all hV m).1 (xs_all hV m).2.1 (xs_all hV m).2.2 hE h6 hn
theorem xs_sum (hV : BV β n) (hE : EXr h β n N σ) (h6 : σ.2.1 ≤ 6) : SmR β n N σ h (sumX (tz β n) σ) smAt := xs_sumN hV hE h6 (Nat.le_trans (by decide) (Nat.le_add_right 402 _))
end XS87
