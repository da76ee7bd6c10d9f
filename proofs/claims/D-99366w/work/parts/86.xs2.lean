set_option maxRecDepth 100000
/-! X: reading (5): sums -/
def exU0 (β : Nat → Nat) (n N m : Nat) : Prop := ∀ h σ, EXr h β n N σ → σ.2.1 ≤ 6 → 401 ≤ m + σ.1 → SmR β n N σ h (exX (tz β n) m 0 σ []) uAt
def exL1 (β : Nat → Nat) (n N m : Nat) : Prop := ∀ h σ c a z, EXr h β n N σ → SR h c.length a c → σ.2.1 ≤ 6 → 401 ≤ m + σ.1 → SmR β n N σ h (exX (tz β n) m 1 σ c) (plAt a z)
def exL2 (β : Nat → Nat) (n N m : Nat) : Prop := ∀ h σ c a z, EXr h β n N σ → SR h c.length a c → σ.2.1 ≤ 6 → 401 ≤ m + σ.1 → SmR β n N σ h (exX (tz β n) m 2 σ c) (slAt a z)
section XS86
variable {n N m : Nat} {h h' : aH} {β : Nat → Nat} {σ : aPs}
theorem tz_v (hV : BV β n) : ∀ j, tv_ (tz β n) j ≤ 9999 := fun j => tvz_b hV _
/-- one sum behind another -/
theorem SmR.seq {s : aPs} {c c' : Nat} {x : aEr (aPs × cdT)} {R R' : Nat → aH → aR} (hs1 : σ.1 ≤ s.1) (hs2 : s.1 ≤ 400) (ho : s.2.1 = σ.2.1) (o : OA c c' XPF NPx h h') (hc : c ≤ s.1 - σ.1) (hc' : c' ≤ 3 * (s.1 - σ.1)) (hm : ∀ q, x = .inr q → s.1 ≤ q.1.1) (he : ∀ d, R (d + 3 * (6 - σ.2.1)) h = R' (d + 3 * (6 - σ.2.1)) h') (hS : SmR β n N s h' x R') : SmR β n N σ h x R := by
  cases x with
  | inl e =>
    obtain ⟨h2, e2, o2, f2⟩ := hS
    rw [ho] at e2
    exact ⟨h2, fun d => (he d).trans (e2 d), (o.trans o2).le (by omega) (by omega), f2⟩
  | inr q =>
    obtain ⟨h2, a, e2, o2, f2⟩ := hS
    rw [ho] at e2
    have := hm q rfl
    exact ⟨h2, a, fun d => (he d).trans (e2 d), (o.trans o2).le (by omega) (by omega), f2⟩
theorem xp_part (hV : BV β n) (U : exU0 β n N m) (L : exL1 β n N m) (hE : EXr h β n N σ) (h6 : σ.2.1 ≤ 6) (hn : 401 ≤ m + σ.1) : SmR β n N σ h (eB (exX (tz β n) m 0 σ []) fun q => exX (tz β n) m 1 q.1 q.2) pAt := by
  have hX := hE.1.1
  have A := U h σ hE h6 hn
  cases hx : exX (tz β n) m 0 σ [] with
  | inl e =>
    rw [hx] at A
    obtain ⟨h1, e1, o1, f1⟩ := A
    refine ⟨h1, fun d => ?_, o1, f1⟩
    have e1 := e1 d
    unfold uAt at e1
    unfold pAt
    generalize d + 3 * (6 - σ.2.1) = D at *
    simp only [e96_0, e96_1, e96_4, e96_6, e96_8, e96_11, e96_14, e96_15, e96_17, e96_20, e96_23, e96_24, e96_27, e96_30, e96_31, e96_34, e96_35, e96_36, e96_37, e96_40, e96_43, e96_44, e96_45, e96_46, e96_47, e96_50, e96_53, e96_54, e96_57, e96_58, xk_64 hX, xk_73 hX, xk_66 hX, xk_65 hX, xp_35 hX, xk_72 hX, xp_37 hX, ↓reduceIte, Nat.reduceAdd, Nat.reduceLeDiff, Nat.reduceLT, Nat.reduceEqDiff, not_false_eq_true, false_or, true_or, or_true, or_false, n0_e, n1_ne, n1_11, bI_z, bI_1, bI_fo, va_rf_some, aBk_1, aBk_0, nI_add, nI_mul, hk_si, hp_si, hl_si, hk_sp, hk_sl, hk_cp, hp_cp, e1, bx_84, bx_85, bx_86, bx_87, bx_88, bx_89, bx_90, bx_91, bx_92, bx_93, bx_94, bx_95, bx_96, bx_97, bx_98, bx_99, bx_100, bx_101, bx_102, bx_103, bx_104]
  | inr q =>
    rw [hx] at A
    obtain ⟨h1, a, e1, o1, E1, S1⟩ := A
    obtain ⟨m1, m2, m3, -⟩ := (ex_mono (tz_v hV) m).1 _ _ _ _ hx
    have ho : q.1.2.1 = σ.2.1 := by rw [m3]
    refine SmR.seq (by omega) E1.le ho o1 (Nat.le_refl _) (Nat.le_refl _) (fun r hr => ((ex_mono (tz_v hV) m).2 1 (Or.inl rfl) _ _ _ _ hr).2.1) (fun d => ?_) (L h1 q.1 q.2 a aU E1 S1 (by omega) (by omega))
    have e1 := e1 d
    unfold uAt at e1
    unfold pAt plAt
    generalize d + 3 * (6 - σ.2.1) = D at *
    simp only [e96_0, e96_1, e96_4, e96_6, e96_8, e96_11, e96_14, e96_15, e96_17, e96_20, e96_23, e96_24, e96_27, e96_30, e96_31, e96_34, e96_35, e96_36, e96_37, e96_40, e96_43, e96_44, e96_45, e96_46, e96_47, e96_50, e96_53, e96_54, e96_57, e96_58, xk_64 hX, xk_73 hX, xk_66 hX, xk_65 hX, xp_35 hX, xk_72 hX, xp_37 hX, ↓reduceIte, Nat.reduceAdd, Nat.reduceLeDiff, Nat.reduceLT, Nat.reduceEqDiff, not_false_eq_true, false_or, true_or, or_true, or_false, n0_e, n1_ne, n1_11, bI_z, bI_1, bI_fo, va_rf_some, aBk_1, aBk_0, nI_add, nI_mul, hk_si, hp_si, hl_si, hk_sp, hk_sl, hk_cp, hp_cp, e1]
theorem xp_sum (hV : BV β n) (U : exU0 β n N m) (L : exL1 β n N m) (L2 : exL2 β n N m) (hE : EXr h β n N σ) (h6 : σ.2.1 ≤ 6) (hn : 401 ≤ m + σ.1) : SmR β n N σ h (sumN (tz β n) m σ) smAt := by
  have hX := hE.1.1
  have A := xp_part hV U L hE h6 hn
  have ee : sumN (tz β n) m σ = eB (eB (exX (tz β n) m 0 σ []) fun q => exX (tz β n) m 1 q.1 q.2) (fun q => exX (tz β n) m 2 q.1 q.2) := by
    unfold sumN
    cases exX (tz β n) m 0 σ [] with
    | inl e => rfl
    | inr q => rfl
  rw [ee]
  cases hx : eB (exX (tz β n) m 0 σ []) fun q => exX (tz β n) m 1 q.1 q.2 with
  | inl e =>
    rw [hx] at A
    obtain ⟨h1, e1, o1, f1⟩ := A
    refine ⟨h1, fun d => ?_, o1, f1⟩
    have e1 := e1 d
    unfold pAt at e1
    unfold smAt
    generalize d + 3 * (6 - σ.2.1) = D at *
    simp only [e95_0, e95_1, e95_4, e95_6, e95_8, e95_11, e95_14, e95_15, e95_17, e95_20, e95_23, e95_24, e95_27, e95_30, e95_31, e95_34, e95_35, e95_36, e95_37, e95_40, e95_43, e95_44, e95_45, e95_46, e95_47, e95_50, e95_53, e95_54, e95_57, e95_58, xk_64 hX, xk_73 hX, xk_66 hX, xk_65 hX, xp_35 hX, xk_72 hX, xp_37 hX, ↓reduceIte, Nat.reduceAdd, Nat.reduceLeDiff, Nat.reduceLT, Nat.reduceEqDiff, not_false_eq_true, false_or, true_or, or_true, or_false, n0_e, n1_ne, n1_11, bI_z, bI_1, bI_fo, va_rf_some, aBk_1, aBk_0, nI_add, nI_mul, hk_si, hp_si, hl_si, hk_sp, hk_sl, hk_cp, hp_cp, e1, bx_84, bx_85, bx_86, bx_87, bx_88, bx_89, bx_90, bx_91, bx_92, bx_93, bx_94, bx_95, bx_96, bx_97, bx_98, bx_99, bx_100, bx_101, bx_102, bx_103, bx_104]
  | inr q =>
    rw [hx] at A
    obtain ⟨h1, a, e1, o1, E1, S1⟩ := A
    obtain ⟨⟨t1, u1⟩, y1, y2⟩ := eB_inr hx
    obtain ⟨m1, m2, m3, -⟩ := (ex_mono (tz_v hV) m).1 _ _ _ _ y1
    obtain ⟨l1, l2, l3, -⟩ := (ex_mono (tz_v hV) m).2 1 (Or.inl rfl) _ _ _ _ y2
    have ho : q.1.2.1 = σ.2.1 := by rw [l3, m3]
    have l2 : t1.1 ≤ q.1.1 := l2
    refine SmR.seq (by omega) E1.le ho o1 (Nat.le_refl _) (Nat.le_refl _) (fun r hr => ((ex_mono (tz_v hV) m).2 2 (Or.inr rfl) _ _ _ _ hr).2.1) (fun d => ?_) (L2 h1 q.1 q.2 a aU E1 S1 (by omega) (by omega))
    have e1 := e1 d
    unfold pAt at e1
    unfold smAt slAt
    generalize d + 3 * (6 - σ.2.1) = D at *
    simp only [e95_0, e95_1, e95_4, e95_6, e95_8, e95_11, e95_14, e95_15, e95_17, e95_20, e95_23, e95_24, e95_27, e95_30, e95_31, e95_34, e95_35, e95_36, e95_37, e95_40, e95_43, e95_44, e95_45, e95_46, e95_47, e95_50, e95_53, e95_54, e95_57, e95_58, xk_64 hX, xk_73 hX, xk_66 hX, xk_65 hX, xp_35 hX, xk_72 hX, xp_37 hX, ↓reduceIte, Nat.reduceAdd, Nat.reduceLeDiff, Nat.reduceLT, Nat.reduceEqDiff, not_false_eq_true, false_or, true_or, or_true, or_false, n0_e, n1_ne, n1_11, bI_z, bI_1, bI_fo, va_rf_some, aBk_1, aBk_0, nI_add, nI_mul, hk_si, hp_si, hl_si, hk_sp, hk_sl, hk_cp, hp_cp, e1]
/-- a joined sum is made -/
theorem x_join {c u : cdT} {a b j k : Nat} {x : aH} {s : aPs} (hE : EXr x β n N s) (hj : hk_ x j = (15, 0)) (hj5 : 504 ≤ j) (h1 : SR x c.length a c) (h2 : SR x u.length b u) (hk : k = 8 ∨ k = 9 ∨ k = 10 ∨ k = 15) (hz : ∀ f, hp_ x j f = none) : EXr (sp_ (sp_ (si_ x j 143 (nI (chr k))) j 144 (some a)) j 145 (some b)) β n N s ∧ SR (sp_ (sp_ (si_ x j 143 (nI (chr k))) j 144 (some a)) j 145 (some b)) (c ++ u ++ [(oc k, 0)]).length j (c ++ u ++ [(oc k, 0)]) := by
  have hF := hE.2.2
  have jl := hF.lt hj (by decide)
  have E3 := ((hE.si (f := 143) (v := nI (chr k)) hj5 jl).sp (f := 144) (v := some a) hj5 jl).sp (f := 145) (v := some b) hj5 jl
  refine ⟨E3, ?_⟩
  have keep : ∀ {l : Nat} {y : Nat} {w : cdT}, SR x l y w → SR (sp_ (sp_ (si_ x j 143 (nI (chr k))) j 144 (some a)) j 145 (some b)) l y w := by
    intro l
    induction l with
    | zero => intro y w hs; exact hs.elim
    | succ l ih =>
      intro y w hs
      obtain ⟨g1, g2⟩ := hs
      refine ⟨g1, ?_⟩
      rcases g2 with ⟨k1, v, k2, k3⟩ | ⟨k1, v, k2, k3, k4⟩ | ⟨k1, p, q, cp, cq, v, k2, k3, k4, k5, k6, k7⟩
      · have yj : y ≠ j := fun z => by rw [z, hj] at k1; exact absurd (congrArg Prod.fst k1) (by decide)
        exact Or.inl ⟨k1, v, k2, (hi_ne (fun z => yj z.1)).trans k3⟩
      · have yj : y ≠ j := fun z => by rw [z, hj] at k1; exact absurd (congrArg Prod.fst k1) (by decide)
        exact Or.inr (Or.inl ⟨k1, v, k2, k3, (hi_ne (fun z => yj z.1)).trans k4⟩)
      · have yj : y ≠ j := fun z => by rw [z, hz] at k3; cases k3
        have ei : hi_ (si_ x j 143 (nI (chr k))) y 143 = hi_ x y 143 := hi_ne (fun z => yj z.1)
        have ep : ∀ f, hp_ (sp_ (sp_ (si_ x j 143 (nI (chr k))) j 144 (some a)) j 145 (some b)) y f = hp_ x y f := fun f => (if_neg (fun z => yj z.1)).trans (if_neg (fun z => yj z.1))
        refine Or.inr (Or.inr ⟨k1, p, q, cp, cq, v, ?_, (ep _).trans k3, (ep _).trans k4, ih k5, ih k6, k7⟩)
        show v = 2 ∧ hi_ (si_ x j 143 (nI (chr k))) y 143 = _ ∨ v = 3 ∧ hi_ (si_ x j 143 (nI (chr k))) y 143 = _ ∨ v = 4 ∧ hi_ (si_ x j 143 (nI (chr k))) y 143 = _ ∨ v = 5 ∧ hi_ (si_ x j 143 (nI (chr k))) y 143 = _
        rw [ei]; exact k2
  have e1 : (c ++ u ++ [(oc k, 0)]).length = c.length + u.length + 1 := by rw [List.length_append, List.length_append, List.length_singleton]
  rw [e1]
  refine ⟨Or.inr hj5, Or.inr (Or.inr ⟨hj, a, b, c, u, oc k, ?_, ?_, ?_, (keep h1).up (by omega), (keep h2).up (by omega), List.append_assoc c u _⟩)⟩
  · have v : hi_ (sp_ (sp_ (si_ x j 143 (nI (chr k))) j 144 (some a)) j 145 (some b)) j 143 = nI (chr k) := hi_same
    rw [v]
    rcases hk with q | q | q | q <;> subst q
    · exact Or.inl ⟨rfl, rfl⟩
    · exact Or.inr (Or.inl ⟨rfl, rfl⟩)
    · exact Or.inr (Or.inr (Or.inl ⟨rfl, rfl⟩))
    · exact Or.inr (Or.inr (Or.inr ⟨rfl, rfl⟩))
  · show (if j = j ∧ 144 = 145 then _ else if j = j ∧ 144 = 144 then _ else _) = _
    rw [if_neg (by omega), if_pos ⟨rfl, rfl⟩]
  · exact if_pos ⟨rfl, rfl⟩
end XS86
