set_option maxRecDepth 100000
/-! X: reading (19): told: foes -/
section TD6
variable {n N z0 : Nat} {h h' : aH} {β : Nat → Nat} {σ : aPs} {T : aTx} {ν : aNs} {nf tx sa ga la es eg : Nat} {qs qg : Nat → Nat} {vs vg : Nat → Int64}
theorem XTq.fo (hT : XTq h T nf tx sa ga la es eg qs qg vs vg) (hF : FZ h) {g : Nat} (hg : g < ng_ T) {v : Int32} : XTq (si_ h (qg g) 156 v) (setF T (up_ (fo_ T) g v)) nf tx sa ga la es eg qs qg vs vg := by
  obtain ⟨⟨a1, a2, a3, a4, a5, a6, a7, a8⟩, ⟨b1, b2, b3, b4⟩, c1, c2, c3, ⟨d1, d2, d3⟩⟩ := hT
  have kg := (b2.2.2.2.2.2.2 g hg).2
  have o : OA 0 0 (fun a f => a = qg g ∧ f = 156) NPx h (si_ h (qg g) 156 v) := OA.refl.sis ⟨rfl, rfl⟩
  have iS : ∀ {y f κ m : Nat}, hk_ h y = (κ, m) → κ ≠ 18 → hi_ (si_ h (qg g) 156 v) y f = hi_ h y f := fun hy hn => hi_ne (fun q => by rw [q.1, kg] at hy; exact hn (congrArg Prod.fst hy).symm)
  have iF : ∀ {y f : Nat}, f ≠ 156 → hi_ (si_ h (qg g) 156 v) y f = hi_ h y f := fun hn => hi_ne (fun q => hn q.2)
  have hS : ∀ x f, (fun a f => a = qg g ∧ f = 156) x f → x < 504 ∨ ((hk_ h x).1 ≠ 11 ∧ (hk_ h x).1 ≠ 101) := fun x f q => Or.inr (by have q : x = qg g ∧ f = 156 := q; rw [q.1, kg]; decide)
  have hP : ∀ x f, NPx x f → x < 504 ∨ (hk_ h x).1 ≠ 11 := fun _ _ q => q.elim
  refine ⟨⟨a1, a2, a3, a4, a5, (iF (by decide)).trans a6, (iF (by decide)).trans a7, (iF (by decide)).trans a8⟩, ⟨b1.oa hF (by decide) o (fun q => by have := q.2; omega) (fun f => ⟨fun q => q, fun _ q => q⟩), b2.oa hF (by decide) o (fun q => by have := q.2; omega) (fun f => ⟨fun q => q, fun _ q => q⟩), b3, b4⟩, fun s hs => ?_, fun k hk => ?_, c3, ⟨d1, d2, fun k hk => ?_⟩⟩
  · obtain ⟨w1, w2, w3⟩ := c1 s hs
    exact ⟨(iF (by decide)).trans w1, (iF (by decide)).trans w2, w3.oa hF (hF.lt (b1.2.2.2.2.2.2 s hs).2 (by decide)) o (fun q => q) hS hP⟩
  · obtain ⟨⟨w1, w2, w3, w4⟩, w5⟩ := c2 k hk
    refine ⟨⟨(iF (by decide)).trans w1, (iF (by decide)).trans w2, (iF (by decide)).trans w3, ?_⟩, w5.oa hF (hF.lt (b2.2.2.2.2.2.2 k hk).2 (by decide)) o (fun q => q) hS hP⟩
    show hi_ (si_ h (qg g) 156 v) (qg k) 156 = (if k = g then v else fo_ T k)
    by_cases q : k = g
    · rw [if_pos q, q]; exact hi_same
    · rw [if_neg q, hi_ne (fun z => q (c3 k g hk hg z.1))]; exact w4
  · have w : LaR h la k (la_ T k) := d3 k hk
    show LaR _ la k (la_ T k)
    cases hq : la_ T k with
    | none => rw [hq] at w; exact w
    | some L =>
      rw [hq] at w
      obtain ⟨l, w1, w2⟩ := w
      exact ⟨l, w1, w2.oa hF o (fun x f q => Or.inr (Or.inr (by have q : x = qg g ∧ f = 156 := q; rw [q.1, kg]; decide))) (fun _ _ q => q.elim)⟩
theorem p_foes (hV : BV β n) (hE : EXr h β n N σ) (ht : hp_ h 73 39 = some tx) (hT : XTq h T nf tx sa ga la es eg qs qg vs vg) (hN : NRx ν T vs vg) (hz : z0 ≤ hz_ h) (hz5 : 504 ≤ z0) (hq : ∀ g, g < ng_ T → z0 ≤ qg g) : match fo1X (tz β n) ν (fo_ T) σ with
    | .inl e => ∃ h', (∀ d, (run (d + 10) 103 0 [.ref 73, aU, aU, aU] [] h) = some (.threw 65, h')) ∧ OA 8 64 (TDS z0) (TDP z0) h h' ∧ FZ h' ∧ XF h' e.1 e.2
    | .inr q => ∃ h', (∀ d, (run (d + 10) 103 0 [.ref 73, aU, aU, aU] [] h) = some (.returned none, h')) ∧ OA 8 64 (TDS z0) (TDP z0) h h' ∧ EXr h' β n N q.1 ∧ hp_ h' 73 39 = some tx ∧ hk_ h' 45 = hk_ h 45 ∧ XTq h' (setF T (addF (fo_ T) q.2)) nf tx sa ga la es eg qs qg vs vg := by
  have hX := hE.1.1
  have hF := hE.2.2
  have z5 := hF.1
  have ktx := hT.1.2.1
  have pga := hT.1.2.2.2.1
  have A := p_known hV hE hT hN
  unfold fo1X
  cases hk1 : knX (tz β n) ν σ with
  | inl e =>
    rw [hk1] at A
    obtain ⟨h1, e1, o1, F1, f1⟩ := A
    refine ⟨h1, fun d => ?_, (oaTd o1).le (by decide) (by decide), F1, f1⟩
    simp only [e103_0, e103_1, e103_2, e103_5, e103_8, e103_11, e103_12, e103_13, e103_16, e103_17, e103_18, e103_19, e103_22, e103_25, e103_28, e103_29, e103_30, e103_33, e103_34, e103_37, e103_38, e103_39, e103_40, e103_43, e103_44, e103_47, e103_50, e103_51, e103_54, e103_57, e103_60, e103_61, e103_62, e103_63, e103_64, e103_65, e103_68, e103_69, e103_70, e103_71, e103_74, e103_75, e103_78, e103_81, e103_82, e103_85, e103_88, e103_89, e103_92, e103_93, e103_94, e103_95, e103_96, e103_99, e103_100, e103_103, e103_106, e103_107, e103_110, e103_113, e103_114, e103_117, e103_118, e103_119, e103_120, e103_121, e103_124, xk_64 hX, xk_73 hX, xk_66 hX, xk_65 hX, List.mem_cons, List.not_mem_nil, ↓reduceIte, Nat.reduceAdd, Nat.reduceLeDiff, Nat.reduceLT, Nat.reduceEqDiff, not_false_eq_true, false_or, true_or, or_true, or_false, n0_e, n1_ne, n1_11, bI_z, bI_1, bI_fo, aBk_1, aBk_0, nI_add, nI_mul, hk_si, hp_si, hl_si, hk_sp, hk_sl, hk_cp, hp_cp, ht, ktx, pga, e1, va_rf_some, bx_84, bx_85, bx_86, bx_87, bx_88, bx_89, bx_90, bx_91, bx_92, bx_93, bx_94, bx_95, bx_96, bx_97, bx_98, bx_99, bx_100, bx_101, bx_102, bx_103, bx_104]
  | inr s =>
    rw [hk1] at A
    obtain ⟨h1, e1, o1, E1⟩ := A
    have F1 := E1.2.2
    have T1 := hT.px hF o1
    have t1 : hp_ h1 73 39 = some tx := (o1.p (by omega) (fun q => q)).trans ht
    have hX1 := E1.1.1
    have ktx1 := T1.1.2.1
    have pga1 := T1.1.2.2.2.1
    have at1 := E1.1.2.2.2.2.1
    have B := p_known hV E1 T1 hN
    show match eB (knX (tz β n) ν s) (fun w => (.inr (foeW (fo_ T) (twoN (gueN ν (tn_ (tz β n) σ.1)) (gueN ν (tn_ (tz β n) s.1))) w s.1, twoN (gueN ν (tn_ (tz β n) σ.1)) (gueN ν (tn_ (tz β n) s.1))) : aEr (aPs × Option (Nat × Nat)))) with
      | .inl e => ∃ h', (∀ d, (run (d + 10) 103 0 [.ref 73, aU, aU, aU] [] h) = some (.threw 65, h')) ∧ OA 8 64 (TDS z0) (TDP z0) h h' ∧ FZ h' ∧ XF h' e.1 e.2
      | .inr q => ∃ h', (∀ d, (run (d + 10) 103 0 [.ref 73, aU, aU, aU] [] h) = some (.returned none, h')) ∧ OA 8 64 (TDS z0) (TDP z0) h h' ∧ EXr h' β n N q.1 ∧ hp_ h' 73 39 = some tx ∧ hk_ h' 45 = hk_ h 45 ∧ XTq h' (setF T (addF (fo_ T) q.2)) nf tx sa ga la es eg qs qg vs vg
    cases hk2 : knX (tz β n) ν s with
    | inl e =>
      rw [hk2] at B
      obtain ⟨h2, e2, o2, F2, f2⟩ := B
      refine ⟨h2, fun d => ?_, (oaTd (o1.trans o2)).le (by decide) (by decide), F2, f2⟩
      simp only [e103_0, e103_1, e103_2, e103_5, e103_8, e103_11, e103_12, e103_13, e103_16, e103_17, e103_18, e103_19, e103_22, e103_25, e103_28, e103_29, e103_30, e103_33, e103_34, e103_37, e103_38, e103_39, e103_40, e103_43, e103_44, e103_47, e103_50, e103_51, e103_54, e103_57, e103_60, e103_61, e103_62, e103_63, e103_64, e103_65, e103_68, e103_69, e103_70, e103_71, e103_74, e103_75, e103_78, e103_81, e103_82, e103_85, e103_88, e103_89, e103_92, e103_93, e103_94, e103_95, e103_96, e103_99, e103_100, e103_103, e103_106, e103_107, e103_110, e103_113, e103_114, e103_117, e103_118, e103_119, e103_120, e103_121, e103_124, xk_64 hX, xk_73 hX, xk_66 hX, xk_65 hX, xk_64 hX1, xk_73 hX1, xk_66 hX1, xk_65 hX1, List.mem_cons, List.not_mem_nil, ↓reduceIte, Nat.reduceAdd, Nat.reduceLeDiff, Nat.reduceLT, Nat.reduceEqDiff, not_false_eq_true, false_or, true_or, or_true, or_false, n0_e, n1_ne, n1_11, bI_z, bI_1, bI_fo, aBk_1, aBk_0, nI_add, nI_mul, hk_si, hp_si, hl_si, hk_sp, hk_sl, hk_cp, hp_cp, ht, ktx, pga, e1, at1, t1, ktx1, pga1, e2, va_rf_some, bx_84, bx_85, bx_86, bx_87, bx_88, bx_89, bx_90, bx_91, bx_92, bx_93, bx_94, bx_95, bx_96, bx_97, bx_98, bx_99, bx_100, bx_101, bx_102, bx_103, bx_104]
    | inr w =>
      rw [hk2] at B
      obtain ⟨h2, e2, o2, E2⟩ := B
      have F2 := E2.2.2
      have o12 := o1.trans o2
      have T2 := hT.px hF o12
      have t2 : hp_ h2 73 39 = some tx := (o12.p (by omega) (fun q => q)).trans ht
      have k45 : hk_ h2 45 = hk_ h 45 := o12.k (by omega)
      have hX2 := E2.1.1
      have ng10 : ng_ T ≤ 10 := T2.2.1.2.1.2.2.2.1
      have gl : ∀ {v : Int64} {g : Nat}, gueN ν v = some g → g < ng_ T := fun {v g} hg => by
        rw [(hN v).2] at hg
        have := (fnd_some _ _ _ hg).2.1
        omega
      have m1 : (-1 : Int32) < 0 := by decide
      have m2 : ¬ (0 : Int32) ≤ -1 := by decide
      show ∃ h', _ ∧ _ ∧ EXr h' β n N (foeW (fo_ T) (twoN (gueN ν (tn_ (tz β n) σ.1)) (gueN ν (tn_ (tz β n) s.1))) w s.1) ∧ _ ∧ _ ∧ XTq h' (setF T (addF (fo_ T) (twoN (gueN ν (tn_ (tz β n) σ.1)) (gueN ν (tn_ (tz β n) s.1))))) nf tx sa ga la es eg qs qg vs vg
      cases hg : gueN ν (tn_ (tz β n) σ.1) with
      | none =>
        rw [hg] at e1
        refine ⟨h2, fun d => ?_, (oaTd o12).le (by decide) (by decide), E2, t2, k45, T2⟩
        simp only [e103_0, e103_1, e103_2, e103_5, e103_8, e103_11, e103_12, e103_13, e103_16, e103_17, e103_18, e103_19, e103_22, e103_25, e103_28, e103_29, e103_30, e103_33, e103_34, e103_37, e103_38, e103_39, e103_40, e103_43, e103_44, e103_47, e103_50, e103_51, e103_54, e103_57, e103_60, e103_61, e103_62, e103_63, e103_64, e103_65, e103_68, e103_69, e103_70, e103_71, e103_74, e103_75, e103_78, e103_81, e103_82, e103_85, e103_88, e103_89, e103_92, e103_93, e103_94, e103_95, e103_96, e103_99, e103_100, e103_103, e103_106, e103_107, e103_110, e103_113, e103_114, e103_117, e103_118, e103_119, e103_120, e103_121, e103_124, xk_64 hX, xk_73 hX, xk_66 hX, xk_65 hX, xk_64 hX1, xk_73 hX1, xk_66 hX1, xk_65 hX1, xk_64 hX2, xk_73 hX2, xk_66 hX2, xk_65 hX2, List.mem_cons, List.not_mem_nil, ↓reduceIte, Nat.reduceAdd, Nat.reduceLeDiff, Nat.reduceLT, Nat.reduceEqDiff, not_false_eq_true, false_or, true_or, or_true, or_false, n0_e, n1_ne, n1_11, bI_z, bI_1, bI_fo, aBk_1, aBk_0, nI_add, nI_mul, hk_si, hp_si, hl_si, hk_sp, hk_sl, hk_cp, hp_cp, ht, ktx, pga, e1, at1, t1, ktx1, pga1, e2, opI_n, m1, va_rf_some]
      | some g =>
        rw [hg] at e1
        have hg7 := gl hg
        have g0 : ¬ nI g < 0 := nI_pos (by omega)
        cases ho : gueN ν (tn_ (tz β n) s.1) with
        | none =>
          rw [ho] at e2
          refine ⟨h2, fun d => ?_, (oaTd o12).le (by decide) (by decide), E2, t2, k45, T2⟩
          simp only [e103_0, e103_1, e103_2, e103_5, e103_8, e103_11, e103_12, e103_13, e103_16, e103_17, e103_18, e103_19, e103_22, e103_25, e103_28, e103_29, e103_30, e103_33, e103_34, e103_37, e103_38, e103_39, e103_40, e103_43, e103_44, e103_47, e103_50, e103_51, e103_54, e103_57, e103_60, e103_61, e103_62, e103_63, e103_64, e103_65, e103_68, e103_69, e103_70, e103_71, e103_74, e103_75, e103_78, e103_81, e103_82, e103_85, e103_88, e103_89, e103_92, e103_93, e103_94, e103_95, e103_96, e103_99, e103_100, e103_103, e103_106, e103_107, e103_110, e103_113, e103_114, e103_117, e103_118, e103_119, e103_120, e103_121, e103_124, xk_64 hX, xk_73 hX, xk_66 hX, xk_65 hX, xk_64 hX1, xk_73 hX1, xk_66 hX1, xk_65 hX1, xk_64 hX2, xk_73 hX2, xk_66 hX2, xk_65 hX2, List.mem_cons, List.not_mem_nil, ↓reduceIte, Nat.reduceAdd, Nat.reduceLeDiff, Nat.reduceLT, Nat.reduceEqDiff, not_false_eq_true, false_or, true_or, or_true, or_false, n0_e, n1_ne, n1_11, bI_z, bI_1, bI_fo, aBk_1, aBk_0, nI_add, nI_mul, hk_si, hp_si, hl_si, hk_sp, hk_sl, hk_cp, hp_cp, ht, ktx, pga, e1, at1, t1, ktx1, pga1, e2, opI_n, opI_s, g0, m2, va_rf_some]
        | some o' =>
          rw [ho] at e2
          have ho7 := gl ho
          have og : 0 ≤ nI o' := nI_pos' (by omega)
          have go : (nI g = nI o') = (g = o') := nI_eqL (by omega) (by omega)
          have sN : s.1 ≤ N := E1.1.2.2.2.1
          -- what may be wrong
          have W : ∃ h3, On XPF h2 h3 ∧ XR h3 (tz β n) N (foeW (fo_ T) (some (g, o')) w s.1) ∧ ∀ d, (run (d + 10) 103 0 [.ref 73, aU, aU, aU] [] h) = (run (d + 10) 103 74 [.ref 73, .int (nI g), .int (nI s.1), .int (nI o')] [] h3) := by
            obtain ⟨h3, r3, o3, R3⟩ := p_tell E2.1 (c := 3) (j := s.1) (by decide) sN
            have gt := fun d => x_get (d := d) T2.2.1.2.1.A hg7
            have kga := T2.2.1.2.1.2.1
            have kg := (T2.2.1.2.1.2.2.2.2.2.2 g hg7).2
            have fg := (T2.2.2.2.1 g hg7).1.2.2.2
            have ktx2 := T2.1.2.1
            have pga2 := T2.1.2.2.2.1
            by_cases q : g = o' ∨ shr_ (fo_ T g) (nI o') &&& nI 1 = nI 1
            · have ew : foeW (fo_ T) (some (g, o')) w s.1 = wrongX w 3 s.1 := if_pos q
              rw [ew]
              refine ⟨h3, o3, R3, fun d => ?_⟩
              by_cases q1 : g = o'
              · have go' : (nI g = nI o') = True := by rw [go]; exact eq_true q1
                simp only [e103_0, e103_1, e103_2, e103_5, e103_8, e103_11, e103_12, e103_13, e103_16, e103_17, e103_18, e103_19, e103_22, e103_25, e103_28, e103_29, e103_30, e103_33, e103_34, e103_37, e103_38, e103_39, e103_40, e103_43, e103_44, e103_47, e103_50, e103_51, e103_54, e103_57, e103_60, e103_61, e103_62, e103_63, e103_64, e103_65, e103_68, e103_69, e103_70, e103_71, e103_75, e103_78, e103_81, e103_82, e103_85, e103_88, e103_89, e103_92, e103_93, e103_94, e103_95, e103_96, e103_99, e103_100, e103_103, e103_106, e103_107, e103_110, e103_113, e103_114, e103_117, e103_118, e103_119, e103_120, e103_121, e103_124, xk_64 hX, xk_73 hX, xk_66 hX, xk_65 hX, xk_64 hX1, xk_73 hX1, xk_66 hX1, xk_65 hX1, xk_64 hX2, xk_73 hX2, xk_66 hX2, xk_65 hX2, List.mem_cons, List.not_mem_nil, ↓reduceIte, Nat.reduceAdd, Nat.reduceLeDiff, Nat.reduceLT, Nat.reduceEqDiff, not_false_eq_true, false_or, true_or, or_true, or_false, n0_e, n1_ne, n1_11, bI_z, bI_1, bI_fo, aBk_1, aBk_0, nI_add, nI_mul, hk_si, hp_si, hl_si, hk_sp, hk_sl, hk_cp, hp_cp, ht, ktx, pga, e1, at1, t1, ktx1, pga1, e2, opI_s, g0, og, go', r3, va_rf_some]
              · have q2 : (shr_ (fo_ T g) (nI o') &&& nI 1 = nI 1) = True := eq_true (q.resolve_left q1)
                simp only [e103_0, e103_1, e103_2, e103_5, e103_8, e103_11, e103_12, e103_13, e103_16, e103_17, e103_18, e103_19, e103_22, e103_25, e103_28, e103_29, e103_30, e103_33, e103_34, e103_37, e103_38, e103_39, e103_40, e103_43, e103_44, e103_47, e103_50, e103_51, e103_54, e103_57, e103_60, e103_61, e103_62, e103_63, e103_64, e103_65, e103_68, e103_69, e103_70, e103_71, e103_75, e103_78, e103_81, e103_82, e103_85, e103_88, e103_89, e103_92, e103_93, e103_94, e103_95, e103_96, e103_99, e103_100, e103_103, e103_106, e103_107, e103_110, e103_113, e103_114, e103_117, e103_118, e103_119, e103_120, e103_121, e103_124, xk_64 hX, xk_73 hX, xk_66 hX, xk_65 hX, xk_64 hX1, xk_73 hX1, xk_66 hX1, xk_65 hX1, xk_64 hX2, xk_73 hX2, xk_66 hX2, xk_65 hX2, List.mem_cons, List.not_mem_nil, ↓reduceIte, Nat.reduceAdd, Nat.reduceLeDiff, Nat.reduceLT, Nat.reduceEqDiff, not_false_eq_true, false_or, true_or, or_true, or_false, n0_e, n1_ne, n1_11, bI_z, bI_1, bI_fo, aBk_1, aBk_0, nI_add, nI_mul, hk_si, hp_si, hl_si, hk_sp, hk_sl, hk_cp, hp_cp, ht, ktx, pga, e1, at1, t1, ktx1, pga1, e2, opI_s, g0, og, go, q1, t2, ktx2, pga2, kga, gt, kg, fg, q2, r3, va_rf_some]
            · have ew : foeW (fo_ T) (some (g, o')) w s.1 = w := if_neg q
              rw [ew]
              have q1 : ¬ g = o' := fun z => q (Or.inl z)
              have q2 : ¬ (shr_ (fo_ T g) (nI o') &&& nI 1 = nI 1) := fun z => q (Or.inr z)
              refine ⟨h2, On.refl, E2.1, fun d => ?_⟩
              simp only [e103_0, e103_1, e103_2, e103_5, e103_8, e103_11, e103_12, e103_13, e103_16, e103_17, e103_18, e103_19, e103_22, e103_25, e103_28, e103_29, e103_30, e103_33, e103_34, e103_37, e103_38, e103_39, e103_40, e103_43, e103_44, e103_47, e103_50, e103_51, e103_54, e103_57, e103_60, e103_61, e103_62, e103_63, e103_64, e103_65, e103_68, e103_69, e103_70, e103_71, e103_75, e103_78, e103_81, e103_82, e103_85, e103_88, e103_89, e103_92, e103_93, e103_94, e103_95, e103_96, e103_99, e103_100, e103_103, e103_106, e103_107, e103_110, e103_113, e103_114, e103_117, e103_118, e103_119, e103_120, e103_121, e103_124, xk_64 hX, xk_73 hX, xk_66 hX, xk_65 hX, xk_64 hX1, xk_73 hX1, xk_66 hX1, xk_65 hX1, xk_64 hX2, xk_73 hX2, xk_66 hX2, xk_65 hX2, List.mem_cons, List.not_mem_nil, ↓reduceIte, Nat.reduceAdd, Nat.reduceLeDiff, Nat.reduceLT, Nat.reduceEqDiff, not_false_eq_true, false_or, true_or, or_true, or_false, n0_e, n1_ne, n1_11, bI_z, bI_1, bI_fo, aBk_1, aBk_0, nI_add, nI_mul, hk_si, hp_si, hl_si, hk_sp, hk_sl, hk_cp, hp_cp, ht, ktx, pga, e1, at1, t1, ktx1, pga1, e2, opI_s, g0, og, go, q1, t2, ktx2, pga2, kga, gt, kg, fg, q2, va_rf_some]
          obtain ⟨h3, o3, R3, st⟩ := W
          have E3 := E2.px o3 R3
          have F3 := E3.2.2
          have T3 := T2.px F2 o3.OA
          have t3 : hp_ h3 73 39 = some tx := (o3.p _ _).trans t2
          have k453 : hk_ h3 45 = hk_ h 45 := (o3.k _).trans k45
          have hX3 := E3.1.1
          have x1 := shl_1 g (by omega)
          have x2 := shl_1 o' (by omega)
          -- g's foes
          have kg3 := (T3.2.1.2.1.2.2.2.2.2.2 g hg7)
          have fg3 := (T3.2.2.2.1 g hg7).1.2.2.2
          have T4 := T3.fo F3 hg7 (v := fo_ T g ||| nI (2 ^ o'))
          have gl3 := F3.lt kg3.2 (by decide)
          have E4 := E3.si (a := qg g) (f := 156) (v := fo_ T g ||| nI (2 ^ o')) kg3.1 gl3
          have F4 := E4.2.2
          have gt3 := fun d => x_get (d := d) T3.2.1.2.1.A hg7
          have gt4 := fun d => x_get (d := d) T4.2.1.2.1.A (i := o') ho7
          have ko4 := (T4.2.1.2.1.2.2.2.2.2.2 o' ho7)
          have fo4 := (T4.2.2.2.1 o' ho7).1.2.2.2
          have fo4 : hi_ (si_ h3 (qg g) 156 (fo_ T g ||| nI (2 ^ o'))) (qg o') 156 = up_ (fo_ T) g (fo_ T g ||| nI (2 ^ o')) o' := fo4
          have ol4 := F4.lt ko4.2 (by decide)
          have T5 := T4.fo F4 (g := o') ho7 (v := up_ (fo_ T) g (fo_ T g ||| nI (2 ^ o')) o' ||| nI (2 ^ g))
          have E5 := E4.si (a := qg o') (f := 156) (v := up_ (fo_ T) g (fo_ T g ||| nI (2 ^ o')) o' ||| nI (2 ^ g)) ko4.1 ol4
          have oX : OA 0 0 (TDS z0) (TDP z0) h3 (si_ (si_ h3 (qg g) 156 (fo_ T g ||| nI (2 ^ o'))) (qg o') 156 (up_ (fo_ T) g (fo_ T g ||| nI (2 ^ o')) o' ||| nI (2 ^ g))) := (OA.refl.sis (Or.inr (hq g hg7))).sis (Or.inr (hq o' ho7))
          have t4 : hp_ (si_ h3 (qg g) 156 (fo_ T g ||| nI (2 ^ o'))) 73 39 = some tx := t3
          have kga3 := T3.2.1.2.1.2.1
          have kga4 := T4.2.1.2.1.2.1
          have ktx3 := T3.1.2.1
          have pga3 := T3.1.2.2.2.1
          have ktx4 := T4.1.2.1
          have pga4 := T4.1.2.2.2.1
          have g6 : 64 ≤ qg g := by have := kg3.1; omega
          have o6 : 64 ≤ qg o' := by have := ko4.1; omega
          have hX4 := E4.1.1
          refine ⟨_, fun d => (st d).trans ?_, (((oaTd o12).trans (onTd o3)).trans oX).le (by decide) (by decide), E5, t3, k453, T5⟩
          have kgk := kg3.2
          have kok' := ko4.2
          have fold : si_ h3 (qg g) 156 (fo_ T g ||| nI (2 ^ o')) = si_ h3 (qg g) 156 (fo_ T g ||| nI (2 ^ o')) := rfl
          generalize hgen : si_ h3 (qg g) 156 (fo_ T g ||| nI (2 ^ o')) = h4 at *
          simp only [e103_74, e103_75, e103_78, e103_81, e103_82, e103_85, e103_88, e103_89, e103_92, e103_93, e103_94, e103_95, e103_96, xk_64 hX3, xk_73 hX3, xk_66 hX3, xk_65 hX3, List.mem_cons, List.not_mem_nil, ↓reduceIte, Nat.reduceAdd, Nat.reduceLeDiff, Nat.reduceLT, Nat.reduceEqDiff, not_false_eq_true, false_or, true_or, or_true, or_false, n0_e, n1_ne, n1_11, bI_z, bI_1, bI_fo, aBk_1, aBk_0, nI_add, nI_mul, hk_si, hp_si, hl_si, hk_sp, hk_sl, hk_cp, hp_cp, t3, ktx3, pga3, kga3, gt3, kgk, fg3, x2, g6, va_rf_some]
          rw [hgen]
          simp only [e103_99, e103_100, e103_103, e103_106, e103_107, e103_110, e103_113, e103_114, e103_117, e103_118, e103_119, e103_120, e103_121, e103_124, xk_64 hX4, xk_73 hX4, xk_66 hX4, xk_65 hX4, List.mem_cons, List.not_mem_nil, ↓reduceIte, Nat.reduceAdd, Nat.reduceLeDiff, Nat.reduceLT, Nat.reduceEqDiff, not_false_eq_true, false_or, true_or, or_true, or_false, n0_e, n1_ne, n1_11, bI_z, bI_1, bI_fo, aBk_1, aBk_0, nI_add, nI_mul, hk_si, hp_si, hl_si, hk_sp, hk_sl, hk_cp, hp_cp, t4, ktx4, pga4, kga4, gt4, kok', fo4, x1, o6, va_rf_some]
theorem td_F {ρ : aRd} (hV : BV β n) (hG : XG h β n N z0 ρ tx) (hk : tk_ (tz β n) ρ.1.1 = 22) (hr : ρ.2.2.2 ≤ 8) : TdR β n N z0 tx ρ.1 h (tdF (tz β n) ρ.1 ρ.2.1 ρ.2.2.1 ρ.2.2.2) := by
  obtain ⟨sa, ga, la, es, eg, qs, qg, vs, vg, hG⟩ := hG
  obtain ⟨σ, ν, T, nf⟩ := ρ
  obtain ⟨hE, ht, h45, hT, hN, hO, hZ⟩ := id hG
  simp only at hk hr hE hT hN hO hZ ⊢
  obtain ⟨hR, hW, hF⟩ := id hE
  have hX := hR.1
  have hle := hE.le
  have z5 := hF.1
  have st := td_at hR (by omega)
  rw [hk, show 22 - 20 = 2 from rfl] at st
  obtain ⟨o, h1, e1, o1, f1⟩ := p_begins hR (by omega) (by omega) (has := nf) (most := 8) (by omega) (by decide)
  have l3 : nI 2 < nI 3 := by decide
  have ktx := hT.1.2.1
  have n47 := hT.1.2.2.2.2.2.1
  unfold tdF
  cases hg : roomX (tz β n) nf 8 σ with
  | inl e =>
    rw [hg] at f1
    obtain ⟨f0, f1⟩ := f1
    rw [f0] at e1
    refine ⟨h1, fun d => (st d).trans ?_, (onTd o1).le (Nat.zero_le _) (Nat.zero_le _), hF.px o1, f1⟩
    simp only [e88_25, e88_26, e88_27, e88_30, e88_31, e88_33, e88_36, e88_37, e88_40, e88_41, e88_44, e88_47, e88_48, e88_49, e88_50, e88_51, e88_54, e88_55, e88_56, e88_57_0, e88_57_1, e88_57_2, e88_57_3, e88_57_4, e88_57_5, e88_57_6, e88_57_7, e88_57_8, e88_57_d, e88_248, e88_249, e88_250, e88_253, e88_256, e88_258, e88_261, e88_262, e88_265, e88_266, e88_269, e88_270, e88_273, e88_274, e88_275, e88_278, e88_331, xk_64 hX, xk_73 hX, xk_66 hX, xk_65 hX, xp_35 hX, xk_72 hX, xp_37 hX, ↓reduceIte, Nat.reduceAdd, Nat.reduceLeDiff, Nat.reduceLT, Nat.reduceEqDiff, not_false_eq_true, false_or, true_or, or_true, or_false, n0_e, n1_ne, n1_11, bI_z, bI_1, bI_fo, aBk_1, aBk_0, nI_add, nI_mul, hk_si, hp_si, hl_si, hk_sp, hk_sl, hk_cp, hp_cp, l3, ht, ktx, n47, e1, va_rf_some, bx_84, bx_85, bx_86, bx_87, bx_88, bx_89, bx_90, bx_91, bx_92, bx_93, bx_94, bx_95, bx_96, bx_97, bx_98, bx_99, bx_100, bx_101, bx_102, bx_103, bx_104]
  | inr s1 =>
    rw [hg] at f1
    obtain ⟨f0, R1⟩ := f1
    rw [f0] at e1
    obtain ⟨rn, -, es1⟩ := room_i hg
    have s11 : s1.1 = σ.1 + 1 := by rw [es1]
    have E1 := hE.px o1 R1
    obtain ⟨-, t1, k1, T1, N1, -, -⟩ := hG.px (σ' := s1) o1.OA E1
    have hX1 := R1.1
    have zz := o1.z
    have zl := hF.lt ktx (by decide)
    have A := p_foes (z0 := z0) hV E1 t1 T1 N1 (by omega) hZ.1 hZ.2.2.2.2.2.2.2
    show TdR β n N z0 tx σ h (eB (fo1X (tz β n) ν (fo_ T) s1) _)
    have A : match fo1X (tz β n) ν (fo_ T) s1 with
      | .inl e => ∃ h', (∀ d, (run (d + 10) 103 0 [.ref 73, aU, aU, aU] [] h1) = some (.threw 65, h')) ∧ OA 8 64 (TDS z0) (TDP z0) h1 h' ∧ FZ h' ∧ XF h' e.1 e.2
      | .inr q => ∃ h', (∀ d, (run (d + 10) 103 0 [.ref 73, aU, aU, aU] [] h1) = some (.returned none, h')) ∧ OA 8 64 (TDS z0) (TDP z0) h1 h' ∧ EXr h' β n N q.1 ∧ hp_ h' 73 39 = some tx ∧ hk_ h' 45 = hk_ h1 45 ∧ XTq h' (setF T (addF (fo_ T) q.2)) nf tx sa ga la es eg qs qg vs vg := A
    cases hf : fo1X (tz β n) ν (fo_ T) s1 with
    | inl e =>
      rw [hf] at A
      obtain ⟨h2, e2, o2, F2, f2⟩ := A
      refine ⟨h2, fun d => (st d).trans ?_, ((onTd o1).trans o2).le (by omega) (by omega), F2, f2⟩
      simp only [e88_25, e88_26, e88_27, e88_30, e88_31, e88_33, e88_36, e88_37, e88_40, e88_41, e88_44, e88_47, e88_48, e88_49, e88_50, e88_51, e88_54, e88_55, e88_56, e88_57_0, e88_57_1, e88_57_2, e88_57_3, e88_57_4, e88_57_5, e88_57_6, e88_57_7, e88_57_8, e88_57_d, e88_248, e88_249, e88_250, e88_253, e88_256, e88_258, e88_261, e88_262, e88_265, e88_266, e88_269, e88_270, e88_273, e88_274, e88_275, e88_278, e88_331, xk_64 hX, xk_73 hX, xk_66 hX, xk_65 hX, xp_35 hX, xk_72 hX, xp_37 hX, xk_64 hX1, xk_73 hX1, xk_66 hX1, xk_65 hX1, xp_35 hX1, xk_72 hX1, xp_37 hX1, ↓reduceIte, Nat.reduceAdd, Nat.reduceLeDiff, Nat.reduceLT, Nat.reduceEqDiff, not_false_eq_true, false_or, true_or, or_true, or_false, n0_e, n1_ne, n1_11, bI_z, bI_1, bI_fo, aBk_1, aBk_0, nI_add, nI_mul, hk_si, hp_si, hl_si, hk_sp, hk_sl, hk_cp, hp_cp, l3, ht, ktx, n47, e1, e2, va_rf_some, bx_84, bx_85, bx_86, bx_87, bx_88, bx_89, bx_90, bx_91, bx_92, bx_93, bx_94, bx_95, bx_96, bx_97, bx_98, bx_99, bx_100, bx_101, bx_102, bx_103, bx_104]
    | inr q =>
      rw [hf] at A
      obtain ⟨h2, e2, o2, E2, t2, k2, T2⟩ := A
      have F2 := E2.2.2
      have hX2 := E2.1.1
      have ktx2 := T2.1.2.1
      have n472 := T2.1.2.2.2.2.2.1
      have t5 := T2.1.1
      have tl := F2.lt ktx2 (by decide)
      have t6 : 64 ≤ tx := by omega
      have o3 : OA 0 0 (fun a f => a = tx ∧ f = 47) NPx h2 (si_ h2 tx 47 (nI (nf + 1))) := OA.refl.sis ⟨rfl, rfl⟩
      have qq : σ.1 + 3 ≤ q.1.1 ∧ ∀ g o, q.2 = some (g, o) → g < ng_ T ∧ o < ng_ T := by
        unfold fo1X at hf
        obtain ⟨w1, y1, hf⟩ := eB_inr hf
        obtain ⟨w2, y2, hf⟩ := eB_inr hf
        cases hf
        have u1 := (kn_i y1).2.1
        have u2 := (kn_i y2).2.1
        refine ⟨?_, fun g o hgo => ?_⟩
        · have : (foeW (fo_ T) (twoN (gueN ν (tn_ (tz β n) s1.1)) (gueN ν (tn_ (tz β n) w1.1))) w2 w1.1).1 = w2.1 := by
            unfold foeW
            split
            · split
              · exact wrong_t
              · rfl
            · rfl
          show σ.1 + 3 ≤ (foeW _ _ w2 w1.1).1
          rw [this]; omega
        · have gl : ∀ {v : Int64} {g : Nat}, gueN ν v = some g → g < ng_ T := fun {v g} hg => by
            rw [(hN v).2] at hg
            have := (fnd_some _ _ _ hg).2.1
            omega
          revert hgo
          show twoN (gueN ν (tn_ (tz β n) s1.1)) (gueN ν (tn_ (tz β n) w1.1)) = some (g, o) → _
          cases ha : gueN ν (tn_ (tz β n) s1.1) with
          | none => intro z; cases z
          | some a =>
            cases hb : gueN ν (tn_ (tz β n) w1.1) with
            | none => intro z; cases z
            | some b => intro z; cases z; exact ⟨gl ha, gl hb⟩
      have fo0 : ∀ g, ng_ T ≤ g → addF (fo_ T) q.2 g = 0 := fun g hg => by
        cases hz : q.2 with
        | none => exact hO g hg
        | some go =>
          obtain ⟨a, b⟩ := go
          obtain ⟨l1, l2⟩ := qq.2 a b hz
          show (if g = b then _ else if g = a then _ else fo_ T g) = 0
          rw [if_neg (by omega), if_neg (by omega)]; exact hO g hg
      refine ⟨si_ h2 tx 47 (nI (nf + 1)), fun d => (st d).trans ?_, (((onTd o1).trans o2).trans (o3.mono (Nat.le_refl _) (Nat.le_refl _) (fun a f q => Or.inr (by have := q.1; omega)) (fun _ _ q => q.elim))).le (by show _ ≤ 8 * (q.1.1 - σ.1); omega) (by show _ ≤ 64 * (q.1.1 - σ.1); omega), sa, ga, la, es, eg, qs, qg, vs, vg, E2.si t5 tl, t2, k2.trans k1, T2.up F2 o3 (fun x f q => Or.inr q.1) rfl rfl rfl rfl hi_same ((hi_ne (by omega)).trans T2.1.2.2.2.2.2.2.1) ((hi_ne (by omega)).trans T2.1.2.2.2.2.2.2.2), hN, fo0, hZ⟩
      simp only [e88_25, e88_26, e88_27, e88_30, e88_31, e88_33, e88_36, e88_37, e88_40, e88_41, e88_44, e88_47, e88_48, e88_49, e88_50, e88_51, e88_54, e88_55, e88_56, e88_57_0, e88_57_1, e88_57_2, e88_57_3, e88_57_4, e88_57_5, e88_57_6, e88_57_7, e88_57_8, e88_57_d, e88_248, e88_249, e88_250, e88_253, e88_256, e88_258, e88_261, e88_262, e88_265, e88_266, e88_269, e88_270, e88_273, e88_274, e88_275, e88_278, e88_331, xk_64 hX, xk_73 hX, xk_66 hX, xk_65 hX, xp_35 hX, xk_72 hX, xp_37 hX, xk_64 hX1, xk_73 hX1, xk_66 hX1, xk_65 hX1, xp_35 hX1, xk_72 hX1, xp_37 hX1, xk_64 hX2, xk_73 hX2, xk_66 hX2, xk_65 hX2, xp_35 hX2, xk_72 hX2, xp_37 hX2, ↓reduceIte, Nat.reduceAdd, Nat.reduceLeDiff, Nat.reduceLT, Nat.reduceEqDiff, not_false_eq_true, false_or, true_or, or_true, or_false, n0_e, n1_ne, n1_11, bI_z, bI_1, bI_fo, aBk_1, aBk_0, nI_add, nI_mul, hk_si, hp_si, hl_si, hk_sp, hk_sl, hk_cp, hp_cp, l3, ht, ktx, n47, e1, e2, t2, ktx2, n472, t6, va_rf_some]
end TD6
