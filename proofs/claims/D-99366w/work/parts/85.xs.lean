set_option maxRecDepth 100000
/-! X: reading (4): a unit -/
def NPx (_ _ : Nat) : Prop := False
theorem NPx.t : PTx NPx := fun _ _ q => q.elim
def EXr (h : aH) (β : Nat → Nat) (n N : Nat) (σ : aPs) : Prop := XR h (tz β n) N σ ∧ XV h β n N ∧ FZ h
noncomputable def uAt (D : Nat) (h : aH) : aR := run (D + 8) 97 0 [.ref 73, aU] [] h
noncomputable def pAt (D : Nat) (h : aH) : aR := run (D + 9) 96 0 [.ref 73, aU, aU] [] h
noncomputable def plAt (a : Nat) (z : Value) (D : Nat) (h : aH) : aR := run (D + 9) 96 5 [.ref 73, .ref a, z] [] h
noncomputable def smAt (D : Nat) (h : aH) : aR := run (D + 10) 95 0 [.ref 73, aU, aU] [] h
noncomputable def slAt (a : Nat) (z : Value) (D : Nat) (h : aH) : aR := run (D + 10) 95 5 [.ref 73, .ref a, z] [] h
/-- what comes of reading a sum -/
def SmR (β : Nat → Nat) (n N : Nat) (σ : aPs) (h : aH) (x : aEr (aPs × cdT)) (R : Nat → aH → aR) : Prop := match x with
  | .inl e => ∃ h', (∀ d, R (d + 3 * (6 - σ.2.1)) h = some (.threw 65, h')) ∧ OA (401 - σ.1) (3 * (401 - σ.1)) XPF NPx h h' ∧ FZ h' ∧ XF h' e.1 e.2
  | .inr q => ∃ h' a, (∀ d, R (d + 3 * (6 - σ.2.1)) h = some (.returned (some (.ref a)), h')) ∧ OA (q.1.1 - σ.1) (3 * (q.1.1 - σ.1)) XPF NPx h h' ∧ EXr h' β n N q.1 ∧ SR h' q.2.length a q.2
section XS85
variable {n N D : Nat} {h h' : aH} {β : Nat → Nat} {σ : aPs}
theorem XPF.lt (hF : FZ h) {a f : Nat} (q : XPF a f) : a < hz_ h := by have := hF.1; unfold XPF at q; omega
theorem FZ.px (hF : FZ h) (o : On XPF h h') : FZ h' := hF.on o (fun a f q => XPF.lt hF q)
theorem XPF.na {a f : Nat} (q : XPF a f) : ¬ xa a := by unfold XPF at q; unfold xa; omega
theorem XV.px {β : Nat → Nat} (hV : XV h β n N) (hF : FZ h) (o : On XPF h h') : XV h' β n N := hV.oa (o.OA (P := NPx)) hF.1 (fun a f q => by unfold XPF at q; omega)
theorem EXr.px {σ' : aPs} (hE : EXr h β n N σ) (o : On XPF h h') (hR : XR h' (tz β n) N σ') : EXr h' β n N σ' := ⟨hR, hE.2.1.px hE.2.2 o, hE.2.2.px o⟩
theorem EXr.le (hE : EXr h β n N σ) : σ.1 ≤ 400 := hE.1.le
theorem hi_nwx {h : aH} {κ n s x f : Nat} : hi_ (nw_ h κ n s) x f = hi_ h x f := rfl
theorem hp_nwx {h : aH} {κ n s x f : Nat} : hp_ (nw_ h κ n s) x f = hp_ h x f := rfl
theorem EXr.nw (hE : EXr h β n N σ) {κ m u : Nat} : EXr (nw_ h κ m u) β n N σ := by
  obtain ⟨hR, hV, hF⟩ := hE
  have o : OA (0 + 1) (0 + u) NPx NPx h (nw_ h κ m u) := OA.refl.nw
  exact ⟨hR.oa o hF.1 (fun _ _ q => q.elim) NPx.t, hV.oa o hF.1 (fun _ _ q => q.elim), hF.nw⟩
/-- writes at new cells -/
theorem EXr.si (hE : EXr h β n N σ) {a f : Nat} {v : Int32} (h1 : 504 ≤ a) (h2 : a < hz_ h) : EXr (si_ h a f v) β n N σ := by
  obtain ⟨hR, hV, hF⟩ := hE
  have o : OA 0 0 (fun x _ => x = a) NPx h (si_ h a f v) := OA.refl.sis rfl
  exact ⟨hR.oa o hF.1 (fun x f q => by have : x = a := q; omega) NPx.t, hV.oa o hF.1 (fun x f q => by have : x = a := q; omega), hF.si h2⟩
theorem EXr.sp (hE : EXr h β n N σ) {a f : Nat} {v : Option Nat} (h1 : 504 ≤ a) (h2 : a < hz_ h) : EXr (sp_ h a f v) β n N σ := by
  obtain ⟨hR, hV, hF⟩ := hE
  have o : OA 0 0 NPx (fun x _ => x = a) h (sp_ h a f v) := OA.refl.sps rfl
  exact ⟨hR.oa o hF.1 (fun _ _ q => q.elim) (fun x f q => by have : x = a := q; omega), hV.oa o hF.1 (fun _ _ q => q.elim), hF.sp h2⟩
theorem tzk (j : Nat) : tk_ (tz β n) j = kdz β n (pz β j) := rfl
theorem tzv (j : Nat) : tv_ (tz β n) j = tvz β (pz β j) := rfl
theorem x_unitI (hV : BV β n) (hE : EXr h β n N σ) (hk : tk_ (tz β n) σ.1 = 2) : SmR β n N σ h (eB (goX (tz β n) σ) (fun s => .inr (s, unC (tz β n) σ))) uAt := by
  obtain ⟨hR, hW, hF⟩ := id hE
  have hX := hR.1
  have hle := hE.le
  have h40 := hR.2.1.1
  have es := fun d => p_sort (d := d) hR (by omega)
  rw [hk] at es
  obtain ⟨o, h1, e1, o1, f1⟩ := p_pass hR (hR.nx (by omega) (by omega))
  cases hg : goX (tz β n) σ with
  | inl e =>
    rw [hg] at f1
    refine ⟨h1, fun d => ?_, o1.OA.le (by omega) (by omega), hF.px o1, f1.2⟩
    rw [f1.1] at e1
    unfold uAt
    have e5 : srt 2 = 1 := rfl
    simp only [e97_0, e97_1, e97_4, e97_5, e97_8, e97_9, e97_12, e97_15, e97_16, e97_17, e97_20, e97_21, e97_24, e97_25, e97_26, e97_29, e97_32, e97_33, e97_34, e97_37, e97_38, e97_41, e97_42, e97_45, e97_48, e97_49, e97_52, e97_53, e97_55, e97_58, e97_59, e97_62, e97_65, e97_66, e97_67, e97_70, e97_73, e97_74, e97_77, e97_78, e97_79, e97_80, e97_82, e97_83, e97_86, e97_87, e97_88, e97_90, e97_93, e97_96, e97_97, e97_98, e97_101, e97_102, e97_103, e97_106, e97_108, e97_111, e97_112, e97_113, e97_116, e97_117, e97_118, e97_119, e97_122, e97_123, e97_124, e97_127, e97_128, e97_131, e97_132, e97_135, e97_136, e97_137, e97_139, e97_142, e97_143, e97_144, e97_147, e97_148, e97_149, e97_152, e97_153, xk_64 hX, xk_73 hX, xk_66 hX, xk_65 hX, xp_35 hX, xk_72 hX, xp_37 hX, ↓reduceIte, Nat.reduceAdd, Nat.reduceLeDiff, Nat.reduceLT, Nat.reduceEqDiff, not_false_eq_true, false_or, true_or, or_true, or_false, n0_e, n1_ne, n1_11, bI_z, bI_1, bI_fo, va_rf_some, aBk_1, aBk_0, nI_add, nI_mul, hk_si, hp_si, hl_si, hk_sp, hk_sl, hk_cp, hp_cp, es, e5, e1, bx_84, bx_85, bx_86, bx_87, bx_88, bx_89, bx_90, bx_91, bx_92, bx_93, bx_94, bx_95, bx_96, bx_97, bx_98, bx_99, bx_100, bx_101, bx_102, bx_103, bx_104]
  | inr s =>
    rw [hg] at f1
    obtain ⟨f0, R1⟩ := f1
    rw [f0] at e1
    have es1 := (go_inr hg).2
    have E1 := hE.px o1 R1
    have E2 := E1.nw (κ := 13) (m := 0) (u := 1)
    have z1 := E1.2.2.1
    have hX1 := R1.1
    have hX2 := E2.1.1
    have k2 : hk_ (nw_ h1 13 0 1) (hz_ h1) = (13, 0) := if_pos rfl
    have a2 : hi_ (nw_ h1 13 0 1) 73 40 = nI (σ.1 + 1) := by rw [E2.1.2.2.2.2.1, es1]
    have nm := fun d => k_number (d := d) hX2 hV E2.2.1 E2.1.2.2.1 (j := σ.1) hR.2.2.2.1 h40 hk
    have ni := fun d => n_init (d := d) (v := nI (tvz β (pz β σ.1))) k2 (by omega)
    have E3 := E2.si (a := hz_ h1) (f := 141) (v := nI (tvz β (pz β σ.1))) z1 (Nat.lt_succ_self _)
    have eu : unC (tz β n) σ = [(0, tvz β (pz β σ.1))] := if_pos hk
    have s1 : s.1 = σ.1 + 1 := by rw [es1]
    have zz := o1.z
    refine ⟨_, hz_ h1, fun d => ?_, ?_, E3, ?_⟩
    · unfold uAt
      have e5 : srt 2 = 1 := rfl
      have h98 : (13 : Nat) < 98 := by decide
      simp only [e97_0, e97_1, e97_4, e97_5, e97_8, e97_9, e97_12, e97_15, e97_16, e97_17, e97_20, e97_21, e97_24, e97_25, e97_26, e97_29, e97_32, e97_33, e97_34, e97_37, e97_38, e97_41, e97_42, e97_45, e97_48, e97_49, e97_52, e97_53, e97_55, e97_58, e97_59, e97_62, e97_65, e97_66, e97_67, e97_70, e97_73, e97_74, e97_77, e97_78, e97_79, e97_80, e97_82, e97_83, e97_86, e97_87, e97_88, e97_90, e97_93, e97_96, e97_97, e97_98, e97_101, e97_102, e97_103, e97_106, e97_108, e97_111, e97_112, e97_113, e97_116, e97_117, e97_118, e97_119, e97_122, e97_123, e97_124, e97_127, e97_128, e97_131, e97_132, e97_135, e97_136, e97_137, e97_139, e97_142, e97_143, e97_144, e97_147, e97_148, e97_149, e97_152, e97_153, xk_64 hX, xk_73 hX, xk_66 hX, xk_65 hX, xp_35 hX, xk_72 hX, xp_37 hX, xk_64 hX1, xk_73 hX1, xk_66 hX1, xk_65 hX1, xp_35 hX1, xk_72 hX1, xp_37 hX1, xk_64 hX2, xk_73 hX2, xk_66 hX2, xk_65 hX2, xp_35 hX2, xk_72 hX2, xp_37 hX2, ↓reduceIte, Nat.reduceAdd, Nat.reduceLeDiff, Nat.reduceLT, Nat.reduceEqDiff, not_false_eq_true, false_or, true_or, or_true, or_false, n0_e, n1_ne, n1_11, bI_z, bI_1, bI_fo, va_rf_some, aBk_1, aBk_0, nI_add, nI_mul, hk_si, hp_si, hl_si, hk_sp, hk_sl, hk_cp, hp_cp, es, e5, e1, a2, nI_s1, nm, k2, h98, ni]
    · exact (((o1.OA (P := NPx)).nw (κ := 13) (n := 0) (u := 1)).sif (by omega)).le (by show _ ≤ s.1 - σ.1; omega) (by show _ ≤ 3 * (s.1 - σ.1); omega)
    · show SR _ (unC (tz β n) σ).length _ (unC (tz β n) σ)
      rw [eu]
      exact ⟨Or.inr z1, Or.inl ⟨k2, _, rfl, hi_same⟩⟩
theorem x_unitV (hE : EXr h β n N σ) (hk : 32 ≤ tk_ (tz β n) σ.1 ∧ tk_ (tz β n) σ.1 ≤ 40) : SmR β n N σ h (eB (goX (tz β n) σ) (fun s => .inr (s, unC (tz β n) σ))) uAt := by
  obtain ⟨hR, hW, hF⟩ := id hE
  have hX := hR.1
  have hle := hE.le
  have h40 := hR.2.1.1
  have g1 : σ.1 < 2001 := by omega
  have e5 : srt (tk_ (tz β n) σ.1) = 3 := (srt_3 (hR.2.2.1 σ.1 hR.2.2.2.1).1).mpr (by omega)
  have es := fun d => p_sort (d := d) hR (by omega)
  rw [e5] at es
  have h2 := hR.2.2.2.2.1
  have kw := (hR.2.2.1 σ.1 hR.2.2.2.1).2.2.2.1 (by omega)
  have l12 : ¬ nI (tk_ (tz β n) σ.1 - 20) < nI 12 := by rw [nI_ltL (by omega) (by decide)]; omega
  have e31 : (nI 3 = nI 1) = False := by decide
  obtain ⟨o, h1, e1, o1, f1⟩ := p_pass hR (hR.nx (by omega) (by omega))
  cases hg : goX (tz β n) σ with
  | inl e =>
    rw [hg] at f1
    refine ⟨h1, fun d => ?_, o1.OA.le (by omega) (by omega), hF.px o1, f1.2⟩
    rw [f1.1] at e1
    unfold uAt
    simp only [e97_0, e97_1, e97_4, e97_5, e97_8, e97_9, e97_12, e97_15, e97_16, e97_17, e97_20, e97_21, e97_24, e97_25, e97_26, e97_29, e97_32, e97_33, e97_34, e97_37, e97_38, e97_41, e97_42, e97_45, e97_48, e97_49, e97_52, e97_53, e97_55, e97_58, e97_59, e97_62, e97_65, e97_66, e97_67, e97_70, e97_73, e97_74, e97_77, e97_78, e97_79, e97_80, e97_82, e97_83, e97_86, e97_87, e97_88, e97_90, e97_93, e97_96, e97_97, e97_98, e97_101, e97_102, e97_103, e97_106, e97_108, e97_111, e97_112, e97_113, e97_116, e97_117, e97_118, e97_119, e97_122, e97_123, e97_124, e97_127, e97_128, e97_131, e97_132, e97_135, e97_136, e97_137, e97_139, e97_142, e97_143, e97_144, e97_147, e97_148, e97_149, e97_152, e97_153, xk_64 hX, xk_73 hX, xk_66 hX, xk_65 hX, xp_35 hX, xk_72 hX, xp_37 hX, ↓reduceIte, Nat.reduceAdd, Nat.reduceLeDiff, Nat.reduceLT, Nat.reduceEqDiff, not_false_eq_true, false_or, true_or, or_true, or_false, n0_e, n1_ne, n1_11, bI_z, bI_1, bI_fo, va_rf_some, aBk_1, aBk_0, nI_add, nI_mul, hk_si, hp_si, hl_si, hk_sp, hk_sl, hk_cp, hp_cp, es, e31, h2, g1, kw, l12, e1, bx_84, bx_85, bx_86, bx_87, bx_88, bx_89, bx_90, bx_91, bx_92, bx_93, bx_94, bx_95, bx_96, bx_97, bx_98, bx_99, bx_100, bx_101, bx_102, bx_103, bx_104]
  | inr s =>
    rw [hg] at f1
    obtain ⟨f0, R1⟩ := f1
    rw [f0] at e1
    have es1 := (go_inr hg).2
    have E1 := hE.px o1 R1
    have E2 := E1.nw (κ := 14) (m := 0) (u := 1)
    have z1 := E1.2.2.1
    have hX1 := R1.1
    have hX2 := E2.1.1
    have k2 : hk_ (nw_ h1 14 0 1) (hz_ h1) = (14, 0) := if_pos rfl
    have a2 : hi_ (nw_ h1 14 0 1) 73 40 = nI (σ.1 + 1) := by rw [E2.1.2.2.2.2.1, es1]
    have kw2 := (E2.1.2.2.1 σ.1 hR.2.2.2.1).2.2.2.1 (by omega)
    have e6 : nI (tk_ (tz β n) σ.1 - 20) - nI 12 = nI (tk_ (tz β n) σ.1 - 32) := by rw [nI_sub (by omega), Nat.sub_sub]
    have vi := fun d => v_init (d := d) (v := nI (tk_ (tz β n) σ.1 - 32)) k2 (by omega)
    have E3 := E2.si (a := hz_ h1) (f := 142) (v := nI (tk_ (tz β n) σ.1 - 32)) z1 (Nat.lt_succ_self _)
    have eu : unC (tz β n) σ = [(1, tk_ (tz β n) σ.1 - 32)] := (if_neg (by omega)).trans (if_pos hk)
    have s1 : s.1 = σ.1 + 1 := by rw [es1]
    have zz := o1.z
    refine ⟨_, hz_ h1, fun d => ?_, ?_, E3, ?_⟩
    · unfold uAt
      have h98 : (14 : Nat) < 98 := by decide
      simp only [e97_0, e97_1, e97_4, e97_5, e97_8, e97_9, e97_12, e97_15, e97_16, e97_17, e97_20, e97_21, e97_24, e97_25, e97_26, e97_29, e97_32, e97_33, e97_34, e97_37, e97_38, e97_41, e97_42, e97_45, e97_48, e97_49, e97_52, e97_53, e97_55, e97_58, e97_59, e97_62, e97_65, e97_66, e97_67, e97_70, e97_73, e97_74, e97_77, e97_78, e97_79, e97_80, e97_82, e97_83, e97_86, e97_87, e97_88, e97_90, e97_93, e97_96, e97_97, e97_98, e97_101, e97_102, e97_103, e97_106, e97_108, e97_111, e97_112, e97_113, e97_116, e97_117, e97_118, e97_119, e97_122, e97_123, e97_124, e97_127, e97_128, e97_131, e97_132, e97_135, e97_136, e97_137, e97_139, e97_142, e97_143, e97_144, e97_147, e97_148, e97_149, e97_152, e97_153, xk_64 hX, xk_73 hX, xk_66 hX, xk_65 hX, xp_35 hX, xk_72 hX, xp_37 hX, xk_64 hX1, xk_73 hX1, xk_66 hX1, xk_65 hX1, xp_35 hX1, xk_72 hX1, xp_37 hX1, xk_64 hX2, xk_73 hX2, xk_66 hX2, xk_65 hX2, xp_35 hX2, xk_72 hX2, xp_37 hX2, ↓reduceIte, Nat.reduceAdd, Nat.reduceLeDiff, Nat.reduceLT, Nat.reduceEqDiff, not_false_eq_true, false_or, true_or, or_true, or_false, n0_e, n1_ne, n1_11, bI_z, bI_1, bI_fo, va_rf_some, aBk_1, aBk_0, nI_add, nI_mul, hk_si, hp_si, hl_si, hk_sp, hk_sl, hk_cp, hp_cp, es, e31, h2, g1, kw, l12, e1, a2, nI_s1, kw2, e6, k2, h98, vi]
    · exact (((o1.OA (P := NPx)).nw (κ := 14) (n := 0) (u := 1)).sif (by omega)).le (by show _ ≤ s.1 - σ.1; omega) (by show _ ≤ 3 * (s.1 - σ.1); omega)
    · show SR _ (unC (tz β n) σ).length _ (unC (tz β n) σ)
      rw [eu]
      exact ⟨Or.inr z1, Or.inr (Or.inl ⟨k2, _, by omega, rfl, hi_same⟩)⟩
/-- no unit -/
theorem x_unitE (hE : EXr h β n N σ) (h2 : tk_ (tz β n) σ.1 ≠ 2) (hw : ¬ (32 ≤ tk_ (tz β n) σ.1 ∧ tk_ (tz β n) σ.1 ≤ 40)) (h6 : tk_ (tz β n) σ.1 ≠ 6) : SmR β n N σ h (.inl (1, tp_ (tz β n) σ.1)) uAt := by
  obtain ⟨hR, hW, hF⟩ := id hE
  have hX := hR.1
  have hle := hE.le
  have h40 := hR.2.1.1
  have g1 : σ.1 < 2001 := by omega
  by_cases q3 : tk_ (tz β n) σ.1 = 3
  · obtain ⟨h1, e1, o1, f1⟩ := p_sortF hR q3
    refine ⟨h1, fun d => ?_, o1.OA.le (by omega) (by omega), hF.px o1, f1⟩
    unfold uAt
    simp only [e97_0, e97_1, e97_4, e97_5, e97_8, e97_9, e97_12, e97_15, e97_16, e97_17, e97_20, e97_21, e97_24, e97_25, e97_26, e97_29, e97_32, e97_33, e97_34, e97_37, e97_38, e97_41, e97_42, e97_45, e97_48, e97_49, e97_52, e97_53, e97_55, e97_58, e97_59, e97_62, e97_65, e97_66, e97_67, e97_70, e97_73, e97_74, e97_77, e97_78, e97_79, e97_80, e97_82, e97_83, e97_86, e97_87, e97_88, e97_90, e97_93, e97_96, e97_97, e97_98, e97_101, e97_102, e97_103, e97_106, e97_108, e97_111, e97_112, e97_113, e97_116, e97_117, e97_118, e97_119, e97_122, e97_123, e97_124, e97_127, e97_128, e97_131, e97_132, e97_135, e97_136, e97_137, e97_139, e97_142, e97_143, e97_144, e97_147, e97_148, e97_149, e97_152, e97_153, xk_64 hX, xk_73 hX, xk_66 hX, xk_65 hX, xp_35 hX, xk_72 hX, xp_37 hX, ↓reduceIte, Nat.reduceAdd, Nat.reduceLeDiff, Nat.reduceLT, Nat.reduceEqDiff, not_false_eq_true, false_or, true_or, or_true, or_false, n0_e, n1_ne, n1_11, bI_z, bI_1, bI_fo, va_rf_some, aBk_1, aBk_0, nI_add, nI_mul, hk_si, hp_si, hl_si, hk_sp, hk_sl, hk_cp, hp_cp, e1, bx_84, bx_85, bx_86, bx_87, bx_88, bx_89, bx_90, bx_91, bx_92, bx_93, bx_94, bx_95, bx_96, bx_97, bx_98, bx_99, bx_100, bx_101, bx_102, bx_103, bx_104]
  · have es := fun d => p_sort (d := d) hR q3
    have k0 := (hR.2.2.1 σ.1 hR.2.2.2.1).1
    have b5 := srt_b (tk_ (tz β n) σ.1)
    have e1' : (nI (srt (tk_ (tz β n) σ.1)) = nI 1) = False := by
      rw [nI_eqL (by omega) (by decide)]
      refine eq_false (fun z => ?_)
      unfold srt at z; unfold kok sgk at k0
      repeat' split at z
      all_goals omega
    have a2 := hR.2.2.2.2.1
    have ei := fun d => p_isSign (d := d) hR (k := 6) (by unfold sgk; omega)
    rw [decide_eq_false h6] at ei
    have c6 : chr 6 = 40 := rfl
    rw [c6] at ei
    obtain ⟨h1, e1, o1, f1⟩ := p_wrong (c := 1) hR
    have hX1 := f1.1
    refine ⟨h1, fun d => ?_, o1.OA.le (by omega) (by omega), hF.px o1, f1⟩
    unfold uAt
    by_cases q20 : 20 ≤ tk_ (tz β n) σ.1
    · have e3 : srt (tk_ (tz β n) σ.1) = 3 := (srt_3 k0).mpr q20
      rw [e3] at es
      have kw := (hR.2.2.1 σ.1 hR.2.2.2.1).2.2.2.1 q20
      have l12 : nI (tk_ (tz β n) σ.1 - 20) < nI 12 := by unfold kok sgk at k0; rw [nI_ltL (by omega) (by decide)]; omega
      have e31 : (nI 3 = nI 1) = False := by decide
      simp only [e97_0, e97_1, e97_4, e97_5, e97_8, e97_9, e97_12, e97_15, e97_16, e97_17, e97_20, e97_21, e97_24, e97_25, e97_26, e97_29, e97_32, e97_33, e97_34, e97_37, e97_38, e97_41, e97_42, e97_45, e97_48, e97_49, e97_52, e97_53, e97_55, e97_58, e97_59, e97_62, e97_65, e97_66, e97_67, e97_70, e97_73, e97_74, e97_77, e97_78, e97_79, e97_80, e97_82, e97_83, e97_86, e97_87, e97_88, e97_90, e97_93, e97_96, e97_97, e97_98, e97_101, e97_102, e97_103, e97_106, e97_108, e97_111, e97_112, e97_113, e97_116, e97_117, e97_118, e97_119, e97_122, e97_123, e97_124, e97_127, e97_128, e97_131, e97_132, e97_135, e97_136, e97_137, e97_139, e97_142, e97_143, e97_144, e97_147, e97_148, e97_149, e97_152, e97_153, xk_64 hX, xk_73 hX, xk_66 hX, xk_65 hX, xp_35 hX, xk_72 hX, xp_37 hX, xk_64 hX1, xk_73 hX1, xk_66 hX1, xk_65 hX1, xp_35 hX1, xk_72 hX1, xp_37 hX1, ↓reduceIte, Nat.reduceAdd, Nat.reduceLeDiff, Nat.reduceLT, Nat.reduceEqDiff, not_false_eq_true, false_or, true_or, or_true, or_false, n0_e, n1_ne, n1_11, bI_z, bI_1, bI_fo, va_rf_some, aBk_1, aBk_0, nI_add, nI_mul, hk_si, hp_si, hl_si, hk_sp, hk_sl, hk_cp, hp_cp, es, e31, a2, g1, kw, l12, ei, e1, bx_84, bx_85, bx_86, bx_87, bx_88, bx_89, bx_90, bx_91, bx_92, bx_93, bx_94, bx_95, bx_96, bx_97, bx_98, bx_99, bx_100, bx_101, bx_102, bx_103, bx_104]
    · have e3 : (nI (srt (tk_ (tz β n) σ.1)) = nI 3) = False := by rw [nI_eqL (by omega) (by decide)]; exact eq_false (fun z => q20 ((srt_3 k0).mp z))
      simp only [e97_0, e97_1, e97_4, e97_5, e97_8, e97_9, e97_12, e97_15, e97_16, e97_17, e97_20, e97_21, e97_24, e97_25, e97_26, e97_29, e97_32, e97_33, e97_34, e97_37, e97_38, e97_41, e97_42, e97_45, e97_48, e97_49, e97_52, e97_53, e97_55, e97_58, e97_59, e97_62, e97_65, e97_66, e97_67, e97_70, e97_73, e97_74, e97_77, e97_78, e97_79, e97_80, e97_82, e97_83, e97_86, e97_87, e97_88, e97_90, e97_93, e97_96, e97_97, e97_98, e97_101, e97_102, e97_103, e97_106, e97_108, e97_111, e97_112, e97_113, e97_116, e97_117, e97_118, e97_119, e97_122, e97_123, e97_124, e97_127, e97_128, e97_131, e97_132, e97_135, e97_136, e97_137, e97_139, e97_142, e97_143, e97_144, e97_147, e97_148, e97_149, e97_152, e97_153, xk_64 hX, xk_73 hX, xk_66 hX, xk_65 hX, xp_35 hX, xk_72 hX, xp_37 hX, xk_64 hX1, xk_73 hX1, xk_66 hX1, xk_65 hX1, xp_35 hX1, xk_72 hX1, xp_37 hX1, ↓reduceIte, Nat.reduceAdd, Nat.reduceLeDiff, Nat.reduceLT, Nat.reduceEqDiff, not_false_eq_true, false_or, true_or, or_true, or_false, n0_e, n1_ne, n1_11, bI_z, bI_1, bI_fo, va_rf_some, aBk_1, aBk_0, nI_add, nI_mul, hk_si, hp_si, hl_si, hk_sp, hk_sl, hk_cp, hp_cp, es, e1', e3, ei, e1, bx_84, bx_85, bx_86, bx_87, bx_88, bx_89, bx_90, bx_91, bx_92, bx_93, bx_94, bx_95, bx_96, bx_97, bx_98, bx_99, bx_100, bx_101, bx_102, bx_103, bx_104]
end XS85
