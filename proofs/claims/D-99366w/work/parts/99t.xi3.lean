set_option maxRecDepth 100000
/-! X's constructor (3): the parser, the text, houses, arrays -/
section XI3s
variable {d m n κ u x f N : Nat} {v : Option Nat} {h h' g : aH}
theorem p_init (hk : hk_ h 73 = (3, 0)) : (run (d) 83 0 [.ref 73, .ref 66, .ref 65] [] h) = some (.returned none, sp_ (sp_ h 73 37 (some 66)) 73 38 (some 65)) := by
  have h98 : (3 : Nat) < 98 := by decide
  simp only [e83_0, e83_1, e83_4, e83_5, e83_6, e83_6n, e83_9, e83_10, e83_11, e83_11n, e83_14, ↓reduceIte, Nat.reduceAdd, Nat.reduceLeDiff, Nat.reduceLT, Nat.reduceEqDiff, not_false_eq_true, false_or, true_or, or_true, or_false, n0_e, n1_ne, n1_11, bI_z, bI_1, bI_fo, va_rf_some, aBk_1, aBk_0, nI_add, nI_mul, hk_si, hp_si, hl_si, hk_sp, hk_sl, hk_cp, hp_cp, hk, h98]
theorem xi_p (hB : BX h 73) (h0 : hp_ h 64 0 = some 65) (h1 : hp_ h 64 1 = some 66) : ∃ h', (∀ d, (run (d + 4) 0 26 [.ref 64, aU] [] h) = (run (d + 4) 0 45 [.ref 64, aU] [] h')) ∧ BX h' 74 ∧ NX 2 h h' ∧ hu_ h' ≤ hu_ h + 7 ∧ hk_ h' 73 = (3, 0) ∧ hp_ h' 64 2 = some 73 ∧ hp_ h' 73 37 = some 66 ∧ hp_ h' 73 38 = some 65 := by
  obtain ⟨hz, hF, hk, -⟩ := hB
  have h98 : (3 : Nat) < 98 := by decide
  have k1 : hk_ (nw_ h 3 0 7) 73 = (3, 0) := if_pos hz.symm
  have k2 : hk_ (nw_ h 3 0 7) 64 = (0, 0) := (if_neg (by omega)).trans hk
  have ei := fun d => p_init (d := d) k1
  refine ⟨sp_ (sp_ (sp_ (nw_ h 3 0 7) 73 37 (some 66)) 73 38 (some 65)) 64 2 (some 73), fun d => by
    simp only [e0_26, e0_27, e0_30, e0_31, e0_32, e0_35, e0_36, e0_39, e0_42, e0_42n, ↓reduceIte, Nat.reduceAdd, Nat.reduceLeDiff, Nat.reduceLT, Nat.reduceEqDiff, not_false_eq_true, false_or, true_or, or_true, or_false, n0_e, n1_ne, n1_11, bI_z, bI_1, bI_fo, va_rf_some, aBk_1, aBk_0, nI_add, nI_mul, hk_si, hp_si, hl_si, hk_sp, hk_sl, hk_cp, hp_cp, hz, h98, k1, k2, ei, h0, h1, hp_nw], ⟨by simp only [hz_nw, hz_sp, hz_si, hk_nwx, hp_sp, hi_sp, hi_nw, hp_nw, hi_si, Nat.reduceEqDiff, Nat.reduceAdd, ↓reduceIte, false_and, and_false, true_and, and_true, and_self, hk_si, hp_si, hk_sp, hz], ?_, k2, by decide⟩, ?_, Nat.le_refl _, k1, hp_same, by simp only [hz_nw, hz_sp, hz_si, hk_nwx, hp_sp, hi_sp, hi_nw, hp_nw, hi_si, Nat.reduceEqDiff, Nat.reduceAdd, ↓reduceIte, false_and, and_false, true_and, and_true, and_self, hk_si, hp_si, hk_sp], by simp only [hz_nw, hz_sp, hz_si, hk_nwx, hp_sp, hi_sp, hi_nw, hp_nw, hi_si, Nat.reduceEqDiff, Nat.reduceAdd, ↓reduceIte, false_and, and_false, true_and, and_true, and_self, hk_si, hp_si, hk_sp]⟩
  · exact (((hF.nw.sp (by simp only [hz_nw, hz_sp, hz_si, hk_nwx, hp_sp, hi_sp, hi_nw, hp_nw, hi_si, Nat.reduceEqDiff, Nat.reduceAdd, ↓reduceIte, false_and, and_false, true_and, and_true, and_self, hk_si, hp_si, hk_sp, hz]; decide)).sp (by simp only [hz_nw, hz_sp, hz_si, hk_nwx, hp_sp, hi_sp, hi_nw, hp_nw, hi_si, Nat.reduceEqDiff, Nat.reduceAdd, ↓reduceIte, false_and, and_false, true_and, and_true, and_self, hk_si, hp_si, hk_sp, hz]; decide))).sp (by simp only [hz_nw, hz_sp, hz_si, hk_nwx, hp_sp, hi_sp, hi_nw, hp_nw, hi_si, Nat.reduceEqDiff, Nat.reduceAdd, ↓reduceIte, false_and, and_false, true_and, and_true, and_self, hk_si, hp_si, hk_sp, hz]; decide)
  · exact ((NX.refl.nw.spn (by omega)).spn (by omega)).sp6 (Nat.le_refl _)
/-- the first text -/
def XT0 (h : aH) : Prop := (hk_ h 74 = (4, 0) ∧ hk_ h 75 = (5, 0) ∧ hk_ h 76 = (5, 0) ∧ hk_ h 77 = (112, 4)) ∧ (hp_ h 74 44 = some 75 ∧ hp_ h 74 45 = some 76 ∧ hp_ h 74 46 = some 77 ∧ ∀ k, hp_ h 77 k = none) ∧ hi_ h 75 52 = 0 ∧ hi_ h 76 52 = 0 ∧ hi_ h 74 48 = nI 100 ∧ hi_ h 74 49 = 0
theorem XT0.nx (hT : XT0 h) (a : NX m h h') (hz : 78 ≤ hz_ h) : XT0 h' := by
  obtain ⟨⟨k1, k2, k3, k4⟩, ⟨p1, p2, p3, p4⟩, i1, i2, i3, i4⟩ := hT
  obtain ⟨-, ak, ap, ai⟩ := a
  exact ⟨⟨(ak _ (by omega)).trans k1, (ak _ (by omega)).trans k2, (ak _ (by omega)).trans k3, (ak _ (by omega)).trans k4⟩, ⟨(ap _ _ (by omega) (by omega)).trans p1, (ap _ _ (by omega) (by omega)).trans p2, (ap _ _ (by omega) (by omega)).trans p3, fun k => (ap _ _ (by omega) (by omega)).trans (p4 k)⟩, (ai _ _ (Or.inl (by omega)) (by omega)).trans i1, (ai _ _ (Or.inl (by omega)) (by omega)).trans i2, (ai _ _ (Or.inl (by omega)) (by omega)).trans i3, (ai _ _ (Or.inl (by omega)) (by omega)).trans i4⟩
theorem t_init0 (hz : hz_ h = 75) (hk : hk_ h 74 = (4, 0)) : (run (d + 3) 105 0 [.ref 74] [] h) = some (.returned none, (si_ (sp_ (nw_ (sp_ (sp_ (si_ (nw_ (sp_ (sp_ (si_ (nw_ h 5 0 3) 75 50 (nI 0)) 75 51 (some 45)) 74 44 (some 75)) 5 0 3) 76 50 (nI 0)) 76 51 (some 45)) 74 45 (some 76)) 112 4 4) 74 46 (some 77)) 74 48 (nI 100))) := by
  have h98 : (4 : Nat) < 98 := by decide
  have h985 : (5 : Nat) < 98 := by decide
  have m4 : (4 : Nat) ≤ 1000000 := by decide
  have k1 : hk_ (nw_ h 5 0 3) 75 = (5, 0) := if_pos hz.symm
  have k2 : hk_ (nw_ (sp_ (sp_ (si_ (nw_ h 5 0 3) 75 50 (nI 0)) 75 51 (some 45)) 74 44 (some 75)) 5 0 3) 76 = (5, 0) := by simp only [hz_nw, hz_sp, hz_si, hk_nwx, hp_sp, hi_sp, hi_nw, hp_nw, hi_si, Nat.reduceEqDiff, Nat.reduceAdd, ↓reduceIte, false_and, and_false, true_and, and_true, and_self, hk_si, hp_si, hk_sp, hz]
  have i1 := fun d => al_init (d := d) k1 (by decide)
  have i2 := fun d => al_init (d := d) k2 (by decide)
  have e1 : (run (d + 3) 105 0 [.ref 74] [] h) = (run (d + 3) 105 15 [.ref 74] [] (sp_ (sp_ (si_ (nw_ h 5 0 3) 75 50 (nI 0)) 75 51 (some 45)) 74 44 (some 75))) := by
    simp only [e105_0, e105_1, e105_4, e105_5, e105_8, e105_9, e105_12, e105_12n, e105_16, e105_19, e105_20, e105_23, e105_23n, e105_26, e105_27, e105_28, e105_31, e105_31n, e105_34, e105_35, e105_37, e105_40, Nat.reduceLeDiff, Nat.reduceLT, not_false_eq_true, false_or, true_or, or_true, or_false, n0_e, n1_ne, n1_11, bI_z, bI_1, bI_fo, va_rf_some, aBk_1, aBk_0, nI_add, nI_mul, hk_si, hp_si, hl_si, hk_sp, hk_sl, hk_cp, hp_cp, hz, hk, h98, h985, k1, i1, hz_nw, hz_sp, hz_si, hk_nwx, hp_sp, hi_sp, hi_nw, hp_nw, hi_si, Nat.reduceEqDiff, Nat.reduceAdd, ↓reduceIte, false_and, and_false, true_and, and_true, and_self]
  have e2 : (run (d + 3) 105 15 [.ref 74] [] (sp_ (sp_ (si_ (nw_ h 5 0 3) 75 50 (nI 0)) 75 51 (some 45)) 74 44 (some 75))) = (run (d + 3) 105 26 [.ref 74] [] (sp_ (sp_ (si_ (nw_ (sp_ (sp_ (si_ (nw_ h 5 0 3) 75 50 (nI 0)) 75 51 (some 45)) 74 44 (some 75)) 5 0 3) 76 50 (nI 0)) 76 51 (some 45)) 74 45 (some 76))) := by
    simp only [e105_15, e105_16, e105_19, e105_20, e105_23, e105_23n, Nat.reduceLeDiff, Nat.reduceLT, not_false_eq_true, false_or, true_or, or_true, or_false, n0_e, n1_ne, n1_11, bI_z, bI_1, bI_fo, va_rf_some, aBk_1, aBk_0, nI_add, nI_mul, hk_si, hp_si, hl_si, hk_sp, hk_sl, hk_cp, hp_cp, hz, hk, h98, h985, k2, i2, hz_nw, hz_sp, hz_si, hk_nwx, hp_sp, hi_sp, hi_nw, hp_nw, hi_si, Nat.reduceEqDiff, Nat.reduceAdd, ↓reduceIte, false_and, and_false, true_and, and_true, and_self]
  refine e1.trans (e2.trans ?_)
  simp only [e105_26, e105_27, e105_28, e105_31, e105_31n, e105_34, e105_35, e105_37, e105_40, Nat.reduceLeDiff, Nat.reduceLT, not_false_eq_true, false_or, true_or, or_true, or_false, n0_e, n1_ne, n1_11, bI_z, bI_1, bI_fo, va_rf_some, aBk_1, aBk_0, nI_add, nI_mul, hk_si, hp_si, hl_si, hk_sp, hk_sl, hk_cp, hp_cp, hz, hk, m4, hz_nw, hz_sp, hz_si, hk_nwx, hp_sp, hi_sp, hi_nw, hp_nw, hi_si, Nat.reduceEqDiff, Nat.reduceAdd, ↓reduceIte, false_and, and_false, true_and, and_true, and_self]
theorem xi_t (hB : BX h 74) : ∃ h', (∀ d, (run (d + 4) 0 45 [.ref 64, aU] [] h) = (run (d + 4) 0 61 [.ref 64, aU] [] h')) ∧ BX h' 78 ∧ NX 3 h h' ∧ hu_ h' ≤ hu_ h + 16 ∧ hp_ h' 64 3 = some 74 ∧ XT0 h' ∧ hi_ h' 64 4 = -1 := by
  obtain ⟨hz, hF, hk, -⟩ := hB
  have h98 : (4 : Nat) < 98 := by decide
  have k1 : hk_ (nw_ h 4 0 6) 74 = (4, 0) := if_pos hz.symm
  have z1 : hz_ (nw_ h 4 0 6) = 75 := by show hz_ h + 1 = _; omega
  have k2 : hk_ (nw_ h 4 0 6) 64 = (0, 0) := (if_neg (by omega)).trans hk
  have ei := fun d => t_init0 (d := d) z1 k1
  have f75 := ((hF 75 (by omega)).2 52).2
  have f76 := ((hF 76 (by omega)).2 52).2
  have f49 := ((hF 74 (by omega)).2 49).2
  refine ⟨si_ (sp_ (si_ (sp_ (nw_ (sp_ (sp_ (si_ (nw_ (sp_ (sp_ (si_ (nw_ (nw_ h 4 0 6) 5 0 3) 75 50 (nI 0)) 75 51 (some 45)) 74 44 (some 75)) 5 0 3) 76 50 (nI 0)) 76 51 (some 45)) 74 45 (some 76)) 112 4 4) 74 46 (some 77)) 74 48 (nI 100)) 64 3 (some 74)) 64 4 (-1), fun d => by
    simp only [e0_45, e0_46, e0_49, e0_50, e0_53, e0_53n, e0_56, e0_57, e0_58, Nat.reduceLeDiff, Nat.reduceLT, not_false_eq_true, false_or, true_or, or_true, or_false, n0_e, n1_ne, n1_11, bI_z, bI_1, bI_fo, va_rf_some, aBk_1, aBk_0, nI_add, nI_mul, hk_si, hp_si, hl_si, hk_sp, hk_sl, hk_cp, hp_cp, hz, h98, k1, k2, ei, hk, hz_nw, hz_sp, hz_si, hk_nwx, hp_sp, hi_sp, hi_nw, hp_nw, hi_si, Nat.reduceEqDiff, Nat.reduceAdd, ↓reduceIte, false_and, and_false, true_and, and_true, and_self], ⟨by simp only [hz_nw, hz_sp, hz_si, hk_nwx, hp_sp, hi_sp, hi_nw, hp_nw, hi_si, Nat.reduceEqDiff, Nat.reduceAdd, ↓reduceIte, false_and, and_false, true_and, and_true, and_self, hk_si, hp_si, hk_sp, hz], ?_, by simp only [hz_nw, hz_sp, hz_si, hk_nwx, hp_sp, hi_sp, hi_nw, hp_nw, hi_si, Nat.reduceEqDiff, Nat.reduceAdd, ↓reduceIte, false_and, and_false, true_and, and_true, and_self, hk_si, hp_si, hk_sp, hz, hk], by decide⟩, ?_, ?_, by simp only [hz_nw, hz_sp, hz_si, hk_nwx, hp_sp, hi_sp, hi_nw, hp_nw, hi_si, Nat.reduceEqDiff, Nat.reduceAdd, ↓reduceIte, false_and, and_false, true_and, and_true, and_self, hk_si, hp_si, hk_sp], ⟨⟨by simp only [hz_nw, hz_sp, hz_si, hk_nwx, hp_sp, hi_sp, hi_nw, hp_nw, hi_si, Nat.reduceEqDiff, Nat.reduceAdd, ↓reduceIte, false_and, and_false, true_and, and_true, and_self, hk_si, hp_si, hk_sp, hz], by simp only [hz_nw, hz_sp, hz_si, hk_nwx, hp_sp, hi_sp, hi_nw, hp_nw, hi_si, Nat.reduceEqDiff, Nat.reduceAdd, ↓reduceIte, false_and, and_false, true_and, and_true, and_self, hk_si, hp_si, hk_sp, hz], by simp only [hz_nw, hz_sp, hz_si, hk_nwx, hp_sp, hi_sp, hi_nw, hp_nw, hi_si, Nat.reduceEqDiff, Nat.reduceAdd, ↓reduceIte, false_and, and_false, true_and, and_true, and_self, hk_si, hp_si, hk_sp, hz], by simp only [hz_nw, hz_sp, hz_si, hk_nwx, hp_sp, hi_sp, hi_nw, hp_nw, hi_si, Nat.reduceEqDiff, Nat.reduceAdd, ↓reduceIte, false_and, and_false, true_and, and_true, and_self, hk_si, hp_si, hk_sp, hz]⟩, ⟨by simp only [hz_nw, hz_sp, hz_si, hk_nwx, hp_sp, hi_sp, hi_nw, hp_nw, hi_si, Nat.reduceEqDiff, Nat.reduceAdd, ↓reduceIte, false_and, and_false, true_and, and_true, and_self, hk_si, hp_si, hk_sp], by simp only [hz_nw, hz_sp, hz_si, hk_nwx, hp_sp, hi_sp, hi_nw, hp_nw, hi_si, Nat.reduceEqDiff, Nat.reduceAdd, ↓reduceIte, false_and, and_false, true_and, and_true, and_self, hk_si, hp_si, hk_sp], by simp only [hz_nw, hz_sp, hz_si, hk_nwx, hp_sp, hi_sp, hi_nw, hp_nw, hi_si, Nat.reduceEqDiff, Nat.reduceAdd, ↓reduceIte, false_and, and_false, true_and, and_true, and_self, hk_si, hp_si, hk_sp], fun k => ?_⟩, by simp only [hz_nw, hz_sp, hz_si, hk_nwx, hp_sp, hi_sp, hi_nw, hp_nw, hi_si, Nat.reduceEqDiff, Nat.reduceAdd, ↓reduceIte, false_and, and_false, true_and, and_true, and_self, hk_si, hp_si, hk_sp]; exact f75, by simp only [hz_nw, hz_sp, hz_si, hk_nwx, hp_sp, hi_sp, hi_nw, hp_nw, hi_si, Nat.reduceEqDiff, Nat.reduceAdd, ↓reduceIte, false_and, and_false, true_and, and_true, and_self, hk_si, hp_si, hk_sp]; exact f76, by simp only [hz_nw, hz_sp, hz_si, hk_nwx, hp_sp, hi_sp, hi_nw, hp_nw, hi_si, Nat.reduceEqDiff, Nat.reduceAdd, ↓reduceIte, false_and, and_false, true_and, and_true, and_self, hk_si, hp_si, hk_sp], by simp only [hz_nw, hz_sp, hz_si, hk_nwx, hp_sp, hi_sp, hi_nw, hp_nw, hi_si, Nat.reduceEqDiff, Nat.reduceAdd, ↓reduceIte, false_and, and_false, true_and, and_true, and_self, hk_si, hp_si, hk_sp]; exact f49⟩, hi_same⟩
  · exact (((((((((((((((hF.nw).nw).si (by simp only [hz_nw, hz_sp, hz_si, hk_nwx, hp_sp, hi_sp, hi_nw, hp_nw, hi_si, Nat.reduceEqDiff, Nat.reduceAdd, ↓reduceIte, false_and, and_false, true_and, and_true, and_self, hk_si, hp_si, hk_sp, hz]; decide)).sp (by simp only [hz_nw, hz_sp, hz_si, hk_nwx, hp_sp, hi_sp, hi_nw, hp_nw, hi_si, Nat.reduceEqDiff, Nat.reduceAdd, ↓reduceIte, false_and, and_false, true_and, and_true, and_self, hk_si, hp_si, hk_sp, hz]; decide)).sp (by simp only [hz_nw, hz_sp, hz_si, hk_nwx, hp_sp, hi_sp, hi_nw, hp_nw, hi_si, Nat.reduceEqDiff, Nat.reduceAdd, ↓reduceIte, false_and, and_false, true_and, and_true, and_self, hk_si, hp_si, hk_sp, hz]; decide)).nw).si (by simp only [hz_nw, hz_sp, hz_si, hk_nwx, hp_sp, hi_sp, hi_nw, hp_nw, hi_si, Nat.reduceEqDiff, Nat.reduceAdd, ↓reduceIte, false_and, and_false, true_and, and_true, and_self, hk_si, hp_si, hk_sp, hz]; decide)).sp (by simp only [hz_nw, hz_sp, hz_si, hk_nwx, hp_sp, hi_sp, hi_nw, hp_nw, hi_si, Nat.reduceEqDiff, Nat.reduceAdd, ↓reduceIte, false_and, and_false, true_and, and_true, and_self, hk_si, hp_si, hk_sp, hz]; decide)).sp (by simp only [hz_nw, hz_sp, hz_si, hk_nwx, hp_sp, hi_sp, hi_nw, hp_nw, hi_si, Nat.reduceEqDiff, Nat.reduceAdd, ↓reduceIte, false_and, and_false, true_and, and_true, and_self, hk_si, hp_si, hk_sp, hz]; decide)).nw).sp (by simp only [hz_nw, hz_sp, hz_si, hk_nwx, hp_sp, hi_sp, hi_nw, hp_nw, hi_si, Nat.reduceEqDiff, Nat.reduceAdd, ↓reduceIte, false_and, and_false, true_and, and_true, and_self, hk_si, hp_si, hk_sp, hz]; decide)).si (by simp only [hz_nw, hz_sp, hz_si, hk_nwx, hp_sp, hi_sp, hi_nw, hp_nw, hi_si, Nat.reduceEqDiff, Nat.reduceAdd, ↓reduceIte, false_and, and_false, true_and, and_true, and_self, hk_si, hp_si, hk_sp, hz]; decide)).sp (by simp only [hz_nw, hz_sp, hz_si, hk_nwx, hp_sp, hi_sp, hi_nw, hp_nw, hi_si, Nat.reduceEqDiff, Nat.reduceAdd, ↓reduceIte, false_and, and_false, true_and, and_true, and_self, hk_si, hp_si, hk_sp, hz]; decide))).si (by simp only [hz_nw, hz_sp, hz_si, hk_nwx, hp_sp, hi_sp, hi_nw, hp_nw, hi_si, Nat.reduceEqDiff, Nat.reduceAdd, ↓reduceIte, false_and, and_false, true_and, and_true, and_self, hk_si, hp_si, hk_sp, hz]; decide))
  · exact (((((((((((((NX.refl.nw).nw).sin (by omega) (by decide)).spn (by omega)).spn (by omega)).nw).sin (by omega) (by decide)).spn (by omega)).spn (by omega)).nw).spn (by omega)).sin (by omega) (by decide)).sp6 (Nat.le_refl _)).pl (by decide)
  · simp only [hu_sp, hu_si, hu_nw]
    omega
  · simp only [hz_nw, hz_sp, hz_si, hk_nwx, hp_sp, hi_sp, hi_nw, hp_nw, hi_si, Nat.reduceEqDiff, Nat.reduceAdd, ↓reduceIte, false_and, and_false, true_and, and_true, and_self, hk_si, hp_si, hk_sp]
    exact ((hF 77 (by omega)).2 k).1
theorem HS.nx {a : Nat} (hA : HS h a) (N : NX m h h') (h8 : a + 8 ≤ hz_ h) (h6 : 65 ≤ a) : HS h' a := by
  obtain ⟨-, ak, ap, -⟩ := N
  obtain ⟨k0, k1, k2, k3, k4, k5, k6, k7, p1, p2, p3, p4, p5, p6, p7⟩ := hA
  exact ⟨(ak _ (by omega)).trans k0, (ak _ (by omega)).trans k1, (ak _ (by omega)).trans k2, (ak _ (by omega)).trans k3, (ak _ (by omega)).trans k4, (ak _ (by omega)).trans k5, (ak _ (by omega)).trans k6, (ak _ (by omega)).trans k7, (ap _ _ (by omega) (by omega)).trans p1, (ap _ _ (by omega) (by omega)).trans p2, (ap _ _ (by omega) (by omega)).trans p3, (ap _ _ (by omega) (by omega)).trans p4, (ap _ _ (by omega) (by omega)).trans p5, (ap _ _ (by omega) (by omega)).trans p6, (ap _ _ (by omega) (by omega)).trans p7⟩
/-- a new house at N -/
theorem hs_new (hF : FZ0 h) (hz : hz_ h = N) (h6 : 65 ≤ N) : ∃ h', (∀ d, (run (d + 1) 121 0 [.ref N] [] (nw_ h 6 0 11)) = some (.returned none, h')) ∧ HS h' N ∧ hz_ h' = N + 8 ∧ FZ0 h' ∧ NX m h h' ∧ hu_ h' ≤ hu_ h + 71 ∧ hk_ (nw_ h 6 0 11) N = (6, 0) := by
  have k1 : hk_ (nw_ h 6 0 11) N = (6, 0) := if_pos hz.symm
  have z1 : hz_ (nw_ h 6 0 11) = N + 1 := by show hz_ h + 1 = _; omega
  obtain ⟨h', e, H, z, F, W, U⟩ := hs_init (hF.nw (κ := 6) (n := 0) (u := 11)) k1 z1 (by omega)
  have U0 : hu_ (nw_ h 6 0 11) = hu_ h + 11 := rfl
  refine ⟨h', e, H, z, F, ⟨by omega, fun x hx => (W.2.1 x (by omega)).trans (if_neg (by omega)), fun x f hx _ => W.2.2.1 x f (by omega) (by omega), fun x f _ _ => W.2.2.2.1 x f⟩, by omega, k1⟩
theorem xi_h1 (hB : BX h 78) : ∃ h', (∀ d, (run (d + 4) 0 61 [.ref 64, aU] [] h) = (run (d + 4) 0 72 [.ref 64, aU] [] h')) ∧ BX h' 86 ∧ NX 7 h h' ∧ hu_ h' ≤ hu_ h + 71 ∧ hp_ h' 64 7 = some 78 ∧ HS h' 78 := by
  obtain ⟨hz, hF, hk, -⟩ := hB
  have h98 : (6 : Nat) < 98 := by decide
  obtain ⟨g, e, H, z, F, W, U, k1⟩ := hs_new (m := 7) hF hz (by decide)
  have k4 : hk_ g 64 = (0, 0) := (W.2.1 _ (by omega)).trans hk
  exact ⟨sp_ g 64 7 (some 78), fun d => by
    simp only [e0_61, e0_62, e0_65, e0_66, e0_69, e0_69n, ↓reduceIte, Nat.reduceAdd, Nat.reduceLeDiff, Nat.reduceLT, Nat.reduceEqDiff, not_false_eq_true, false_or, true_or, or_true, or_false, n0_e, n1_ne, n1_11, bI_z, bI_1, bI_fo, va_rf_some, aBk_1, aBk_0, nI_add, nI_mul, hk_si, hp_si, hl_si, hk_sp, hk_sl, hk_cp, hp_cp, hz, h98, k1, e, k4], ⟨z, F.sp (by omega), k4, by decide⟩, W.sp6 (Nat.le_refl _), U, hp_same, H.nx (NX.refl.sp6 (m := 7) (f := 7) (Nat.le_refl _)) (by omega) (by decide)⟩
theorem xi_h2 (hB : BX h 86) : ∃ h', (∀ d, (run (d + 4) 0 72 [.ref 64, aU] [] h) = (run (d + 4) 0 83 [.ref 64, aU] [] h')) ∧ BX h' 94 ∧ NX 8 h h' ∧ hu_ h' ≤ hu_ h + 71 ∧ hp_ h' 64 8 = some 86 ∧ HS h' 86 := by
  obtain ⟨hz, hF, hk, -⟩ := hB
  have h98 : (6 : Nat) < 98 := by decide
  obtain ⟨g, e, H, z, F, W, U, k1⟩ := hs_new (m := 8) hF hz (by decide)
  have k4 : hk_ g 64 = (0, 0) := (W.2.1 _ (by omega)).trans hk
  exact ⟨sp_ g 64 8 (some 86), fun d => by
    simp only [e0_72, e0_73, e0_76, e0_77, e0_80, e0_80n, ↓reduceIte, Nat.reduceAdd, Nat.reduceLeDiff, Nat.reduceLT, Nat.reduceEqDiff, not_false_eq_true, false_or, true_or, or_true, or_false, n0_e, n1_ne, n1_11, bI_z, bI_1, bI_fo, va_rf_some, aBk_1, aBk_0, nI_add, nI_mul, hk_si, hp_si, hl_si, hk_sp, hk_sl, hk_cp, hp_cp, hz, h98, k1, e, k4], ⟨z, F.sp (by omega), k4, by decide⟩, W.sp6 (Nat.le_refl _), U, hp_same, H.nx (NX.refl.sp6 (m := 8) (f := 8) (Nat.le_refl _)) (by omega) (by decide)⟩
theorem xi_pa (hB : BX h 94) : ∃ h', (∀ d, (run (d + 4) 0 83 [.ref 64, aU] [] h) = (run (d + 4) 0 92 [.ref 64, aU] [] h')) ∧ BX h' 95 ∧ NX 9 h h' ∧ hu_ h' ≤ hu_ h + 40 ∧ hp_ h' 64 9 = some 94 ∧ hk_ h' 94 = (113, 40) := by
  obtain ⟨hz, hF, hk, -⟩ := hB
  have m1 : (40 : Nat) ≤ 1000000 := by decide
  have k4 : hk_ (nw_ h 113 40 40) 64 = (0, 0) := (if_neg (by omega)).trans hk
  have z1 : hz_ (nw_ h 113 40 40) = 95 := by show hz_ h + 1 = _; omega
  exact ⟨sp_ (nw_ h 113 40 40) 64 9 (some 94), fun d => by
    simp only [e0_83, e0_84, e0_86, e0_89, e0_89n, ↓reduceIte, Nat.reduceAdd, Nat.reduceLeDiff, Nat.reduceLT, Nat.reduceEqDiff, not_false_eq_true, false_or, true_or, or_true, or_false, n0_e, n1_ne, n1_11, bI_z, bI_1, bI_fo, va_rf_some, aBk_1, aBk_0, nI_add, nI_mul, hk_si, hp_si, hl_si, hk_sp, hk_sl, hk_cp, hp_cp, hz, m1, k4], ⟨z1, hF.nw.sp (by omega), k4, by decide⟩, NX.refl.nw.sp6 (Nat.le_refl _), Nat.le_refl _, hp_same, if_pos hz.symm⟩
theorem xi_sl (hB : BX h 95) : ∃ h', (∀ d, (run (d + 4) 0 92 [.ref 64, aU] [] h) = (run (d + 4) 0 130 [.ref 64, aU] [] h')) ∧ BX h' 120 ∧ NX 10 h h' ∧ hu_ h' ≤ hu_ h + 216 ∧ hp_ h' 64 10 = some 95 ∧ hk_ h' 95 = (113, 3) ∧ ∀ k, k < 3 → HS h' (96 + 8 * k) ∧ hp_ h' 95 k = some (96 + 8 * k) := by
  obtain ⟨hz, hF, hk, -⟩ := hB
  have h98 : (6 : Nat) < 98 := by decide
  have m1 : (3 : Nat) ≤ 1000000 := by decide
  have s1 : aSto 113 6 = true := rfl
  have z0 : hz_ (nw_ h 113 3 3) = 96 := by show hz_ h + 1 = _; omega
  have k0 : hk_ (nw_ h 113 3 3) 95 = (113, 3) := if_pos hz.symm
  have N0 : NX 10 h (nw_ h 113 3 3) := NX.refl.nw
  have U0 : hu_ (nw_ h 113 3 3) = hu_ h + 3 := rfl
  obtain ⟨g1, e1, H1, z1, F1, W1, U1, b1⟩ := hs_new (m := 10) (hF.nw (κ := 113) (n := 3) (u := 3)) z0 (by decide)
  have k1 : hk_ g1 95 = (113, 3) := (W1.2.1 _ (by omega)).trans k0
  have Z1 : hz_ (sp_ g1 95 0 (some 96)) = 104 := z1
  obtain ⟨g2, e2, H2, z2, F2, W2, U2, b2⟩ := hs_new (m := 10) (F1.sp (x := 95) (f := 0) (v := some 96) (by omega)) Z1 (by decide)
  have U1' : hu_ (sp_ g1 95 0 (some 96)) = hu_ g1 := rfl
  have k2 : hk_ g2 95 = (113, 3) := (W2.2.1 _ (by omega)).trans k1
  have Z2 : hz_ (sp_ g2 95 1 (some 104)) = 112 := z2
  obtain ⟨g3, e3, H3, z3, F3, W3, U3, b3⟩ := hs_new (m := 10) (F2.sp (x := 95) (f := 1) (v := some 104) (by omega)) Z2 (by decide)
  have U2' : hu_ (sp_ g2 95 1 (some 104)) = hu_ g2 := rfl
  have k3 : hk_ g3 95 = (113, 3) := (W3.2.1 _ (by omega)).trans k2
  have W : NX 10 h g3 := ((((N0.trans W1).spn (x := 95) (f := 0) (v := some 96) (by omega)).trans W2).spn (x := 95) (f := 1) (v := some 104) (by omega)).trans W3
  have k4 : hk_ g3 64 = (0, 0) := (W.2.1 _ (by omega)).trans hk
  have c1 : hk_ g1 96 = (6, 0) := H1.1
  have c2 : hk_ g2 104 = (6, 0) := H2.1
  have c3 : hk_ g3 112 = (6, 0) := H3.1
  have q0 : hp_ g3 95 0 = some 96 := by
    rw [W3.2.2.1 _ _ (by omega) (by omega), hp_sp, if_neg (by omega), W2.2.2.1 _ _ (by omega) (by omega), hp_sp, if_pos (by omega)]
  have q1 : hp_ g3 95 1 = some 104 := by
    rw [W3.2.2.1 _ _ (by omega) (by omega), hp_sp, if_pos (by omega)]
  have Y : ∀ {a : Nat}, HS g3 a → 96 ≤ a → HS (sp_ (sp_ g3 95 2 (some 112)) 64 10 (some 95)) a := fun {a} H ha => by
    obtain ⟨k0, k1, k2, k3, k4, k5, k6, k7, p1, p2, p3, p4, p5, p6, p7⟩ := H
    have ap : ∀ y f, 96 ≤ y → hp_ (sp_ (sp_ g3 95 2 (some 112)) 64 10 (some 95)) y f = hp_ g3 y f := fun y f hy => by
      rw [hp_sp, if_neg (by omega), hp_sp, if_neg (by omega)]
    exact ⟨k0, k1, k2, k3, k4, k5, k6, k7, (ap _ _ (by omega)).trans p1, (ap _ _ (by omega)).trans p2, (ap _ _ (by omega)).trans p3, (ap _ _ (by omega)).trans p4, (ap _ _ (by omega)).trans p5, (ap _ _ (by omega)).trans p6, (ap _ _ (by omega)).trans p7⟩
  have V2 : ∀ {a : Nat}, HS g1 a → a = 96 → HS g2 a := fun {a} H ha => by
    obtain ⟨k0, k1, k2, k3, k4, k5, k6, k7, p1, p2, p3, p4, p5, p6, p7⟩ := H
    have ap : ∀ y f, 96 ≤ y → y < 104 → hp_ g2 y f = hp_ g1 y f := fun y f hy h2 => by
      rw [W2.2.2.1 _ _ (by omega) (by omega), hp_sp, if_neg (by omega)]
    have ak : ∀ y, y < 104 → hk_ g2 y = hk_ g1 y := fun y hy => W2.2.1 _ (by omega)
    exact ⟨(ak _ (by omega)).trans k0, (ak _ (by omega)).trans k1, (ak _ (by omega)).trans k2, (ak _ (by omega)).trans k3, (ak _ (by omega)).trans k4, (ak _ (by omega)).trans k5, (ak _ (by omega)).trans k6, (ak _ (by omega)).trans k7, (ap _ _ (by omega) (by omega)).trans p1, (ap _ _ (by omega) (by omega)).trans p2, (ap _ _ (by omega) (by omega)).trans p3, (ap _ _ (by omega) (by omega)).trans p4, (ap _ _ (by omega) (by omega)).trans p5, (ap _ _ (by omega) (by omega)).trans p6, (ap _ _ (by omega) (by omega)).trans p7⟩
  have V3 : ∀ {a : Nat}, HS g2 a → a = 96 ∨ a = 104 → HS g3 a := fun {a} H ha => by
    obtain ⟨k0, k1, k2, k3, k4, k5, k6, k7, p1, p2, p3, p4, p5, p6, p7⟩ := H
    have ap : ∀ y f, 96 ≤ y → y < 112 → hp_ g3 y f = hp_ g2 y f := fun y f hy h2 => by
      rw [W3.2.2.1 _ _ (by omega) (by omega), hp_sp, if_neg (by omega)]
    have ak : ∀ y, y < 112 → hk_ g3 y = hk_ g2 y := fun y hy => W3.2.1 _ (by omega)
    exact ⟨(ak _ (by omega)).trans k0, (ak _ (by omega)).trans k1, (ak _ (by omega)).trans k2, (ak _ (by omega)).trans k3, (ak _ (by omega)).trans k4, (ak _ (by omega)).trans k5, (ak _ (by omega)).trans k6, (ak _ (by omega)).trans k7, (ap _ _ (by omega) (by omega)).trans p1, (ap _ _ (by omega) (by omega)).trans p2, (ap _ _ (by omega) (by omega)).trans p3, (ap _ _ (by omega) (by omega)).trans p4, (ap _ _ (by omega) (by omega)).trans p5, (ap _ _ (by omega) (by omega)).trans p6, (ap _ _ (by omega) (by omega)).trans p7⟩
  refine ⟨sp_ (sp_ g3 95 2 (some 112)) 64 10 (some 95), fun d => ?_, ⟨z3, (F3.sp (by omega)).sp (by show 64 < hz_ g3; omega), k4, by decide⟩, (W.spn (by omega)).sp6 (Nat.le_refl _), ?_, hp_same, k3, fun k hk => ?_⟩
  · simp only [e0_92, e0_93, e0_94, e0_97, e0_98, e0_99, e0_102, e0_103, e0_106, e0_107, e0_108, e0_109, e0_112, e0_113, e0_116, e0_117, e0_118, e0_119, e0_122, e0_123, e0_126, e0_127, e0_127n, ↓reduceIte, Nat.reduceAdd, Nat.reduceLeDiff, Nat.reduceLT, Nat.reduceEqDiff, not_false_eq_true, false_or, true_or, or_true, or_false, n0_e, n1_ne, n1_11, bI_z, bI_1, bI_fo, va_rf_some, aBk_1, aBk_0, nI_add, nI_mul, hk_si, hp_si, hl_si, hk_sp, hk_sl, hk_cp, hp_cp, hz, h98, m1, s1, z0, k0, b1, e1, k1, Z1, b2, e2, k2, Z2, b3, e3, k3, k4, c1, c2, c3]
  · simp only [hu_sp]; omega
  · match k, hk with
    | 0, _ => exact ⟨Y (V3 (V2 H1 rfl) (Or.inl rfl)) (by decide), by simp only [hz_nw, hz_sp, hz_si, hk_nwx, hp_sp, hi_sp, hi_nw, hp_nw, hi_si, Nat.reduceEqDiff, Nat.reduceAdd, ↓reduceIte, false_and, and_false, true_and, and_true, and_self, hk_si, hp_si, hk_sp]; exact q0⟩
    | 1, _ => exact ⟨Y (V3 H2 (Or.inr rfl)) (by decide), by simp only [hz_nw, hz_sp, hz_si, hk_nwx, hp_sp, hi_sp, hi_nw, hp_nw, hi_si, Nat.reduceEqDiff, Nat.reduceAdd, ↓reduceIte, false_and, and_false, true_and, and_true, and_self, hk_si, hp_si, hk_sp]; exact q1⟩
    | 2, _ => exact ⟨Y H3 (by decide), by simp only [hz_nw, hz_sp, hz_si, hk_nwx, hp_sp, hi_sp, hi_nw, hp_nw, hi_si, Nat.reduceEqDiff, Nat.reduceAdd, ↓reduceIte, false_and, and_false, true_and, and_true, and_self, hk_si, hp_si, hk_sp]⟩
end XI3s
