set_option maxRecDepth 100000
/-! M: reading (21): plain, begins, keepsRow -/
def w0 (k : Nat) : Int32 := if k < 7 then -2 else nI 0
section M34
variable {d sd : Nat} {h h' : aH}
theorem m_plain (hM : MS h) (hs : sd < 2) : ∃ h', (∀ d, (run (d) 147 0 [.ref 458, .int (nI sd), aU] [] h) = some (.returned none, h')) ∧ On (RG sd) h h' ∧ MXr h' sd T0 ∧ hi_ h' 476 sd = nI 0 ∧ ∀ k, k < 4 → hi_ h' 479 (4 * sd + k) = hi_ h' 480 (4 * sd + k) := by
  have c0 : ∀ a, a = 468 ∨ a = 471 ∨ a = 476 ∨ a = 477 ∨ a = 478 → RG sd a sd := fun a ha => Or.inl ⟨ha, rfl⟩
  have o1 : On (RG sd) h (si_ (si_ (si_ (si_ (si_ h 468 sd (nI 0)) 471 sd (nI 0)) 476 sd (nI 0)) 477 sd (nI 100)) 478 sd (nI 0)) := ((((On.si (c0 _ (by omega))).trans (On.si (c0 _ (by omega)))).trans (On.si (c0 _ (by omega)))).trans (On.si (c0 _ (by omega)))).trans (On.si (c0 _ (by omega)))
  have v1 : hi_ (si_ (si_ (si_ (si_ (si_ h 468 sd (nI 0)) 471 sd (nI 0)) 476 sd (nI 0)) 477 sd (nI 100)) 478 sd (nI 0)) 468 sd = nI 0 := by rw [hi_ne (by omega), hi_ne (by omega), hi_ne (by omega), hi_ne (by omega)]; exact hi_same
  have v2 : hi_ (si_ (si_ (si_ (si_ (si_ h 468 sd (nI 0)) 471 sd (nI 0)) 476 sd (nI 0)) 477 sd (nI 100)) 478 sd (nI 0)) 471 sd = nI 0 := by rw [hi_ne (by omega), hi_ne (by omega), hi_ne (by omega)]; exact hi_same
  have v3 : hi_ (si_ (si_ (si_ (si_ (si_ h 468 sd (nI 0)) 471 sd (nI 0)) 476 sd (nI 0)) 477 sd (nI 100)) 478 sd (nI 0)) 476 sd = nI 0 := by rw [hi_ne (by omega), hi_ne (by omega)]; exact hi_same
  have v4 : hi_ (si_ (si_ (si_ (si_ (si_ h 468 sd (nI 0)) 471 sd (nI 0)) 476 sd (nI 0)) 477 sd (nI 100)) 478 sd (nI 0)) 477 sd = nI 100 := by rw [hi_ne (by omega)]; exact hi_same
  have v5 : hi_ (si_ (si_ (si_ (si_ (si_ h 468 sd (nI 0)) 471 sd (nI 0)) 476 sd (nI 0)) 477 sd (nI 100)) 478 sd (nI 0)) 478 sd = nI 0 := hi_same
  have st1 : ∀ d, (run (d) 147 0 [.ref 458, .int (nI sd), aU] [] h) = (run (d) 147 38 [.ref 458, .int (nI sd), .int (nI 0)] [] (si_ (si_ (si_ (si_ (si_ h 468 sd (nI 0)) 471 sd (nI 0)) 476 sd (nI 0)) 477 sd (nI 100)) 478 sd (nI 0))) := fun d => by
    simp only [e147_0, e147_1, e147_4, e147_5, e147_6, e147_7, e147_8, e147_11, e147_12, e147_13, e147_14, e147_15, e147_18, e147_19, e147_20, e147_21, e147_22, e147_25, e147_26, e147_28, e147_29, e147_30, e147_33, e147_34, e147_35, e147_36, e147_37, e147_39, e147_41, e147_44, e147_45, e147_48, e147_50, e147_51, e147_52, e147_53, e147_54, e147_55, e147_56, e147_59, e147_62, e147_63, e147_65, e147_66, e147_69, e147_70, e147_73, e147_74, e147_75, e147_76, e147_77, e147_78, e147_79, e147_80, e147_81, e147_84, e147_85, e147_86, e147_87, e147_88, e147_89, e147_90, e147_91, e147_94, e147_97, mk_458 hM, mp_89 hM, mk_468 hM, mp_92 hM, mk_471 hM, mp_96 hM, mk_475 hM, mp_97 hM, mk_476 hM, mp_98 hM, mk_477 hM, mp_99 hM, mk_478 hM, mp_100 hM, mk_479 hM, mp_101 hM, mk_480 hM, ↓reduceIte, Nat.reduceAdd, Nat.reduceLeDiff, Nat.reduceLT, Nat.reduceEqDiff, not_false_eq_true, false_or, true_or, or_true, or_false, n0_e, n1_ne, n1_11, bI_z, bI_1, bI_fo, va_rf_some, aBk_1, aBk_0, nI_add, nI_mul, hk_si, hp_si, hl_si, hk_sp, hk_sl, hk_cp, hp_cp, hs]
  generalize si_ (si_ (si_ (si_ (si_ h 468 sd (nI 0)) 471 sd (nI 0)) 476 sd (nI 0)) 477 sd (nI 100)) 478 sd (nI 0) = h1 at o1 v1 v2 v3 v4 v5 st1
  have hM1 := hM.on o1
  obtain ⟨h2, e2, o2, r2⟩ := run_fillp (F := fun d j x => (run (d) 147 38 [.ref 458, .int (nI sd), .int (nI j)] [] x)) (b := 475) (p := 7 * sd) (n := 7) (r := fun _ => nI 0) (h := h1) (fun d j x hj o _ _ => by
    have hMx := hM1.on o
    have g1 : ¬ nI 7 ≤ nI j := nI_ge hj (by decide)
    have g2 : 7 * sd + j < 14 := by omega
    refine (e147_38).trans ?_
    simp only [e147_0, e147_1, e147_4, e147_5, e147_6, e147_7, e147_8, e147_11, e147_12, e147_13, e147_14, e147_15, e147_18, e147_19, e147_20, e147_21, e147_22, e147_25, e147_26, e147_28, e147_29, e147_30, e147_33, e147_34, e147_35, e147_36, e147_37, e147_39, e147_41, e147_44, e147_45, e147_48, e147_50, e147_51, e147_52, e147_53, e147_54, e147_55, e147_56, e147_59, e147_62, e147_63, e147_65, e147_66, e147_69, e147_70, e147_73, e147_74, e147_75, e147_76, e147_77, e147_78, e147_79, e147_80, e147_81, e147_84, e147_85, e147_86, e147_87, e147_88, e147_89, e147_90, e147_91, e147_94, e147_97, mk_458 hMx, mp_89 hMx, mk_468 hMx, mp_92 hMx, mk_471 hMx, mp_96 hMx, mk_475 hMx, mp_97 hMx, mk_476 hMx, mp_98 hMx, mk_477 hMx, mp_99 hMx, mk_478 hMx, mp_100 hMx, mk_479 hMx, mp_101 hMx, mk_480 hMx, ↓reduceIte, Nat.reduceAdd, Nat.reduceLeDiff, Nat.reduceLT, Nat.reduceEqDiff, not_false_eq_true, false_or, true_or, or_true, or_false, n0_e, n1_ne, n1_11, bI_z, bI_1, bI_fo, va_rf_some, aBk_1, aBk_0, nI_add, nI_mul, hk_si, hp_si, hl_si, hk_sp, hk_sl, hk_cp, hp_cp, g1, g2])
  have hM2 := hM1.on o2
  have o2' : On (RG sd) h1 h2 := o2.mono (fun a f q => Or.inr (Or.inl (by unfold AB at q; omega)))
  obtain ⟨h3, e3, o3, r3⟩ := run_invd (F := fun d j x => (run (d) 147 64 [.ref 458, .int (nI sd), .int (nI j)] [] x)) (I := fun j y => On (fun a f => (a = 479 ∨ a = 480) ∧ 4 * sd ≤ f ∧ f < 4 * sd + 4) h2 y ∧ ∀ k, k < j → hi_ y 479 (4 * sd + k) = hi_ y 480 (4 * sd + k)) (n := 4) (x := h2) ⟨On.refl, fun k hk => absurd hk (Nat.not_lt_zero k)⟩ (fun j y hj hI => by
    obtain ⟨oy, ry⟩ := hI
    have hMy := hM2.on oy
    have g1 : ¬ nI 4 ≤ nI j := nI_ge hj (by decide)
    have g2 : 4 * sd + j < 8 := by omega
    refine ⟨si_ (si_ y 479 (4 * sd + j) (nI 0)) 480 (4 * sd + j) (nI 0), fun d => ?_, (oy.trans (On.si ⟨Or.inl rfl, by omega, by omega⟩)).trans (On.si ⟨Or.inr rfl, by omega, by omega⟩), fun k hk => ?_⟩
    · refine (e147_64).trans ?_
      simp only [e147_0, e147_1, e147_4, e147_5, e147_6, e147_7, e147_8, e147_11, e147_12, e147_13, e147_14, e147_15, e147_18, e147_19, e147_20, e147_21, e147_22, e147_25, e147_26, e147_28, e147_29, e147_30, e147_33, e147_34, e147_35, e147_36, e147_37, e147_39, e147_41, e147_44, e147_45, e147_48, e147_50, e147_51, e147_52, e147_53, e147_54, e147_55, e147_56, e147_59, e147_62, e147_63, e147_65, e147_66, e147_69, e147_70, e147_73, e147_74, e147_75, e147_76, e147_77, e147_78, e147_79, e147_80, e147_81, e147_84, e147_85, e147_86, e147_87, e147_88, e147_89, e147_90, e147_91, e147_94, e147_97, mk_458 hMy, mp_89 hMy, mk_468 hMy, mp_92 hMy, mk_471 hMy, mp_96 hMy, mk_475 hMy, mp_97 hMy, mk_476 hMy, mp_98 hMy, mk_477 hMy, mp_99 hMy, mk_478 hMy, mp_100 hMy, mk_479 hMy, mp_101 hMy, mk_480 hMy, ↓reduceIte, Nat.reduceAdd, Nat.reduceLeDiff, Nat.reduceLT, Nat.reduceEqDiff, not_false_eq_true, false_or, true_or, or_true, or_false, n0_e, n1_ne, n1_11, bI_z, bI_1, bI_fo, va_rf_some, aBk_1, aBk_0, nI_add, nI_mul, hk_si, hp_si, hl_si, hk_sp, hk_sl, hk_cp, hp_cp, g1, g2]
    · by_cases q : k = j
      · rw [q, hi_ne (by omega), hi_same, hi_same]
      · rw [hi_ne (by omega), hi_ne (by omega), hi_ne (by omega), hi_ne (by omega)]
        exact ry k (by omega))
  have hM3 := hM2.on o3
  have o3' : On (RG sd) h2 h3 := o3.mono (fun a f q => Or.inr (Or.inr (Or.inl ⟨by omega, q.2⟩)))
  have n0 : nI 0 = (0 : Int32) := nI_0
  refine ⟨h3, fun d => ?_, (o1.trans o2').trans o3', ⟨⟨?_, ?_⟩, fun g hg => absurd hg (Nat.not_lt_zero g), fun g hg => ?_, fun s hs => absurd hs (Nat.not_lt_zero s), ?_, ?_⟩, ?_, r3⟩
  · refine (st1 d).trans ?_
    refine (e2 d).trans ?_
    have g7 : nI 7 ≤ nI 7 := Int32.le_refl _
    have g4 : nI 4 ≤ nI 4 := Int32.le_refl _
    refine (e147_38).trans ?_
    simp only [e147_0, e147_1, e147_4, e147_5, e147_6, e147_7, e147_8, e147_11, e147_12, e147_13, e147_14, e147_15, e147_18, e147_19, e147_20, e147_21, e147_22, e147_25, e147_26, e147_28, e147_29, e147_30, e147_33, e147_34, e147_35, e147_36, e147_37, e147_39, e147_41, e147_44, e147_45, e147_48, e147_50, e147_51, e147_52, e147_53, e147_54, e147_55, e147_56, e147_59, e147_62, e147_63, e147_65, e147_66, e147_69, e147_70, e147_73, e147_74, e147_75, e147_76, e147_77, e147_78, e147_79, e147_80, e147_81, e147_84, e147_85, e147_86, e147_87, e147_88, e147_89, e147_90, e147_91, e147_94, e147_97, mk_458 hM2, mp_89 hM2, mk_468 hM2, mp_92 hM2, mk_471 hM2, mp_96 hM2, mk_475 hM2, mp_97 hM2, mk_476 hM2, mp_98 hM2, mk_477 hM2, mp_99 hM2, mk_478 hM2, mp_100 hM2, mk_479 hM2, mp_101 hM2, mk_480 hM2, ↓reduceIte, Nat.reduceAdd, Nat.reduceLeDiff, Nat.reduceLT, Nat.reduceEqDiff, not_false_eq_true, false_or, true_or, or_true, or_false, n0_e, n1_ne, n1_11, bI_z, bI_1, bI_fo, va_rf_some, aBk_1, aBk_0, nI_add, nI_mul, hk_si, hp_si, hl_si, hk_sp, hk_sl, hk_cp, hp_cp, g7]
    refine (e3 d).trans ?_
    refine (e147_64).trans ?_
    simp only [e147_0, e147_1, e147_4, e147_5, e147_6, e147_7, e147_8, e147_11, e147_12, e147_13, e147_14, e147_15, e147_18, e147_19, e147_20, e147_21, e147_22, e147_25, e147_26, e147_28, e147_29, e147_30, e147_33, e147_34, e147_35, e147_36, e147_37, e147_39, e147_41, e147_44, e147_45, e147_48, e147_50, e147_51, e147_52, e147_53, e147_54, e147_55, e147_56, e147_59, e147_62, e147_63, e147_65, e147_66, e147_69, e147_70, e147_73, e147_74, e147_75, e147_76, e147_77, e147_78, e147_79, e147_80, e147_81, e147_84, e147_85, e147_86, e147_87, e147_88, e147_89, e147_90, e147_91, e147_94, e147_97, mk_458 hM3, mp_89 hM3, mk_468 hM3, mp_92 hM3, mk_471 hM3, mp_96 hM3, mk_475 hM3, mp_97 hM3, mk_476 hM3, mp_98 hM3, mk_477 hM3, mp_99 hM3, mk_478 hM3, mp_100 hM3, mk_479 hM3, mp_101 hM3, mk_480 hM3, ↓reduceIte, Nat.reduceAdd, Nat.reduceLeDiff, Nat.reduceLT, Nat.reduceEqDiff, not_false_eq_true, false_or, true_or, or_true, or_false, n0_e, n1_ne, n1_11, bI_z, bI_1, bI_fo, va_rf_some, aBk_1, aBk_0, nI_add, nI_mul, hk_si, hp_si, hl_si, hk_sp, hk_sl, hk_cp, hp_cp, g4]
  · rw [o3.i (fun q => by omega), o2.i (fun q => by unfold AB at q; omega)]; exact v1
  · rw [o3.i (fun q => by omega), o2.i (fun q => by unfold AB at q; omega)]; exact v2
  · rw [o3.i (fun q => by omega), r2 g hg]; exact n0
  · rw [o3.i (fun q => by omega), o2.i (fun q => by unfold AB at q; omega)]; exact v4
  · rw [o3.i (fun q => by omega), o2.i (fun q => by unfold AB at q; omega)]; exact v5
  · rw [o3.i (fun q => by omega), o2.i (fun q => by unfold AB at q; omega)]; exact v3
/-- what begins writes -/
def BGF (a f : Nat) : Prop := a = 492 ∨ (a = 458 ∧ (f = 118 ∨ f = 119))
theorem m_begins (hM : MS h) {lv : Nat} (hl : hi_ h 458 84 = nI lv) (h2 : lv < 2) : ∃ h', (∀ d, (run (d) 150 0 [.ref 458, aU] [] h) = some (.returned none, h')) ∧ On BGF h h' ∧ RA h' 492 w0 := by
  obtain ⟨h1, e1, o1, r1⟩ := run_fill (F := fun d j x => (run (d) 150 2 [.ref 458, .int (nI j)] [] x)) (b := 492) (n := 31) (r := fun _ => nI 0) (h := h) (fun d j x hj o _ _ => by
    have hMx := hM.on o
    have g1 : ¬ nI 31 ≤ nI j := nI_ge hj (by decide)
    refine (e150_2).trans ?_
    simp only [e150_0, e150_1, e150_3, e150_5, e150_8, e150_9, e150_12, e150_13, e150_14, e150_15, e150_18, e150_21, e150_22, e150_24, e150_26, e150_29, e150_30, e150_33, e150_34, e150_36, e150_37, e150_40, e150_43, e150_44, e150_45, e150_48, e150_49, e150_52, e150_53, e150_56, e150_57, e150_58, e150_61, mk_458 hMx, mp_99 hMx, mk_478 hMx, mp_117 hMx, mk_492 hMx, ↓reduceIte, Nat.reduceAdd, Nat.reduceLeDiff, Nat.reduceLT, Nat.reduceEqDiff, not_false_eq_true, false_or, true_or, or_true, or_false, n0_e, n1_ne, n1_11, bI_z, bI_1, bI_fo, va_rf_some, aBk_1, aBk_0, nI_add, nI_mul, hk_si, hp_si, hl_si, hk_sp, hk_sl, hk_cp, hp_cp, g1, hj])
  have hM1 := hM.on o1
  obtain ⟨h2', e2, o2, r2⟩ := run_fill (F := fun d j x => (run (d) 150 23 [.ref 458, .int (nI j)] [] x)) (b := 492) (n := 7) (r := fun _ => (-2 : Int32)) (h := h1) (fun d j x hj o _ _ => by
    have hMx := hM1.on o
    have g1 : ¬ nI 7 ≤ nI j := nI_ge hj (by decide)
    have g2 : j < 31 := by omega
    refine (e150_23).trans ?_
    simp only [e150_0, e150_1, e150_3, e150_5, e150_8, e150_9, e150_12, e150_13, e150_14, e150_15, e150_18, e150_21, e150_22, e150_24, e150_26, e150_29, e150_30, e150_33, e150_34, e150_36, e150_37, e150_40, e150_43, e150_44, e150_45, e150_48, e150_49, e150_52, e150_53, e150_56, e150_57, e150_58, e150_61, mk_458 hMx, mp_99 hMx, mk_478 hMx, mp_117 hMx, mk_492 hMx, ↓reduceIte, Nat.reduceAdd, Nat.reduceLeDiff, Nat.reduceLT, Nat.reduceEqDiff, not_false_eq_true, false_or, true_or, or_true, or_false, n0_e, n1_ne, n1_11, bI_z, bI_1, bI_fo, va_rf_some, aBk_1, aBk_0, nI_add, nI_mul, hk_si, hp_si, hl_si, hk_sp, hk_sl, hk_cp, hp_cp, g1, g2])
  have hM2 := hM1.on o2
  have l2 : hi_ h2' 458 84 = nI lv := by rw [o2.i (fun q => by unfold AB at q; omega), o1.i (fun q => by unfold AB at q; omega)]; exact hl
  have o3 : On BGF h2' (si_ (si_ h2' 458 118 (hi_ h2' 478 lv)) 458 119 (nI 0)) := (On.si (Or.inr ⟨rfl, Or.inl rfl⟩)).trans (On.si (Or.inr ⟨rfl, Or.inr rfl⟩))
  refine ⟨_, fun d => ?_, ((o1.mono (fun a f q => Or.inl (by unfold AB at q; omega))).trans (o2.mono (fun a f q => Or.inl (by unfold AB at q; omega)))).trans o3, fun k hk => ?_⟩
  · have g31 : nI 31 ≤ nI 31 := Int32.le_refl _
    have g7 : nI 7 ≤ nI 7 := Int32.le_refl _
    simp only [e150_0, e150_1, e150_3, e150_5, e150_8, e150_9, e150_12, e150_13, e150_14, e150_15, e150_18, e150_21, e150_22, e150_24, e150_26, e150_29, e150_30, e150_33, e150_34, e150_36, e150_37, e150_40, e150_43, e150_44, e150_45, e150_48, e150_49, e150_52, e150_53, e150_56, e150_57, e150_58, e150_61, ↓reduceIte, Nat.reduceAdd, Nat.reduceLeDiff, Nat.reduceLT, Nat.reduceEqDiff, not_false_eq_true, false_or, true_or, or_true, or_false, n0_e, n1_ne, n1_11, bI_z, bI_1, bI_fo, va_rf_some, aBk_1, aBk_0, nI_add, nI_mul, hk_si, hp_si, hl_si, hk_sp, hk_sl, hk_cp, hp_cp]
    refine (e1 d).trans ?_
    refine (e150_2).trans ?_
    simp only [e150_0, e150_1, e150_3, e150_5, e150_8, e150_9, e150_12, e150_13, e150_14, e150_15, e150_18, e150_21, e150_22, e150_24, e150_26, e150_29, e150_30, e150_33, e150_34, e150_36, e150_37, e150_40, e150_43, e150_44, e150_45, e150_48, e150_49, e150_52, e150_53, e150_56, e150_57, e150_58, e150_61, mk_458 hM1, mp_99 hM1, mk_478 hM1, mp_117 hM1, mk_492 hM1, ↓reduceIte, Nat.reduceAdd, Nat.reduceLeDiff, Nat.reduceLT, Nat.reduceEqDiff, not_false_eq_true, false_or, true_or, or_true, or_false, n0_e, n1_ne, n1_11, bI_z, bI_1, bI_fo, va_rf_some, aBk_1, aBk_0, nI_add, nI_mul, hk_si, hp_si, hl_si, hk_sp, hk_sl, hk_cp, hp_cp, g31]
    refine (e2 d).trans ?_
    refine (e150_23).trans ?_
    simp only [e150_0, e150_1, e150_3, e150_5, e150_8, e150_9, e150_12, e150_13, e150_14, e150_15, e150_18, e150_21, e150_22, e150_24, e150_26, e150_29, e150_30, e150_33, e150_34, e150_36, e150_37, e150_40, e150_43, e150_44, e150_45, e150_48, e150_49, e150_52, e150_53, e150_56, e150_57, e150_58, e150_61, mk_458 hM2, mp_99 hM2, mk_478 hM2, mp_117 hM2, mk_492 hM2, ↓reduceIte, Nat.reduceAdd, Nat.reduceLeDiff, Nat.reduceLT, Nat.reduceEqDiff, not_false_eq_true, false_or, true_or, or_true, or_false, n0_e, n1_ne, n1_11, bI_z, bI_1, bI_fo, va_rf_some, aBk_1, aBk_0, nI_add, nI_mul, hk_si, hp_si, hl_si, hk_sp, hk_sl, hk_cp, hp_cp, g7, l2, h2]
  · rw [hi_ne (by omega), hi_ne (by omega)]
    unfold w0
    by_cases q : k < 7
    · rw [if_pos q, r2 k q]
    · rw [if_neg q, o2.i (fun z => by unfold AB at z; omega), r1 k hk]
end M34
