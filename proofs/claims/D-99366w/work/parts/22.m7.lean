set_option maxRecDepth 100000
/-! M: actions -/
section M7
variable {lv d : Nat} {h h' : aH} {Ω : aSg} {T : aTx} {w r : Nat → Int32}
theorem m_keepsRow (hM : MS h) (hr : RA h 492 r) : ∃ h', (∀ d, (run (d) 151 0 [.ref 458, aU] [] h) = some (.returned none, h')) ∧ On (AA 491) h h' ∧ RA h' 491 r := by
  refine Exists.elim (run_fill (F := fun d j x => (run (d) 151 2 [.ref 458, .int (nI j)] [] x)) (b := 491) (n := 31) (r := r) (h := h) (fun d j x hj o _ _ => ?_)) (fun y hh => ?_)
  · have hM1 := hM.on o
    have h1 : ¬ nI 31 ≤ nI j := nI_ge hj (by decide)
    have e : hi_ x 492 j = r j := (o.i (fun q => absurd q.1 (by decide))).trans (hr j hj)
    refine (e151_2).trans ?_
    simp only [e151_0, e151_1, e151_3, e151_5, e151_8, e151_9, e151_12, e151_13, e151_14, e151_17, e151_18, e151_19, e151_20, e151_23, e151_26, mk_458 hM1, mp_116 hM1, mk_491 hM1, mp_117 hM1, mk_492 hM1, ↓reduceIte, Nat.reduceAdd, Nat.reduceLeDiff, Nat.reduceLT, Nat.reduceEqDiff, not_false_eq_true, false_or, true_or, or_true, or_false, n0_e, n1_ne, n1_11, bI_z, bI_1, bI_fo, va_rf_some, aBk_1, aBk_0, nI_add, nI_mul, hk_si, hp_si, hl_si, hk_sp, hk_sl, hk_cp, hp_cp, h1, hj, e]
  · obtain ⟨e, o, ry⟩ := hh
    refine ⟨y, fun d => ?_, o.mono (fun a f q => q.1), ry⟩
    simp only [e151_0, e151_1, e151_3, e151_5, e151_8, e151_9, e151_12, e151_13, e151_14, e151_17, e151_18, e151_19, e151_20, e151_23, e151_26, ↓reduceIte, Nat.reduceAdd, Nat.reduceLeDiff, Nat.reduceLT, Nat.reduceEqDiff, not_false_eq_true, false_or, true_or, or_true, or_false, n0_e, n1_ne, n1_11, bI_z, bI_1, bI_fo, va_rf_some, aBk_1, aBk_0, nI_add, nI_mul, hk_si, hp_si, hl_si, hk_sp, hk_sl, hk_cp, hp_cp]
    refine (e d).trans ?_
    refine (e151_2).trans ?_
    simp only [e151_0, e151_1, e151_3, e151_5, e151_8, e151_9, e151_12, e151_13, e151_14, e151_17, e151_18, e151_19, e151_20, e151_23, e151_26, ↓reduceIte, Nat.reduceAdd, Nat.reduceLeDiff, Nat.reduceLT, Nat.reduceEqDiff, not_false_eq_true, false_or, true_or, or_true, or_false, n0_e, n1_ne, n1_11, bI_z, bI_1, bI_fo, va_rf_some, aBk_1, aBk_0, nI_add, nI_mul, hk_si, hp_si, hl_si, hk_sp, hk_sl, hk_cp, hp_cp, Int32.le_refl]
/-- what recording writes -/
def RP (a f : Nat) : Prop := (a = 458 ∧ f = 122) ∨ a = 495 ∨ a = 491
theorem m_records (hI : MI h lv Ω) {x : aH} (o : On WP h x) (hr : RA x 492 r) (hrw : True) : ∃ h', (∀ d, (run (d + 1) 213 0 [.ref 458, aU] [] x) = some (.returned none, h')) ∧ On MP h h' ∧ MI h' lv (gDo Ω r) := by
  have hX := hI.onW o
  have hT := hX.T
  have hM := hT.m
  have hu4 := hX.u4
  -- make room
  have st1 : ∃ y v, v < 40 ∧ (∀ d, (run (d + 1) 213 0 [.ref 458, aU] [] x) = (run (d + 1) 213 51 [.ref 458, .int (nI 0)] [] y)) ∧ On RP x y ∧ RA y 491 (gw Ω) ∧ hi_ y 458 122 = nI v ∧ v + 1 = pu (gu Ω) ∧ (∀ i, i < v → ∀ k, k < 31 → hi_ y 495 (31 * i + k) = ph (gu Ω) (gh Ω) (gw Ω) i k) := by
    by_cases q : gu Ω = 40
    · refine Exists.elim (run_fill (F := fun d j x => (run (d + 1) 213 11 [.ref 458, .int (nI j)] [] x)) (b := 495) (n := 1209) (r := fun k => hi_ x 495 (k + 31)) (h := x) (fun d j z hj oz _ rz => ?_)) (fun y hh => ?_)
      · have hM1 := hM.on oz
        have h1 : ¬ nI 1209 ≤ nI j := nI_ge hj (by decide)
        have h2 : j < 1240 := by omega
        have h3 : j + 31 < 1240 := by omega
        have e : hi_ z 495 (j + 31) = hi_ x 495 (j + 31) := rz _ (by omega)
        refine (e213_11).trans ?_
        simp only [e213_0, e213_1, e213_4, e213_6, e213_9, e213_10, e213_12, e213_15, e213_18, e213_19, e213_22, e213_23, e213_24, e213_27, e213_28, e213_30, e213_31, e213_32, e213_33, e213_36, e213_39, e213_40, e213_41, e213_44, e213_45, e213_46, e213_49, e213_50, e213_52, e213_54, e213_57, e213_58, e213_61, e213_63, e213_64, e213_67, e213_68, e213_69, e213_70, e213_71, e213_74, e213_75, e213_76, e213_77, e213_80, e213_83, e213_84, e213_85, e213_88, e213_89, e213_90, e213_93, e213_94, e213_97, mk_458 hM1, mp_116 hM1, mk_491 hM1, mp_123 hM1, mk_495 hM1, ↓reduceIte, Nat.reduceAdd, Nat.reduceLeDiff, Nat.reduceLT, Nat.reduceEqDiff, not_false_eq_true, false_or, true_or, or_true, or_false, n0_e, n1_ne, n1_11, bI_z, bI_1, bI_fo, va_rf_some, aBk_1, aBk_0, nI_add, nI_mul, hk_si, hp_si, hl_si, hk_sp, hk_sl, hk_cp, hp_cp, h1, h2, h3, e]
      · obtain ⟨e, oy, ry⟩ := hh
        have oy' : On RP x y := oy.mono (fun a f q => Or.inr (Or.inl q.1))
        have hM1 := hM.on oy
        have eu : hi_ x 458 122 = nI 40 := by rw [hX.u, q]
        have eu1 : hi_ y 458 122 = nI 40 := (oy.i (fun q => absurd q.1 (by decide))).trans eu
        refine ⟨si_ y 458 122 (nI 39), 39, by decide, fun d => ?_, oy'.trans (On.si (Or.inl ⟨rfl, rfl⟩)), ?_, ?_, ?_, ?_⟩
        · simp only [e213_0, e213_1, e213_4, e213_6, e213_9, e213_10, e213_12, e213_15, e213_18, e213_19, e213_22, e213_23, e213_24, e213_27, e213_28, e213_30, e213_31, e213_32, e213_33, e213_36, e213_39, e213_40, e213_41, e213_44, e213_45, e213_46, e213_49, e213_50, e213_52, e213_54, e213_57, e213_58, e213_61, e213_63, e213_64, e213_67, e213_68, e213_69, e213_70, e213_71, e213_74, e213_75, e213_76, e213_77, e213_80, e213_83, e213_84, e213_85, e213_88, e213_89, e213_90, e213_93, e213_94, e213_97, mk_458 hM, mp_116 hM, mk_491 hM, mp_123 hM, mk_495 hM, ↓reduceIte, Nat.reduceAdd, Nat.reduceLeDiff, Nat.reduceLT, Nat.reduceEqDiff, not_false_eq_true, false_or, true_or, or_true, or_false, n0_e, n1_ne, n1_11, bI_z, bI_1, bI_fo, va_rf_some, aBk_1, aBk_0, nI_add, nI_mul, hk_si, hp_si, hl_si, hk_sp, hk_sl, hk_cp, hp_cp, eu]
          refine (e d).trans ?_
          refine (e213_11).trans ?_
          simp only [e213_0, e213_1, e213_4, e213_6, e213_9, e213_10, e213_12, e213_15, e213_18, e213_19, e213_22, e213_23, e213_24, e213_27, e213_28, e213_30, e213_31, e213_32, e213_33, e213_36, e213_39, e213_40, e213_41, e213_44, e213_45, e213_46, e213_49, e213_50, e213_52, e213_54, e213_57, e213_58, e213_61, e213_63, e213_64, e213_67, e213_68, e213_69, e213_70, e213_71, e213_74, e213_75, e213_76, e213_77, e213_80, e213_83, e213_84, e213_85, e213_88, e213_89, e213_90, e213_93, e213_94, e213_97, mk_458 hM1, mp_116 hM1, mk_491 hM1, mp_123 hM1, mk_495 hM1, ↓reduceIte, Nat.reduceAdd, Nat.reduceLeDiff, Nat.reduceLT, Nat.reduceEqDiff, not_false_eq_true, false_or, true_or, or_true, or_false, n0_e, n1_ne, n1_11, bI_z, bI_1, bI_fo, va_rf_some, aBk_1, aBk_0, nI_add, nI_mul, hk_si, hp_si, hl_si, hk_sp, hk_sl, hk_cp, hp_cp, Int32.le_refl, eu1, nI_s1]
        · exact (hX.w.on oy (fun f q => absurd q.1 (by decide))).off (by decide)
        · rw [hi_si, if_pos ⟨rfl, rfl⟩]
        · unfold pu; rw [if_pos q]
        · intro i hi k hk
          rw [hi_si, if_neg (by omega), ry _ (by omega)]
          unfold ph
          rw [if_pos q, if_pos hi]
          have := hX.hs (i + 1) (by omega) k hk
          rw [← this]
          congr 1
          omega
    · refine ⟨x, gu Ω, by omega, fun d => ?_, On.refl, hX.w, hX.u, by unfold pu; rw [if_neg q], fun i hi k hk => ?_⟩
      · have e : (nI (gu Ω) = nI 40) = False := by rw [nI_eqL (by omega) (by decide)]; exact eq_false q
        simp only [e213_0, e213_1, e213_4, e213_6, e213_9, e213_10, e213_12, e213_15, e213_18, e213_19, e213_22, e213_23, e213_24, e213_27, e213_28, e213_30, e213_31, e213_32, e213_33, e213_36, e213_39, e213_40, e213_41, e213_44, e213_45, e213_46, e213_49, e213_50, e213_52, e213_54, e213_57, e213_58, e213_61, e213_63, e213_64, e213_67, e213_68, e213_69, e213_70, e213_71, e213_74, e213_75, e213_76, e213_77, e213_80, e213_83, e213_84, e213_85, e213_88, e213_89, e213_90, e213_93, e213_94, e213_97, mk_458 hM, mp_116 hM, mk_491 hM, mp_123 hM, mk_495 hM, ↓reduceIte, Nat.reduceAdd, Nat.reduceLeDiff, Nat.reduceLT, Nat.reduceEqDiff, not_false_eq_true, false_or, true_or, or_true, or_false, n0_e, n1_ne, n1_11, bI_z, bI_1, bI_fo, va_rf_some, aBk_1, aBk_0, nI_add, nI_mul, hk_si, hp_si, hl_si, hk_sp, hk_sl, hk_cp, hp_cp, hX.u, e]
      · unfold ph
        rw [if_neg q, if_pos hi]
        exact hX.hs i hi k hk
  obtain ⟨y, v, hv, e1, o1, n1, u1, ev, h1⟩ := st1
  have hM1 := hM.on o1
  refine Exists.elim (run_fillp (F := fun d j z => (run (d + 1) 213 51 [.ref 458, .int (nI j)] [] z)) (b := 495) (p := 31 * v) (n := 31) (r := gw Ω) (h := y) (fun d j z hj oz _ _ => ?_)) (fun z hh => ?_)
  · have hM2 := hM1.on oz
    have h1 : ¬ nI 31 ≤ nI j := nI_ge hj (by decide)
    have h2 : 31 * v + j < 1240 := by omega
    have e : hi_ z 491 j = gw Ω j := (oz.i (fun q => absurd q.1 (by decide))).trans (n1 j hj)
    have eu : hi_ z 458 122 = nI v := (oz.i (fun q => absurd q.1 (by decide))).trans u1
    refine (e213_51).trans ?_
    simp only [e213_0, e213_1, e213_4, e213_6, e213_9, e213_10, e213_12, e213_15, e213_18, e213_19, e213_22, e213_23, e213_24, e213_27, e213_28, e213_30, e213_31, e213_32, e213_33, e213_36, e213_39, e213_40, e213_41, e213_44, e213_45, e213_46, e213_49, e213_50, e213_52, e213_54, e213_57, e213_58, e213_61, e213_63, e213_64, e213_67, e213_68, e213_69, e213_70, e213_71, e213_74, e213_75, e213_76, e213_77, e213_80, e213_83, e213_84, e213_85, e213_88, e213_89, e213_90, e213_93, e213_94, e213_97, mk_458 hM2, mp_116 hM2, mk_491 hM2, mp_123 hM2, mk_495 hM2, ↓reduceIte, Nat.reduceAdd, Nat.reduceLeDiff, Nat.reduceLT, Nat.reduceEqDiff, not_false_eq_true, false_or, true_or, or_true, or_false, n0_e, n1_ne, n1_11, bI_z, bI_1, bI_fo, va_rf_some, aBk_1, aBk_0, nI_add, nI_mul, hk_si, hp_si, hl_si, hk_sp, hk_sl, hk_cp, hp_cp, h1, h2, hj, e, eu]
  · obtain ⟨e2, o2, r2⟩ := hh
    have o2' : On RP y z := o2.mono (fun a f q => Or.inr (Or.inl q.1))
    have hM2 := hM1.on o2
    have eu : hi_ z 458 122 = nI v := (o2.i (fun q => absurd q.1 (by decide))).trans u1
    have o3 : On RP z (si_ z 458 122 (nI (v + 1))) := On.si (Or.inl ⟨rfl, rfl⟩)
    have hM3 := hM2.on o3
    have o13 := (o1.trans o2').trans o3
    have r3 : RA (si_ z 458 122 (nI (v + 1))) 492 r := hr.on o13 (fun f q => by unfold RP at q; omega)
    obtain ⟨t, e4, o4, n4⟩ := m_keepsRow hM3 r3
    have o14 : On RP x t := o13.trans (o4.mono (fun a f q => Or.inr (Or.inr q)))
    refine ⟨t, fun d => ?_, (o.mono (fun _ _ q => q.M)).trans (o14.mono (fun a f q => by unfold RP at q; unfold MP; omega)), ?_⟩
    · refine (e1 d).trans ((e2 d).trans ?_)
      refine (e213_51).trans ?_
      simp only [e213_0, e213_1, e213_4, e213_6, e213_9, e213_10, e213_12, e213_15, e213_18, e213_19, e213_22, e213_23, e213_24, e213_27, e213_28, e213_30, e213_31, e213_32, e213_33, e213_36, e213_39, e213_40, e213_41, e213_44, e213_45, e213_46, e213_49, e213_50, e213_52, e213_54, e213_57, e213_58, e213_61, e213_63, e213_64, e213_67, e213_68, e213_69, e213_70, e213_71, e213_74, e213_75, e213_76, e213_77, e213_80, e213_83, e213_84, e213_85, e213_88, e213_89, e213_90, e213_93, e213_94, e213_97, mk_458 hM2, mp_116 hM2, mk_491 hM2, mp_123 hM2, mk_495 hM2, ↓reduceIte, Nat.reduceAdd, Nat.reduceLeDiff, Nat.reduceLT, Nat.reduceEqDiff, not_false_eq_true, false_or, true_or, or_true, or_false, n0_e, n1_ne, n1_11, bI_z, bI_1, bI_fo, va_rf_some, aBk_1, aBk_0, nI_add, nI_mul, hk_si, hp_si, hl_si, hk_sp, hk_sl, hk_cp, hp_cp, Int32.le_refl, eu, e4]
    · have e : ∀ {a f : Nat}, ¬ RP a f → hi_ t a f = hi_ x a f := fun q => o14.i q
      have nn : ∀ {a f : Nat}, (a = 502 ∨ a = 503 ∨ a = 500 ∨ a = 501 ∨ a = 459 ∨ (a = 458 ∧ (f = 128 ∨ f = 68 ∨ f = 83 ∨ f = 84)) ∨ (468 ≤ a ∧ a ≤ 487)) → ¬ RP a f := fun q z => by
        unfold RP at z; omega
      refine ⟨hT.eqv (hM.on o14) (e (nn (by omega))) (fun a f h1 h2 => e (nn (by omega))), n4, ⟨?_, ?_, ?_⟩,
        fun i hi => ⟨(e (nn (by omega))).trans (hX.sl i hi).1, fun hb k hk => (e (nn (by omega))).trans ((hX.sl i hi).2 hb k hk)⟩,
        ⟨hX.m20, (e (nn (by omega))).trans hX.mm, fun i hi => ⟨(e (nn (by omega))).trans (hX.tl i hi).1, (e (nn (by omega))).trans (hX.tl i hi).2⟩⟩,
        ⟨hX.n2, (e (nn (by omega))).trans hX.nn, fun i hi => (e (nn (by omega))).trans (hX.tp i hi)⟩, (e (nn (by omega))).trans hX.p, fun k hk => (o14.l _ _).trans (hX.ky k hk)⟩
      · show pu (gu Ω) ≤ 40; omega
      · show _ = nI (pu (gu Ω))
        rw [o4.i (show ¬ 458 = 491 by decide), hi_si, if_pos ⟨rfl, rfl⟩, ev]
      · intro i hi k hk
        have hi : i < pu (gu Ω) := hi
        show _ = ph (gu Ω) (gh Ω) (gw Ω) i k
        rw [o4.i (show ¬ 495 = 491 by decide), hi_si, if_neg (by omega)]
        by_cases q : i = v
        · rw [q, r2 k hk]
          unfold ph
          unfold pu at ev
          by_cases q2 : gu Ω = 40
          · rw [if_pos q2] at ev ⊢; rw [if_neg (by omega)]
          · rw [if_neg q2] at ev ⊢; rw [if_neg (by omega)]
        · rw [o2.i (fun z => by unfold AB at z; omega)]
          exact h1 i (by omega) k hk
theorem m_letIn (hI : MI h lv Ω) (g s : Int32) : ∃ h', (∀ d, (run (d + 4) 208 0 [.ref 458, .int g, .int s] [] h) = some (.returned (some (.int ((aLet Ω g s).2))), h')) ∧ On MP h h' ∧ MI h' lv (aLet Ω g s).1 := by
  have hT := hI.T
  have hM := hT.m
  have h7 := hT.ng7
  have h4 := hT.ns4
  unfold aLet
  cases hq : isG (gT Ω) g with
  | false =>
    refine ⟨h, fun d => ?_, On.refl, by simpa using hI⟩
    simp only [e208_0, e208_1, e208_2, e208_5, e208_8, e208_9, e208_10, e208_13, e208_16, e208_17, e208_18, e208_19, e208_22, e208_23, e208_26, e208_27, e208_28, e208_31, e208_32, e208_33, e208_34, e208_37, e208_40, e208_41, e208_42, e208_43, e208_46, e208_47, e208_48, e208_49, e208_50, e208_53, e208_54, mk_458 hM, mp_117 hM, mk_492 hM, ↓reduceIte, Nat.reduceAdd, Nat.reduceLeDiff, Nat.reduceLT, Nat.reduceEqDiff, not_false_eq_true, false_or, true_or, or_true, or_false, n0_e, n1_ne, n1_11, bI_1, bI_fo, va_rf_some, aBk_1, aBk_0, nI_add, nI_mul, hk_si, hp_si, hl_si, hk_sp, hk_sl, hk_cp, hp_cp, m_isGuest hT, hq, bI_z, reduceCtorEq, false_and, n0_01]
  | true =>
    obtain ⟨k, hk, rfl⟩ := isG_n hT.v hq
    rw [kk_n (by omega)]
    have hk' : k < 31 := by omega
    cases hq2 : isS (gT Ω) s with
    | false =>
      refine ⟨h, fun d => ?_, On.refl, by simpa using hI⟩
      simp only [e208_0, e208_1, e208_2, e208_5, e208_8, e208_9, e208_10, e208_13, e208_16, e208_17, e208_18, e208_19, e208_22, e208_23, e208_26, e208_27, e208_28, e208_31, e208_32, e208_33, e208_34, e208_37, e208_40, e208_41, e208_42, e208_43, e208_46, e208_47, e208_48, e208_49, e208_50, e208_53, e208_54, mk_458 hM, mp_117 hM, mk_492 hM, ↓reduceIte, Nat.reduceAdd, Nat.reduceLeDiff, Nat.reduceLT, Nat.reduceEqDiff, not_false_eq_true, false_or, true_or, or_true, or_false, n0_e, n1_ne, n1_11, bI_1, bI_fo, va_rf_some, aBk_1, aBk_0, nI_add, nI_mul, hk_si, hp_si, hl_si, hk_sp, hk_sl, hk_cp, hp_cp, m_isGuest hT, m_isSunday hT, hq, hq2, bI_z, reduceCtorEq, false_and, and_false, n0_01]
    | true =>
      obtain ⟨j, hj, rfl⟩ := isS_n hT.v hq2
      rw [kk_n (by omega)]
      obtain ⟨h1, e1, o1, r1, -, -⟩ := m_copies hT hI.w
      have o1 : On WP h h1 := o1.mono (fun _ _ q => q.W)
      have hT1 := hT.onW o1
      have hM1 := hT1.m
      have em := fun d => m_mayGoIn (d := d) hT1 r1 hk hj
      by_cases q1 : gw Ω k < 0
      · have q1' : ¬ 0 ≤ gw Ω k := Int32.not_le.mpr q1
        cases q2 : mgi_ (gT Ω) (gw Ω) k j with
        | false =>
          refine ⟨h1, fun d => ?_, o1.mono (fun _ _ q => q.M), by simpa using hI.onW o1⟩
          simp only [e208_0, e208_1, e208_2, e208_5, e208_8, e208_9, e208_10, e208_13, e208_16, e208_17, e208_18, e208_19, e208_22, e208_23, e208_26, e208_27, e208_28, e208_31, e208_32, e208_33, e208_34, e208_37, e208_40, e208_41, e208_42, e208_43, e208_46, e208_47, e208_48, e208_49, e208_50, e208_53, e208_54, mk_458 hM, mp_117 hM, mk_492 hM, mk_458 hM1, mp_117 hM1, mk_492 hM1, ↓reduceIte, Nat.reduceAdd, Nat.reduceLeDiff, Nat.reduceLT, Nat.reduceEqDiff, not_false_eq_true, false_or, true_or, or_true, or_false, n0_e, n1_ne, n1_11, bI_1, bI_fo, va_rf_some, aBk_1, aBk_0, nI_add, nI_mul, hk_si, hp_si, hl_si, hk_sp, hk_sl, hk_cp, hp_cp, m_isGuest hT, m_isSunday hT, hq, hq2, bI_z, reduceCtorEq, and_false, n0_01, e1, hk', r1 k hk', q1', em, q2]
        | true =>
          rw [if_pos ⟨rfl, rfl, q1, rfl⟩]
          have o2 : On WP h1 (si_ h1 492 k (nI j)) := On.si (Or.inl (Or.inr (Or.inl rfl)))
          have hM2 := hM1.on o2
          obtain ⟨t, e3, o3, i3⟩ := m_records hI (o1.trans o2) r1.si trivial
          refine ⟨t, fun d => ?_, o3, i3⟩
          simp only [e208_0, e208_1, e208_2, e208_5, e208_8, e208_9, e208_10, e208_13, e208_16, e208_17, e208_18, e208_19, e208_22, e208_23, e208_26, e208_27, e208_28, e208_31, e208_32, e208_33, e208_34, e208_37, e208_40, e208_41, e208_42, e208_43, e208_46, e208_47, e208_48, e208_49, e208_50, e208_53, e208_54, mk_458 hM, mp_117 hM, mk_492 hM, mk_458 hM1, mp_117 hM1, mk_492 hM1, mk_458 hM2, mp_117 hM2, mk_492 hM2, ↓reduceIte, Nat.reduceAdd, Nat.reduceLeDiff, Nat.reduceLT, Nat.reduceEqDiff, not_false_eq_true, false_or, true_or, or_true, or_false, n0_e, n1_ne, n1_11, bI_1, bI_fo, va_rf_some, aBk_1, aBk_0, nI_add, nI_mul, hk_si, hp_si, hl_si, hk_sp, hk_sl, hk_cp, hp_cp, m_isGuest hT, m_isSunday hT, hq, hq2, bI_z, reduceCtorEq, n1_01, e1, hk', r1 k hk', q1', em, q2, e3]
      · have q1' : 0 ≤ gw Ω k := Int32.not_lt.mp q1
        rw [if_neg (fun z => q1 z.2.2.1)]
        refine ⟨h1, fun d => ?_, o1.mono (fun _ _ q => q.M), hI.onW o1⟩
        simp only [e208_0, e208_1, e208_2, e208_5, e208_8, e208_9, e208_10, e208_13, e208_16, e208_17, e208_18, e208_19, e208_22, e208_23, e208_26, e208_27, e208_28, e208_31, e208_32, e208_33, e208_34, e208_37, e208_40, e208_41, e208_42, e208_43, e208_46, e208_47, e208_48, e208_49, e208_50, e208_53, e208_54, mk_458 hM, mp_117 hM, mk_492 hM, mk_458 hM1, mp_117 hM1, mk_492 hM1, ↓reduceIte, Nat.reduceAdd, Nat.reduceLeDiff, Nat.reduceLT, Nat.reduceEqDiff, not_false_eq_true, false_or, true_or, or_true, or_false, n0_e, n1_ne, n1_11, bI_1, bI_fo, va_rf_some, aBk_1, aBk_0, nI_add, nI_mul, hk_si, hp_si, hl_si, hk_sp, hk_sl, hk_cp, hp_cp, m_isGuest hT, m_isSunday hT, hq, hq2, bI_z, reduceCtorEq, n0_01, e1, hk', r1 k hk', q1']
theorem m_putOut (hI : MI h lv Ω) (g : Int32) : ∃ h', (∀ d, (run (d + 2) 214 0 [.ref 458, .int g] [] h) = some (.returned (some (.int ((aPut Ω g).2))), h')) ∧ On MP h h' ∧ MI h' lv (aPut Ω g).1 := by
  have hT := hI.T
  have hM := hT.m
  have h7 := hT.ng7
  unfold aPut
  cases hq : isG (gT Ω) g with
  | false =>
    refine ⟨h, fun d => ?_, On.refl, by simpa using hI⟩
    simp only [e214_0, e214_1, e214_2, e214_5, e214_8, e214_9, e214_12, e214_13, e214_14, e214_17, e214_18, e214_19, e214_20, e214_23, e214_24, e214_27, e214_28, e214_30, e214_31, e214_32, e214_35, e214_36, mk_458 hM, mp_116 hM, mk_491 hM, mp_117 hM, mk_492 hM, ↓reduceIte, Nat.reduceAdd, Nat.reduceLeDiff, Nat.reduceLT, Nat.reduceEqDiff, not_false_eq_true, false_or, true_or, or_true, or_false, n0_e, n1_ne, n1_11, bI_1, bI_fo, va_rf_some, aBk_1, aBk_0, nI_add, nI_mul, hk_si, hp_si, hl_si, hk_sp, hk_sl, hk_cp, hp_cp, m_isGuest hT, hq, bI_z, reduceCtorEq, false_and, n0_01]
  | true =>
    obtain ⟨k, hk, rfl⟩ := isG_n hT.v hq
    rw [kk_n (by omega)]
    have hk' : k < 31 := by omega
    by_cases q1 : 0 ≤ gw Ω k
    · rw [if_pos ⟨rfl, q1⟩]
      obtain ⟨h1, e1, o1, r1, -, -⟩ := m_copies hT hI.w
      have o1 : On WP h h1 := o1.mono (fun _ _ q => q.W)
      have hM1 := hM.on o1
      have o2 : On WP h1 (si_ h1 492 k (-2)) := On.si (Or.inl (Or.inr (Or.inl rfl)))
      have hM2 := hM1.on o2
      obtain ⟨t, e3, o3, i3⟩ := m_records hI (o1.trans o2) r1.si trivial
      refine ⟨t, fun d => ?_, o3, i3⟩
      simp only [e214_0, e214_1, e214_2, e214_5, e214_8, e214_9, e214_12, e214_13, e214_14, e214_17, e214_18, e214_19, e214_20, e214_23, e214_24, e214_27, e214_28, e214_30, e214_31, e214_32, e214_35, e214_36, mk_458 hM, mp_116 hM, mk_491 hM, mp_117 hM, mk_492 hM, mk_458 hM1, mp_116 hM1, mk_491 hM1, mp_117 hM1, mk_492 hM1, mk_458 hM2, mp_116 hM2, mk_491 hM2, mp_117 hM2, mk_492 hM2, ↓reduceIte, Nat.reduceAdd, Nat.reduceLeDiff, Nat.reduceLT, Nat.reduceEqDiff, not_false_eq_true, false_or, true_or, or_true, or_false, n0_e, n1_ne, n1_11, bI_1, bI_fo, va_rf_some, aBk_1, aBk_0, nI_add, nI_mul, hk_si, hp_si, hl_si, hk_sp, hk_sl, hk_cp, hp_cp, m_isGuest hT, hq, bI_z, reduceCtorEq, n1_01, e1, hk', hI.w k hk', q1, e3]
    · rw [if_neg (fun z => q1 z.2)]
      refine ⟨h, fun d => ?_, On.refl, hI⟩
      simp only [e214_0, e214_1, e214_2, e214_5, e214_8, e214_9, e214_12, e214_13, e214_14, e214_17, e214_18, e214_19, e214_20, e214_23, e214_24, e214_27, e214_28, e214_30, e214_31, e214_32, e214_35, e214_36, mk_458 hM, mp_116 hM, mk_491 hM, mp_117 hM, mk_492 hM, ↓reduceIte, Nat.reduceAdd, Nat.reduceLeDiff, Nat.reduceLT, Nat.reduceEqDiff, not_false_eq_true, false_or, true_or, or_true, or_false, n0_e, n1_ne, n1_11, bI_1, bI_fo, va_rf_some, aBk_1, aBk_0, nI_add, nI_mul, hk_si, hp_si, hl_si, hk_sp, hk_sl, hk_cp, hp_cp, m_isGuest hT, hq, bI_z, reduceCtorEq, n0_01, hk', hI.w k hk', q1]
theorem m_sell (hI : MI h lv Ω) (s : Int32) : ∃ h', (∀ d, (run (d + 3) 215 0 [.ref 458, .int s, aU] [] h) = some (.returned (some (.int ((aSel Ω s).2))), h')) ∧ On MP h h' ∧ MI h' lv (aSel Ω s).1 := by
  have hT := hI.T
  have hM := hT.m
  have h4 := hT.ns4
  unfold aSel
  cases hq : isS (gT Ω) s with
  | false =>
    refine ⟨h, fun d => ?_, On.refl, by simpa using hI⟩
    simp only [e215_0, e215_1, e215_2, e215_5, e215_8, e215_9, e215_10, e215_11, e215_14, e215_15, e215_18, e215_20, e215_21, e215_22, e215_23, e215_24, e215_27, e215_28, e215_29, e215_32, e215_35, e215_36, e215_37, e215_38, e215_39, e215_42, e215_43, e215_44, e215_47, e215_49, e215_50, e215_51, e215_52, e215_53, e215_54, e215_57, e215_59, e215_60, e215_61, e215_62, e215_63, e215_64, e215_65, e215_68, e215_69, mk_458 hM, mp_117 hM, mk_492 hM, ↓reduceIte, Nat.reduceAdd, Nat.reduceLeDiff, Nat.reduceLT, Nat.reduceEqDiff, not_false_eq_true, false_or, true_or, or_true, or_false, n0_e, n1_ne, n1_11, bI_1, bI_fo, va_rf_some, aBk_1, aBk_0, nI_add, nI_mul, hk_si, hp_si, hl_si, hk_sp, hk_sl, hk_cp, hp_cp, m_isSunday hT, hq, bI_z, reduceCtorEq, false_and]
  | true =>
    obtain ⟨k, hk, rfl⟩ := isS_n hT.v hq
    rw [kk_n (by omega)]
    have h2 : 25 + k < 31 := by omega
    have hb : gB_ (gT Ω) (gw Ω) (nI k) < 2147483648 := orN_31 hT.ng7
    obtain ⟨h1, e1, o1, r1, -, -⟩ := m_copies hT hI.w
    have o1 : On WP h h1 := o1.mono (fun _ _ q => q.W)
    have hT1 := hT.onW o1
    have hM1 := hT1.m
    by_cases q1 : gw Ω (25 + k) = nI 1
    · rw [if_neg (fun z => z.2.1 q1)]
      refine ⟨h1, fun d => ?_, o1.mono (fun _ _ q => q.M), hI.onW o1⟩
      simp only [e215_0, e215_1, e215_2, e215_5, e215_8, e215_9, e215_10, e215_11, e215_14, e215_15, e215_18, e215_20, e215_21, e215_22, e215_23, e215_24, e215_27, e215_28, e215_29, e215_32, e215_35, e215_36, e215_37, e215_38, e215_39, e215_42, e215_43, e215_44, e215_47, e215_49, e215_50, e215_51, e215_52, e215_53, e215_54, e215_57, e215_59, e215_60, e215_61, e215_62, e215_63, e215_64, e215_65, e215_68, e215_69, mk_458 hM, mp_117 hM, mk_492 hM, mk_458 hM1, mp_117 hM1, mk_492 hM1, ↓reduceIte, Nat.reduceAdd, Nat.reduceLeDiff, Nat.reduceLT, Nat.reduceEqDiff, not_false_eq_true, false_or, true_or, or_true, or_false, n0_e, n1_ne, n1_11, bI_1, bI_fo, va_rf_some, aBk_1, aBk_0, nI_add, nI_mul, hk_si, hp_si, hl_si, hk_sp, hk_sl, hk_cp, hp_cp, m_isSunday hT, hq, bI_z, reduceCtorEq, e1, h2, r1 _ h2, q1]
    · by_cases q2 : gB_ (gT Ω) (gw Ω) (nI k) = 0
      · rw [if_pos ⟨rfl, q1, q2⟩]
        obtain ⟨h3, e3, o3⟩ := m_sellsOf hT1 r1 hk
        have r3 := r1.onE o3
        have o3 : On WP h1 h3 := o3.mono (fun _ _ q => q.V.W)
        have hM3 := hM1.on o3
        have o4 : On WP h3 (si_ h3 492 (25 + k) (nI 1)) := On.si (Or.inl (Or.inr (Or.inl rfl)))
        have hM4 := hM3.on o4
        have o5 : On WP (si_ h3 492 (25 + k) (nI 1)) (si_ (si_ h3 492 (25 + k) (nI 1)) 492 30 (gw Ω 30 + sO_ (gT Ω) (gw Ω) k)) := On.si (Or.inl (Or.inr (Or.inl rfl)))
        have hM5 := hM4.on o5
        obtain ⟨t, e6, o6, i6⟩ := m_records hI (((o1.trans o3).trans o4).trans o5) r3.si.si trivial
        have e30 : hi_ (si_ h3 492 (25 + k) (nI 1)) 492 30 = gw Ω 30 := (hi_ne (by omega)).trans (r3 30 (by decide))
        refine ⟨t, fun d => ?_, o6, i6⟩
        simp only [e215_0, e215_1, e215_2, e215_5, e215_8, e215_9, e215_10, e215_11, e215_14, e215_15, e215_18, e215_20, e215_21, e215_22, e215_23, e215_24, e215_27, e215_28, e215_29, e215_32, e215_35, e215_36, e215_37, e215_38, e215_39, e215_42, e215_43, e215_44, e215_47, e215_49, e215_50, e215_51, e215_52, e215_53, e215_54, e215_57, e215_59, e215_60, e215_61, e215_62, e215_63, e215_64, e215_65, e215_68, e215_69, mk_458 hM, mp_117 hM, mk_492 hM, mk_458 hM1, mp_117 hM1, mk_492 hM1, mk_458 hM3, mp_117 hM3, mk_492 hM3, mk_458 hM4, mp_117 hM4, mk_492 hM4, mk_458 hM5, mp_117 hM5, mk_492 hM5, ↓reduceIte, Nat.reduceAdd, Nat.reduceLeDiff, Nat.reduceLT, Nat.reduceEqDiff, not_false_eq_true, false_or, true_or, or_true, or_false, n0_e, n1_ne, n1_11, bI_1, bI_fo, va_rf_some, aBk_1, aBk_0, nI_add, nI_mul, hk_si, hp_si, hl_si, hk_sp, hk_sl, hk_cp, hp_cp, m_isSunday hT, hq, bI_z, reduceCtorEq, e1, h2, r1 _ h2, q1, m_guestBits hT1 r1, nI_z hb, q2, e3, e30, e6]
      · rw [if_neg (fun z => q2 z.2.2)]
        refine ⟨h1, fun d => ?_, o1.mono (fun _ _ q => q.M), hI.onW o1⟩
        simp only [e215_0, e215_1, e215_2, e215_5, e215_8, e215_9, e215_10, e215_11, e215_14, e215_15, e215_18, e215_20, e215_21, e215_22, e215_23, e215_24, e215_27, e215_28, e215_29, e215_32, e215_35, e215_36, e215_37, e215_38, e215_39, e215_42, e215_43, e215_44, e215_47, e215_49, e215_50, e215_51, e215_52, e215_53, e215_54, e215_57, e215_59, e215_60, e215_61, e215_62, e215_63, e215_64, e215_65, e215_68, e215_69, mk_458 hM, mp_117 hM, mk_492 hM, mk_458 hM1, mp_117 hM1, mk_492 hM1, ↓reduceIte, Nat.reduceAdd, Nat.reduceLeDiff, Nat.reduceLT, Nat.reduceEqDiff, not_false_eq_true, false_or, true_or, or_true, or_false, n0_e, n1_ne, n1_11, bI_1, bI_fo, va_rf_some, aBk_1, aBk_0, nI_add, nI_mul, hk_si, hp_si, hl_si, hk_sp, hk_sl, hk_cp, hp_cp, m_isSunday hT, hq, bI_z, reduceCtorEq, e1, h2, r1 _ h2, q1, m_guestBits hT1 r1, nI_z hb, q2]
theorem m_air (hI : MI h lv Ω) (s : Int32) : ∃ h', (∀ d, (run (d + 2) 216 0 [.ref 458, .int s] [] h) = some (.returned (some (.int ((aAir Ω s).2))), h')) ∧ On MP h h' ∧ MI h' lv (aAir Ω s).1 := by
  have hT := hI.T
  have hM := hT.m
  have h4 := hT.ns4
  unfold aAir
  cases hq : isS (gT Ω) s with
  | false =>
    refine ⟨h, fun d => ?_, On.refl, by simpa using hI⟩
    simp only [e216_0, e216_1, e216_2, e216_5, e216_8, e216_9, e216_10, e216_11, e216_14, e216_15, e216_18, e216_20, e216_21, e216_22, e216_23, e216_24, e216_27, e216_28, e216_31, e216_33, e216_34, e216_35, e216_36, e216_39, e216_40, e216_41, e216_44, e216_47, e216_48, e216_49, e216_50, e216_53, e216_55, e216_56, e216_57, e216_58, e216_59, e216_60, e216_63, e216_65, e216_66, e216_69, e216_70, e216_73, e216_75, e216_76, e216_77, e216_78, e216_79, e216_80, e216_81, e216_84, e216_85, mk_458 hM, mp_117 hM, mk_492 hM, ↓reduceIte, Nat.reduceAdd, Nat.reduceLeDiff, Nat.reduceLT, Nat.reduceEqDiff, not_false_eq_true, false_or, true_or, or_true, or_false, n0_e, n1_ne, n1_11, bI_1, bI_fo, va_rf_some, aBk_1, aBk_0, nI_add, nI_mul, hk_si, hp_si, hl_si, hk_sp, hk_sl, hk_cp, hp_cp, m_isSunday hT, hq, bI_z, reduceCtorEq, false_and, n0_01]
  | true =>
    obtain ⟨k, hk, rfl⟩ := isS_n hT.v hq
    rw [kk_n (by omega)]
    have h2 : 25 + k < 31 := by omega
    have h3 : 21 + k < 31 := by omega
    have hb : gB_ (gT Ω) (gw Ω) (nI k) < 2147483648 := orN_31 hT.ng7
    obtain ⟨h1, e1, o1, r1, -, -⟩ := m_copies hT hI.w
    have o1 : On WP h h1 := o1.mono (fun _ _ q => q.W)
    have hT1 := hT.onW o1
    have hM1 := hT1.m
    by_cases q1 : gw Ω (25 + k) = nI 1
    · rw [if_neg (fun z => z.2.1 q1)]
      refine ⟨h1, fun d => ?_, o1.mono (fun _ _ q => q.M), hI.onW o1⟩
      simp only [e216_0, e216_1, e216_2, e216_5, e216_8, e216_9, e216_10, e216_11, e216_14, e216_15, e216_18, e216_20, e216_21, e216_22, e216_23, e216_24, e216_27, e216_28, e216_31, e216_33, e216_34, e216_35, e216_36, e216_39, e216_40, e216_41, e216_44, e216_47, e216_48, e216_49, e216_50, e216_53, e216_55, e216_56, e216_57, e216_58, e216_59, e216_60, e216_63, e216_65, e216_66, e216_69, e216_70, e216_73, e216_75, e216_76, e216_77, e216_78, e216_79, e216_80, e216_81, e216_84, e216_85, mk_458 hM, mp_117 hM, mk_492 hM, mk_458 hM1, mp_117 hM1, mk_492 hM1, ↓reduceIte, Nat.reduceAdd, Nat.reduceLeDiff, Nat.reduceLT, Nat.reduceEqDiff, not_false_eq_true, false_or, true_or, or_true, or_false, n0_e, n1_ne, n1_11, bI_1, bI_fo, va_rf_some, aBk_1, aBk_0, nI_add, nI_mul, hk_si, hp_si, hl_si, hk_sp, hk_sl, hk_cp, hp_cp, m_isSunday hT, hq, bI_z, reduceCtorEq, e1, h2, r1 _ h2, q1, n0_01]
    · by_cases q3 : gw Ω (21 + k) = 0
      · rw [if_neg (fun z => z.2.2.1 q3)]
        refine ⟨h1, fun d => ?_, o1.mono (fun _ _ q => q.M), hI.onW o1⟩
        simp only [e216_0, e216_1, e216_2, e216_5, e216_8, e216_9, e216_10, e216_11, e216_14, e216_15, e216_18, e216_20, e216_21, e216_22, e216_23, e216_24, e216_27, e216_28, e216_31, e216_33, e216_34, e216_35, e216_36, e216_39, e216_40, e216_41, e216_44, e216_47, e216_48, e216_49, e216_50, e216_53, e216_55, e216_56, e216_57, e216_58, e216_59, e216_60, e216_63, e216_65, e216_66, e216_69, e216_70, e216_73, e216_75, e216_76, e216_77, e216_78, e216_79, e216_80, e216_81, e216_84, e216_85, mk_458 hM, mp_117 hM, mk_492 hM, mk_458 hM1, mp_117 hM1, mk_492 hM1, ↓reduceIte, Nat.reduceAdd, Nat.reduceLeDiff, Nat.reduceLT, Nat.reduceEqDiff, not_false_eq_true, false_or, true_or, or_true, or_false, n0_e, n1_ne, n1_11, bI_1, bI_fo, va_rf_some, aBk_1, aBk_0, nI_add, nI_mul, hk_si, hp_si, hl_si, hk_sp, hk_sl, hk_cp, hp_cp, m_isSunday hT, hq, bI_z, reduceCtorEq, e1, h2, h3, r1 _ h2, r1 _ h3, q1, q3, n0_01]
      · by_cases q2 : gB_ (gT Ω) (gw Ω) (nI k) = 0
        · rw [if_pos ⟨rfl, q1, q3, q2⟩]
          have o4 : On WP h1 (si_ h1 492 (21 + k) (nI 0)) := On.si (Or.inl (Or.inr (Or.inl rfl)))
          have hM4 := hM1.on o4
          have e30 : hi_ (si_ h1 492 (21 + k) (nI 0)) 492 30 = gw Ω 30 := (hi_ne (by omega)).trans (r1 30 (by decide))
          by_cases q4 : gw Ω 30 ≤ 0
          · rw [if_pos q4]
            obtain ⟨t, e6, o6, i6⟩ := m_records hI (o1.trans o4) (r := up_ (up_ (gw Ω) (21 + k) (nI 0)) 30 (gw Ω 30)) (r1.si.congr (fun i _ => by
              unfold up_
              by_cases q : i = 30
              · rw [q, if_neg (by omega), if_pos rfl]
              · rw [if_neg q])) trivial
            refine ⟨t, fun d => ?_, o6, i6⟩
            simp only [e216_0, e216_1, e216_2, e216_5, e216_8, e216_9, e216_10, e216_11, e216_14, e216_15, e216_18, e216_20, e216_21, e216_22, e216_23, e216_24, e216_27, e216_28, e216_31, e216_33, e216_34, e216_35, e216_36, e216_39, e216_40, e216_41, e216_44, e216_47, e216_48, e216_49, e216_50, e216_53, e216_55, e216_56, e216_57, e216_58, e216_59, e216_60, e216_63, e216_65, e216_66, e216_69, e216_70, e216_73, e216_75, e216_76, e216_77, e216_78, e216_79, e216_80, e216_81, e216_84, e216_85, mk_458 hM, mp_117 hM, mk_492 hM, mk_458 hM1, mp_117 hM1, mk_492 hM1, mk_458 hM4, mp_117 hM4, mk_492 hM4, ↓reduceIte, Nat.reduceAdd, Nat.reduceLeDiff, Nat.reduceLT, Nat.reduceEqDiff, not_false_eq_true, false_or, true_or, or_true, or_false, n0_e, n1_ne, n1_11, bI_1, bI_fo, va_rf_some, aBk_1, aBk_0, nI_add, nI_mul, hk_si, hp_si, hl_si, hk_sp, hk_sl, hk_cp, hp_cp, m_isSunday hT, hq, bI_z, reduceCtorEq, e1, h2, h3, r1 _ h2, r1 _ h3, q1, q3, m_guestBits hT1 r1, nI_z hb, q2, e30, q4, e6, n1_01]
          · rw [if_neg q4]
            have o5 : On WP (si_ h1 492 (21 + k) (nI 0)) (si_ (si_ h1 492 (21 + k) (nI 0)) 492 30 (gw Ω 30 - nI 1)) := On.si (Or.inl (Or.inr (Or.inl rfl)))
            have hM5 := hM4.on o5
            obtain ⟨t, e6, o6, i6⟩ := m_records hI ((o1.trans o4).trans o5) r1.si.si trivial
            refine ⟨t, fun d => ?_, o6, i6⟩
            simp only [e216_0, e216_1, e216_2, e216_5, e216_8, e216_9, e216_10, e216_11, e216_14, e216_15, e216_18, e216_20, e216_21, e216_22, e216_23, e216_24, e216_27, e216_28, e216_31, e216_33, e216_34, e216_35, e216_36, e216_39, e216_40, e216_41, e216_44, e216_47, e216_48, e216_49, e216_50, e216_53, e216_55, e216_56, e216_57, e216_58, e216_59, e216_60, e216_63, e216_65, e216_66, e216_69, e216_70, e216_73, e216_75, e216_76, e216_77, e216_78, e216_79, e216_80, e216_81, e216_84, e216_85, mk_458 hM, mp_117 hM, mk_492 hM, mk_458 hM1, mp_117 hM1, mk_492 hM1, mk_458 hM4, mp_117 hM4, mk_492 hM4, mk_458 hM5, mp_117 hM5, mk_492 hM5, ↓reduceIte, Nat.reduceAdd, Nat.reduceLeDiff, Nat.reduceLT, Nat.reduceEqDiff, not_false_eq_true, false_or, true_or, or_true, or_false, n0_e, n1_ne, n1_11, bI_1, bI_fo, va_rf_some, aBk_1, aBk_0, nI_add, nI_mul, hk_si, hp_si, hl_si, hk_sp, hk_sl, hk_cp, hp_cp, m_isSunday hT, hq, bI_z, reduceCtorEq, e1, h2, h3, r1 _ h2, r1 _ h3, q1, q3, m_guestBits hT1 r1, nI_z hb, q2, e30, q4, e6, n1_01]
        · rw [if_neg (fun z => q2 z.2.2.2)]
          refine ⟨h1, fun d => ?_, o1.mono (fun _ _ q => q.M), hI.onW o1⟩
          simp only [e216_0, e216_1, e216_2, e216_5, e216_8, e216_9, e216_10, e216_11, e216_14, e216_15, e216_18, e216_20, e216_21, e216_22, e216_23, e216_24, e216_27, e216_28, e216_31, e216_33, e216_34, e216_35, e216_36, e216_39, e216_40, e216_41, e216_44, e216_47, e216_48, e216_49, e216_50, e216_53, e216_55, e216_56, e216_57, e216_58, e216_59, e216_60, e216_63, e216_65, e216_66, e216_69, e216_70, e216_73, e216_75, e216_76, e216_77, e216_78, e216_79, e216_80, e216_81, e216_84, e216_85, mk_458 hM, mp_117 hM, mk_492 hM, mk_458 hM1, mp_117 hM1, mk_492 hM1, ↓reduceIte, Nat.reduceAdd, Nat.reduceLeDiff, Nat.reduceLT, Nat.reduceEqDiff, not_false_eq_true, false_or, true_or, or_true, or_false, n0_e, n1_ne, n1_11, bI_1, bI_fo, va_rf_some, aBk_1, aBk_0, nI_add, nI_mul, hk_si, hp_si, hl_si, hk_sp, hk_sl, hk_cp, hp_cp, m_isSunday hT, hq, bI_z, reduceCtorEq, e1, h2, h3, r1 _ h2, r1 _ h3, q1, q3, m_guestBits hT1 r1, nI_z hb, q2, n0_01]
theorem m_weeks (hI : MI h lv Ω) (hw : RW (gT Ω) (gw Ω)) (n : Int32) : ∃ h', (∀ d, (run (d + 7) 217 0 [.ref 458, .int n] [] h) = some (.returned (some (.int ((aWks Ω n).2))), h')) ∧ On MP h h' ∧ MI h' lv (aWks Ω n).1 := by
  have hT := hI.T
  have hM := hT.m
  unfold aWks
  cases hq : lng_ n with
  | false =>
    refine ⟨h, fun d => ?_, On.refl, by simpa using hI⟩
    simp only [e217_0, e217_1, e217_4, e217_7, e217_8, e217_9, e217_10, e217_13, e217_14, e217_17, e217_19, e217_20, e217_21, e217_22, e217_25, e217_26, e217_27, e217_30, e217_31, e217_34, e217_35, e217_38, e217_40, e217_41, mk_458 hM, mp_116 hM, mk_491 hM, ↓reduceIte, Nat.reduceAdd, Nat.reduceLeDiff, Nat.reduceLT, Nat.reduceEqDiff, not_false_eq_true, false_or, true_or, or_true, or_false, n0_e, n1_ne, n1_11, bI_1, bI_fo, va_rf_some, aBk_1, aBk_0, nI_add, nI_mul, hk_si, hp_si, hl_si, hk_sp, hk_sl, hk_cp, hp_cp, m_isLong, hq, bI_z, reduceCtorEq]
  | true =>
    rw [if_pos rfl]
    by_cases q : n = 0
    · rw [if_pos q]
      refine ⟨h, fun d => ?_, On.refl, hI⟩
      subst q
      simp only [e217_0, e217_1, e217_4, e217_7, e217_8, e217_9, e217_10, e217_13, e217_14, e217_17, e217_19, e217_20, e217_21, e217_22, e217_25, e217_26, e217_27, e217_30, e217_31, e217_34, e217_35, e217_38, e217_40, e217_41, mk_458 hM, mp_116 hM, mk_491 hM, ↓reduceIte, Nat.reduceAdd, Nat.reduceLeDiff, Nat.reduceLT, Nat.reduceEqDiff, not_false_eq_true, false_or, true_or, or_true, or_false, n0_e, n1_ne, n1_11, bI_1, bI_fo, va_rf_some, aBk_1, aBk_0, nI_add, nI_mul, hk_si, hp_si, hl_si, hk_sp, hk_sl, hk_cp, hp_cp, m_isLong, hq, bI_z, reduceCtorEq, hI.w 29 (by decide)]
    · rw [if_neg q]
      obtain ⟨m, hm, rfl⟩ := lng_n hq
      rw [kk_n (by omega)]
      obtain ⟨h1, e1, o1, r1, l1, s1⟩ := m_copies hT hI.w
      have o1 : On WP h h1 := o1.mono (fun _ _ q => q.W)
      have hT1 := hT.onW o1
      have hM1 := hT1.m
      obtain ⟨h2, e2, o2, r2⟩ := m_goes hT1 r1 hw l1 s1 (n := m) (by omega)
      have o2 : On WP h1 h2 := o2.mono (fun _ _ q => q.W)
      have hM2 := hM1.on o2
      obtain ⟨t, e3, o3, i3⟩ := m_records hI (o1.trans o2) r2 trivial
      have hM3 := i3.T.m
      have e29 : hi_ t 491 29 = dr_ (gT Ω) (gw Ω) m 29 := i3.w 29 (by decide)
      refine ⟨t, fun d => ?_, o3, i3⟩
      simp only [e217_0, e217_1, e217_4, e217_7, e217_8, e217_9, e217_10, e217_13, e217_14, e217_17, e217_19, e217_20, e217_21, e217_22, e217_25, e217_26, e217_27, e217_30, e217_31, e217_34, e217_35, e217_38, e217_40, e217_41, mk_458 hM, mp_116 hM, mk_491 hM, mk_458 hM1, mp_116 hM1, mk_491 hM1, mk_458 hM2, mp_116 hM2, mk_491 hM2, mk_458 hM3, mp_116 hM3, mk_491 hM3, ↓reduceIte, Nat.reduceAdd, Nat.reduceLeDiff, Nat.reduceLT, Nat.reduceEqDiff, not_false_eq_true, false_or, true_or, or_true, or_false, n0_e, n1_ne, n1_11, bI_1, bI_fo, va_rf_some, aBk_1, aBk_0, nI_add, nI_mul, hk_si, hp_si, hl_si, hk_sp, hk_sl, hk_cp, hp_cp, m_isLong, hq, bI_z, reduceCtorEq, q, e1, e2, e3, e29]
end M7
