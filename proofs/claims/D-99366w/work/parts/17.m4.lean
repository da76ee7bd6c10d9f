set_option maxRecDepth 100000
/-! M: a week; copies -/
def CP (a f : Nat) : Prop := (a = 458 ∧ (f = 118 ∨ f = 119)) ∨ a = 492
section M4
variable {lv : Nat} {h h' : aH} {T : aTx} {r : Nat → Int32} {sd : Int32} {still : Bool}
theorem CP.W {a f : Nat} (q : CP a f) : WP a f := by
  unfold CP at q; unfold WP VP; omega
theorem m_copies (hT : MT h T lv) (hr : RA h 491 r) : ∃ h', (∀ d, (run (d) 185 0 [.ref 458, aU] [] h) = some (.returned none, h')) ∧ On CP h h' ∧ RA h' 492 r ∧ hi_ h' 458 118 = se_ T ∧ hi_ h' 458 119 = bI false := by
  have hM := hT.m
  refine Exists.elim (run_fill (F := fun d j x => (run (d) 185 2 [.ref 458, .int (nI j)] [] x)) (b := 492) (n := 31) (r := r) (h := h) (fun d j x hj o _ _ => ?_)) (fun y hh => ?_)
  · have hM1 := hM.on o
    have h1 : ¬ nI 31 ≤ nI j := nI_ge hj (by decide)
    have e : hi_ x 491 j = r j := (o.i (fun q => absurd q.1 (by decide))).trans (hr j hj)
    refine (e185_2).trans ?_
    simp only [e185_0, e185_1, e185_3, e185_5, e185_8, e185_9, e185_12, e185_13, e185_14, e185_17, e185_18, e185_19, e185_20, e185_23, e185_26, e185_27, e185_28, e185_31, e185_32, e185_35, e185_36, e185_39, e185_40, e185_41, e185_44, mk_458 hM1, mp_99 hM1, mk_478 hM1, mp_116 hM1, mk_491 hM1, mp_117 hM1, mk_492 hM1, ↓reduceIte, Nat.reduceAdd, Nat.reduceLeDiff, Nat.reduceLT, Nat.reduceEqDiff, not_false_eq_true, false_or, true_or, or_true, or_false, n0_e, n1_ne, n1_11, bI_z, bI_1, bI_fo, va_rf_some, aBk_1, aBk_0, nI_add, nI_mul, hk_si, hp_si, hl_si, hk_sp, hk_sl, hk_cp, hp_cp, h1, hj, e]
  · obtain ⟨e, o, ry⟩ := hh
    have o' : On CP h y := o.mono (fun a f q => Or.inr q.1)
    have hT1 := hT.on o' (fun _ _ q => q.W)
    have hM1 := hT1.m
    refine ⟨si_ (si_ y 458 118 (se_ T)) 458 119 (nI 0), fun d => ?_, (o'.trans (On.si (Or.inl ⟨rfl, Or.inl rfl⟩))).trans (On.si (Or.inl ⟨rfl, Or.inr rfl⟩)), ?_, ?_, ?_⟩
    · simp only [e185_0, e185_1, e185_3, e185_5, e185_8, e185_9, e185_12, e185_13, e185_14, e185_17, e185_18, e185_19, e185_20, e185_23, e185_26, e185_27, e185_28, e185_31, e185_32, e185_35, e185_36, e185_39, e185_40, e185_41, e185_44, ↓reduceIte, Nat.reduceAdd, Nat.reduceLeDiff, Nat.reduceLT, Nat.reduceEqDiff, not_false_eq_true, false_or, true_or, or_true, or_false, n0_e, n1_ne, n1_11, bI_z, bI_1, bI_fo, va_rf_some, aBk_1, aBk_0, nI_add, nI_mul, hk_si, hp_si, hl_si, hk_sp, hk_sl, hk_cp, hp_cp]
      refine (e d).trans ?_
      refine (e185_2).trans ?_
      simp only [e185_0, e185_1, e185_3, e185_5, e185_8, e185_9, e185_12, e185_13, e185_14, e185_17, e185_18, e185_19, e185_20, e185_23, e185_26, e185_27, e185_28, e185_31, e185_32, e185_35, e185_36, e185_39, e185_40, e185_41, e185_44, mk_458 hM1, mp_99 hM1, mk_478 hM1, mp_116 hM1, mk_491 hM1, mp_117 hM1, mk_492 hM1, ↓reduceIte, Nat.reduceAdd, Nat.reduceLeDiff, Nat.reduceLT, Nat.reduceEqDiff, not_false_eq_true, false_or, true_or, or_true, or_false, n0_e, n1_ne, n1_11, bI_z, bI_1, bI_fo, va_rf_some, aBk_1, aBk_0, nI_add, nI_mul, hk_si, hp_si, hl_si, hk_sp, hk_sl, hk_cp, hp_cp, hT1.live, hT1.se, hT1.l2, Int32.le_refl, n0_01]
    · intro k hk
      rw [hi_si, if_neg (by omega), hi_si, if_neg (by omega)]
      exact ry k hk
    · rw [hi_si, if_neg (by omega), hi_si, if_pos ⟨rfl, rfl⟩]
    · rw [hi_si, if_pos ⟨rfl, rfl⟩]; decide
theorem m_copiesStill (hT : MT h T lv) (hr : RA h 491 r) : ∃ h', (∀ d, (run (d + 1) 254 0 [.ref 458] [] h) = some (.returned none, h')) ∧ On CP h h' ∧ RA h' 492 r ∧ hi_ h' 458 118 = se_ T ∧ hi_ h' 458 119 = bI true := by
  have hM := hT.m
  obtain ⟨y, e, o, h1, h2, -⟩ := m_copies hT hr
  have hM1 := hM.on o
  refine ⟨si_ y 458 119 (nI 1), fun d => ?_, o.trans (On.si (Or.inl ⟨rfl, Or.inr rfl⟩)), ?_, ?_, ?_⟩
  · simp only [e254_0, e254_1, e254_4, e254_5, e254_6, e254_9, mk_458 hM, mk_458 hM1, ↓reduceIte, Nat.reduceAdd, Nat.reduceLeDiff, Nat.reduceLT, Nat.reduceEqDiff, not_false_eq_true, false_or, true_or, or_true, or_false, n0_e, n1_ne, n1_11, bI_z, bI_1, bI_fo, va_rf_some, aBk_1, aBk_0, nI_add, nI_mul, hk_si, hp_si, hl_si, hk_sp, hk_sl, hk_cp, hp_cp, e, n1_01]
  · intro k hk
    rw [hi_si, if_neg (by omega)]
    exact h1 k hk
  · rw [hi_si, if_neg (by omega)]; exact h2
  · rw [hi_si, if_pos ⟨rfl, rfl⟩]; decide


theorem RA.si {a i : Nat} {v : Int32} (hr : RA h a r) : RA (si_ h a i v) a (up_ r i v) := fun k hk => by
  rw [hi_si]
  unfold up_
  by_cases q : k = i
  · rw [if_pos ⟨rfl, q⟩, if_pos q]
  · rw [if_neg (fun z => q z.2), if_neg q]; exact hr k hk
theorem RA.off {a i b : Nat} {v : Int32} (hr : RA h a r) (hn : a ≠ b) : RA (si_ h b i v) a r := fun k hk => by
  rw [hi_si, if_neg (fun z => hn z.1)]; exact hr k hk
theorem RA.on {a : Nat} {S : Nat → Nat → Prop} (hr : RA h a r) (o : On S h h') (hs : ∀ f, ¬ S a f) : RA h' a r := fun k hk => (o.i (hs k)).trans (hr k hk)
theorem RA.congr {a : Nat} {r' : Nat → Int32} (hr : RA h a r) (he : ∀ k, k < 31 → r k = r' k) : RA h a r' := fun k hk => (hr k hk).trans (he k hk)
def restB (r : Nat → Int32) (g : Nat) (x : Int32) : Int32 := if 0 ≤ r g then wi_ (r (7 + g) + x) (nI 0) (nI 999) else if r (14 + g) = 0 then wi_ (r (7 + g) - nI 1) (nI 0) (nI 999) else r (7 + g)
theorem m_restsIn (hT : MT h T lv) (hr : RA h 492 r) {g : Nat} {x : Int32} (hg : g < ng_ T) (hx : hi_ h 493 g = x) : ∃ h', (∀ d, (run (d + 1) 222 0 [.ref 458, .int (nI g)] [] h) = some (.returned none, h')) ∧ On (AA 492) h h' ∧ RA h' 492 (up_ r (7 + g) (restB r g x)) := by
  have hM := hT.m
  have h7 := hT.ng7
  have h1 : g < 31 := by omega
  have h2 : 7 + g < 31 := by omega
  have h3 : 14 + g < 31 := by omega
  have h4 : g < 7 := by omega
  by_cases q1 : 0 ≤ r g
  · have e : restB r g x = wi_ (r (7 + g) + x) (nI 0) (nI 999) := if_pos q1
    refine ⟨si_ h 492 (7 + g) (wi_ (r (7 + g) + x) (nI 0) (nI 999)), fun d => ?_, On.sa, by rw [e]; exact hr.si⟩
    have q1' : ¬ r g < 0 := Int32.not_lt.mpr q1
    simp only [e222_0, e222_1, e222_4, e222_5, e222_6, e222_9, e222_10, e222_13, e222_15, e222_16, e222_17, e222_18, e222_21, e222_23, e222_24, e222_25, e222_26, e222_27, e222_30, e222_31, e222_32, e222_33, e222_34, e222_37, e222_40, e222_41, e222_44, e222_45, e222_48, e222_50, e222_51, e222_52, e222_53, e222_56, e222_57, e222_60, e222_62, e222_63, e222_64, e222_65, e222_68, e222_70, e222_71, e222_72, e222_73, e222_74, e222_75, e222_76, e222_79, e222_82, e222_83, mk_458 hM, mp_117 hM, mk_492 hM, mp_120 hM, mk_493 hM, ↓reduceIte, Nat.reduceAdd, Nat.reduceLeDiff, Nat.reduceLT, Nat.reduceEqDiff, not_false_eq_true, false_or, true_or, or_true, or_false, n0_e, n1_ne, n1_11, bI_z, bI_1, bI_fo, va_rf_some, aBk_1, aBk_0, nI_add, nI_mul, hk_si, hp_si, hl_si, hk_sp, hk_sl, hk_cp, hp_cp, h1, h2, h4, hr g h1, hr _ h2, hx, q1', m_within]
  · have q1' : r g < 0 := Int32.not_le.mp q1
    by_cases q2 : r (14 + g) = 0
    · have e : restB r g x = wi_ (r (7 + g) - nI 1) (nI 0) (nI 999) := (if_neg q1).trans (if_pos q2)
      refine ⟨si_ h 492 (7 + g) (wi_ (r (7 + g) - nI 1) (nI 0) (nI 999)), fun d => ?_, On.sa, by rw [e]; exact hr.si⟩
      simp only [e222_0, e222_1, e222_4, e222_5, e222_6, e222_9, e222_10, e222_13, e222_15, e222_16, e222_17, e222_18, e222_21, e222_23, e222_24, e222_25, e222_26, e222_27, e222_30, e222_31, e222_32, e222_33, e222_34, e222_37, e222_40, e222_41, e222_44, e222_45, e222_48, e222_50, e222_51, e222_52, e222_53, e222_56, e222_57, e222_60, e222_62, e222_63, e222_64, e222_65, e222_68, e222_70, e222_71, e222_72, e222_73, e222_74, e222_75, e222_76, e222_79, e222_82, e222_83, mk_458 hM, mp_117 hM, mk_492 hM, mp_120 hM, mk_493 hM, ↓reduceIte, Nat.reduceAdd, Nat.reduceLeDiff, Nat.reduceLT, Nat.reduceEqDiff, not_false_eq_true, false_or, true_or, or_true, or_false, n0_e, n1_ne, n1_11, bI_z, bI_1, bI_fo, va_rf_some, aBk_1, aBk_0, nI_add, nI_mul, hk_si, hp_si, hl_si, hk_sp, hk_sl, hk_cp, hp_cp, h1, h2, h3, hr g h1, hr _ h2, hr _ h3, q1', q2, m_within]
    · have e : restB r g x = r (7 + g) := (if_neg q1).trans (if_neg q2)
      refine ⟨h, fun d => ?_, On.refl, ?_⟩
      · simp only [e222_0, e222_1, e222_4, e222_5, e222_6, e222_9, e222_10, e222_13, e222_15, e222_16, e222_17, e222_18, e222_21, e222_23, e222_24, e222_25, e222_26, e222_27, e222_30, e222_31, e222_32, e222_33, e222_34, e222_37, e222_40, e222_41, e222_44, e222_45, e222_48, e222_50, e222_51, e222_52, e222_53, e222_56, e222_57, e222_60, e222_62, e222_63, e222_64, e222_65, e222_68, e222_70, e222_71, e222_72, e222_73, e222_74, e222_75, e222_76, e222_79, e222_82, e222_83, mk_458 hM, mp_117 hM, mk_492 hM, mp_120 hM, mk_493 hM, ↓reduceIte, Nat.reduceAdd, Nat.reduceLeDiff, Nat.reduceLT, Nat.reduceEqDiff, not_false_eq_true, false_or, true_or, or_true, or_false, n0_e, n1_ne, n1_11, bI_z, bI_1, bI_fo, va_rf_some, aBk_1, aBk_0, nI_add, nI_mul, hk_si, hp_si, hl_si, hk_sp, hk_sl, hk_cp, hp_cp, h1, h3, hr g h1, hr _ h3, q1', q2]
      · rw [e]
        refine hr.congr (fun k _ => ?_)
        unfold up_
        split
        · rename_i z; rw [z]
        · rfl
theorem m_mixed {x y : Int32} {d : Nat} : (run (d) 225 0 [.int x, .int y, aU] [] h) = some (.returned (some (.int (mix_ x y))), h) := by
  simp only [e225_0, e225_1, e225_2, e225_3, e225_6, e225_7, e225_10, e225_11, e225_12, e225_13, e225_14, e225_16, e225_17, e225_18, ↓reduceIte, Nat.reduceAdd, Nat.reduceLeDiff, Nat.reduceLT, Nat.reduceEqDiff, not_false_eq_true, false_or, true_or, or_true, or_false, n0_e, n1_ne, n1_11, bI_z, bI_1, bI_fo, va_rf_some, aBk_1, aBk_0, nI_add, nI_mul, hk_si, hp_si, hl_si, hk_sp, hk_sl, hk_cp, hp_cp]
  rfl
theorem n100_ne : (nI 100 = 0) = False := by decide
theorem m_lotOf (hM : MS h) (hl : hi_ h 458 118 = sd) {x : Int32} {d : Nat} : (run (d + 1) 224 0 [.ref 458, .int x] [] h) = some (.returned (some (.int (lot_ sd x))), h) := by
  simp only [e224_0, e224_1, e224_4, e224_7, e224_10, e224_11, e224_14, e224_15, e224_16, e224_18, e224_19, mk_458 hM, ↓reduceIte, Nat.reduceAdd, Nat.reduceLeDiff, Nat.reduceLT, Nat.reduceEqDiff, not_false_eq_true, false_or, true_or, or_true, or_false, n0_e, n1_ne, n1_11, bI_z, bI_1, bI_fo, va_rf_some, aBk_1, aBk_0, nI_add, nI_mul, hk_si, hp_si, hl_si, hk_sp, hk_sl, hk_cp, hp_cp, hl, m_mixed, n100_ne]
  rfl
def dieB (T : aTx) (r : Nat → Int32) (sd : Int32) (still : Bool) (g : Nat) : Bool := !still && decide (0 ≤ r g) && decide (de_ T ≤ r (7 + g)) && decide (lot_ sd (nI 8 * r 29 + nI g) < r (7 + g) - de_ T + nI 10)
theorem m_mayDie (hT : MT h T lv) (hr : RA h 492 r) (hl : hi_ h 458 118 = sd) (hs : hi_ h 458 119 = bI still) {g : Nat} (hg : g < ng_ T) : ∃ h', (∀ d, (run (d + 2) 223 0 [.ref 458, .int (nI g)] [] h) = some (.returned none, h')) ∧ On (AA 492) h h' ∧ RA h' 492 (if dieB T r sd still g = true then up_ (up_ r (14 + g) (nI 1)) g (-2) else r) := by
  have hM := hT.m
  have h7 := hT.ng7
  have h1 : g < 31 := by omega
  have h2 : 7 + g < 31 := by omega
  have h3 : 14 + g < 31 := by omega
  have hM2 : MS (si_ h 492 (14 + g) (nI 1)) := hM.on (On.si (S := AA 492) rfl)
  by_cases q : dieB T r sd still g = true
  · rw [if_pos q]
    unfold dieB at q
    simp only [Bool.and_eq_true, decide_eq_true_eq, Bool.not_eq_true'] at q
    obtain ⟨⟨⟨q1, q2⟩, q3⟩, q4⟩ := q
    have q2' : ¬ r g < 0 := Int32.not_lt.mpr q2
    rw [q1] at hs
    refine ⟨si_ (si_ h 492 (14 + g) (nI 1)) 492 g (-2), fun d => ?_, (On.sa).trans (On.sa), hr.si.si⟩
    simp only [e223_0, e223_1, e223_4, e223_7, e223_8, e223_11, e223_12, e223_13, e223_16, e223_17, e223_20, e223_22, e223_23, e223_24, e223_25, e223_26, e223_29, e223_30, e223_33, e223_34, e223_37, e223_38, e223_39, e223_41, e223_42, e223_45, e223_47, e223_48, e223_49, e223_50, e223_51, e223_54, e223_55, e223_58, e223_60, e223_61, e223_62, e223_63, e223_64, e223_67, e223_68, e223_71, e223_72, e223_73, e223_75, e223_76, e223_79, e223_80, e223_81, e223_84, e223_86, e223_87, e223_88, e223_89, e223_90, e223_91, e223_94, e223_95, e223_97, e223_98, mk_458 hM, mp_98 hM, mk_477 hM, mp_117 hM, mk_492 hM, mk_458 hM2, mp_98 hM2, mk_477 hM2, mp_117 hM2, mk_492 hM2, ↓reduceIte, Nat.reduceAdd, Nat.reduceLeDiff, Nat.reduceLT, Nat.reduceEqDiff, not_false_eq_true, false_or, true_or, or_true, or_false, n0_e, n1_ne, n1_11, bI_1, bI_fo, va_rf_some, aBk_1, aBk_0, nI_add, nI_mul, hk_si, hp_si, hl_si, hk_sp, hk_sl, hk_cp, hp_cp, hT.live, hT.l2, hT.de, h1, h2, h3, hr g h1, hr _ h2, hr 29 (by decide), hs, bI_z, hl, m_lotOf hM hl, q2', q3, q4]
  · rw [if_neg q]
    refine ⟨h, fun d => ?_, On.refl, hr⟩
    unfold dieB at q
    cases still with
    | true => simp only [e223_0, e223_1, e223_4, e223_7, e223_8, e223_11, e223_12, e223_13, e223_16, e223_17, e223_20, e223_22, e223_23, e223_24, e223_25, e223_26, e223_29, e223_30, e223_33, e223_34, e223_37, e223_38, e223_39, e223_41, e223_42, e223_45, e223_47, e223_48, e223_49, e223_50, e223_51, e223_54, e223_55, e223_58, e223_60, e223_61, e223_62, e223_63, e223_64, e223_67, e223_68, e223_71, e223_72, e223_73, e223_75, e223_76, e223_79, e223_80, e223_81, e223_84, e223_86, e223_87, e223_88, e223_89, e223_90, e223_91, e223_94, e223_95, e223_97, e223_98, mk_458 hM, mp_98 hM, mk_477 hM, mp_117 hM, mk_492 hM, ↓reduceIte, Nat.reduceAdd, Nat.reduceLeDiff, Nat.reduceLT, Nat.reduceEqDiff, not_false_eq_true, false_or, true_or, or_true, or_false, n0_e, n1_ne, n1_11, bI_1, bI_fo, va_rf_some, aBk_1, aBk_0, nI_add, nI_mul, hk_si, hp_si, hl_si, hk_sp, hk_sl, hk_cp, hp_cp, hs, bI_z, reduceCtorEq]
    | false =>
      by_cases q2 : 0 ≤ r g
      · have q2' : ¬ r g < 0 := Int32.not_lt.mpr q2
        by_cases q3 : de_ T ≤ r (7 + g)
        · have q4 : ¬ lot_ sd (nI 8 * r 29 + nI g) < r (7 + g) - de_ T + nI 10 := by
            intro q4
            simp [q2, q3, q4] at q
          simp only [e223_0, e223_1, e223_4, e223_7, e223_8, e223_11, e223_12, e223_13, e223_16, e223_17, e223_20, e223_22, e223_23, e223_24, e223_25, e223_26, e223_29, e223_30, e223_33, e223_34, e223_37, e223_38, e223_39, e223_41, e223_42, e223_45, e223_47, e223_48, e223_49, e223_50, e223_51, e223_54, e223_55, e223_58, e223_60, e223_61, e223_62, e223_63, e223_64, e223_67, e223_68, e223_71, e223_72, e223_73, e223_75, e223_76, e223_79, e223_80, e223_81, e223_84, e223_86, e223_87, e223_88, e223_89, e223_90, e223_91, e223_94, e223_95, e223_97, e223_98, mk_458 hM, mp_98 hM, mk_477 hM, mp_117 hM, mk_492 hM, ↓reduceIte, Nat.reduceAdd, Nat.reduceLeDiff, Nat.reduceLT, Nat.reduceEqDiff, not_false_eq_true, false_or, true_or, or_true, or_false, n0_e, n1_ne, n1_11, bI_1, bI_fo, va_rf_some, aBk_1, aBk_0, nI_add, nI_mul, hk_si, hp_si, hl_si, hk_sp, hk_sl, hk_cp, hp_cp, hT.live, hT.l2, hT.de, h1, h2, h3, hr g h1, hr _ h2, hr 29 (by decide), hs, bI_z, m_lotOf hM hl, q2', q3, q4]
        · simp only [e223_0, e223_1, e223_4, e223_7, e223_8, e223_11, e223_12, e223_13, e223_16, e223_17, e223_20, e223_22, e223_23, e223_24, e223_25, e223_26, e223_29, e223_30, e223_33, e223_34, e223_37, e223_38, e223_39, e223_41, e223_42, e223_45, e223_47, e223_48, e223_49, e223_50, e223_51, e223_54, e223_55, e223_58, e223_60, e223_61, e223_62, e223_63, e223_64, e223_67, e223_68, e223_71, e223_72, e223_73, e223_75, e223_76, e223_79, e223_80, e223_81, e223_84, e223_86, e223_87, e223_88, e223_89, e223_90, e223_91, e223_94, e223_95, e223_97, e223_98, mk_458 hM, mp_98 hM, mk_477 hM, mp_117 hM, mk_492 hM, ↓reduceIte, Nat.reduceAdd, Nat.reduceLeDiff, Nat.reduceLT, Nat.reduceEqDiff, not_false_eq_true, false_or, true_or, or_true, or_false, n0_e, n1_ne, n1_11, bI_1, bI_fo, va_rf_some, aBk_1, aBk_0, nI_add, nI_mul, hk_si, hp_si, hl_si, hk_sp, hk_sl, hk_cp, hp_cp, hT.live, hT.l2, hT.de, h1, h2, h3, hr g h1, hr _ h2, hs, bI_z, q2', q3]
      · have q2' : r g < 0 := Int32.not_le.mp q2
        simp only [e223_0, e223_1, e223_4, e223_7, e223_8, e223_11, e223_12, e223_13, e223_16, e223_17, e223_20, e223_22, e223_23, e223_24, e223_25, e223_26, e223_29, e223_30, e223_33, e223_34, e223_37, e223_38, e223_39, e223_41, e223_42, e223_45, e223_47, e223_48, e223_49, e223_50, e223_51, e223_54, e223_55, e223_58, e223_60, e223_61, e223_62, e223_63, e223_64, e223_67, e223_68, e223_71, e223_72, e223_73, e223_75, e223_76, e223_79, e223_80, e223_81, e223_84, e223_86, e223_87, e223_88, e223_89, e223_90, e223_91, e223_94, e223_95, e223_97, e223_98, mk_458 hM, mp_98 hM, mk_477 hM, mp_117 hM, mk_492 hM, ↓reduceIte, Nat.reduceAdd, Nat.reduceLeDiff, Nat.reduceLT, Nat.reduceEqDiff, not_false_eq_true, false_or, true_or, or_true, or_false, n0_e, n1_ne, n1_11, bI_1, bI_fo, va_rf_some, aBk_1, aBk_0, nI_add, nI_mul, hk_si, hp_si, hl_si, hk_sp, hk_sl, hk_cp, hp_cp, h1, hr g h1, hs, bI_z, q2']
/-- the stages of a week -/
def st1 (T : aTx) (r : Nat → Int32) : Nat → Int32 := up_ r 30 (r 30 + due_ T r)
def st2 (T : aTx) (r : Nat → Int32) (j : Nat) : Nat → Int32 := fun k => if 7 ≤ k ∧ k < 7 + j then rs_ T r (k - 7) else st1 T r k
def st3 (T : aTx) (r : Nat → Int32) (j : Nat) : Nat → Int32 := fun k => if 21 ≤ k ∧ k < 21 + j then wi_ (r k + wO_ T r (k - 21)) (nI 0) (nI 99) else st2 T r (ng_ T) k
def st4 (T : aTx) (r : Nat → Int32) (sd : Int32) (still : Bool) (j : Nat) : Nat → Int32 := fun k => if k < j ∧ still = false ∧ dies_ T r sd k = true then -2 else if 14 ≤ k ∧ k < 14 + j ∧ still = false ∧ dies_ T r sd (k - 14) = true then nI 1 else st3 T r (ns_ T) k
theorem st5_ (hV : TV T) : ∀ k, k < 31 → up_ (st4 T r sd still (ng_ T)) 29 (r 29 + nI 1) k = wk_ T still sd r k := by
  intro k hk
  have h7 := hV.2.1
  have h4 := hV.1
  unfold up_ wk_ st4 st3 st2 st1 up_
  by_cases a1 : k < 7
  · simp only [a1, show ¬ k = 29 by omega, show ¬ (14 ≤ k) by omega, show ¬ (21 ≤ k) by omega, show ¬ (7 ≤ k) by omega, show ¬ k = 30 by omega, false_and, ↓reduceIte]
  · by_cases a2 : k < 14
    · simp only [a1, a2, show ¬ k = 29 by omega, show ¬ k < ng_ T by omega, show ¬ (14 ≤ k) by omega, show ¬ (21 ≤ k) by omega, show (7 ≤ k) by omega, show ¬ k = 30 by omega, false_and, true_and, ↓reduceIte]
      by_cases b : k < 7 + ng_ T
      · rw [if_pos b, if_pos (by omega)]
      · rw [if_neg b, if_neg (by omega)]
    · by_cases a3 : k < 21
      · have c1 : ¬ (7 ≤ k ∧ k < 7 + ng_ T) := by omega
        simp only [a1, a2, a3, c1, show ¬ k = 29 by omega, show ¬ k < ng_ T by omega, show (14 ≤ k) by omega, show ¬ (21 ≤ k) by omega, show ¬ k = 30 by omega, false_and, true_and, ↓reduceIte]
        by_cases b : k < 14 + ng_ T
        · simp only [b, show k - 14 < ng_ T by omega, true_and]
        · simp only [b, show ¬ k - 14 < ng_ T by omega, false_and, ↓reduceIte]
      · have c1 : ¬ (7 ≤ k ∧ k < 7 + ng_ T) := by omega
        have c2 : ¬ k < 14 + ng_ T := by omega
        simp only [a1, a2, a3, c1, c2, show ¬ k < ng_ T by omega, false_and, and_false, ↓reduceIte]
        by_cases a4 : k < 25
        · simp only [a4, show ¬ k = 29 by omega, show (21 ≤ k) by omega, show ¬ k = 30 by omega, true_and, ↓reduceIte]
          by_cases b : k < 21 + ns_ T
          · rw [if_pos b, if_pos (by omega)]
          · rw [if_neg b, if_neg (by omega)]
        · simp only [a4, show ¬ (21 ≤ k ∧ k < 21 + ns_ T) by omega, ↓reduceIte]
theorem m_weekGoes (hT : MT h T lv) (hr : RA h 492 r) (hw : RW T r) (hl : hi_ h 458 118 = sd) (hs : hi_ h 458 119 = bI still) : ∃ h', (∀ d, (run (d + 5) 220 0 [.ref 458, aU, aU] [] h) = some (.returned none, h')) ∧ On VP h h' ∧ RA h' 492 (wk_ T still sd r) := by
  have h7 := hT.ng7
  have h4 := hT.ns4
  have hM := hT.m
  have e3 : ∀ {a f}, EP a f → a = 493 ∨ a = 494 ∨ EP a f := fun q => Or.inr (Or.inr q)
  -- what is due
  obtain ⟨h1, e1, o1⟩ := m_dueAll hT hr hw
  have hT1 := hT.onE o1
  have hM1 := hT1.m
  have r1 := hr.onE o1
  -- rests
  refine Exists.elim (run_invd (F := fun d j x => (run (d + 5) 220 7 [.ref 458, .int (due_ T r), .int (nI j)] [] x)) (I := fun j x => On (fun a f => a = 493 ∨ a = 494 ∨ EP a f) h1 x ∧ ∀ k, k < j → hi_ x 493 k = rO_ T r k) (n := ng_ T) (x := h1) ⟨On.refl, fun k hk => absurd hk (Nat.not_lt_zero k)⟩ (fun j x hj hI => ?_)) (fun h2 hh => ?_)
  · obtain ⟨o, hq⟩ := hI
    have hTx := hT1.on o (fun a f q => by unfold WP VP; rcases q with q | q | q <;> simp [q])
    have hMx := hTx.m
    have rx : RA x 492 r := r1.on o (fun f q => by unfold EP PP at q; omega)
    obtain ⟨y, e, oy⟩ := m_restsOf hTx rx hw hj
    have hMy := hMx.on oy
    have h1 : ¬ nI (ng_ T) ≤ nI j := nI_ge hj (by omega)
    have h2 : j < 7 := by omega
    refine ⟨si_ y 493 j (rO_ T r j), fun d => ?_, (o.trans (oy.mono (fun _ _ q => e3 q))).trans (On.si (Or.inl rfl)), ?_⟩
    · refine (e220_7).trans ?_
      simp only [e220_8, e220_9, e220_12, e220_13, e220_16, e220_17, e220_20, e220_21, e220_24, e220_25, e220_26, e220_27, e220_30, e220_31, e220_34, mk_458 hMx, mp_89 hMx, mk_468 hMx, mp_92 hMx, mk_471 hMx, mp_117 hMx, mk_492 hMx, mp_120 hMx, mk_493 hMx, mp_121 hMx, mk_494 hMx, mk_458 hMy, mp_89 hMy, mk_468 hMy, mp_92 hMy, mk_471 hMy, mp_117 hMy, mk_492 hMy, mp_120 hMy, mk_493 hMy, mp_121 hMy, mk_494 hMy, ↓reduceIte, Nat.reduceAdd, Nat.reduceLeDiff, Nat.reduceLT, Nat.reduceEqDiff, not_false_eq_true, false_or, true_or, or_true, or_false, n0_e, n1_ne, n1_11, bI_z, bI_1, bI_fo, va_rf_some, aBk_1, aBk_0, nI_add, nI_mul, hk_si, hp_si, hl_si, hk_sp, hk_sl, hk_cp, hp_cp, hTx.live, hTx.ng, hTx.l2, h1, h2, e]
    · intro k hk
      rw [hi_si]
      by_cases q : k = j
      · rw [q, if_pos ⟨rfl, rfl⟩]
      · rw [if_neg (fun z => q z.2)]
        exact (oy.i (fun q => by unfold EP PP at q; omega)).trans (hq k (by omega))
  obtain ⟨e2, o2, q2⟩ := hh
  have hT2 := hT1.on o2 (fun a f q => by unfold WP VP; rcases q with q | q | q <;> simp [q])
  have hM2 := hT2.m
  have r2 : RA h2 492 r := r1.on o2 (fun f q => by unfold EP PP at q; omega)
  -- wears
  refine Exists.elim (run_invd (F := fun d j x => (run (d + 5) 220 39 [.ref 458, .int (due_ T r), .int (nI j)] [] x)) (I := fun j x => On (fun a f => a = 494 ∨ EP a f) h2 x ∧ ∀ k, k < j → hi_ x 494 k = wO_ T r k) (n := ns_ T) (x := h2) ⟨On.refl, fun k hk => absurd hk (Nat.not_lt_zero k)⟩ (fun j x hj hI => ?_)) (fun h3 hh => ?_)
  · obtain ⟨o, hq⟩ := hI
    have hTx := hT2.on o (fun a f q => by unfold WP VP; rcases q with q | q <;> simp [q])
    have hMx := hTx.m
    have rx : RA x 492 r := r2.on o (fun f q => by unfold EP PP at q; omega)
    obtain ⟨y, e, oy⟩ := m_wearsOf hTx rx hj
    have hMy := hMx.on oy
    have h1 : ¬ nI (ns_ T) ≤ nI j := nI_ge hj (by omega)
    have h2 : j < 4 := by omega
    refine ⟨si_ y 494 j (wO_ T r j), fun d => ?_, (o.trans (oy.mono (fun _ _ q => Or.inr q))).trans (On.si (Or.inl rfl)), ?_⟩
    · refine (e220_39).trans ?_
      simp only [e220_40, e220_41, e220_44, e220_45, e220_48, e220_49, e220_52, e220_53, e220_56, e220_57, e220_58, e220_59, e220_62, e220_63, e220_66, mk_458 hMx, mp_89 hMx, mk_468 hMx, mp_92 hMx, mk_471 hMx, mp_117 hMx, mk_492 hMx, mp_120 hMx, mk_493 hMx, mp_121 hMx, mk_494 hMx, mk_458 hMy, mp_89 hMy, mk_468 hMy, mp_92 hMy, mk_471 hMy, mp_117 hMy, mk_492 hMy, mp_120 hMy, mk_493 hMy, mp_121 hMy, mk_494 hMy, ↓reduceIte, Nat.reduceAdd, Nat.reduceLeDiff, Nat.reduceLT, Nat.reduceEqDiff, not_false_eq_true, false_or, true_or, or_true, or_false, n0_e, n1_ne, n1_11, bI_z, bI_1, bI_fo, va_rf_some, aBk_1, aBk_0, nI_add, nI_mul, hk_si, hp_si, hl_si, hk_sp, hk_sl, hk_cp, hp_cp, hTx.live, hTx.ns, hTx.l2, h1, h2, e]
    · intro k hk
      rw [hi_si]
      by_cases q : k = j
      · rw [q, if_pos ⟨rfl, rfl⟩]
      · rw [if_neg (fun z => q z.2)]
        exact (oy.i (fun q => by unfold EP PP at q; omega)).trans (hq k (by omega))
  obtain ⟨e3', o3, q3⟩ := hh
  have hT3 := hT2.on o3 (fun a f q => by unfold WP VP; rcases q with q | q <;> simp [q])
  have hM3 := hT3.m
  have r3 : RA h3 492 r := r2.on o3 (fun f q => by unfold EP PP at q; omega)
  have q2' : ∀ k, k < ng_ T → hi_ h3 493 k = rO_ T r k := fun k hk => (o3.i (fun q => by unfold EP PP at q; omega)).trans (q2 k hk)
  have w2 : ∀ a f, AA 492 a f → WP a f := fun a f q => Or.inl (Or.inr (Or.inl q))
  have o4 : On (AA 492) h3 (si_ h3 492 30 (r 30 + due_ T r)) := On.sa
  have r4 : RA (si_ h3 492 30 (r 30 + due_ T r)) 492 (st1 T r) := r3.si
  -- rests in
  refine Exists.elim (run_invd (F := fun d j x => (run (d + 5) 220 82 [.ref 458, .int (due_ T r), .int (nI j)] [] x)) (I := fun j x => On (AA 492) h3 x ∧ RA x 492 (st2 T r j)) (n := ng_ T) (x := si_ h3 492 30 (r 30 + due_ T r)) ⟨o4, r4.congr (fun k hk => (if_neg (by omega)).symm)⟩ (fun j x hj hI => ?_)) (fun h5 hh => ?_)
  · obtain ⟨o, rx⟩ := hI
    have hTx := hT3.on o w2
    have hMx := hTx.m
    obtain ⟨y, e, oy, ry⟩ := m_restsIn hTx rx hj ((o.i (show ¬ 493 = 492 by decide)).trans (q2' j hj))
    have h1 : ¬ nI (ng_ T) ≤ nI j := nI_ge hj (by omega)
    refine ⟨y, fun d => ?_, o.trans oy, ry.congr (fun k hk => ?_)⟩
    · refine (e220_82).trans ?_
      simp only [e220_83, e220_84, e220_87, e220_88, e220_91, e220_92, e220_95, e220_96, e220_97, e220_100, e220_103, mk_458 hMx, mp_89 hMx, mk_468 hMx, mp_92 hMx, mk_471 hMx, mp_117 hMx, mk_492 hMx, mp_120 hMx, mk_493 hMx, mp_121 hMx, mk_494 hMx, ↓reduceIte, Nat.reduceAdd, Nat.reduceLeDiff, Nat.reduceLT, Nat.reduceEqDiff, not_false_eq_true, false_or, true_or, or_true, or_false, n0_e, n1_ne, n1_11, bI_z, bI_1, bI_fo, va_rf_some, aBk_1, aBk_0, nI_add, nI_mul, hk_si, hp_si, hl_si, hk_sp, hk_sl, hk_cp, hp_cp, hTx.live, hTx.ng, hTx.l2, h1, e]
    · have s1 : st2 T r j j = r j := by
        unfold st2 st1 up_
        rw [if_neg (by omega), if_neg (by omega)]
      have s2 : st2 T r j (7 + j) = r (7 + j) := by
        unfold st2 st1 up_
        rw [if_neg (by omega), if_neg (by omega)]
      have s3 : st2 T r j (14 + j) = r (14 + j) := by
        unfold st2 st1 up_
        rw [if_neg (by omega), if_neg (by omega)]
      have e : restB (st2 T r j) j (rO_ T r j) = rs_ T r j := by
        unfold restB rs_
        rw [s1, s2, s3]
      rw [e]
      unfold up_
      by_cases q : k = 7 + j
      · rw [if_pos q]
        unfold st2
        rw [if_pos (by omega), q, Nat.add_sub_cancel_left]
      · rw [if_neg q]
        unfold st2
        by_cases q' : 7 ≤ k ∧ k < 7 + j
        · rw [if_pos q', if_pos (by omega)]
        · rw [if_neg q', if_neg (by omega)]
  obtain ⟨e5, o5, r5⟩ := hh
  have hT5 := hT3.on o5 w2
  have hM5 := hT5.m
  -- worn
  refine Exists.elim (run_invd (F := fun d j x => (run (d + 5) 220 108 [.ref 458, .int (due_ T r), .int (nI j)] [] x)) (I := fun j x => On (AA 492) h3 x ∧ RA x 492 (st3 T r j)) (n := ns_ T) (x := h5) ⟨o5, r5.congr (fun k hk => (if_neg (by omega)).symm)⟩ (fun j x hj hI => ?_)) (fun h6 hh => ?_)
  · obtain ⟨o, rx⟩ := hI
    have hTx := hT3.on o w2
    have hMx := hTx.m
    have h1 : ¬ nI (ns_ T) ≤ nI j := nI_ge hj (by omega)
    have h2 : 21 + j < 31 := by omega
    have h3' : j < 4 := by omega
    have s1 : st3 T r j (21 + j) = r (21 + j) := by
      unfold st3 st2 st1 up_
      rw [if_neg (by omega), if_neg (by omega), if_neg (by omega)]
    have q : hi_ x 494 j = wO_ T r j := (o.i (show ¬ 494 = 492 by decide)).trans (q3 j hj)
    have e21 := rx (21 + j) h2
    rw [s1] at e21
    refine ⟨si_ x 492 (21 + j) (wi_ (r (21 + j) + wO_ T r j) (nI 0) (nI 99)), fun d => ?_, o.trans (On.sa), rx.si.congr (fun k hk => ?_)⟩
    · refine (e220_108).trans ?_
      simp only [e220_109, e220_110, e220_113, e220_114, e220_117, e220_118, e220_121, e220_122, e220_125, e220_127, e220_128, e220_129, e220_130, e220_133, e220_135, e220_136, e220_137, e220_138, e220_139, e220_142, e220_143, e220_144, e220_145, e220_146, e220_148, e220_151, e220_152, e220_155, mk_458 hMx, mp_89 hMx, mk_468 hMx, mp_92 hMx, mk_471 hMx, mp_117 hMx, mk_492 hMx, mp_120 hMx, mk_493 hMx, mp_121 hMx, mk_494 hMx, ↓reduceIte, Nat.reduceAdd, Nat.reduceLeDiff, Nat.reduceLT, Nat.reduceEqDiff, not_false_eq_true, false_or, true_or, or_true, or_false, n0_e, n1_ne, n1_11, bI_z, bI_1, bI_fo, va_rf_some, aBk_1, aBk_0, nI_add, nI_mul, hk_si, hp_si, hl_si, hk_sp, hk_sl, hk_cp, hp_cp, hTx.live, hTx.ns, hTx.l2, h1, h2, h3', e21, q, m_within]
    · unfold up_
      by_cases q : k = 21 + j
      · rw [if_pos q]
        unfold st3
        rw [if_pos (by omega), q, Nat.add_sub_cancel_left]
      · rw [if_neg q]
        unfold st3
        by_cases q' : 21 ≤ k ∧ k < 21 + j
        · rw [if_pos q', if_pos (by omega)]
        · rw [if_neg q', if_neg (by omega)]
  obtain ⟨e6, o6, r6⟩ := hh
  have hT6 := hT3.on o6 w2
  have hM6 := hT6.m
  have oall : ∀ {x}, On (AA 492) h3 x → On VP h x := fun o => ((((o1.mono (fun _ _ q => q.V)).trans (o2.mono (fun a f q => by unfold VP; rcases q with q | q | q <;> simp [q]))).trans (o3.mono (fun a f q => by unfold VP; rcases q with q | q <;> simp [q])))).trans (o.mono (fun a f q => Or.inr (Or.inl q)))
  -- deaths
  refine Exists.elim (run_invd (F := fun d j x => (run (d + 5) 220 160 [.ref 458, .int (due_ T r), .int (nI j)] [] x)) (I := fun j x => On (AA 492) h3 x ∧ RA x 492 (st4 T r sd still j)) (n := ng_ T) (x := h6) ⟨o6, r6.congr (fun k hk => ((if_neg (by omega)).trans (if_neg (by omega))).symm)⟩ (fun j x hj hI => ?_)) (fun h8 hh => ?_)
  · obtain ⟨o, rx⟩ := hI
    have hTx := hT3.on o w2
    have hMx := hTx.m
    have h1 : ¬ nI (ng_ T) ≤ nI j := nI_ge hj (by omega)
    have ov := oall o
    have hlx : hi_ x 458 118 = sd := (ov.i (fun q => by unfold VP EP PP at q; omega)).trans hl
    have hsx : hi_ x 458 119 = bI still := (ov.i (fun q => by unfold VP EP PP at q; omega)).trans hs
    obtain ⟨y, e, oy, ry⟩ := m_mayDie hTx rx hlx hsx hj
    refine ⟨y, fun d => ?_, o.trans oy, ry.congr (fun k hk => ?_)⟩
    · refine (e220_160).trans ?_
      simp only [e220_161, e220_162, e220_165, e220_166, e220_169, e220_170, e220_173, e220_174, e220_175, e220_178, e220_181, mk_458 hMx, mp_89 hMx, mk_468 hMx, mp_92 hMx, mk_471 hMx, mp_117 hMx, mk_492 hMx, mp_120 hMx, mk_493 hMx, mp_121 hMx, mk_494 hMx, ↓reduceIte, Nat.reduceAdd, Nat.reduceLeDiff, Nat.reduceLT, Nat.reduceEqDiff, not_false_eq_true, false_or, true_or, or_true, or_false, n0_e, n1_ne, n1_11, bI_z, bI_1, bI_fo, va_rf_some, aBk_1, aBk_0, nI_add, nI_mul, hk_si, hp_si, hl_si, hk_sp, hk_sl, hk_cp, hp_cp, hTx.live, hTx.ng, hTx.l2, h1, e]
    · have s1 : st4 T r sd still j j = r j := by
        unfold st4 st3 st2 st1 up_
        rw [if_neg (by omega), if_neg (by omega), if_neg (by omega), if_neg (by omega), if_neg (by omega)]
      have s2 : st4 T r sd still j (7 + j) = rs_ T r j := by
        unfold st4 st3 st2
        rw [if_neg (by omega), if_neg (by omega), if_neg (by omega), if_pos (by omega), Nat.add_sub_cancel_left]
      have s3 : st4 T r sd still j 29 = r 29 := by
        unfold st4 st3 st2 st1 up_
        rw [if_neg (by omega), if_neg (by omega), if_neg (by omega), if_neg (by omega), if_neg (by omega)]
      have e : dieB T (st4 T r sd still j) sd still j = (!still && dies_ T r sd j) := by
        unfold dieB dies_
        rw [s1, s2, s3, Bool.and_assoc, Bool.and_assoc, Bool.and_assoc]
      rw [e]
      cases still with
      | true =>
        rw [if_neg (by simp)]
        unfold st4
        simp only [reduceCtorEq, false_and, and_false, ↓reduceIte]
      | false =>
        cases hD : dies_ T r sd j with
        | false =>
          rw [if_neg (by decide)]
          unfold st4
          by_cases b1 : k = j
          · rw [b1, if_neg (by omega), if_neg (by omega), if_neg (by rw [hD]; simp), if_neg (by omega)]
          · by_cases b2 : k = 14 + j
            · rw [b2, if_neg (by omega), if_neg (by omega), if_neg (by omega), if_neg (by rw [Nat.add_sub_cancel_left, hD]; simp)]
            · have c1 : (k < j + 1) = (k < j) := propext (by omega)
              have c2 : (k < 14 + (j + 1)) = (k < 14 + j) := propext (by omega)
              simp only [c1, c2]
        | true =>
          rw [if_pos (by decide)]
          unfold up_
          by_cases b1 : k = j
          · rw [if_pos b1]
            unfold st4
            rw [b1, if_pos ⟨by omega, rfl, hD⟩]
          · rw [if_neg b1]
            by_cases b2 : k = 14 + j
            · rw [if_pos b2]
              unfold st4
              rw [b2, if_neg (by omega), if_pos ⟨by omega, by omega, rfl, by rw [Nat.add_sub_cancel_left]; exact hD⟩]
            · rw [if_neg b2]
              unfold st4
              have c1 : (k < j + 1) = (k < j) := propext (by omega)
              have c2 : (k < 14 + (j + 1)) = (k < 14 + j) := propext (by omega)
              simp only [c1, c2]
  obtain ⟨e8, o8, r8⟩ := hh
  have hT8 := hT3.on o8 w2
  have hM8 := hT8.m
  have s9 : st4 T r sd still (ng_ T) 29 = r 29 := by
    unfold st4 st3 st2 st1 up_
    rw [if_neg (by omega), if_neg (by omega), if_neg (by omega), if_neg (by omega), if_neg (by omega)]
  have e29 := r8 29 (by decide)
  rw [s9] at e29
  refine ⟨si_ h8 492 29 (r 29 + nI 1), fun d => ?_, oall (o8.trans (On.sa)), r8.si.congr (st5_ hT.v)⟩
  simp only [e220_0, e220_1, e220_4, e220_5, e220_6, mk_458 hM, mp_89 hM, mk_468 hM, mp_92 hM, mk_471 hM, mp_117 hM, mk_492 hM, mp_120 hM, mk_493 hM, mp_121 hM, mk_494 hM, ↓reduceIte, Nat.reduceAdd, Nat.reduceLeDiff, Nat.reduceLT, Nat.reduceEqDiff, not_false_eq_true, false_or, true_or, or_true, or_false, n0_e, n1_ne, n1_11, bI_z, bI_1, bI_fo, va_rf_some, aBk_1, aBk_0, nI_add, nI_mul, hk_si, hp_si, hl_si, hk_sp, hk_sl, hk_cp, hp_cp, e1]
  refine (e2 d).trans ?_
  refine (e220_7).trans ?_
  simp only [e220_8, e220_9, e220_12, e220_13, e220_16, e220_17, e220_20, e220_21, e220_24, e220_25, e220_26, e220_27, e220_30, e220_31, e220_34, e220_37, e220_38, mk_458 hM2, mp_89 hM2, mk_468 hM2, mp_92 hM2, mk_471 hM2, mp_117 hM2, mk_492 hM2, mp_120 hM2, mk_493 hM2, mp_121 hM2, mk_494 hM2, ↓reduceIte, Nat.reduceAdd, Nat.reduceLeDiff, Nat.reduceLT, Nat.reduceEqDiff, not_false_eq_true, false_or, true_or, or_true, or_false, n0_e, n1_ne, n1_11, bI_z, bI_1, bI_fo, va_rf_some, aBk_1, aBk_0, nI_add, nI_mul, hk_si, hp_si, hl_si, hk_sp, hk_sl, hk_cp, hp_cp, hT2.live, hT2.ng, hT2.l2, Int32.le_refl]
  refine (e3' d).trans ?_
  refine (e220_39).trans ?_
  simp only [e220_40, e220_41, e220_44, e220_45, e220_48, e220_49, e220_52, e220_53, e220_56, e220_57, e220_58, e220_59, e220_62, e220_63, e220_66, e220_69, e220_70, e220_73, e220_75, e220_76, e220_77, e220_78, e220_79, e220_80, e220_81, mk_458 hM3, mp_89 hM3, mk_468 hM3, mp_92 hM3, mk_471 hM3, mp_117 hM3, mk_492 hM3, mp_120 hM3, mk_493 hM3, mp_121 hM3, mk_494 hM3, ↓reduceIte, Nat.reduceAdd, Nat.reduceLeDiff, Nat.reduceLT, Nat.reduceEqDiff, not_false_eq_true, false_or, true_or, or_true, or_false, n0_e, n1_ne, n1_11, bI_z, bI_1, bI_fo, va_rf_some, aBk_1, aBk_0, nI_add, nI_mul, hk_si, hp_si, hl_si, hk_sp, hk_sl, hk_cp, hp_cp, hT3.live, hT3.ns, hT3.l2, Int32.le_refl, r3 30 (by decide)]
  refine (e5 d).trans ?_
  refine (e220_82).trans ?_
  simp only [e220_83, e220_84, e220_87, e220_88, e220_91, e220_92, e220_95, e220_96, e220_97, e220_100, e220_103, e220_106, e220_107, mk_458 hM5, mp_89 hM5, mk_468 hM5, mp_92 hM5, mk_471 hM5, mp_117 hM5, mk_492 hM5, mp_120 hM5, mk_493 hM5, mp_121 hM5, mk_494 hM5, ↓reduceIte, Nat.reduceAdd, Nat.reduceLeDiff, Nat.reduceLT, Nat.reduceEqDiff, not_false_eq_true, false_or, true_or, or_true, or_false, n0_e, n1_ne, n1_11, bI_z, bI_1, bI_fo, va_rf_some, aBk_1, aBk_0, nI_add, nI_mul, hk_si, hp_si, hl_si, hk_sp, hk_sl, hk_cp, hp_cp, hT5.live, hT5.ng, hT5.l2, Int32.le_refl]
  refine (e6 d).trans ?_
  refine (e220_108).trans ?_
  simp only [e220_109, e220_110, e220_113, e220_114, e220_117, e220_118, e220_121, e220_122, e220_125, e220_127, e220_128, e220_129, e220_130, e220_133, e220_135, e220_136, e220_137, e220_138, e220_139, e220_142, e220_143, e220_144, e220_145, e220_146, e220_148, e220_151, e220_152, e220_155, e220_158, e220_159, mk_458 hM6, mp_89 hM6, mk_468 hM6, mp_92 hM6, mk_471 hM6, mp_117 hM6, mk_492 hM6, mp_120 hM6, mk_493 hM6, mp_121 hM6, mk_494 hM6, ↓reduceIte, Nat.reduceAdd, Nat.reduceLeDiff, Nat.reduceLT, Nat.reduceEqDiff, not_false_eq_true, false_or, true_or, or_true, or_false, n0_e, n1_ne, n1_11, bI_z, bI_1, bI_fo, va_rf_some, aBk_1, aBk_0, nI_add, nI_mul, hk_si, hp_si, hl_si, hk_sp, hk_sl, hk_cp, hp_cp, hT6.live, hT6.ns, hT6.l2, Int32.le_refl]
  refine (e8 d).trans ?_
  refine (e220_160).trans ?_
  simp only [e220_161, e220_162, e220_165, e220_166, e220_169, e220_170, e220_173, e220_174, e220_175, e220_178, e220_181, e220_184, e220_185, e220_188, e220_190, e220_191, e220_192, e220_193, e220_194, e220_195, mk_458 hM8, mp_89 hM8, mk_468 hM8, mp_92 hM8, mk_471 hM8, mp_117 hM8, mk_492 hM8, mp_120 hM8, mk_493 hM8, mp_121 hM8, mk_494 hM8, ↓reduceIte, Nat.reduceAdd, Nat.reduceLeDiff, Nat.reduceLT, Nat.reduceEqDiff, not_false_eq_true, false_or, true_or, or_true, or_false, n0_e, n1_ne, n1_11, bI_z, bI_1, bI_fo, va_rf_some, aBk_1, aBk_0, nI_add, nI_mul, hk_si, hp_si, hl_si, hk_sp, hk_sl, hk_cp, hp_cp, hT8.live, hT8.ng, hT8.l2, Int32.le_refl, e29]
theorem wk_neg (hV : TV T) {g : Nat} (hg : g < ng_ T) : wk_ T still sd r g = -2 ∨ wk_ T still sd r g = r g := by
  have h7 := hV.2.1
  unfold wk_
  rw [if_pos (by omega)]
  split
  · exact Or.inl rfl
  · exact Or.inr rfl
theorem RW.wk (hV : TV T) (hw : RW T r) : RW T (wk_ T still sd r) := fun g hg => by
  rcases wk_neg (still := still) (sd := sd) (r := r) hV hg with e | e <;> rw [e]
  · exact Or.inl (by decide)
  · exact hw g hg
theorem RW.wks (hV : TV T) (hw : RW T r) (n : Nat) : RW T (wks_ T still sd n r) := by
  induction n with
  | zero => exact hw
  | succ n ih => exact ih.wk hV
theorem m_goes (hT : MT h T lv) (hr : RA h 492 r) (hw : RW T r) (hl : hi_ h 458 118 = sd) (hs : hi_ h 458 119 = bI still) {n : Nat} (hn : n < 2147483648) : ∃ h', (∀ d, (run (d + 6) 219 0 [.ref 458, .int (nI n), aU] [] h) = some (.returned none, h')) ∧ On VP h h' ∧ RA h' 492 (wks_ T still sd n r) := by
  have hM := hT.m
  refine Exists.elim (run_invd (F := fun d j x => (run (d + 6) 219 2 [.ref 458, .int (nI n), .int (nI j)] [] x)) (I := fun j x => On VP h x ∧ RA x 492 (wks_ T still sd j r)) (n := n) (x := h) ⟨On.refl, hr⟩ (fun j x hj hI => ?_)) (fun y hh => ?_)
  · obtain ⟨o, rx⟩ := hI
    have hTx := hT.onV o
    have hMx := hTx.m
    obtain ⟨y, e, oy, ry⟩ := m_weekGoes hTx rx (hw.wks hT.v j) ((o.i (fun q => by unfold VP EP PP at q; omega)).trans hl) ((o.i (fun q => by unfold VP EP PP at q; omega)).trans hs)
    have h1 : ¬ nI n ≤ nI j := nI_ge hj hn
    refine ⟨y, fun d => ?_, o.trans oy, ry⟩
    refine (e219_2).trans ?_
    simp only [e219_0, e219_1, e219_3, e219_4, e219_7, e219_8, e219_11, e219_14, e219_17, mk_458 hMx, ↓reduceIte, Nat.reduceAdd, Nat.reduceLeDiff, Nat.reduceLT, Nat.reduceEqDiff, not_false_eq_true, false_or, true_or, or_true, or_false, n0_e, n1_ne, n1_11, bI_z, bI_1, bI_fo, va_rf_some, aBk_1, aBk_0, nI_add, nI_mul, hk_si, hp_si, hl_si, hk_sp, hk_sl, hk_cp, hp_cp, h1, e]
  · obtain ⟨e, o, ry⟩ := hh
    refine ⟨y, fun d => ?_, o, ry⟩
    simp only [e219_0, e219_1, e219_3, e219_4, e219_7, e219_8, e219_11, e219_14, e219_17, ↓reduceIte, Nat.reduceAdd, Nat.reduceLeDiff, Nat.reduceLT, Nat.reduceEqDiff, not_false_eq_true, false_or, true_or, or_true, or_false, n0_e, n1_ne, n1_11, bI_z, bI_1, bI_fo, va_rf_some, aBk_1, aBk_0, nI_add, nI_mul, hk_si, hp_si, hl_si, hk_sp, hk_sl, hk_cp, hp_cp]
    refine (e d).trans ?_
    refine (e219_2).trans ?_
    simp only [e219_0, e219_1, e219_3, e219_4, e219_7, e219_8, e219_11, e219_14, e219_17, ↓reduceIte, Nat.reduceAdd, Nat.reduceLeDiff, Nat.reduceLT, Nat.reduceEqDiff, not_false_eq_true, false_or, true_or, or_true, or_false, n0_e, n1_ne, n1_11, bI_z, bI_1, bI_fo, va_rf_some, aBk_1, aBk_0, nI_add, nI_mul, hk_si, hp_si, hl_si, hk_sp, hk_sl, hk_cp, hp_cp, Int32.le_refl]
end M4
