set_option maxRecDepth 100000
/-! M: questions (2): weeks ahead -/
section M6
variable {lv d : Nat} {h h' : aH} {T : aTx} {w r : Nat → Int32} {sd : Int32} {still : Bool}
theorem VP.l {f : Nat} (q : VP 458 f) : f = 115 := by unfold VP EP PP at q; omega
theorem On.lot (o : On VP h h') (hl : hi_ h 458 118 = sd) : hi_ h' 458 118 = sd := (o.i (fun q => absurd q.l (by decide))).trans hl
theorem On.stl (o : On VP h h') (hs : hi_ h 458 119 = bI still) : hi_ h' 458 119 = bI still := (o.i (fun q => absurd q.l (by decide))).trans hs
theorem RA.now (hn : RA h 491 w) (o : On WP h h') : RA h' 491 w := hn.on o (fun f q => by unfold WP VP EP PP at q; omega)
theorem m_isWeary (hT : MT h T lv) (hr : RA h 492 r) {g : Nat} (hg : g < ng_ T) : (run (d) 256 0 [.ref 458, .int (nI g)] [] h) = some (.returned (some (.int (bI (decide (de_ T ≤ r (7 + g)))))), h) := by
  have hM := hT.m
  have h7 := hT.ng7
  have h2 : 7 + g < 31 := by omega
  by_cases q : de_ T ≤ r (7 + g)
  · have q' : ¬ r (7 + g) < de_ T := Int32.not_lt.mpr q
    simp only [e256_0, e256_1, e256_4, e256_6, e256_7, e256_8, e256_9, e256_10, e256_13, e256_14, e256_17, e256_18, e256_21, e256_22, e256_25, e256_26, mk_458 hM, mp_98 hM, mk_477 hM, mp_117 hM, mk_492 hM, ↓reduceIte, Nat.reduceAdd, Nat.reduceLeDiff, Nat.reduceLT, Nat.reduceEqDiff, not_false_eq_true, false_or, true_or, or_true, or_false, n0_e, n1_ne, n1_11, bI_z, bI_1, bI_fo, va_rf_some, aBk_1, aBk_0, nI_add, nI_mul, hk_si, hp_si, hl_si, hk_sp, hk_sl, hk_cp, hp_cp, h2, hr _ h2, hT.live, hT.l2, hT.de, q, q', n1_01, decide_true]
    rfl
  · have q' : r (7 + g) < de_ T := Int32.not_le.mp q
    simp only [e256_0, e256_1, e256_4, e256_6, e256_7, e256_8, e256_9, e256_10, e256_13, e256_14, e256_17, e256_18, e256_21, e256_22, e256_25, e256_26, mk_458 hM, mp_98 hM, mk_477 hM, mp_117 hM, mk_492 hM, ↓reduceIte, Nat.reduceAdd, Nat.reduceLeDiff, Nat.reduceLT, Nat.reduceEqDiff, not_false_eq_true, false_or, true_or, or_true, or_false, n0_e, n1_ne, n1_11, bI_z, bI_1, bI_fo, va_rf_some, aBk_1, aBk_0, nI_add, nI_mul, hk_si, hp_si, hl_si, hk_sp, hk_sl, hk_cp, hp_cp, h2, hr _ h2, hT.live, hT.l2, hT.de, q, q', n0_01, decide_false]
    rfl
theorem m_isLong {n : Int32} : (run (d + 1) 218 0 [.int n] [] h) = some (.returned (some (.int (bI (lng_ n)))), h) := by
  simp only [e218_0, e218_1, e218_2, e218_4, e218_7, ↓reduceIte, Nat.reduceAdd, Nat.reduceLeDiff, Nat.reduceLT, Nat.reduceEqDiff, not_false_eq_true, false_or, true_or, or_true, or_false, n0_e, n1_ne, n1_11, bI_z, bI_1, bI_fo, va_rf_some, aBk_1, aBk_0, nI_add, nI_mul, hk_si, hp_si, hl_si, hk_sp, hk_sl, hk_cp, hp_cp, m_in, bI_01]
  rfl
theorem m_isForSale (hT : MT h T lv) (hn : RA h 491 w) {s : Int32} : (run (d + 2) 259 0 [.ref 458, .int s] [] h) = some (.returned (some (.int (bI (sale_ T w s)))), h) := by
  have hM := hT.m
  unfold sale_
  cases hq : isS T s with
  | false =>
    simp only [e259_0, e259_1, e259_2, e259_5, e259_8, e259_9, e259_12, e259_14, e259_15, e259_16, e259_17, e259_20, e259_21, e259_24, e259_25, mk_458 hM, mp_116 hM, mk_491 hM, ↓reduceIte, Nat.reduceAdd, Nat.reduceLeDiff, Nat.reduceLT, Nat.reduceEqDiff, not_false_eq_true, false_or, true_or, or_true, or_false, n0_e, n1_ne, n1_11, bI_1, bI_fo, va_rf_some, aBk_1, aBk_0, nI_add, nI_mul, hk_si, hp_si, hl_si, hk_sp, hk_sl, hk_cp, hp_cp, m_isSunday hT, hq, bI_z, reduceCtorEq, n0_01, Bool.false_and]
    rfl
  | true =>
    obtain ⟨k, hk, rfl⟩ := isS_n hT.v hq
    have h4 := hT.ns4
    have h2 : 25 + k < 31 := by omega
    rw [kk_n (by omega)]
    by_cases q : w (25 + k) = 0
    · simp only [e259_0, e259_1, e259_2, e259_5, e259_8, e259_9, e259_12, e259_14, e259_15, e259_16, e259_17, e259_20, e259_21, e259_24, e259_25, mk_458 hM, mp_116 hM, mk_491 hM, ↓reduceIte, Nat.reduceAdd, Nat.reduceLeDiff, Nat.reduceLT, Nat.reduceEqDiff, not_false_eq_true, false_or, true_or, or_true, or_false, n0_e, n1_ne, n1_11, bI_1, bI_fo, va_rf_some, aBk_1, aBk_0, nI_add, nI_mul, hk_si, hp_si, hl_si, hk_sp, hk_sl, hk_cp, hp_cp, m_isSunday hT, hq, bI_z, reduceCtorEq, h2, hn _ h2, q, n1_01, Bool.true_and, decide_true]
      rfl
    · simp only [e259_0, e259_1, e259_2, e259_5, e259_8, e259_9, e259_12, e259_14, e259_15, e259_16, e259_17, e259_20, e259_21, e259_24, e259_25, mk_458 hM, mp_116 hM, mk_491 hM, ↓reduceIte, Nat.reduceAdd, Nat.reduceLeDiff, Nat.reduceLT, Nat.reduceEqDiff, not_false_eq_true, false_or, true_or, or_true, or_false, n0_e, n1_ne, n1_11, bI_1, bI_fo, va_rf_some, aBk_1, aBk_0, nI_add, nI_mul, hk_si, hp_si, hl_si, hk_sp, hk_sl, hk_cp, hp_cp, m_isSunday hT, hq, bI_z, reduceCtorEq, h2, hn _ h2, q, n0_01, Bool.true_and, decide_false]
      rfl
theorem ah_0 : ah_ T w 0 = w := rfl
theorem ah_s (n : Nat) : ah_ T w (n + 1) = wk_ T true (se_ T) (ah_ T w n) := rfl
theorem m_used (hT : MT h T lv) (hn : RA h 491 w) (hw : RW T w) (s v : Int32) : ∃ h', (∀ d, (run (d + 6) 253 0 [.ref 458, .int s, .int v, aU] [] h) = some (.returned (some (.int (qUsd T w s v))), h')) ∧ On WP h h' := by
  have hM := hT.m
  unfold qUsd
  cases hq : isS T s with
  | false =>
    refine ⟨h, fun d => ?_, On.refl⟩
    simp only [e253_0, e253_1, e253_2, e253_5, e253_8, e253_9, e253_10, e253_12, e253_15, e253_18, e253_19, e253_20, e253_21, e253_24, e253_25, e253_27, e253_29, e253_32, e253_33, e253_36, e253_38, e253_39, e253_40, e253_41, e253_42, e253_45, e253_46, e253_47, e253_48, e253_51, e253_54, e253_57, e253_59, mk_458 hM, mp_117 hM, mk_492 hM, ↓reduceIte, Nat.reduceAdd, Nat.reduceLeDiff, Nat.reduceLT, Nat.reduceEqDiff, not_false_eq_true, false_or, true_or, or_true, or_false, n0_e, n1_ne, n1_11, bI_1, bI_fo, va_rf_some, aBk_1, aBk_0, nI_add, nI_mul, hk_si, hp_si, hl_si, hk_sp, hk_sl, hk_cp, hp_cp, m_isSunday hT, hq, bI_z, reduceCtorEq, false_and]
  | true =>
    obtain ⟨k, hk, rfl⟩ := isS_n hT.v hq
    have h4 := hT.ns4
    have h2 : 21 + k < 31 := by omega
    rw [kk_n (by omega)]
    cases hq2 : in_ v (nI 1) (nI 99) with
    | false =>
      refine ⟨h, fun d => ?_, On.refl⟩
      simp only [e253_0, e253_1, e253_2, e253_5, e253_8, e253_9, e253_10, e253_12, e253_15, e253_18, e253_19, e253_20, e253_21, e253_24, e253_25, e253_27, e253_29, e253_32, e253_33, e253_36, e253_38, e253_39, e253_40, e253_41, e253_42, e253_45, e253_46, e253_47, e253_48, e253_51, e253_54, e253_57, e253_59, mk_458 hM, mp_117 hM, mk_492 hM, ↓reduceIte, Nat.reduceAdd, Nat.reduceLeDiff, Nat.reduceLT, Nat.reduceEqDiff, not_false_eq_true, false_or, true_or, or_true, or_false, n0_e, n1_ne, n1_11, bI_1, bI_fo, va_rf_some, aBk_1, aBk_0, nI_add, nI_mul, hk_si, hp_si, hl_si, hk_sp, hk_sl, hk_cp, hp_cp, m_isSunday hT, hq, hq2, m_in, bI_z, reduceCtorEq, and_false]
    | true =>
      rw [if_pos ⟨rfl, rfl⟩]
      obtain ⟨h1, e1, o1, r1, l1, s1⟩ := m_copiesStill hT hn
      have o1 : On WP h h1 := o1.mono (fun _ _ q => q.W)
      have hT1 := hT.onW o1
      have hM1 := hT1.m
      have key := run_findd (F := fun d j x => (run (d + 6) 253 26 [.ref 458, .int (nI k), .int v, .int (nI j)] [] x)) (R := fun d j x => some (.returned (some (.int (nI j))), x)) (I := fun j x => On VP h1 x ∧ RA x 492 (ah_ T w j)) (Q := fun j x => On VP h1 x) (P := fun n => decide (v ≤ ah_ T w n (21 + k))) (n := 101) (x := h1) ⟨On.refl, r1⟩ (fun j x hj hI => by
        obtain ⟨o, rx⟩ := hI
        have hTx := hT1.onV o
        have hMx := hTx.m
        have h1 : ¬ nI 100 < nI j := nI_nlt (by omega) (by decide)
        by_cases q : v ≤ ah_ T w j (21 + k)
        · have q' : ¬ ah_ T w j (21 + k) < v := Int32.not_lt.mpr q
          rw [if_pos (decide_eq_true q)]
          refine ⟨x, fun d => ?_, o⟩
          refine (e253_26).trans ?_
          simp only [e253_0, e253_1, e253_2, e253_5, e253_8, e253_9, e253_10, e253_12, e253_15, e253_18, e253_19, e253_20, e253_21, e253_24, e253_25, e253_27, e253_29, e253_32, e253_33, e253_36, e253_38, e253_39, e253_40, e253_41, e253_42, e253_45, e253_46, e253_47, e253_48, e253_51, e253_54, e253_57, e253_59, mk_458 hMx, mp_117 hMx, mk_492 hMx, ↓reduceIte, Nat.reduceAdd, Nat.reduceLeDiff, Nat.reduceLT, Nat.reduceEqDiff, not_false_eq_true, false_or, true_or, or_true, or_false, n0_e, n1_ne, n1_11, bI_z, bI_1, bI_fo, va_rf_some, aBk_1, aBk_0, nI_add, nI_mul, hk_si, hp_si, hl_si, hk_sp, hk_sl, hk_cp, hp_cp, h1, h2, rx _ h2, q']
        · have q' : ah_ T w j (21 + k) < v := Int32.not_le.mp q
          rw [if_neg (by rw [decide_eq_false q]; decide)]
          obtain ⟨y, e, oy, ry⟩ := m_weekGoes hTx rx (hw.wks hT.v j) (o.lot l1) (o.stl s1)
          refine ⟨y, fun d => ?_, o.trans oy, ry⟩
          refine (e253_26).trans ?_
          simp only [e253_0, e253_1, e253_2, e253_5, e253_8, e253_9, e253_10, e253_12, e253_15, e253_18, e253_19, e253_20, e253_21, e253_24, e253_25, e253_27, e253_29, e253_32, e253_33, e253_36, e253_38, e253_39, e253_40, e253_41, e253_42, e253_45, e253_46, e253_47, e253_48, e253_51, e253_54, e253_57, e253_59, mk_458 hMx, mp_117 hMx, mk_492 hMx, ↓reduceIte, Nat.reduceAdd, Nat.reduceLeDiff, Nat.reduceLT, Nat.reduceEqDiff, not_false_eq_true, false_or, true_or, or_true, or_false, n0_e, n1_ne, n1_11, bI_z, bI_1, bI_fo, va_rf_some, aBk_1, aBk_0, nI_add, nI_mul, hk_si, hp_si, hl_si, hk_sp, hk_sl, hk_cp, hp_cp, h1, h2, rx _ h2, q', e])
      revert key
      cases fnd (fun n => decide (v ≤ ah_ T w n (21 + k))) 101 0 with
      | some j =>
        rintro ⟨y, e, o⟩
        refine ⟨y, fun d => ?_, o1.trans (o.mono (fun _ _ q => q.W))⟩
        simp only [e253_0, e253_1, e253_2, e253_5, e253_8, e253_9, e253_10, e253_12, e253_15, e253_18, e253_19, e253_20, e253_21, e253_24, e253_25, e253_27, e253_29, e253_32, e253_33, e253_36, e253_38, e253_39, e253_40, e253_41, e253_42, e253_45, e253_46, e253_47, e253_48, e253_51, e253_54, e253_57, e253_59, mk_458 hM, mp_117 hM, mk_492 hM, ↓reduceIte, Nat.reduceAdd, Nat.reduceLeDiff, Nat.reduceLT, Nat.reduceEqDiff, not_false_eq_true, false_or, true_or, or_true, or_false, n0_e, n1_ne, n1_11, bI_1, bI_fo, va_rf_some, aBk_1, aBk_0, nI_add, nI_mul, hk_si, hp_si, hl_si, hk_sp, hk_sl, hk_cp, hp_cp, m_isSunday hT, hq, hq2, m_in, bI_z, reduceCtorEq, e1]
        exact e d
      | none =>
        rintro ⟨y, e, o, -⟩
        refine ⟨y, fun d => ?_, o1.trans (o.mono (fun _ _ q => q.W))⟩
        have h1 : nI 100 < nI 101 := by decide
        simp only [e253_0, e253_1, e253_2, e253_5, e253_8, e253_9, e253_10, e253_12, e253_15, e253_18, e253_19, e253_20, e253_21, e253_24, e253_25, e253_27, e253_29, e253_32, e253_33, e253_36, e253_38, e253_39, e253_40, e253_41, e253_42, e253_45, e253_46, e253_47, e253_48, e253_51, e253_54, e253_57, e253_59, mk_458 hM, mp_117 hM, mk_492 hM, ↓reduceIte, Nat.reduceAdd, Nat.reduceLeDiff, Nat.reduceLT, Nat.reduceEqDiff, not_false_eq_true, false_or, true_or, or_true, or_false, n0_e, n1_ne, n1_11, bI_1, bI_fo, va_rf_some, aBk_1, aBk_0, nI_add, nI_mul, hk_si, hp_si, hl_si, hk_sp, hk_sl, hk_cp, hp_cp, m_isSunday hT, hq, hq2, m_in, bI_z, reduceCtorEq, e1]
        refine (e d).trans ?_
        refine (e253_26).trans ?_
        simp only [e253_0, e253_1, e253_2, e253_5, e253_8, e253_9, e253_10, e253_12, e253_15, e253_18, e253_19, e253_20, e253_21, e253_24, e253_25, e253_27, e253_29, e253_32, e253_33, e253_36, e253_38, e253_39, e253_40, e253_41, e253_42, e253_45, e253_46, e253_47, e253_48, e253_51, e253_54, e253_57, e253_59, ↓reduceIte, Nat.reduceAdd, Nat.reduceLeDiff, Nat.reduceLT, Nat.reduceEqDiff, not_false_eq_true, false_or, true_or, or_true, or_false, n0_e, n1_ne, n1_11, bI_z, bI_1, bI_fo, va_rf_some, aBk_1, aBk_0, nI_add, nI_mul, hk_si, hp_si, hl_si, hk_sp, hk_sl, hk_cp, hp_cp, h1]
        rfl
theorem m_weary (hT : MT h T lv) (hn : RA h 491 w) (hw : RW T w) (g : Int32) : ∃ h', (∀ d, (run (d + 6) 257 0 [.ref 458, .int g, aU] [] h) = some (.returned (some (.int (qWry T w g))), h')) ∧ On WP h h' := by
  have hM := hT.m
  unfold qWry
  cases hq : isG T g with
  | false =>
    refine ⟨h, fun d => ?_, On.refl⟩
    simp only [e257_0, e257_1, e257_2, e257_5, e257_8, e257_9, e257_10, e257_11, e257_14, e257_15, e257_17, e257_19, e257_22, e257_23, e257_24, e257_27, e257_30, e257_31, e257_32, e257_33, e257_36, e257_39, e257_42, e257_44, mk_458 hM, ↓reduceIte, Nat.reduceAdd, Nat.reduceLeDiff, Nat.reduceLT, Nat.reduceEqDiff, not_false_eq_true, false_or, true_or, or_true, or_false, n0_e, n1_ne, n1_11, bI_1, bI_fo, va_rf_some, aBk_1, aBk_0, nI_add, nI_mul, hk_si, hp_si, hl_si, hk_sp, hk_sl, hk_cp, hp_cp, m_isGuest hT, hq, bI_z, reduceCtorEq]
  | true =>
    obtain ⟨k, hk, rfl⟩ := isG_n hT.v hq
    have h7 := hT.ng7
    rw [kk_n (by omega), if_pos rfl]
    obtain ⟨h1, e1, o1, r1, l1, s1⟩ := m_copiesStill hT hn
    have o1 : On WP h h1 := o1.mono (fun _ _ q => q.W)
    have hT1 := hT.onW o1
    have hM1 := hT1.m
    have key := run_findd (F := fun d j x => (run (d + 6) 257 16 [.ref 458, .int (nI k), .int (nI j)] [] x)) (R := fun d j x => some (.returned (some (.int (nI j))), x)) (I := fun j x => On VP h1 x ∧ RA x 492 (ah_ T w j)) (Q := fun j x => On VP h1 x) (P := fun n => decide (de_ T ≤ ah_ T w n (7 + k))) (n := 101) (x := h1) ⟨On.refl, r1⟩ (fun j x hj hI => by
      obtain ⟨o, rx⟩ := hI
      have hTx := hT1.onV o
      have hMx := hTx.m
      have h1 : ¬ nI 100 < nI j := nI_nlt (by omega) (by decide)
      have ew := fun d => m_isWeary (d := d) hTx rx hk
      by_cases q : de_ T ≤ ah_ T w j (7 + k)
      · rw [if_pos (decide_eq_true q)]
        refine ⟨x, fun d => ?_, o⟩
        refine (e257_16).trans ?_
        simp only [e257_0, e257_1, e257_2, e257_5, e257_8, e257_9, e257_10, e257_11, e257_14, e257_15, e257_17, e257_19, e257_22, e257_23, e257_24, e257_27, e257_30, e257_31, e257_32, e257_33, e257_36, e257_39, e257_42, e257_44, mk_458 hMx, ↓reduceIte, Nat.reduceAdd, Nat.reduceLeDiff, Nat.reduceLT, Nat.reduceEqDiff, not_false_eq_true, false_or, true_or, or_true, or_false, n0_e, n1_ne, n1_11, bI_1, bI_fo, va_rf_some, aBk_1, aBk_0, nI_add, nI_mul, hk_si, hp_si, hl_si, hk_sp, hk_sl, hk_cp, hp_cp, h1, ew, q, decide_true, bI_z, reduceCtorEq]
      · rw [if_neg (by rw [decide_eq_false q]; decide)]
        obtain ⟨y, e, oy, ry⟩ := m_weekGoes hTx rx (hw.wks hT.v j) (o.lot l1) (o.stl s1)
        refine ⟨y, fun d => ?_, o.trans oy, ry⟩
        refine (e257_16).trans ?_
        simp only [e257_0, e257_1, e257_2, e257_5, e257_8, e257_9, e257_10, e257_11, e257_14, e257_15, e257_17, e257_19, e257_22, e257_23, e257_24, e257_27, e257_30, e257_31, e257_32, e257_33, e257_36, e257_39, e257_42, e257_44, mk_458 hMx, ↓reduceIte, Nat.reduceAdd, Nat.reduceLeDiff, Nat.reduceLT, Nat.reduceEqDiff, not_false_eq_true, false_or, true_or, or_true, or_false, n0_e, n1_ne, n1_11, bI_1, bI_fo, va_rf_some, aBk_1, aBk_0, nI_add, nI_mul, hk_si, hp_si, hl_si, hk_sp, hk_sl, hk_cp, hp_cp, h1, ew, q, decide_false, bI_z, e])
    revert key
    cases fnd (fun n => decide (de_ T ≤ ah_ T w n (7 + k))) 101 0 with
    | some j =>
      rintro ⟨y, e, o⟩
      refine ⟨y, fun d => ?_, o1.trans (o.mono (fun _ _ q => q.W))⟩
      simp only [e257_0, e257_1, e257_2, e257_5, e257_8, e257_9, e257_10, e257_11, e257_14, e257_15, e257_17, e257_19, e257_22, e257_23, e257_24, e257_27, e257_30, e257_31, e257_32, e257_33, e257_36, e257_39, e257_42, e257_44, mk_458 hM, ↓reduceIte, Nat.reduceAdd, Nat.reduceLeDiff, Nat.reduceLT, Nat.reduceEqDiff, not_false_eq_true, false_or, true_or, or_true, or_false, n0_e, n1_ne, n1_11, bI_1, bI_fo, va_rf_some, aBk_1, aBk_0, nI_add, nI_mul, hk_si, hp_si, hl_si, hk_sp, hk_sl, hk_cp, hp_cp, m_isGuest hT, hq, bI_z, reduceCtorEq, e1]
      exact e d
    | none =>
      rintro ⟨y, e, o, -⟩
      refine ⟨y, fun d => ?_, o1.trans (o.mono (fun _ _ q => q.W))⟩
      have h1 : nI 100 < nI 101 := by decide
      simp only [e257_0, e257_1, e257_2, e257_5, e257_8, e257_9, e257_10, e257_11, e257_14, e257_15, e257_17, e257_19, e257_22, e257_23, e257_24, e257_27, e257_30, e257_31, e257_32, e257_33, e257_36, e257_39, e257_42, e257_44, mk_458 hM, ↓reduceIte, Nat.reduceAdd, Nat.reduceLeDiff, Nat.reduceLT, Nat.reduceEqDiff, not_false_eq_true, false_or, true_or, or_true, or_false, n0_e, n1_ne, n1_11, bI_1, bI_fo, va_rf_some, aBk_1, aBk_0, nI_add, nI_mul, hk_si, hp_si, hl_si, hk_sp, hk_sl, hk_cp, hp_cp, m_isGuest hT, hq, bI_z, reduceCtorEq, e1]
      refine (e d).trans ?_
      refine (e257_16).trans ?_
      simp only [e257_0, e257_1, e257_2, e257_5, e257_8, e257_9, e257_10, e257_11, e257_14, e257_15, e257_17, e257_19, e257_22, e257_23, e257_24, e257_27, e257_30, e257_31, e257_32, e257_33, e257_36, e257_39, e257_42, e257_44, ↓reduceIte, Nat.reduceAdd, Nat.reduceLeDiff, Nat.reduceLT, Nat.reduceEqDiff, not_false_eq_true, false_or, true_or, or_true, or_false, n0_e, n1_ne, n1_11, bI_z, bI_1, bI_fo, va_rf_some, aBk_1, aBk_0, nI_add, nI_mul, hk_si, hp_si, hl_si, hk_sp, hk_sl, hk_cp, hp_cp, h1]
      rfl
theorem m_first (hT : MT h T lv) (hn : RA h 491 w) (hw : RW T w) (what : Int32) : ∃ h', (∀ d, (run (d + 6) 255 0 [.ref 458, .int what, aU, aU] [] h) = some (.returned (some (.int (qFstM T w what))), h')) ∧ On WP h h' := by
  have hM := hT.m
  have h7 := hT.ng7
  unfold qFstM
  cases hq : in_ what (nI 0) (nI 1) with
  | false =>
    refine ⟨h, fun d => ?_, On.refl⟩
    simp only [e255_0, e255_1, e255_2, e255_3, e255_6, e255_9, e255_10, e255_11, e255_12, e255_15, e255_16, e255_18, e255_20, e255_23, e255_24, e255_26, e255_27, e255_30, e255_31, e255_34, e255_35, e255_38, e255_39, e255_42, e255_44, e255_45, e255_46, e255_47, e255_50, e255_51, e255_52, e255_55, e255_58, e255_59, e255_62, e255_63, e255_66, e255_67, e255_68, e255_71, e255_74, e255_75, e255_78, e255_81, e255_84, e255_86, mk_458 hM, mp_92 hM, mk_471 hM, mp_117 hM, mk_492 hM, ↓reduceIte, Nat.reduceAdd, Nat.reduceLeDiff, Nat.reduceLT, Nat.reduceEqDiff, not_false_eq_true, false_or, true_or, or_true, or_false, n0_e, n1_ne, n1_11, bI_1, bI_fo, va_rf_some, aBk_1, aBk_0, nI_add, nI_mul, hk_si, hp_si, hl_si, hk_sp, hk_sl, hk_cp, hp_cp, m_in, hq, bI_z, reduceCtorEq]
  | true =>
    rw [if_pos rfl]
    obtain ⟨h1, e1, o1, r1, l1, s1⟩ := m_copiesStill hT hn
    have o1 : On WP h h1 := o1.mono (fun _ _ q => q.W)
    have hT1 := hT.onW o1
    have hM1 := hT1.m
    have key := run_findd (F := fun d j (x : Value × aH) => (run (d + 6) 255 17 [.ref 458, .int what, .int (nI j), x.1] [] x.2)) (R := fun d j (x : Value × aH) => some (.returned (some (.int (if what = nI 0 then nI j else fnI (fw_ T w j)))), x.2)) (I := fun j x => On VP h1 x.2 ∧ RA x.2 492 (ah_ T w j)) (Q := fun j x => On VP h1 x.2) (P := fun n => (fw_ T w n).isSome) (n := 101) (x := (aU, h1)) ⟨On.refl, r1⟩ (fun j x hj hI => by
      obtain ⟨v, x⟩ := x
      obtain ⟨o, rx⟩ := hI
      have o : On VP h1 x := o
      have rx : RA x 492 (ah_ T w j) := rx
      have hTx := hT1.onV o
      have hMx := hTx.m
      have h1 : ¬ nI 100 < nI j := nI_nlt (by omega) (by decide)
      have inner : ∀ d, (run (d + 6) 255 25 [.ref 458, .int what, .int (nI j), .int (nI 0)] [] x) = _ := fun d => run_find (F := fun i => (run (d + 6) 255 25 [.ref 458, .int what, .int (nI j), .int (nI i)] [] x)) (R := fun i => some (.returned (some (.int (if what = nI 0 then nI j else nI i))), x)) (P := fun g => decide (ah_ T w j (14 + g) = 0) && decide (de_ T ≤ ah_ T w j (7 + g))) (n := ng_ T) (fun i hi => by
        have g1 : ¬ nI (ng_ T) ≤ nI i := nI_ge hi (by omega)
        have g2 : 14 + i < 31 := by omega
        have ew := fun d => m_isWeary (d := d) hTx rx hi
        refine (e255_25).trans ?_
        obtain ⟨c, hc, rfl⟩ := in_n (by decide) hq
        have hcc : c = 0 ∨ c = 1 := by omega
        by_cases q1 : ah_ T w j (14 + i) = 0
        · by_cases q2 : de_ T ≤ ah_ T w j (7 + i)
          · rcases hcc with rfl | rfl
            · simp only [e255_0, e255_1, e255_2, e255_3, e255_6, e255_9, e255_10, e255_11, e255_12, e255_15, e255_16, e255_18, e255_20, e255_23, e255_24, e255_26, e255_27, e255_30, e255_31, e255_34, e255_35, e255_38, e255_39, e255_42, e255_44, e255_45, e255_46, e255_47, e255_50, e255_51, e255_52, e255_55, e255_58, e255_59, e255_62, e255_63, e255_66, e255_67, e255_68, e255_71, e255_74, e255_75, e255_78, e255_81, e255_84, e255_86, mk_458 hMx, mp_92 hMx, mk_471 hMx, mp_117 hMx, mk_492 hMx, ↓reduceIte, Nat.reduceAdd, Nat.reduceLeDiff, Nat.reduceLT, Nat.reduceEqDiff, not_false_eq_true, false_or, true_or, or_true, or_false, n1_ne, n1_11, bI_1, bI_fo, va_rf_some, aBk_1, aBk_0, nI_add, nI_mul, hk_si, hp_si, hl_si, hk_sp, hk_sl, hk_cp, hp_cp, hTx.live, hTx.ng, hTx.l2, g1, g2, rx _ g2, q1, q2, ew, decide_true, bI_z, reduceCtorEq, n0_e, Bool.and_self]
            · simp only [e255_0, e255_1, e255_2, e255_3, e255_6, e255_9, e255_10, e255_11, e255_12, e255_15, e255_16, e255_18, e255_20, e255_23, e255_24, e255_26, e255_27, e255_30, e255_31, e255_34, e255_35, e255_38, e255_39, e255_42, e255_44, e255_45, e255_46, e255_47, e255_50, e255_51, e255_52, e255_55, e255_58, e255_59, e255_62, e255_63, e255_66, e255_67, e255_68, e255_71, e255_74, e255_75, e255_78, e255_81, e255_84, e255_86, mk_458 hMx, mp_92 hMx, mk_471 hMx, mp_117 hMx, mk_492 hMx, ↓reduceIte, Nat.reduceAdd, Nat.reduceLeDiff, Nat.reduceLT, not_false_eq_true, false_or, true_or, or_true, or_false, n0_e, n1_11, bI_1, bI_fo, va_rf_some, aBk_1, aBk_0, nI_add, nI_mul, hk_si, hp_si, hl_si, hk_sp, hk_sl, hk_cp, hp_cp, hTx.live, hTx.ng, hTx.l2, g1, g2, rx _ g2, q1, q2, ew, decide_true, bI_z, reduceCtorEq, n1_ne, nI_eqL, Nat.reduceEqDiff, Bool.and_self]
          · simp only [e255_0, e255_1, e255_2, e255_3, e255_6, e255_9, e255_10, e255_11, e255_12, e255_15, e255_16, e255_18, e255_20, e255_23, e255_24, e255_26, e255_27, e255_30, e255_31, e255_34, e255_35, e255_38, e255_39, e255_42, e255_44, e255_45, e255_46, e255_47, e255_50, e255_51, e255_52, e255_55, e255_58, e255_59, e255_62, e255_63, e255_66, e255_67, e255_68, e255_71, e255_74, e255_75, e255_78, e255_81, e255_84, e255_86, mk_458 hMx, mp_92 hMx, mk_471 hMx, mp_117 hMx, mk_492 hMx, ↓reduceIte, Nat.reduceAdd, Nat.reduceLeDiff, Nat.reduceLT, Nat.reduceEqDiff, not_false_eq_true, false_or, true_or, or_true, or_false, n0_e, n1_ne, n1_11, bI_1, bI_fo, va_rf_some, aBk_1, aBk_0, nI_add, nI_mul, hk_si, hp_si, hl_si, hk_sp, hk_sl, hk_cp, hp_cp, hTx.live, hTx.ng, hTx.l2, g1, g2, rx _ g2, q1, q2, ew, decide_true, decide_false, bI_z, reduceCtorEq, Bool.and_false]
        · simp only [e255_0, e255_1, e255_2, e255_3, e255_6, e255_9, e255_10, e255_11, e255_12, e255_15, e255_16, e255_18, e255_20, e255_23, e255_24, e255_26, e255_27, e255_30, e255_31, e255_34, e255_35, e255_38, e255_39, e255_42, e255_44, e255_45, e255_46, e255_47, e255_50, e255_51, e255_52, e255_55, e255_58, e255_59, e255_62, e255_63, e255_66, e255_67, e255_68, e255_71, e255_74, e255_75, e255_78, e255_81, e255_84, e255_86, mk_458 hMx, mp_92 hMx, mk_471 hMx, mp_117 hMx, mk_492 hMx, ↓reduceIte, Nat.reduceAdd, Nat.reduceLeDiff, Nat.reduceLT, Nat.reduceEqDiff, not_false_eq_true, false_or, true_or, or_true, or_false, n0_e, n1_ne, n1_11, bI_1, bI_fo, va_rf_some, aBk_1, aBk_0, nI_add, nI_mul, hk_si, hp_si, hl_si, hk_sp, hk_sl, hk_cp, hp_cp, hTx.live, hTx.ng, hTx.l2, g1, g2, rx _ g2, q1, decide_false, bI_z, reduceCtorEq, Bool.false_and])
      dsimp only
      cases hf : fw_ T w j with
      | some i =>
        rw [if_pos (show (some i).isSome = true from rfl)]
        have hf' : fnd (fun g => decide (ah_ T w j (14 + g) = 0) && decide (de_ T ≤ ah_ T w j (7 + g))) (ng_ T) 0 = some i := hf
        simp only [hf'] at inner
        refine ⟨(v, x), fun d => ?_, o⟩
        refine (e255_17).trans ?_
        simp only [e255_0, e255_1, e255_2, e255_3, e255_6, e255_9, e255_10, e255_11, e255_12, e255_15, e255_16, e255_18, e255_20, e255_23, e255_24, e255_26, e255_27, e255_30, e255_31, e255_34, e255_35, e255_38, e255_39, e255_42, e255_44, e255_45, e255_46, e255_47, e255_50, e255_51, e255_52, e255_55, e255_58, e255_59, e255_62, e255_63, e255_66, e255_67, e255_68, e255_71, e255_74, e255_75, e255_78, e255_81, e255_84, e255_86, mk_458 hMx, mp_92 hMx, mk_471 hMx, mp_117 hMx, mk_492 hMx, ↓reduceIte, Nat.reduceAdd, Nat.reduceLeDiff, Nat.reduceLT, Nat.reduceEqDiff, not_false_eq_true, false_or, true_or, or_true, or_false, n0_e, n1_ne, n1_11, bI_z, bI_1, bI_fo, va_rf_some, aBk_1, aBk_0, nI_add, nI_mul, hk_si, hp_si, hl_si, hk_sp, hk_sl, hk_cp, hp_cp, h1]
        exact inner d
      | none =>
        rw [if_neg (by decide)]
        have hf' : fnd (fun g => decide (ah_ T w j (14 + g) = 0) && decide (de_ T ≤ ah_ T w j (7 + g))) (ng_ T) 0 = none := hf
        simp only [hf'] at inner
        obtain ⟨y, e, oy, ry⟩ := m_weekGoes hTx rx (hw.wks hT.v j) (o.lot l1) (o.stl s1)
        refine ⟨(.int (nI (ng_ T)), y), fun d => ?_, o.trans oy, ry⟩
        refine (e255_17).trans ?_
        simp only [e255_0, e255_1, e255_2, e255_3, e255_6, e255_9, e255_10, e255_11, e255_12, e255_15, e255_16, e255_18, e255_20, e255_23, e255_24, e255_26, e255_27, e255_30, e255_31, e255_34, e255_35, e255_38, e255_39, e255_42, e255_44, e255_45, e255_46, e255_47, e255_50, e255_51, e255_52, e255_55, e255_58, e255_59, e255_62, e255_63, e255_66, e255_67, e255_68, e255_71, e255_74, e255_75, e255_78, e255_81, e255_84, e255_86, mk_458 hMx, mp_92 hMx, mk_471 hMx, mp_117 hMx, mk_492 hMx, ↓reduceIte, Nat.reduceAdd, Nat.reduceLeDiff, Nat.reduceLT, Nat.reduceEqDiff, not_false_eq_true, false_or, true_or, or_true, or_false, n0_e, n1_ne, n1_11, bI_z, bI_1, bI_fo, va_rf_some, aBk_1, aBk_0, nI_add, nI_mul, hk_si, hp_si, hl_si, hk_sp, hk_sl, hk_cp, hp_cp, h1]
        refine (inner d).trans ?_
        refine (e255_25).trans ?_
        simp only [e255_0, e255_1, e255_2, e255_3, e255_6, e255_9, e255_10, e255_11, e255_12, e255_15, e255_16, e255_18, e255_20, e255_23, e255_24, e255_26, e255_27, e255_30, e255_31, e255_34, e255_35, e255_38, e255_39, e255_42, e255_44, e255_45, e255_46, e255_47, e255_50, e255_51, e255_52, e255_55, e255_58, e255_59, e255_62, e255_63, e255_66, e255_67, e255_68, e255_71, e255_74, e255_75, e255_78, e255_81, e255_84, e255_86, mk_458 hMx, mp_92 hMx, mk_471 hMx, mp_117 hMx, mk_492 hMx, ↓reduceIte, Nat.reduceAdd, Nat.reduceLeDiff, Nat.reduceLT, Nat.reduceEqDiff, not_false_eq_true, false_or, true_or, or_true, or_false, n0_e, n1_ne, n1_11, bI_z, bI_1, bI_fo, va_rf_some, aBk_1, aBk_0, nI_add, nI_mul, hk_si, hp_si, hl_si, hk_sp, hk_sl, hk_cp, hp_cp, hTx.live, hTx.ng, hTx.l2, Int32.le_refl, e])
    revert key
    cases fnd (fun n => (fw_ T w n).isSome) 101 0 with
    | some j =>
      rintro ⟨y, e, o⟩
      refine ⟨y.2, fun d => ?_, o1.trans (o.mono (fun _ _ q => q.W))⟩
      simp only [e255_0, e255_1, e255_2, e255_3, e255_6, e255_9, e255_10, e255_11, e255_12, e255_15, e255_16, e255_18, e255_20, e255_23, e255_24, e255_26, e255_27, e255_30, e255_31, e255_34, e255_35, e255_38, e255_39, e255_42, e255_44, e255_45, e255_46, e255_47, e255_50, e255_51, e255_52, e255_55, e255_58, e255_59, e255_62, e255_63, e255_66, e255_67, e255_68, e255_71, e255_74, e255_75, e255_78, e255_81, e255_84, e255_86, mk_458 hM, mp_92 hM, mk_471 hM, mp_117 hM, mk_492 hM, ↓reduceIte, Nat.reduceAdd, Nat.reduceLeDiff, Nat.reduceLT, Nat.reduceEqDiff, not_false_eq_true, false_or, true_or, or_true, or_false, n0_e, n1_ne, n1_11, bI_1, bI_fo, va_rf_some, aBk_1, aBk_0, nI_add, nI_mul, hk_si, hp_si, hl_si, hk_sp, hk_sl, hk_cp, hp_cp, m_in, hq, bI_z, reduceCtorEq, e1]
      exact e d
    | none =>
      rintro ⟨y, e, o, -⟩
      refine ⟨y.2, fun d => ?_, o1.trans (o.mono (fun _ _ q => q.W))⟩
      have h1 : nI 100 < nI 101 := by decide
      simp only [e255_0, e255_1, e255_2, e255_3, e255_6, e255_9, e255_10, e255_11, e255_12, e255_15, e255_16, e255_18, e255_20, e255_23, e255_24, e255_26, e255_27, e255_30, e255_31, e255_34, e255_35, e255_38, e255_39, e255_42, e255_44, e255_45, e255_46, e255_47, e255_50, e255_51, e255_52, e255_55, e255_58, e255_59, e255_62, e255_63, e255_66, e255_67, e255_68, e255_71, e255_74, e255_75, e255_78, e255_81, e255_84, e255_86, mk_458 hM, mp_92 hM, mk_471 hM, mp_117 hM, mk_492 hM, ↓reduceIte, Nat.reduceAdd, Nat.reduceLeDiff, Nat.reduceLT, Nat.reduceEqDiff, not_false_eq_true, false_or, true_or, or_true, or_false, n0_e, n1_ne, n1_11, bI_1, bI_fo, va_rf_some, aBk_1, aBk_0, nI_add, nI_mul, hk_si, hp_si, hl_si, hk_sp, hk_sl, hk_cp, hp_cp, m_in, hq, bI_z, reduceCtorEq, e1]
      refine (e d).trans ?_
      refine (e255_17).trans ?_
      simp only [e255_0, e255_1, e255_2, e255_3, e255_6, e255_9, e255_10, e255_11, e255_12, e255_15, e255_16, e255_18, e255_20, e255_23, e255_24, e255_26, e255_27, e255_30, e255_31, e255_34, e255_35, e255_38, e255_39, e255_42, e255_44, e255_45, e255_46, e255_47, e255_50, e255_51, e255_52, e255_55, e255_58, e255_59, e255_62, e255_63, e255_66, e255_67, e255_68, e255_71, e255_74, e255_75, e255_78, e255_81, e255_84, e255_86, ↓reduceIte, Nat.reduceAdd, Nat.reduceLeDiff, Nat.reduceLT, Nat.reduceEqDiff, not_false_eq_true, false_or, true_or, or_true, or_false, n0_e, n1_ne, n1_11, bI_z, bI_1, bI_fo, va_rf_some, aBk_1, aBk_0, nI_add, nI_mul, hk_si, hp_si, hl_si, hk_sp, hk_sl, hk_cp, hp_cp, h1]
theorem lng_n {n : Int32} (q : lng_ n = true) : ∃ k, k ≤ 40 ∧ n = nI k := in_n (by decide) q
theorem sale_s (hV : TV T) {s : Int32} (q : sale_ T w s = true) : ∃ k, k < ns_ T ∧ s = nI k := by
  unfold sale_ at q
  simp only [Bool.and_eq_true] at q
  exact isS_n hV q.1
theorem m_price (hT : MT h T lv) (hn : RA h 491 w) (hw : RW T w) (s n : Int32) : ∃ h', (∀ d, (run (d + 7) 258 0 [.ref 458, .int s, .int n] [] h) = some (.returned (some (.int (qPri T w s n))), h')) ∧ On WP h h' := by
  have hM := hT.m
  have ef := fun d s => m_isForSale (d := d) (s := s) hT hn
  unfold qPri
  cases hq : sale_ T w s with
  | false =>
    refine ⟨h, fun d => ?_, On.refl⟩
    simp only [e258_0, e258_1, e258_2, e258_5, e258_8, e258_9, e258_12, e258_15, e258_16, e258_17, e258_18, e258_21, e258_22, e258_23, e258_26, e258_27, e258_28, e258_31, mk_458 hM, ↓reduceIte, Nat.reduceAdd, Nat.reduceLeDiff, Nat.reduceLT, Nat.reduceEqDiff, not_false_eq_true, false_or, true_or, or_true, or_false, n0_e, n1_ne, n1_11, bI_1, bI_fo, va_rf_some, aBk_1, aBk_0, nI_add, nI_mul, hk_si, hp_si, hl_si, hk_sp, hk_sl, hk_cp, hp_cp, ef, hq, bI_z, reduceCtorEq, false_and]
  | true =>
    obtain ⟨k, hk, rfl⟩ := sale_s hT.v hq
    have h4 := hT.ns4
    rw [kk_n (by omega)]
    cases hq2 : lng_ n with
    | false =>
      refine ⟨h, fun d => ?_, On.refl⟩
      simp only [e258_0, e258_1, e258_2, e258_5, e258_8, e258_9, e258_12, e258_15, e258_16, e258_17, e258_18, e258_21, e258_22, e258_23, e258_26, e258_27, e258_28, e258_31, mk_458 hM, ↓reduceIte, Nat.reduceAdd, Nat.reduceLeDiff, Nat.reduceLT, Nat.reduceEqDiff, not_false_eq_true, false_or, true_or, or_true, or_false, n0_e, n1_ne, n1_11, bI_1, bI_fo, va_rf_some, aBk_1, aBk_0, nI_add, nI_mul, hk_si, hp_si, hl_si, hk_sp, hk_sl, hk_cp, hp_cp, ef, hq, hq2, m_isLong, bI_z, reduceCtorEq, and_false]
    | true =>
      obtain ⟨m, hm, rfl⟩ := lng_n hq2
      rw [if_pos ⟨rfl, rfl⟩, kk_n (by omega)]
      obtain ⟨h1, e1, o1, r1, l1, s1⟩ := m_copiesStill hT hn
      have o1 : On WP h h1 := o1.mono (fun _ _ q => q.W)
      have hT1 := hT.onW o1
      have hM1 := hT1.m
      obtain ⟨h2, e2, o2, r2⟩ := m_goes hT1 r1 hw l1 s1 (n := m) (by omega)
      have hT2 := hT1.onV o2
      have hM2 := hT2.m
      obtain ⟨h3, e3, o3⟩ := m_sellsOf hT2 r2 hk
      refine ⟨h3, fun d => ?_, (o1.trans (o2.mono (fun _ _ q => q.W))).trans (o3.mono (fun _ _ q => q.V.W))⟩
      simp only [e258_0, e258_1, e258_2, e258_5, e258_8, e258_9, e258_12, e258_15, e258_16, e258_17, e258_18, e258_21, e258_22, e258_23, e258_26, e258_27, e258_28, e258_31, mk_458 hM, mk_458 hM1, mk_458 hM2, ↓reduceIte, Nat.reduceAdd, Nat.reduceLeDiff, Nat.reduceLT, Nat.reduceEqDiff, not_false_eq_true, false_or, true_or, or_true, or_false, n0_e, n1_ne, n1_11, bI_1, bI_fo, va_rf_some, aBk_1, aBk_0, nI_add, nI_mul, hk_si, hp_si, hl_si, hk_sp, hk_sl, hk_cp, hp_cp, ef, hq, hq2, m_isLong, bI_z, reduceCtorEq, e1, e2, e3]
      rfl
theorem m_best (hT : MT h T lv) (hn : RA h 491 w) (hw : RW T w) (s n what : Int32) : ∃ h', (∀ d, (run (d + 6) 260 0 [.ref 458, .int s, .int n, .int what, aU, aU, aU] [] h) = some (.returned (some (.int (qBstM T w s n what))), h')) ∧ On WP h h' := by
  have hM := hT.m
  have ef := fun d s => m_isForSale (d := d) (s := s) hT hn
  unfold qBstM
  cases hq : sale_ T w s with
  | false =>
    refine ⟨h, fun d => ?_, On.refl⟩
    simp only [e260_0, e260_1, e260_2, e260_5, e260_8, e260_9, e260_12, e260_15, e260_16, e260_17, e260_18, e260_21, e260_24, e260_25, e260_26, e260_27, e260_30, e260_31, e260_33, e260_34, e260_36, e260_37, e260_41, e260_42, e260_45, e260_46, e260_47, e260_50, e260_52, e260_55, e260_57, e260_59, e260_60, e260_61, e260_64, e260_66, e260_67, e260_70, e260_73, e260_76, e260_77, e260_80, e260_82, e260_85, e260_87, mk_458 hM, ↓reduceIte, Nat.reduceAdd, Nat.reduceLeDiff, Nat.reduceLT, Nat.reduceEqDiff, not_false_eq_true, false_or, true_or, or_true, or_false, n0_e, n1_ne, n1_11, bI_1, bI_fo, va_rf_some, aBk_1, aBk_0, nI_add, nI_mul, hk_si, hp_si, hl_si, hk_sp, hk_sl, hk_cp, hp_cp, ef, hq, bI_z, reduceCtorEq, false_and]
  | true =>
    obtain ⟨k, hk, rfl⟩ := sale_s hT.v hq
    have h4 := hT.ns4
    rw [kk_n (by omega)]
    cases hq2 : lng_ n with
    | false =>
      refine ⟨h, fun d => ?_, On.refl⟩
      simp only [e260_0, e260_1, e260_2, e260_5, e260_8, e260_9, e260_12, e260_15, e260_16, e260_17, e260_18, e260_21, e260_24, e260_25, e260_26, e260_27, e260_30, e260_31, e260_33, e260_34, e260_36, e260_37, e260_41, e260_42, e260_45, e260_46, e260_47, e260_50, e260_52, e260_55, e260_57, e260_59, e260_60, e260_61, e260_64, e260_66, e260_67, e260_70, e260_73, e260_76, e260_77, e260_80, e260_82, e260_85, e260_87, mk_458 hM, ↓reduceIte, Nat.reduceAdd, Nat.reduceLeDiff, Nat.reduceLT, Nat.reduceEqDiff, not_false_eq_true, false_or, true_or, or_true, or_false, n0_e, n1_ne, n1_11, bI_1, bI_fo, va_rf_some, aBk_1, aBk_0, nI_add, nI_mul, hk_si, hp_si, hl_si, hk_sp, hk_sl, hk_cp, hp_cp, ef, hq, hq2, m_isLong, bI_z, reduceCtorEq, and_false, false_and]
    | true =>
      obtain ⟨m, hm, rfl⟩ := lng_n hq2
      rw [kk_n (by omega)]
      cases hq3 : in_ what (nI 0) (nI 1) with
      | false =>
        refine ⟨h, fun d => ?_, On.refl⟩
        simp only [e260_0, e260_1, e260_2, e260_5, e260_8, e260_9, e260_12, e260_15, e260_16, e260_17, e260_18, e260_21, e260_24, e260_25, e260_26, e260_27, e260_30, e260_31, e260_33, e260_34, e260_36, e260_37, e260_41, e260_42, e260_45, e260_46, e260_47, e260_50, e260_52, e260_55, e260_57, e260_59, e260_60, e260_61, e260_64, e260_66, e260_67, e260_70, e260_73, e260_76, e260_77, e260_80, e260_82, e260_85, e260_87, mk_458 hM, ↓reduceIte, Nat.reduceAdd, Nat.reduceLeDiff, Nat.reduceLT, Nat.reduceEqDiff, not_false_eq_true, false_or, true_or, or_true, or_false, n0_e, n1_ne, n1_11, bI_1, bI_fo, va_rf_some, aBk_1, aBk_0, nI_add, nI_mul, hk_si, hp_si, hl_si, hk_sp, hk_sl, hk_cp, hp_cp, ef, hq, hq2, hq3, m_isLong, m_in, bI_z, reduceCtorEq, and_false]
      | true =>
        rw [if_pos ⟨rfl, rfl, rfl⟩]
        obtain ⟨h1, e1, o1, r1, l1, s1⟩ := m_copiesStill hT hn
        have o1 : On WP h h1 := o1.mono (fun _ _ q => q.W)
        have hT1 := hT.onW o1
        have hM1 := hT1.m
        obtain ⟨y, e, ey, oy, ry⟩ := run_invd (F := fun d j (x : (Int32 × Int32) × aH) => (run (d + 6) 260 39 [.ref 458, .int (nI k), .int (nI m), .int what, .int x.1.1, .int x.1.2, .int (nI j)] [] x.2)) (I := fun j x => x.1 = itn j (bsF T w k) (-1, -1) ∧ On VP h1 x.2 ∧ RA x.2 492 (ah_ T w j)) (n := m + 1) (x := ((-1, -1), h1)) ⟨rfl, On.refl, r1⟩ (fun j x hj hI => by
          obtain ⟨⟨b, mo⟩, x⟩ := x
          obtain ⟨eb, o, rx⟩ := hI
          have eb : (b, mo) = itn j (bsF T w k) (-1, -1) := eb
          have o : On VP h1 x := o
          have rx : RA x 492 (ah_ T w j) := rx
          have hTx := hT1.onV o
          have hMx := hTx.m
          have g1 : ¬ nI m < nI j := nI_nlt (by omega) (by omega)
          obtain ⟨x2, e2, o2⟩ := m_sellsOf hTx rx hk
          have o2' : On VP h1 x2 := o.trans (o2.mono (fun _ _ q => q.V))
          have hTx2 := hT1.onV o2'
          have hMx2 := hTx2.m
          have rx2 := rx.onE o2
          by_cases q : sO_ T (ah_ T w j) k ≤ mo
          · obtain ⟨y, e, oy, ry⟩ := m_weekGoes hTx2 rx2 (hw.wks hT.v j) (o2'.lot l1) (o2'.stl s1)
            refine ⟨((b, mo), y), fun d => ?_, ?_, o2'.trans oy, ry⟩
            · refine (e260_39).trans ?_
              simp only [e260_0, e260_1, e260_2, e260_5, e260_8, e260_9, e260_12, e260_15, e260_16, e260_17, e260_18, e260_21, e260_24, e260_25, e260_26, e260_27, e260_30, e260_31, e260_33, e260_34, e260_36, e260_37, e260_41, e260_42, e260_45, e260_46, e260_47, e260_50, e260_52, e260_55, e260_57, e260_59, e260_60, e260_61, e260_64, e260_66, e260_67, e260_70, e260_73, e260_76, e260_77, e260_80, e260_82, e260_85, e260_87, mk_458 hMx, mk_458 hMx2, ↓reduceIte, Nat.reduceAdd, Nat.reduceLeDiff, Nat.reduceLT, Nat.reduceEqDiff, not_false_eq_true, false_or, true_or, or_true, or_false, n0_e, n1_ne, n1_11, bI_z, bI_1, bI_fo, va_rf_some, aBk_1, aBk_0, nI_add, nI_mul, hk_si, hp_si, hl_si, hk_sp, hk_sl, hk_cp, hp_cp, g1, e2, q, e]
            · show (b, mo) = bsF T w k j (itn j (bsF T w k) (-1, -1))
              rw [← eb]; exact (if_pos q).symm
          · obtain ⟨x3, e3, o3⟩ := m_sellsOf hTx2 rx2 hk
            have o3' : On VP h1 x3 := o2'.trans (o3.mono (fun _ _ q => q.V))
            have hTx3 := hT1.onV o3'
            have hMx3 := hTx3.m
            obtain ⟨y, e, oy, ry⟩ := m_weekGoes hTx3 (rx2.onE o3) (hw.wks hT.v j) (o3'.lot l1) (o3'.stl s1)
            refine ⟨((nI j, sO_ T (ah_ T w j) k), y), fun d => ?_, ?_, o3'.trans oy, ry⟩
            · refine (e260_39).trans ?_
              simp only [e260_0, e260_1, e260_2, e260_5, e260_8, e260_9, e260_12, e260_15, e260_16, e260_17, e260_18, e260_21, e260_24, e260_25, e260_26, e260_27, e260_30, e260_31, e260_33, e260_34, e260_36, e260_37, e260_41, e260_42, e260_45, e260_46, e260_47, e260_50, e260_52, e260_55, e260_57, e260_59, e260_60, e260_61, e260_64, e260_66, e260_67, e260_70, e260_73, e260_76, e260_77, e260_80, e260_82, e260_85, e260_87, mk_458 hMx, mk_458 hMx2, mk_458 hMx3, ↓reduceIte, Nat.reduceAdd, Nat.reduceLeDiff, Nat.reduceLT, Nat.reduceEqDiff, not_false_eq_true, false_or, true_or, or_true, or_false, n0_e, n1_ne, n1_11, bI_z, bI_1, bI_fo, va_rf_some, aBk_1, aBk_0, nI_add, nI_mul, hk_si, hp_si, hl_si, hk_sp, hk_sl, hk_cp, hp_cp, g1, e2, q, e3, e]
            · show (nI j, sO_ T (ah_ T w j) k) = bsF T w k j (itn j (bsF T w k) (-1, -1))
              rw [← eb]; exact (if_neg q).symm)
        obtain ⟨⟨b, mo⟩, y⟩ := y
        have ey : (b, mo) = bs_ T w k m (-1) := ey
        rw [← ey]
        refine ⟨y, fun d => ?_, o1.trans (oy.mono (fun _ _ q => q.W))⟩
        have g1 : nI m < nI (m + 1) := nI_lt (by omega) (by omega)
        simp only [e260_0, e260_1, e260_2, e260_5, e260_8, e260_9, e260_12, e260_15, e260_16, e260_17, e260_18, e260_21, e260_24, e260_25, e260_26, e260_27, e260_30, e260_31, e260_33, e260_34, e260_36, e260_37, e260_41, e260_42, e260_45, e260_46, e260_47, e260_50, e260_52, e260_55, e260_57, e260_59, e260_60, e260_61, e260_64, e260_66, e260_67, e260_70, e260_73, e260_76, e260_77, e260_80, e260_82, e260_85, e260_87, mk_458 hM, ↓reduceIte, Nat.reduceAdd, Nat.reduceLeDiff, Nat.reduceLT, Nat.reduceEqDiff, not_false_eq_true, false_or, true_or, or_true, or_false, n0_e, n1_ne, n1_11, bI_1, bI_fo, va_rf_some, aBk_1, aBk_0, nI_add, nI_mul, hk_si, hp_si, hl_si, hk_sp, hk_sl, hk_cp, hp_cp, ef, hq, hq2, hq3, m_isLong, m_in, bI_z, reduceCtorEq, e1]
        refine (e d).trans ?_
        refine (e260_39).trans ?_
        obtain ⟨c, hc, rfl⟩ := in_n (by decide) hq3
        have hcc : c = 0 ∨ c = 1 := by omega
        rcases hcc with rfl | rfl
        · simp only [e260_0, e260_1, e260_2, e260_5, e260_8, e260_9, e260_12, e260_15, e260_16, e260_17, e260_18, e260_21, e260_24, e260_25, e260_26, e260_27, e260_30, e260_31, e260_33, e260_34, e260_36, e260_37, e260_41, e260_42, e260_45, e260_46, e260_47, e260_50, e260_52, e260_55, e260_57, e260_59, e260_60, e260_61, e260_64, e260_66, e260_67, e260_70, e260_73, e260_76, e260_77, e260_80, e260_82, e260_85, e260_87, ↓reduceIte, Nat.reduceAdd, Nat.reduceLeDiff, Nat.reduceLT, Nat.reduceEqDiff, not_false_eq_true, false_or, true_or, or_true, or_false, n1_ne, n1_11, bI_z, bI_1, bI_fo, va_rf_some, aBk_1, aBk_0, nI_add, nI_mul, hk_si, hp_si, hl_si, hk_sp, hk_sl, hk_cp, hp_cp, g1, n0_e]
        · simp only [e260_0, e260_1, e260_2, e260_5, e260_8, e260_9, e260_12, e260_15, e260_16, e260_17, e260_18, e260_21, e260_24, e260_25, e260_26, e260_27, e260_30, e260_31, e260_33, e260_34, e260_36, e260_37, e260_41, e260_42, e260_45, e260_46, e260_47, e260_50, e260_52, e260_55, e260_57, e260_59, e260_60, e260_61, e260_64, e260_66, e260_67, e260_70, e260_73, e260_76, e260_77, e260_80, e260_82, e260_85, e260_87, ↓reduceIte, Nat.reduceAdd, Nat.reduceLeDiff, Nat.reduceLT, not_false_eq_true, false_or, true_or, or_true, or_false, n0_e, n1_11, bI_z, bI_1, bI_fo, va_rf_some, aBk_1, aBk_0, nI_add, nI_mul, hk_si, hp_si, hl_si, hk_sp, hk_sl, hk_cp, hp_cp, g1, n1_ne, nI_eqL, Nat.reduceEqDiff]
theorem m_earned (hT : MT h T lv) (hn : RA h 491 w) (hw : RW T w) (n : Int32) : ∃ h', (∀ d, (run (d + 7) 261 0 [.ref 458, .int n] [] h) = some (.returned (some (.int (qErn T w n))), h')) ∧ On WP h h' := by
  have hM := hT.m
  unfold qErn
  cases hq2 : lng_ n with
  | false =>
    refine ⟨h, fun d => ?_, On.refl⟩
    simp only [e261_0, e261_1, e261_4, e261_7, e261_8, e261_9, e261_10, e261_13, e261_14, e261_15, e261_18, e261_19, e261_22, e261_24, e261_25, e261_26, e261_29, e261_31, e261_32, e261_33, mk_458 hM, mp_116 hM, mk_491 hM, mp_117 hM, mk_492 hM, ↓reduceIte, Nat.reduceAdd, Nat.reduceLeDiff, Nat.reduceLT, Nat.reduceEqDiff, not_false_eq_true, false_or, true_or, or_true, or_false, n0_e, n1_ne, n1_11, bI_1, bI_fo, va_rf_some, aBk_1, aBk_0, nI_add, nI_mul, hk_si, hp_si, hl_si, hk_sp, hk_sl, hk_cp, hp_cp, hq2, m_isLong, bI_z, reduceCtorEq]
  | true =>
    obtain ⟨m, hm, rfl⟩ := lng_n hq2
    rw [if_pos rfl, kk_n (by omega)]
    obtain ⟨h1, e1, o1, r1, l1, s1⟩ := m_copiesStill hT hn
    have o1 : On WP h h1 := o1.mono (fun _ _ q => q.W)
    have hT1 := hT.onW o1
    have hM1 := hT1.m
    obtain ⟨h2, e2, o2, r2⟩ := m_goes hT1 r1 hw l1 s1 (n := m) (by omega)
    have hT2 := hT1.onV o2
    have hM2 := hT2.m
    have o12 := o1.trans (o2.mono (fun _ _ q => q.W))
    have n2 := hn.now o12
    refine ⟨h2, fun d => ?_, o12⟩
    simp only [e261_0, e261_1, e261_4, e261_7, e261_8, e261_9, e261_10, e261_13, e261_14, e261_15, e261_18, e261_19, e261_22, e261_24, e261_25, e261_26, e261_29, e261_31, e261_32, e261_33, mk_458 hM, mp_116 hM, mk_491 hM, mp_117 hM, mk_492 hM, mk_458 hM1, mp_116 hM1, mk_491 hM1, mp_117 hM1, mk_492 hM1, mk_458 hM2, mp_116 hM2, mk_491 hM2, mp_117 hM2, mk_492 hM2, ↓reduceIte, Nat.reduceAdd, Nat.reduceLeDiff, Nat.reduceLT, Nat.reduceEqDiff, not_false_eq_true, false_or, true_or, or_true, or_false, n0_e, n1_ne, n1_11, bI_1, bI_fo, va_rf_some, aBk_1, aBk_0, nI_add, nI_mul, hk_si, hp_si, hl_si, hk_sp, hk_sl, hk_cp, hp_cp, hq2, m_isLong, bI_z, reduceCtorEq, e1, e2, r2 30 (by decide), n2 30 (by decide)]
    rfl
theorem m_then (hT : MT h T lv) (hn : RA h 491 w) (hw : RW T w) (g n what : Int32) : ∃ h', (∀ d, (run (d + 7) 262 0 [.ref 458, .int g, .int n, .int what] [] h) = some (.returned (some (.int (qThn T w g n what))), h')) ∧ On WP h h' := by
  have hM := hT.m
  unfold qThn
  cases hq : isG T g with
  | false =>
    refine ⟨h, fun d => ?_, On.refl⟩
    simp only [e262_0, e262_1, e262_2, e262_5, e262_8, e262_9, e262_12, e262_15, e262_16, e262_17, e262_18, e262_21, e262_24, e262_25, e262_26, e262_27, e262_30, e262_31, e262_32, e262_35, e262_36, e262_39, e262_41, e262_42, e262_43, e262_44, e262_45, e262_46, mk_458 hM, mp_117 hM, mk_492 hM, ↓reduceIte, Nat.reduceAdd, Nat.reduceLeDiff, Nat.reduceLT, Nat.reduceEqDiff, not_false_eq_true, false_or, true_or, or_true, or_false, n0_e, n1_ne, n1_11, bI_1, bI_fo, va_rf_some, aBk_1, aBk_0, nI_add, nI_mul, hk_si, hp_si, hl_si, hk_sp, hk_sl, hk_cp, hp_cp, m_isGuest hT, hq, bI_z, reduceCtorEq, false_and]
  | true =>
    obtain ⟨k, hk, rfl⟩ := isG_n hT.v hq
    have h7 := hT.ng7
    rw [kk_n (by omega)]
    cases hq2 : lng_ n with
    | false =>
      refine ⟨h, fun d => ?_, On.refl⟩
      simp only [e262_0, e262_1, e262_2, e262_5, e262_8, e262_9, e262_12, e262_15, e262_16, e262_17, e262_18, e262_21, e262_24, e262_25, e262_26, e262_27, e262_30, e262_31, e262_32, e262_35, e262_36, e262_39, e262_41, e262_42, e262_43, e262_44, e262_45, e262_46, mk_458 hM, mp_117 hM, mk_492 hM, ↓reduceIte, Nat.reduceAdd, Nat.reduceLeDiff, Nat.reduceLT, Nat.reduceEqDiff, not_false_eq_true, false_or, true_or, or_true, or_false, n0_e, n1_ne, n1_11, bI_1, bI_fo, va_rf_some, aBk_1, aBk_0, nI_add, nI_mul, hk_si, hp_si, hl_si, hk_sp, hk_sl, hk_cp, hp_cp, m_isGuest hT, hq, hq2, m_isLong, bI_z, reduceCtorEq, and_false, false_and]
    | true =>
      obtain ⟨m, hm, rfl⟩ := lng_n hq2
      rw [kk_n (by omega)]
      cases hq3 : in_ what (nI 0) (nI 2) with
      | false =>
        refine ⟨h, fun d => ?_, On.refl⟩
        simp only [e262_0, e262_1, e262_2, e262_5, e262_8, e262_9, e262_12, e262_15, e262_16, e262_17, e262_18, e262_21, e262_24, e262_25, e262_26, e262_27, e262_30, e262_31, e262_32, e262_35, e262_36, e262_39, e262_41, e262_42, e262_43, e262_44, e262_45, e262_46, mk_458 hM, mp_117 hM, mk_492 hM, ↓reduceIte, Nat.reduceAdd, Nat.reduceLeDiff, Nat.reduceLT, Nat.reduceEqDiff, not_false_eq_true, false_or, true_or, or_true, or_false, n0_e, n1_ne, n1_11, bI_1, bI_fo, va_rf_some, aBk_1, aBk_0, nI_add, nI_mul, hk_si, hp_si, hl_si, hk_sp, hk_sl, hk_cp, hp_cp, m_isGuest hT, hq, hq2, hq3, m_isLong, m_in, bI_z, reduceCtorEq, and_false]
      | true =>
        obtain ⟨c, hc, rfl⟩ := in_n (by decide) hq3
        rw [if_pos ⟨rfl, rfl, rfl⟩, kk_n (by omega)]
        obtain ⟨h1, e1, o1, r1, l1, s1⟩ := m_copies hT hn
        have o1 : On WP h h1 := o1.mono (fun _ _ q => q.W)
        have hT1 := hT.onW o1
        have hM1 := hT1.m
        obtain ⟨h2, e2, o2, r2⟩ := m_goes hT1 r1 hw l1 s1 (n := m) (by omega)
        have hM2 := hM1.on o2
        have h3 : 7 * c + k < 31 := by omega
        refine ⟨h2, fun d => ?_, o1.trans (o2.mono (fun _ _ q => q.W))⟩
        simp only [e262_0, e262_1, e262_2, e262_5, e262_8, e262_9, e262_12, e262_15, e262_16, e262_17, e262_18, e262_21, e262_24, e262_25, e262_26, e262_27, e262_30, e262_31, e262_32, e262_35, e262_36, e262_39, e262_41, e262_42, e262_43, e262_44, e262_45, e262_46, mk_458 hM, mp_117 hM, mk_492 hM, mk_458 hM1, mp_117 hM1, mk_492 hM1, mk_458 hM2, mp_117 hM2, mk_492 hM2, ↓reduceIte, Nat.reduceAdd, Nat.reduceLeDiff, Nat.reduceLT, Nat.reduceEqDiff, not_false_eq_true, false_or, true_or, or_true, or_false, n0_e, n1_ne, n1_11, bI_1, bI_fo, va_rf_some, aBk_1, aBk_0, nI_add, nI_mul, hk_si, hp_si, hl_si, hk_sp, hk_sl, hk_cp, hp_cp, m_isGuest hT, hq, hq2, hq3, m_isLong, m_in, bI_z, reduceCtorEq, e1, e2, h3, r2 _ h3]
        rfl
theorem m_wornIn (hT : MT h T lv) (hn : RA h 491 w) (hw : RW T w) (s n : Int32) : ∃ h', (∀ d, (run (d + 7) 263 0 [.ref 458, .int s, .int n] [] h) = some (.returned (some (.int (qWrn T w s n))), h')) ∧ On WP h h' := by
  have hM := hT.m
  unfold qWrn
  cases hq : isS T s with
  | false =>
    refine ⟨h, fun d => ?_, On.refl⟩
    simp only [e263_0, e263_1, e263_2, e263_5, e263_8, e263_9, e263_12, e263_15, e263_16, e263_17, e263_18, e263_21, e263_22, e263_23, e263_26, e263_27, e263_30, e263_32, e263_33, e263_34, e263_35, mk_458 hM, mp_117 hM, mk_492 hM, ↓reduceIte, Nat.reduceAdd, Nat.reduceLeDiff, Nat.reduceLT, Nat.reduceEqDiff, not_false_eq_true, false_or, true_or, or_true, or_false, n0_e, n1_ne, n1_11, bI_1, bI_fo, va_rf_some, aBk_1, aBk_0, nI_add, nI_mul, hk_si, hp_si, hl_si, hk_sp, hk_sl, hk_cp, hp_cp, m_isSunday hT, hq, bI_z, reduceCtorEq, false_and]
  | true =>
    obtain ⟨k, hk, rfl⟩ := isS_n hT.v hq
    have h4 := hT.ns4
    rw [kk_n (by omega)]
    cases hq2 : lng_ n with
    | false =>
      refine ⟨h, fun d => ?_, On.refl⟩
      simp only [e263_0, e263_1, e263_2, e263_5, e263_8, e263_9, e263_12, e263_15, e263_16, e263_17, e263_18, e263_21, e263_22, e263_23, e263_26, e263_27, e263_30, e263_32, e263_33, e263_34, e263_35, mk_458 hM, mp_117 hM, mk_492 hM, ↓reduceIte, Nat.reduceAdd, Nat.reduceLeDiff, Nat.reduceLT, Nat.reduceEqDiff, not_false_eq_true, false_or, true_or, or_true, or_false, n0_e, n1_ne, n1_11, bI_1, bI_fo, va_rf_some, aBk_1, aBk_0, nI_add, nI_mul, hk_si, hp_si, hl_si, hk_sp, hk_sl, hk_cp, hp_cp, m_isSunday hT, hq, hq2, m_isLong, bI_z, reduceCtorEq, and_false]
    | true =>
      obtain ⟨m, hm, rfl⟩ := lng_n hq2
      rw [if_pos ⟨rfl, rfl⟩, kk_n (by omega)]
      obtain ⟨h1, e1, o1, r1, l1, s1⟩ := m_copies hT hn
      have o1 : On WP h h1 := o1.mono (fun _ _ q => q.W)
      have hT1 := hT.onW o1
      have hM1 := hT1.m
      obtain ⟨h2, e2, o2, r2⟩ := m_goes hT1 r1 hw l1 s1 (n := m) (by omega)
      have hM2 := hM1.on o2
      have h3 : 21 + k < 31 := by omega
      refine ⟨h2, fun d => ?_, o1.trans (o2.mono (fun _ _ q => q.W))⟩
      simp only [e263_0, e263_1, e263_2, e263_5, e263_8, e263_9, e263_12, e263_15, e263_16, e263_17, e263_18, e263_21, e263_22, e263_23, e263_26, e263_27, e263_30, e263_32, e263_33, e263_34, e263_35, mk_458 hM, mp_117 hM, mk_492 hM, mk_458 hM1, mp_117 hM1, mk_492 hM1, mk_458 hM2, mp_117 hM2, mk_492 hM2, ↓reduceIte, Nat.reduceAdd, Nat.reduceLeDiff, Nat.reduceLT, Nat.reduceEqDiff, not_false_eq_true, false_or, true_or, or_true, or_false, n0_e, n1_ne, n1_11, bI_1, bI_fo, va_rf_some, aBk_1, aBk_0, nI_add, nI_mul, hk_si, hp_si, hl_si, hk_sp, hk_sl, hk_cp, hp_cp, m_isSunday hT, hq, hq2, m_isLong, bI_z, reduceCtorEq, e1, e2, h3, r2 _ h3]
      rfl
theorem in_n1 {x : Int32} {n : Nat} (hn : n < 2147483648) (q : in_ x (nI 1) (nI n) = true) : ∃ k, 1 ≤ k ∧ k ≤ n ∧ x = nI k := by
  have q' : in_ x (nI 0) (nI n) = true := by
    unfold in_ at q ⊢
    simp only [Bool.and_eq_true, decide_eq_true_eq] at q ⊢
    exact ⟨Int32.le_trans (by decide) q.1, q.2⟩
  obtain ⟨k, h1, rfl⟩ := in_n hn q'
  refine ⟨k, ?_, h1, rfl⟩
  unfold in_ at q
  simp only [Bool.and_eq_true, decide_eq_true_eq] at q
  rw [nI_leL (by decide) (by omega)] at q
  exact q.1
theorem m_year (hT : MT h T lv) (hn : RA h 491 w) (hw : RW T w) (g n s : Int32) : ∃ h', (∀ d, (run (d + 7) 264 0 [.ref 458, .int g, .int n, .int s, aU, aU] [] h) = some (.returned (some (.int (qYr T w g n s))), h')) ∧ On WP h h' := by
  have hM := hT.m
  unfold qYr
  cases hq : isG T g with
  | false =>
    refine ⟨h, fun d => ?_, On.refl⟩
    simp only [e264_0, e264_1, e264_2, e264_5, e264_8, e264_9, e264_12, e264_15, e264_16, e264_17, e264_19, e264_22, e264_25, e264_26, e264_27, e264_28, e264_30, e264_31, e264_35, e264_36, e264_39, e264_40, e264_43, e264_44, e264_45, e264_48, e264_50, e264_51, e264_54, e264_55, e264_56, e264_59, e264_60, e264_63, e264_65, e264_66, e264_67, e264_68, e264_71, e264_74, e264_77, e264_80, e264_82, mk_458 hM, mp_117 hM, mk_492 hM, ↓reduceIte, Nat.reduceAdd, Nat.reduceLeDiff, Nat.reduceLT, Nat.reduceEqDiff, not_false_eq_true, false_or, true_or, or_true, or_false, n0_e, n1_ne, n1_11, bI_1, bI_fo, va_rf_some, aBk_1, aBk_0, nI_add, nI_mul, hk_si, hp_si, hl_si, hk_sp, hk_sl, hk_cp, hp_cp, m_isGuest hT, hq, bI_z, reduceCtorEq, false_and]
  | true =>
    obtain ⟨k, hk, rfl⟩ := isG_n hT.v hq
    have h7 := hT.ng7
    rw [kk_n (by omega)]
    cases hq2 : lng_ n with
    | false =>
      refine ⟨h, fun d => ?_, On.refl⟩
      simp only [e264_0, e264_1, e264_2, e264_5, e264_8, e264_9, e264_12, e264_15, e264_16, e264_17, e264_19, e264_22, e264_25, e264_26, e264_27, e264_28, e264_30, e264_31, e264_35, e264_36, e264_39, e264_40, e264_43, e264_44, e264_45, e264_48, e264_50, e264_51, e264_54, e264_55, e264_56, e264_59, e264_60, e264_63, e264_65, e264_66, e264_67, e264_68, e264_71, e264_74, e264_77, e264_80, e264_82, mk_458 hM, mp_117 hM, mk_492 hM, ↓reduceIte, Nat.reduceAdd, Nat.reduceLeDiff, Nat.reduceLT, Nat.reduceEqDiff, not_false_eq_true, false_or, true_or, or_true, or_false, n0_e, n1_ne, n1_11, bI_1, bI_fo, va_rf_some, aBk_1, aBk_0, nI_add, nI_mul, hk_si, hp_si, hl_si, hk_sp, hk_sl, hk_cp, hp_cp, m_isGuest hT, hq, hq2, m_isLong, bI_z, reduceCtorEq, and_false, false_and]
    | true =>
      obtain ⟨m, hm, rfl⟩ := lng_n hq2
      rw [kk_n (by omega)]
      cases hq3 : in_ s (nI 1) (nI 20) with
      | false =>
        refine ⟨h, fun d => ?_, On.refl⟩
        simp only [e264_0, e264_1, e264_2, e264_5, e264_8, e264_9, e264_12, e264_15, e264_16, e264_17, e264_19, e264_22, e264_25, e264_26, e264_27, e264_28, e264_30, e264_31, e264_35, e264_36, e264_39, e264_40, e264_43, e264_44, e264_45, e264_48, e264_50, e264_51, e264_54, e264_55, e264_56, e264_59, e264_60, e264_63, e264_65, e264_66, e264_67, e264_68, e264_71, e264_74, e264_77, e264_80, e264_82, mk_458 hM, mp_117 hM, mk_492 hM, ↓reduceIte, Nat.reduceAdd, Nat.reduceLeDiff, Nat.reduceLT, Nat.reduceEqDiff, not_false_eq_true, false_or, true_or, or_true, or_false, n0_e, n1_ne, n1_11, bI_1, bI_fo, va_rf_some, aBk_1, aBk_0, nI_add, nI_mul, hk_si, hp_si, hl_si, hk_sp, hk_sl, hk_cp, hp_cp, m_isGuest hT, hq, hq2, hq3, m_isLong, m_in, bI_z, reduceCtorEq, and_false]
      | true =>
        obtain ⟨c, -, hc, rfl⟩ := in_n1 (by decide) hq3
        rw [if_pos ⟨rfl, rfl, rfl⟩, kk_n (by omega)]
        have h14 : 14 + k < 31 := by omega
        obtain ⟨y, e, ey, oy⟩ := run_invd (F := fun d j (x : Nat × aH) => (run (d + 7) 264 33 [.ref 458, .int (nI k), .int (nI m), .int (nI c), .int (nI x.1), .int (nI j)] [] x.2)) (I := fun j x => x.1 = itn j (fun k' a => bif qYrF T w k m k' then a + 1 else a) 0 ∧ On WP h x.2) (n := c) (x := (0, h)) ⟨rfl, On.refl⟩ (fun j x hj hI => by
          obtain ⟨a, x⟩ := x
          obtain ⟨ea, o⟩ := hI
          have ea : a = itn j (fun k' a => bif qYrF T w k m k' then a + 1 else a) 0 := ea
          have o : On WP h x := o
          have hTx := hT.onW o
          have hMx := hTx.m
          have g1 : ¬ nI c ≤ nI j := nI_ge hj (by omega)
          obtain ⟨h1, e1, o1, r1, l1, s1⟩ := m_copies hTx (hn.now o)
          have o1 : On WP x h1 := o1.mono (fun _ _ q => q.W)
          have hT1 := hTx.onW o1
          have hM1 := hT1.m
          have o2 : On WP h1 (si_ h1 458 118 (se_ T + nI j)) := On.si (Or.inr (Or.inl ⟨rfl, Or.inl rfl⟩))
          have hT2 := hT1.onW o2
          have hM2 := hT2.m
          have r2 : RA (si_ h1 458 118 (se_ T + nI j)) 492 w := r1.off (by decide)
          have l2 : hi_ (si_ h1 458 118 (se_ T + nI j)) 458 118 = se_ T + nI j := hi_same
          have s2 : hi_ (si_ h1 458 118 (se_ T + nI j)) 458 119 = bI false := (hi_ne (by omega)).trans s1
          obtain ⟨h3, e3, o3, r3⟩ := m_goes hT2 r2 hw l2 s2 (n := m) (by omega)
          have hM3 := hM2.on o3
          refine ⟨(bif qYrF T w k m j then a + 1 else a, h3), fun d => ?_, ?_, ((o.trans o1).trans o2).trans (o3.mono (fun _ _ q => q.W))⟩
          · refine (e264_33).trans ?_
            unfold qYrF
            by_cases q : wks_ T false (se_ T + nI j) m w (14 + k) = 0
            · simp only [e264_0, e264_1, e264_2, e264_5, e264_8, e264_9, e264_12, e264_15, e264_16, e264_17, e264_19, e264_22, e264_25, e264_26, e264_27, e264_28, e264_30, e264_31, e264_35, e264_36, e264_39, e264_40, e264_43, e264_44, e264_45, e264_48, e264_50, e264_51, e264_54, e264_55, e264_56, e264_59, e264_60, e264_63, e264_65, e264_66, e264_67, e264_68, e264_71, e264_74, e264_77, e264_80, e264_82, mk_458 hMx, mp_117 hMx, mk_492 hMx, mk_458 hM1, mp_117 hM1, mk_492 hM1, mk_458 hM2, mp_117 hM2, mk_492 hM2, mk_458 hM3, mp_117 hM3, mk_492 hM3, ↓reduceIte, Nat.reduceAdd, Nat.reduceLeDiff, Nat.reduceLT, Nat.reduceEqDiff, not_false_eq_true, false_or, true_or, or_true, or_false, n0_e, n1_ne, n1_11, bI_z, bI_1, bI_fo, va_rf_some, aBk_1, aBk_0, nI_add, nI_mul, hk_si, hp_si, hl_si, hk_sp, hk_sl, hk_cp, hp_cp, g1, e1, l1, e3, h14, r3 _ h14, q, decide_true, cond_true]
            · simp only [e264_0, e264_1, e264_2, e264_5, e264_8, e264_9, e264_12, e264_15, e264_16, e264_17, e264_19, e264_22, e264_25, e264_26, e264_27, e264_28, e264_30, e264_31, e264_35, e264_36, e264_39, e264_40, e264_43, e264_44, e264_45, e264_48, e264_50, e264_51, e264_54, e264_55, e264_56, e264_59, e264_60, e264_63, e264_65, e264_66, e264_67, e264_68, e264_71, e264_74, e264_77, e264_80, e264_82, mk_458 hMx, mp_117 hMx, mk_492 hMx, mk_458 hM1, mp_117 hM1, mk_492 hM1, mk_458 hM2, mp_117 hM2, mk_492 hM2, mk_458 hM3, mp_117 hM3, mk_492 hM3, ↓reduceIte, Nat.reduceAdd, Nat.reduceLeDiff, Nat.reduceLT, Nat.reduceEqDiff, not_false_eq_true, false_or, true_or, or_true, or_false, n0_e, n1_ne, n1_11, bI_z, bI_1, bI_fo, va_rf_some, aBk_1, aBk_0, nI_add, nI_mul, hk_si, hp_si, hl_si, hk_sp, hk_sl, hk_cp, hp_cp, g1, e1, l1, e3, h14, r3 _ h14, q, decide_false, cond_false]
          · show _ = (bif qYrF T w k m j then itn j _ 0 + 1 else itn j _ 0)
            rw [← ea])
        obtain ⟨a, y⟩ := y
        have ey : a = itn c (fun k' a => bif qYrF T w k m k' then a + 1 else a) 0 := ey
        rw [← ey]
        refine ⟨y, fun d => ?_, oy⟩
        simp only [e264_0, e264_1, e264_2, e264_5, e264_8, e264_9, e264_12, e264_15, e264_16, e264_17, e264_19, e264_22, e264_25, e264_26, e264_27, e264_28, e264_30, e264_31, e264_35, e264_36, e264_39, e264_40, e264_43, e264_44, e264_45, e264_48, e264_50, e264_51, e264_54, e264_55, e264_56, e264_59, e264_60, e264_63, e264_65, e264_66, e264_67, e264_68, e264_71, e264_74, e264_77, e264_80, e264_82, mk_458 hM, mp_117 hM, mk_492 hM, ↓reduceIte, Nat.reduceAdd, Nat.reduceLeDiff, Nat.reduceLT, Nat.reduceEqDiff, not_false_eq_true, false_or, true_or, or_true, or_false, n0_e, n1_ne, n1_11, bI_1, bI_fo, va_rf_some, aBk_1, aBk_0, nI_add, nI_mul, hk_si, hp_si, hl_si, hk_sp, hk_sl, hk_cp, hp_cp, m_isGuest hT, hq, hq2, hq3, m_isLong, m_in, bI_z, reduceCtorEq]
        refine (e d).trans ?_
        refine (e264_33).trans ?_
        simp only [e264_0, e264_1, e264_2, e264_5, e264_8, e264_9, e264_12, e264_15, e264_16, e264_17, e264_19, e264_22, e264_25, e264_26, e264_27, e264_28, e264_30, e264_31, e264_35, e264_36, e264_39, e264_40, e264_43, e264_44, e264_45, e264_48, e264_50, e264_51, e264_54, e264_55, e264_56, e264_59, e264_60, e264_63, e264_65, e264_66, e264_67, e264_68, e264_71, e264_74, e264_77, e264_80, e264_82, ↓reduceIte, Nat.reduceAdd, Nat.reduceLeDiff, Nat.reduceLT, Nat.reduceEqDiff, not_false_eq_true, false_or, true_or, or_true, or_false, n0_e, n1_ne, n1_11, bI_z, bI_1, bI_fo, va_rf_some, aBk_1, aBk_0, nI_add, nI_mul, hk_si, hp_si, hl_si, hk_sp, hk_sl, hk_cp, hp_cp, Int32.le_refl]
theorem pyr_c (j : Nat) : itn j (fun g b => if 0 ≤ w g ∧ (b < 0 ∨ pO_ T w (kk b) < pO_ T w g) then nI g else b) (-2 : Int32) = -2 ∨ ∃ k, k < j ∧ itn j (fun g b => if 0 ≤ w g ∧ (b < 0 ∨ pO_ T w (kk b) < pO_ T w g) then nI g else b) (-2 : Int32) = nI k := by
  induction j with
  | zero => exact Or.inl rfl
  | succ j ih =>
    rw [itn]
    generalize itn j (fun g b => if 0 ≤ w g ∧ (b < 0 ∨ pO_ T w (kk b) < pO_ T w g) then nI g else b) (-2 : Int32) = b at ih ⊢
    split
    · exact Or.inr ⟨j, by omega, rfl⟩
    · rcases ih with e | ⟨k, hk, e⟩
      · exact Or.inl e
      · exact Or.inr ⟨k, by omega, e⟩
theorem m_payer (hT : MT h T lv) (hn : RA h 491 w) (hw : RW T w) (what : Int32) : ∃ h', (∀ d, (run (d + 4) 250 0 [.ref 458, .int what, aU, aU] [] h) = some (.returned (some (.int (qPyr T w what))), h')) ∧ On WP h h' := by
  have hM := hT.m
  have h7 := hT.ng7
  unfold qPyr
  cases hq : in_ what (nI 0) (nI 1) with
  | false =>
    refine ⟨h, fun d => ?_, On.refl⟩
    simp only [e250_0, e250_1, e250_2, e250_3, e250_6, e250_9, e250_10, e250_11, e250_12, e250_15, e250_17, e250_18, e250_19, e250_21, e250_22, e250_25, e250_26, e250_29, e250_30, e250_33, e250_34, e250_37, e250_38, e250_39, e250_42, e250_43, e250_46, e250_47, e250_48, e250_51, e250_52, e250_53, e250_56, e250_59, e250_60, e250_61, e250_64, e250_67, e250_68, e250_71, e250_72, e250_75, e250_76, e250_79, e250_80, e250_81, e250_84, mk_458 hM, mp_92 hM, mk_471 hM, mp_117 hM, mk_492 hM, ↓reduceIte, Nat.reduceAdd, Nat.reduceLeDiff, Nat.reduceLT, Nat.reduceEqDiff, not_false_eq_true, false_or, true_or, or_true, or_false, n0_e, n1_ne, n1_11, bI_1, bI_fo, va_rf_some, aBk_1, aBk_0, nI_add, nI_mul, hk_si, hp_si, hl_si, hk_sp, hk_sl, hk_cp, hp_cp, m_in, hq, bI_z, reduceCtorEq]
  | true =>
    rw [if_pos rfl]
    obtain ⟨h1, e1, o1, r1, -, -⟩ := m_copies hT hn
    have o1 : On WP h h1 := o1.mono (fun _ _ q => q.W)
    have hT1 := hT.onW o1
    have hM1 := hT1.m
    obtain ⟨y, e, ey, oy⟩ := run_invd (F := fun d j (x : Int32 × aH) => (run (d + 4) 250 20 [.ref 458, .int what, .int x.1, .int (nI j)] [] x.2)) (I := fun j x => x.1 = itn j (fun g b => if 0 ≤ w g ∧ (b < 0 ∨ pO_ T w (kk b) < pO_ T w g) then nI g else b) (-2 : Int32) ∧ On EP h1 x.2) (n := ng_ T) (x := (-2, h1)) ⟨rfl, On.refl⟩ (fun j x hj hI => by
      obtain ⟨b, x⟩ := x
      obtain ⟨eb, o⟩ := hI
      have eb : b = itn j (fun g b => if 0 ≤ w g ∧ (b < 0 ∨ pO_ T w (kk b) < pO_ T w g) then nI g else b) (-2 : Int32) := eb
      have o : On EP h1 x := o
      have hTx := hT1.onE o
      have hMx := hTx.m
      have rx := r1.onE o
      have g1 : ¬ nI (ng_ T) ≤ nI j := nI_ge hj (by omega)
      have g2 : j < 31 := by omega
      have hs : itn (j + 1) (fun g b => if 0 ≤ w g ∧ (b < 0 ∨ pO_ T w (kk b) < pO_ T w g) then nI g else b) (-2 : Int32) = if 0 ≤ w j ∧ (b < 0 ∨ pO_ T w (kk b) < pO_ T w j) then nI j else b := by rw [itn, ← eb]
      by_cases q1 : 0 ≤ w j
      · have q1' : ¬ w j < 0 := Int32.not_lt.mpr q1
        by_cases q2 : b < 0
        · refine ⟨(nI j, x), fun d => ?_, ?_, o⟩
          · refine (e250_20).trans ?_
            simp only [e250_0, e250_1, e250_2, e250_3, e250_6, e250_9, e250_10, e250_11, e250_12, e250_15, e250_17, e250_18, e250_19, e250_21, e250_22, e250_25, e250_26, e250_29, e250_30, e250_33, e250_34, e250_37, e250_38, e250_39, e250_42, e250_43, e250_46, e250_47, e250_48, e250_51, e250_52, e250_53, e250_56, e250_59, e250_60, e250_61, e250_64, e250_67, e250_68, e250_71, e250_72, e250_75, e250_76, e250_79, e250_80, e250_81, e250_84, mk_458 hMx, mp_92 hMx, mk_471 hMx, mp_117 hMx, mk_492 hMx, ↓reduceIte, Nat.reduceAdd, Nat.reduceLeDiff, Nat.reduceLT, Nat.reduceEqDiff, not_false_eq_true, false_or, true_or, or_true, or_false, n0_e, n1_ne, n1_11, bI_z, bI_1, bI_fo, va_rf_some, aBk_1, aBk_0, nI_add, nI_mul, hk_si, hp_si, hl_si, hk_sp, hk_sl, hk_cp, hp_cp, hTx.live, hTx.ng, hTx.l2, g1, g2, rx _ g2, q1', q2]
          · rw [hs, if_pos ⟨q1, Or.inl q2⟩]
        · obtain ⟨k, hk, ek⟩ : ∃ k, k < j ∧ b = nI k := by
            rcases pyr_c (T := T) (w := w) j with e | ⟨k, hk, e⟩
            · rw [← eb] at e; exact absurd (by rw [e]; decide) q2
            · exact ⟨k, hk, eb.trans e⟩
          subst ek
          have ekk : kk (nI k) = k := kk_n (by omega)
          obtain ⟨x2, e2, o2⟩ := m_paysOf hTx rx hw hj
          have hTx2 := hTx.onE o2
          have hMx2 := hTx2.m
          obtain ⟨x3, e3, o3⟩ := m_paysOf hTx2 (rx.onE o2) hw (g := k) (by omega)
          by_cases q3 : pO_ T w j ≤ pO_ T w k
          · refine ⟨(nI k, x3), fun d => ?_, ?_, (o.trans o2).trans o3⟩
            · refine (e250_20).trans ?_
              simp only [e250_0, e250_1, e250_2, e250_3, e250_6, e250_9, e250_10, e250_11, e250_12, e250_15, e250_17, e250_18, e250_19, e250_21, e250_22, e250_25, e250_26, e250_29, e250_30, e250_33, e250_34, e250_37, e250_38, e250_39, e250_42, e250_43, e250_46, e250_47, e250_48, e250_51, e250_52, e250_53, e250_56, e250_59, e250_60, e250_61, e250_64, e250_67, e250_68, e250_71, e250_72, e250_75, e250_76, e250_79, e250_80, e250_81, e250_84, mk_458 hMx, mp_92 hMx, mk_471 hMx, mp_117 hMx, mk_492 hMx, mk_458 hMx2, mp_92 hMx2, mk_471 hMx2, mp_117 hMx2, mk_492 hMx2, ↓reduceIte, Nat.reduceAdd, Nat.reduceLeDiff, Nat.reduceLT, Nat.reduceEqDiff, not_false_eq_true, false_or, true_or, or_true, or_false, n0_e, n1_ne, n1_11, bI_z, bI_1, bI_fo, va_rf_some, aBk_1, aBk_0, nI_add, nI_mul, hk_si, hp_si, hl_si, hk_sp, hk_sl, hk_cp, hp_cp, hTx.live, hTx.ng, hTx.l2, g1, g2, rx _ g2, q1', q2, e2, e3, q3]
            · rw [hs, if_neg (fun z => by rw [ekk] at z; exact z.2.elim q2 (Int32.not_lt.mpr q3))]
          · refine ⟨(nI j, x3), fun d => ?_, ?_, (o.trans o2).trans o3⟩
            · refine (e250_20).trans ?_
              simp only [e250_0, e250_1, e250_2, e250_3, e250_6, e250_9, e250_10, e250_11, e250_12, e250_15, e250_17, e250_18, e250_19, e250_21, e250_22, e250_25, e250_26, e250_29, e250_30, e250_33, e250_34, e250_37, e250_38, e250_39, e250_42, e250_43, e250_46, e250_47, e250_48, e250_51, e250_52, e250_53, e250_56, e250_59, e250_60, e250_61, e250_64, e250_67, e250_68, e250_71, e250_72, e250_75, e250_76, e250_79, e250_80, e250_81, e250_84, mk_458 hMx, mp_92 hMx, mk_471 hMx, mp_117 hMx, mk_492 hMx, mk_458 hMx2, mp_92 hMx2, mk_471 hMx2, mp_117 hMx2, mk_492 hMx2, ↓reduceIte, Nat.reduceAdd, Nat.reduceLeDiff, Nat.reduceLT, Nat.reduceEqDiff, not_false_eq_true, false_or, true_or, or_true, or_false, n0_e, n1_ne, n1_11, bI_z, bI_1, bI_fo, va_rf_some, aBk_1, aBk_0, nI_add, nI_mul, hk_si, hp_si, hl_si, hk_sp, hk_sl, hk_cp, hp_cp, hTx.live, hTx.ng, hTx.l2, g1, g2, rx _ g2, q1', q2, e2, e3, q3]
            · rw [hs, if_pos ⟨q1, Or.inr (by rw [ekk]; exact Int32.not_le.mp q3)⟩]
      · have q1' : w j < 0 := Int32.not_le.mp q1
        refine ⟨(b, x), fun d => ?_, ?_, o⟩
        · refine (e250_20).trans ?_
          simp only [e250_0, e250_1, e250_2, e250_3, e250_6, e250_9, e250_10, e250_11, e250_12, e250_15, e250_17, e250_18, e250_19, e250_21, e250_22, e250_25, e250_26, e250_29, e250_30, e250_33, e250_34, e250_37, e250_38, e250_39, e250_42, e250_43, e250_46, e250_47, e250_48, e250_51, e250_52, e250_53, e250_56, e250_59, e250_60, e250_61, e250_64, e250_67, e250_68, e250_71, e250_72, e250_75, e250_76, e250_79, e250_80, e250_81, e250_84, mk_458 hMx, mp_92 hMx, mk_471 hMx, mp_117 hMx, mk_492 hMx, ↓reduceIte, Nat.reduceAdd, Nat.reduceLeDiff, Nat.reduceLT, Nat.reduceEqDiff, not_false_eq_true, false_or, true_or, or_true, or_false, n0_e, n1_ne, n1_11, bI_z, bI_1, bI_fo, va_rf_some, aBk_1, aBk_0, nI_add, nI_mul, hk_si, hp_si, hl_si, hk_sp, hk_sl, hk_cp, hp_cp, hTx.live, hTx.ng, hTx.l2, g1, g2, rx _ g2, q1']
        · rw [hs, if_neg (fun z => q1 z.1)])
    obtain ⟨b, y⟩ := y
    have ey : b = pyr_ T w := ey
    have oy : On EP h1 y := oy
    have hTy := hT1.onE oy
    have hMy := hTy.m
    have ry := r1.onE oy
    have hc := pyr_c (T := T) (w := w) (ng_ T)
    have hc : pyr_ T w = -2 ∨ ∃ k, k < ng_ T ∧ pyr_ T w = nI k := hc
    rw [← ey] at hc ⊢
    obtain ⟨c, hcc, rfl⟩ := in_n (by decide) hq
    have oo : On WP h y := o1.trans (oy.mono (fun _ _ q => q.V.W))
    rcases hc with e2 | ⟨k, hk, e2⟩
    · have e3 : b < 0 := by rw [e2]; decide
      refine ⟨y, fun d => ?_, oo⟩
      rw [if_pos (Or.inl e3)]
      simp only [e250_0, e250_1, e250_2, e250_3, e250_6, e250_9, e250_10, e250_11, e250_12, e250_15, e250_17, e250_18, e250_19, e250_21, e250_22, e250_25, e250_26, e250_29, e250_30, e250_33, e250_34, e250_37, e250_38, e250_39, e250_42, e250_43, e250_46, e250_47, e250_48, e250_51, e250_52, e250_53, e250_56, e250_59, e250_60, e250_61, e250_64, e250_67, e250_68, e250_71, e250_72, e250_75, e250_76, e250_79, e250_80, e250_81, e250_84, mk_458 hM, mp_92 hM, mk_471 hM, mp_117 hM, mk_492 hM, ↓reduceIte, Nat.reduceAdd, Nat.reduceLeDiff, Nat.reduceLT, Nat.reduceEqDiff, not_false_eq_true, false_or, true_or, or_true, or_false, n0_e, n1_ne, n1_11, bI_1, bI_fo, va_rf_some, aBk_1, aBk_0, nI_add, nI_mul, hk_si, hp_si, hl_si, hk_sp, hk_sl, hk_cp, hp_cp, m_in, hq, bI_z, reduceCtorEq, e1]
      refine (e d).trans ?_
      refine (e250_20).trans ?_
      simp only [e250_0, e250_1, e250_2, e250_3, e250_6, e250_9, e250_10, e250_11, e250_12, e250_15, e250_17, e250_18, e250_19, e250_21, e250_22, e250_25, e250_26, e250_29, e250_30, e250_33, e250_34, e250_37, e250_38, e250_39, e250_42, e250_43, e250_46, e250_47, e250_48, e250_51, e250_52, e250_53, e250_56, e250_59, e250_60, e250_61, e250_64, e250_67, e250_68, e250_71, e250_72, e250_75, e250_76, e250_79, e250_80, e250_81, e250_84, mk_458 hMy, mp_92 hMy, mk_471 hMy, mp_117 hMy, mk_492 hMy, ↓reduceIte, Nat.reduceAdd, Nat.reduceLeDiff, Nat.reduceLT, Nat.reduceEqDiff, not_false_eq_true, false_or, true_or, or_true, or_false, n0_e, n1_ne, n1_11, bI_z, bI_1, bI_fo, va_rf_some, aBk_1, aBk_0, nI_add, nI_mul, hk_si, hp_si, hl_si, hk_sp, hk_sl, hk_cp, hp_cp, hTy.live, hTy.ng, hTy.l2, Int32.le_refl, e3]
    · have e3 : ¬ b < 0 := by rw [e2]; exact nI_pos (by omega)
      have ekk : kk b = k := by rw [e2]; exact kk_n (by omega)
      obtain ⟨y2, e4, o4⟩ := m_paysOf hTy ry hw hk
      rw [← e2] at e4
      have hcq : c = 0 ∨ c = 1 := by omega
      rcases hcq with rfl | rfl
      · refine ⟨y, fun d => ?_, oo⟩
        rw [if_pos (Or.inr rfl)]
        simp only [e250_0, e250_1, e250_2, e250_3, e250_6, e250_9, e250_10, e250_11, e250_12, e250_15, e250_17, e250_18, e250_19, e250_21, e250_22, e250_25, e250_26, e250_29, e250_30, e250_33, e250_34, e250_37, e250_38, e250_39, e250_42, e250_43, e250_46, e250_47, e250_48, e250_51, e250_52, e250_53, e250_56, e250_59, e250_60, e250_61, e250_64, e250_67, e250_68, e250_71, e250_72, e250_75, e250_76, e250_79, e250_80, e250_81, e250_84, mk_458 hM, mp_92 hM, mk_471 hM, mp_117 hM, mk_492 hM, ↓reduceIte, Nat.reduceAdd, Nat.reduceLeDiff, Nat.reduceLT, Nat.reduceEqDiff, not_false_eq_true, false_or, true_or, or_true, or_false, n0_e, n1_ne, n1_11, bI_1, bI_fo, va_rf_some, aBk_1, aBk_0, nI_add, nI_mul, hk_si, hp_si, hl_si, hk_sp, hk_sl, hk_cp, hp_cp, m_in, hq, bI_z, reduceCtorEq, e1]
        refine (e d).trans ?_
        refine (e250_20).trans ?_
        simp only [e250_0, e250_1, e250_2, e250_3, e250_6, e250_9, e250_10, e250_11, e250_12, e250_15, e250_17, e250_18, e250_19, e250_21, e250_22, e250_25, e250_26, e250_29, e250_30, e250_33, e250_34, e250_37, e250_38, e250_39, e250_42, e250_43, e250_46, e250_47, e250_48, e250_51, e250_52, e250_53, e250_56, e250_59, e250_60, e250_61, e250_64, e250_67, e250_68, e250_71, e250_72, e250_75, e250_76, e250_79, e250_80, e250_81, e250_84, mk_458 hMy, mp_92 hMy, mk_471 hMy, mp_117 hMy, mk_492 hMy, ↓reduceIte, Nat.reduceAdd, Nat.reduceLeDiff, Nat.reduceLT, Nat.reduceEqDiff, not_false_eq_true, false_or, true_or, or_true, or_false, n1_ne, n1_11, bI_z, bI_1, bI_fo, va_rf_some, aBk_1, aBk_0, nI_add, nI_mul, hk_si, hp_si, hl_si, hk_sp, hk_sl, hk_cp, hp_cp, hTy.live, hTy.ng, hTy.l2, Int32.le_refl, e3, n0_e]
      · refine ⟨y2, fun d => ?_, oo.trans (o4.mono (fun _ _ q => q.V.W))⟩
        rw [if_neg (fun z => z.elim e3 (by decide)), ekk]
        simp only [e250_0, e250_1, e250_2, e250_3, e250_6, e250_9, e250_10, e250_11, e250_12, e250_15, e250_17, e250_18, e250_19, e250_21, e250_22, e250_25, e250_26, e250_29, e250_30, e250_33, e250_34, e250_37, e250_38, e250_39, e250_42, e250_43, e250_46, e250_47, e250_48, e250_51, e250_52, e250_53, e250_56, e250_59, e250_60, e250_61, e250_64, e250_67, e250_68, e250_71, e250_72, e250_75, e250_76, e250_79, e250_80, e250_81, e250_84, mk_458 hM, mp_92 hM, mk_471 hM, mp_117 hM, mk_492 hM, ↓reduceIte, Nat.reduceAdd, Nat.reduceLeDiff, Nat.reduceLT, Nat.reduceEqDiff, not_false_eq_true, false_or, true_or, or_true, or_false, n0_e, n1_ne, n1_11, bI_1, bI_fo, va_rf_some, aBk_1, aBk_0, nI_add, nI_mul, hk_si, hp_si, hl_si, hk_sp, hk_sl, hk_cp, hp_cp, m_in, hq, bI_z, reduceCtorEq, e1]
        refine (e d).trans ?_
        refine (e250_20).trans ?_
        simp only [e250_0, e250_1, e250_2, e250_3, e250_6, e250_9, e250_10, e250_11, e250_12, e250_15, e250_17, e250_18, e250_19, e250_21, e250_22, e250_25, e250_26, e250_29, e250_30, e250_33, e250_34, e250_37, e250_38, e250_39, e250_42, e250_43, e250_46, e250_47, e250_48, e250_51, e250_52, e250_53, e250_56, e250_59, e250_60, e250_61, e250_64, e250_67, e250_68, e250_71, e250_72, e250_75, e250_76, e250_79, e250_80, e250_81, e250_84, mk_458 hMy, mp_92 hMy, mk_471 hMy, mp_117 hMy, mk_492 hMy, ↓reduceIte, Nat.reduceAdd, Nat.reduceLeDiff, Nat.reduceLT, Nat.reduceEqDiff, not_false_eq_true, false_or, true_or, or_true, or_false, n0_e, n1_11, bI_z, bI_1, bI_fo, va_rf_some, aBk_1, aBk_0, nI_add, nI_mul, hk_si, hp_si, hl_si, hk_sp, hk_sl, hk_cp, hp_cp, hTy.live, hTy.ng, hTy.l2, Int32.le_refl, e3, n1_ne, e4]
end M6
