set_option maxRecDepth 100000
/-! X: text and house, what changes nothing but what is asked -/
section X3
variable {d : Nat} {h h' : aH} {T : aTx} {w : Nat → Int32} {sd : Int32} {a tx sa ga la : Nat} {qs qg : Nat → Nat}
theorem in18 {x : Nat} (hk : hk_ h x = (18, 0)) : ((hk_ h x).1 ∈ ([18] : List Nat)) = True := by rw [hk]; simp
theorem in16 {x : Nat} (hk : hk_ h x = (16, 0)) : ((hk_ h x).1 ∈ ([16] : List Nat)) = True := by rw [hk]; simp
theorem x_isThere (hT : XT h T tx sa ga la qs qg) {g : Nat} (hg : g < ng_ T) {x : Int32} : (run (d) 338 0 [.ref (qg g), .int x] [] h) = some (.returned (some (.int (bI (th_ T g x)))), h) := by
  unfold th_ ti_
  by_cases q1 : hr_ T g ≤ x
  · have q1' : ¬ x < hr_ T g := Int32.not_lt.mpr q1
    by_cases q2 : x < hr_ T g + hs_ T g
    · have q2' : ¬ hr_ T g + hs_ T g ≤ x := Int32.not_le.mpr q2
      simp only [e338_0, e338_1, e338_2, e338_5, e338_8, e338_9, e338_10, e338_13, e338_14, e338_17, e338_18, e338_21, e338_22, e338_25, e338_26, ↓reduceIte, Nat.reduceAdd, Nat.reduceLeDiff, Nat.reduceLT, Nat.reduceEqDiff, not_false_eq_true, false_or, true_or, or_true, or_false, n0_e, n1_ne, n1_11, bI_z, bI_1, bI_fo, va_rf_some, aBk_1, aBk_0, nI_add, nI_mul, hk_si, hp_si, hl_si, hk_sp, hk_sl, hk_cp, hp_cp, hT.kqg hg, hT.hr hg, hT.hs hg, q1, q1', q2, q2', n1_01, decide_true, Bool.and_self]
      rfl
    · have q2' : hr_ T g + hs_ T g ≤ x := Int32.not_lt.mp q2
      simp only [e338_0, e338_1, e338_2, e338_5, e338_8, e338_9, e338_10, e338_13, e338_14, e338_17, e338_18, e338_21, e338_22, e338_25, e338_26, ↓reduceIte, Nat.reduceAdd, Nat.reduceLeDiff, Nat.reduceLT, Nat.reduceEqDiff, not_false_eq_true, false_or, true_or, or_true, or_false, n0_e, n1_ne, n1_11, bI_z, bI_1, bI_fo, va_rf_some, aBk_1, aBk_0, nI_add, nI_mul, hk_si, hp_si, hl_si, hk_sp, hk_sl, hk_cp, hp_cp, hT.kqg hg, hT.hr hg, hT.hs hg, q1, q1', q2, q2', n0_01, decide_true, decide_false, Bool.and_false]
      rfl
  · have q1' : x < hr_ T g := Int32.not_le.mp q1
    simp only [e338_0, e338_1, e338_2, e338_5, e338_8, e338_9, e338_10, e338_13, e338_14, e338_17, e338_18, e338_21, e338_22, e338_25, e338_26, ↓reduceIte, Nat.reduceAdd, Nat.reduceLeDiff, Nat.reduceLT, Nat.reduceEqDiff, not_false_eq_true, false_or, true_or, or_true, or_false, n0_e, n1_ne, n1_11, bI_z, bI_1, bI_fo, va_rf_some, aBk_1, aBk_0, nI_add, nI_mul, hk_si, hp_si, hl_si, hk_sp, hk_sl, hk_cp, hp_cp, hT.kqg hg, hT.hr hg, hT.hs hg, q1, q1', n0_01, decide_false, Bool.false_and]
    rfl
theorem x_meets (hT : XT h T tx sa ga la qs qg) {g o : Nat} (hg : g < ng_ T) (ho : o < ng_ T) : (run (d) 339 0 [.ref (qg g), .ref (qg o)] [] h) = some (.returned (some (.int (bI (decide (hr_ T g < ti_ T o) && decide (hr_ T o < ti_ T g))))), h) := by
  unfold ti_
  by_cases q1 : hr_ T g < hr_ T o + hs_ T o
  · have q1' : ¬ hr_ T o + hs_ T o ≤ hr_ T g := Int32.not_le.mpr q1
    by_cases q2 : hr_ T o < hr_ T g + hs_ T g
    · have q2' : ¬ hr_ T g + hs_ T g ≤ hr_ T o := Int32.not_le.mpr q2
      simp only [e339_0, e339_1, e339_4, e339_5, e339_8, e339_9, e339_12, e339_13, e339_16, e339_17, e339_20, e339_21, e339_24, e339_25, e339_28, e339_29, e339_32, e339_33, e339_36, e339_37, ↓reduceIte, Nat.reduceAdd, Nat.reduceLeDiff, Nat.reduceLT, Nat.reduceEqDiff, not_false_eq_true, false_or, true_or, or_true, or_false, n0_e, n1_ne, n1_11, bI_z, bI_1, bI_fo, va_rf_some, aBk_1, aBk_0, nI_add, nI_mul, hk_si, hp_si, hl_si, hk_sp, hk_sl, hk_cp, hp_cp, hT.kqg hg, hT.kqg ho, hT.hr hg, hT.hs hg, hT.hr ho, hT.hs ho, q1, q1', q2, q2', n1_01, decide_true, Bool.and_self]
      rfl
    · have q2' : hr_ T g + hs_ T g ≤ hr_ T o := Int32.not_lt.mp q2
      simp only [e339_0, e339_1, e339_4, e339_5, e339_8, e339_9, e339_12, e339_13, e339_16, e339_17, e339_20, e339_21, e339_24, e339_25, e339_28, e339_29, e339_32, e339_33, e339_36, e339_37, ↓reduceIte, Nat.reduceAdd, Nat.reduceLeDiff, Nat.reduceLT, Nat.reduceEqDiff, not_false_eq_true, false_or, true_or, or_true, or_false, n0_e, n1_ne, n1_11, bI_z, bI_1, bI_fo, va_rf_some, aBk_1, aBk_0, nI_add, nI_mul, hk_si, hp_si, hl_si, hk_sp, hk_sl, hk_cp, hp_cp, hT.kqg hg, hT.kqg ho, hT.hr hg, hT.hs hg, hT.hr ho, hT.hs ho, q1, q1', q2, q2', n0_01, decide_true, decide_false, Bool.and_false]
      rfl
  · have q1' : hr_ T o + hs_ T o ≤ hr_ T g := Int32.not_lt.mp q1
    simp only [e339_0, e339_1, e339_4, e339_5, e339_8, e339_9, e339_12, e339_13, e339_16, e339_17, e339_20, e339_21, e339_24, e339_25, e339_28, e339_29, e339_32, e339_33, e339_36, e339_37, ↓reduceIte, Nat.reduceAdd, Nat.reduceLeDiff, Nat.reduceLT, Nat.reduceEqDiff, not_false_eq_true, false_or, true_or, or_true, or_false, n0_e, n1_ne, n1_11, bI_z, bI_1, bI_fo, va_rf_some, aBk_1, aBk_0, nI_add, nI_mul, hk_si, hp_si, hl_si, hk_sp, hk_sl, hk_cp, hp_cp, hT.kqg hg, hT.kqg ho, hT.hr hg, hT.hs hg, hT.hr ho, hT.hs ho, q1, q1', n0_01, decide_false, Bool.false_and]
    rfl
theorem x_clash (hT : XT h T tx sa ga la qs qg) {g o : Nat} (hg : g < ng_ T) (ho : o < ng_ T) : (run (d + 3) 110 0 [.ref tx, .int (nI g), .int (nI o)] [] h) = some (.returned (some (.int (bI (cl_ T g o)))), h) := by
  have h7 := hT.ng7
  have e : (nI g = nI o) = (g = o) := propext (nI_eq (by omega) (by omega))
  unfold cl_
  by_cases q1 : g = o
  · subst q1
    simp only [e110_0, e110_1, e110_2, e110_5, e110_6, e110_9, e110_10, e110_13, e110_16, e110_19, e110_20, e110_21, e110_22, e110_23, e110_24, e110_27, e110_28, e110_31, e110_32, e110_35, e110_38, e110_39, e110_42, e110_43, e110_46, e110_49, e110_52, e110_55, e110_56, e110_59, e110_60, List.mem_cons, List.not_mem_nil, ↓reduceIte, Nat.reduceAdd, Nat.reduceLeDiff, Nat.reduceLT, Nat.reduceEqDiff, not_false_eq_true, false_or, true_or, or_true, or_false, n0_e, n1_ne, n1_11, bI_z, bI_1, bI_fo, va_rf_some, aBk_1, aBk_0, nI_add, nI_mul, hk_si, hp_si, hl_si, hk_sp, hk_sl, hk_cp, hp_cp, n0_01]
    rw [show Nat.beq g g = true from Nat.beq_refl g]
    rfl
  · have q0 : Nat.beq g o = false := by
      cases hb : Nat.beq g o with
      | true => exact absurd (Nat.eq_of_beq_eq_true hb) q1
      | false => rfl
    rw [q0]
    by_cases q2 : shr_ (fo_ T g) (nI o) &&& nI 1 = nI 1
    · simp only [e110_0, e110_1, e110_2, e110_5, e110_6, e110_9, e110_10, e110_13, e110_16, e110_19, e110_20, e110_21, e110_22, e110_23, e110_24, e110_27, e110_28, e110_31, e110_32, e110_35, e110_38, e110_39, e110_42, e110_43, e110_46, e110_49, e110_52, e110_55, e110_56, e110_59, e110_60, List.mem_cons, List.not_mem_nil, ↓reduceIte, Nat.reduceAdd, Nat.reduceLeDiff, Nat.reduceLT, Nat.reduceEqDiff, not_false_eq_true, false_or, true_or, or_true, or_false, n0_e, n1_ne, n1_11, bI_z, bI_1, bI_fo, va_rf_some, aBk_1, aBk_0, nI_add, nI_mul, hk_si, hp_si, hl_si, hk_sp, hk_sl, hk_cp, hp_cp, e, q1, hT.ktx, hT.p45, hT.kga, x_get hT.G hg, in18 (hT.kqg hg), hT.kqg hg, hT.fo hg, q2, n1_01, decide_true, Bool.true_or, Bool.not_false, Bool.and_self]
      rfl
    · cases q3 : (decide (hr_ T g < ti_ T o) && decide (hr_ T o < ti_ T g)) with
      | true =>
        simp only [e110_0, e110_1, e110_2, e110_5, e110_6, e110_9, e110_10, e110_13, e110_16, e110_19, e110_20, e110_21, e110_22, e110_23, e110_24, e110_27, e110_28, e110_31, e110_32, e110_35, e110_38, e110_39, e110_42, e110_43, e110_46, e110_49, e110_52, e110_55, e110_56, e110_59, e110_60, List.mem_cons, List.not_mem_nil, ↓reduceIte, Nat.reduceAdd, Nat.reduceLeDiff, Nat.reduceLT, Nat.reduceEqDiff, not_false_eq_true, false_or, true_or, or_true, or_false, n0_e, n1_ne, n1_11, bI_1, bI_fo, va_rf_some, aBk_1, aBk_0, nI_add, nI_mul, hk_si, hp_si, hl_si, hk_sp, hk_sl, hk_cp, hp_cp, e, q1, hT.ktx, hT.p45, hT.kga, x_get hT.G hg, x_get hT.G ho, in18 (hT.kqg hg), in18 (hT.kqg ho), hT.kqg hg, hT.fo hg, q2, x_meets hT hg ho, q3, bI_z, reduceCtorEq, n1_01, decide_false, Bool.or_true, Bool.not_false, Bool.and_self]
        rfl
      | false =>
        simp only [e110_0, e110_1, e110_2, e110_5, e110_6, e110_9, e110_10, e110_13, e110_16, e110_19, e110_20, e110_21, e110_22, e110_23, e110_24, e110_27, e110_28, e110_31, e110_32, e110_35, e110_38, e110_39, e110_42, e110_43, e110_46, e110_49, e110_52, e110_55, e110_56, e110_59, e110_60, List.mem_cons, List.not_mem_nil, ↓reduceIte, Nat.reduceAdd, Nat.reduceLeDiff, Nat.reduceLT, Nat.reduceEqDiff, not_false_eq_true, false_or, true_or, or_true, or_false, n0_e, n1_ne, n1_11, bI_1, bI_fo, va_rf_some, aBk_1, aBk_0, nI_add, nI_mul, hk_si, hp_si, hl_si, hk_sp, hk_sl, hk_cp, hp_cp, e, q1, hT.ktx, hT.p45, hT.kga, x_get hT.G hg, x_get hT.G ho, in18 (hT.kqg hg), in18 (hT.kqg ho), hT.kqg hg, hT.fo hg, q2, x_meets hT hg ho, q3, bI_z, n0_01, decide_false, Bool.or_false, Bool.not_false, Bool.and_false]
        rfl
theorem x_trivals (hT : XT h T tx sa ga la qs qg) {g : Nat} (hg : g < ng_ T) : (run (d + 4) 109 0 [.ref tx, .int (nI g), aU, aU] [] h) = some (.returned (some (.int (nI (cB_ T g)))), h) := by
  have h7 := hT.ng7
  simp only [e109_0, e109_1, e109_2, e109_3, e109_5, e109_6, e109_9, e109_12, e109_15, e109_16, e109_17, e109_18, e109_19, e109_22, e109_25, e109_26, e109_27, e109_28, e109_31, e109_32, e109_33, e109_34, e109_37, e109_40, e109_41, ↓reduceIte, Nat.reduceAdd, Nat.reduceLeDiff, Nat.reduceLT, Nat.reduceEqDiff, not_false_eq_true, false_or, true_or, or_true, or_false, n0_e, n1_ne, n1_11, bI_z, bI_1, bI_fo, va_rf_some, aBk_1, aBk_0, nI_add, nI_mul, hk_si, hp_si, hl_si, hk_sp, hk_sl, hk_cp, hp_cp]
  refine (run_for (F := fun j b => (run (d + 4) 109 4 [.ref tx, .int (nI g), .int (nI b), .int (nI j)] [] h)) (f := fun o b => bif cl_ T g o then b ||| 2 ^ o else b) (a := 0) (n := ng_ T) (fun j hj => ?_)).trans ?_
  · have h1 : ¬ nI (ng_ T) ≤ nI j := nI_ge hj (by omega)
    refine (e109_4).trans ?_
    cases q : cl_ T g j with
    | true => simp only [e109_0, e109_1, e109_2, e109_3, e109_5, e109_6, e109_9, e109_12, e109_15, e109_16, e109_17, e109_18, e109_19, e109_22, e109_25, e109_26, e109_27, e109_28, e109_31, e109_32, e109_33, e109_34, e109_37, e109_40, e109_41, ↓reduceIte, Nat.reduceAdd, Nat.reduceLeDiff, Nat.reduceLT, Nat.reduceEqDiff, not_false_eq_true, false_or, true_or, or_true, or_false, n0_e, n1_ne, n1_11, bI_1, bI_fo, va_rf_some, aBk_1, aBk_0, nI_add, nI_mul, hk_si, hp_si, hl_si, hk_sp, hk_sl, hk_cp, hp_cp, hT.ktx, hT.p45, hT.kga, x_size hT.G, h1, x_clash hT hg hj, q, bI_z, reduceCtorEq, shl_1 j (show j < 32 by omega), nI_or, cond_true]
    | false => simp only [e109_0, e109_1, e109_2, e109_3, e109_5, e109_6, e109_9, e109_12, e109_15, e109_16, e109_17, e109_18, e109_19, e109_22, e109_25, e109_26, e109_27, e109_28, e109_31, e109_32, e109_33, e109_34, e109_37, e109_40, e109_41, ↓reduceIte, Nat.reduceAdd, Nat.reduceLeDiff, Nat.reduceLT, Nat.reduceEqDiff, not_false_eq_true, false_or, true_or, or_true, or_false, n0_e, n1_ne, n1_11, bI_1, bI_fo, va_rf_some, aBk_1, aBk_0, nI_add, nI_mul, hk_si, hp_si, hl_si, hk_sp, hk_sl, hk_cp, hp_cp, hT.ktx, hT.p45, hT.kga, x_size hT.G, h1, x_clash hT hg hj, q, bI_z, nI_or, Nat.or_zero, cond_false]
  · refine (e109_4).trans ?_
    simp only [e109_0, e109_1, e109_2, e109_3, e109_5, e109_6, e109_9, e109_12, e109_15, e109_16, e109_17, e109_18, e109_19, e109_22, e109_25, e109_26, e109_27, e109_28, e109_31, e109_32, e109_33, e109_34, e109_37, e109_40, e109_41, ↓reduceIte, Nat.reduceAdd, Nat.reduceLeDiff, Nat.reduceLT, Nat.reduceEqDiff, not_false_eq_true, false_or, true_or, or_true, or_false, n0_e, n1_ne, n1_11, bI_z, bI_1, bI_fo, va_rf_some, aBk_1, aBk_0, nI_add, nI_mul, hk_si, hp_si, hl_si, hk_sp, hk_sl, hk_cp, hp_cp, hT.ktx, hT.p45, hT.kga, x_size hT.G, Int32.le_refl]
    rfl
theorem x_isLong (hT : XT h T tx sa ga la qs qg) {g s : Nat} (hg : g < ng_ T) (hs : s < ns_ T) : (run (d + 3) 108 0 [.ref tx, .int (nI g), .int (nI s)] [] h) = some (.returned (some (.int (bI (decide (ti_ T g ≤ lo_ T s))))), h) := by
  unfold ti_
  by_cases q : hr_ T g + hs_ T g ≤ lo_ T s
  · have q' : ¬ lo_ T s < hr_ T g + hs_ T g := Int32.not_lt.mpr q
    simp only [e108_0, e108_1, e108_4, e108_5, e108_8, e108_11, e108_14, e108_15, e108_18, e108_19, e108_22, e108_25, e108_28, e108_29, e108_30, e108_33, e108_34, e108_37, e108_40, e108_43, e108_46, e108_47, e108_50, e108_51, List.mem_cons, List.not_mem_nil, ↓reduceIte, Nat.reduceAdd, Nat.reduceLeDiff, Nat.reduceLT, Nat.reduceEqDiff, not_false_eq_true, false_or, true_or, or_true, or_false, n0_e, n1_ne, n1_11, bI_z, bI_1, bI_fo, va_rf_some, aBk_1, aBk_0, nI_add, nI_mul, hk_si, hp_si, hl_si, hk_sp, hk_sl, hk_cp, hp_cp, hT.ktx, hT.p45, hT.p44, hT.kga, hT.ksa, x_get hT.G hg, x_get hT.S hs, in18 (hT.kqg hg), in16 (hT.kqs hs), hT.kqg hg, hT.kqs hs, hT.hr hg, hT.hs hg, hT.lo hs, q, q', n1_01, decide_true]
    rfl
  · have q' : lo_ T s < hr_ T g + hs_ T g := Int32.not_le.mp q
    simp only [e108_0, e108_1, e108_4, e108_5, e108_8, e108_11, e108_14, e108_15, e108_18, e108_19, e108_22, e108_25, e108_28, e108_29, e108_30, e108_33, e108_34, e108_37, e108_40, e108_43, e108_46, e108_47, e108_50, e108_51, List.mem_cons, List.not_mem_nil, ↓reduceIte, Nat.reduceAdd, Nat.reduceLeDiff, Nat.reduceLT, Nat.reduceEqDiff, not_false_eq_true, false_or, true_or, or_true, or_false, n0_e, n1_ne, n1_11, bI_z, bI_1, bI_fo, va_rf_some, aBk_1, aBk_0, nI_add, nI_mul, hk_si, hp_si, hl_si, hk_sp, hk_sl, hk_cp, hp_cp, hT.ktx, hT.p45, hT.p44, hT.kga, hT.ksa, x_get hT.G hg, x_get hT.S hs, in18 (hT.kqg hg), in16 (hT.kqs hs), hT.kqg hg, hT.kqs hs, hT.hr hg, hT.hs hg, hT.lo hs, q, q', n0_01, decide_false]
    rfl
theorem x_hhours (ha : 78 ≤ a ∧ a + 7 < 458) (hT : XT h T tx sa ga la qs qg) (hX : XH h a w sd) {s : Int32} : (run (d + 3) 127 0 [.ref a, .ref tx, .int s, aU, aU] [] h) = some (.returned (some (.int (hT_ T w s))), h) := by
  have hH := hX.s
  have h7 := hT.ng7
  simp only [e127_0, e127_1, e127_2, e127_3, e127_7, e127_8, e127_11, e127_14, e127_17, e127_18, e127_19, e127_22, e127_24, e127_25, e127_26, e127_29, e127_30, e127_33, e127_35, e127_38, e127_41, e127_44, e127_47, e127_48, e127_49, e127_50, e127_53, e127_56, e127_57, List.mem_cons, List.not_mem_nil, ↓reduceIte, Nat.reduceAdd, Nat.reduceLeDiff, Nat.reduceLT, Nat.reduceEqDiff, not_false_eq_true, false_or, true_or, or_true, or_false, n0_e, n1_ne, n1_11, bI_z, bI_1, bI_fo, va_rf_some, aBk_1, aBk_0, nI_add, nI_mul, hk_si, hp_si, hl_si, hk_sp, hk_sl, hk_cp, hp_cp]
  refine (run_for (F := fun j b => (run (d + 3) 127 5 [.ref a, .ref tx, .int s, .int b, .int (nI j)] [] h)) (f := fun g b => if w g = s then b + hs_ T g else b) (a := nI 0) (n := ng_ T) (fun j hj => ?_)).trans ?_
  · have h1 : ¬ nI (ng_ T) ≤ nI j := nI_ge hj (by omega)
    have h2 : j < 7 := by omega
    have hz : ∀ x : Int32, x + nI 0 = x := fun x => by rw [nI_0]; exact Int32.add_zero x
    refine (e127_5).trans ?_
    by_cases q : w j = s
    · simp only [e127_0, e127_1, e127_2, e127_3, e127_7, e127_8, e127_11, e127_14, e127_17, e127_18, e127_19, e127_22, e127_24, e127_25, e127_26, e127_29, e127_30, e127_33, e127_35, e127_38, e127_41, e127_44, e127_47, e127_48, e127_49, e127_50, e127_53, e127_56, e127_57, hs_k hH, hs_p53 hH, hs_k1 hH, List.mem_cons, List.not_mem_nil, ↓reduceIte, Nat.reduceAdd, Nat.reduceLeDiff, Nat.reduceLT, Nat.reduceEqDiff, not_false_eq_true, false_or, true_or, or_true, or_false, n0_e, n1_ne, n1_11, bI_z, bI_1, bI_fo, va_rf_some, aBk_1, aBk_0, nI_add, nI_mul, hk_si, hp_si, hl_si, hk_sp, hk_sl, hk_cp, hp_cp, hT.ktx, hT.p45, hT.kga, x_size hT.G, h1, h2, hX.in_ h2, q, x_get hT.G hj, in18 (hT.kqg hj), hT.kqg hj, hT.hs hj]
    · simp only [e127_0, e127_1, e127_2, e127_3, e127_7, e127_8, e127_11, e127_14, e127_17, e127_18, e127_19, e127_22, e127_24, e127_25, e127_26, e127_29, e127_30, e127_33, e127_35, e127_38, e127_41, e127_44, e127_47, e127_48, e127_49, e127_50, e127_53, e127_56, e127_57, hs_k hH, hs_p53 hH, hs_k1 hH, List.mem_cons, List.not_mem_nil, ↓reduceIte, Nat.reduceAdd, Nat.reduceLeDiff, Nat.reduceLT, Nat.reduceEqDiff, not_false_eq_true, false_or, true_or, or_true, or_false, n0_e, n1_ne, n1_11, bI_z, bI_1, bI_fo, va_rf_some, aBk_1, aBk_0, nI_add, nI_mul, hk_si, hp_si, hl_si, hk_sp, hk_sl, hk_cp, hp_cp, hT.ktx, hT.p45, hT.kga, x_size hT.G, h1, h2, hX.in_ h2, q, hz]
  · refine (e127_5).trans ?_
    simp only [e127_0, e127_1, e127_2, e127_3, e127_7, e127_8, e127_11, e127_14, e127_17, e127_18, e127_19, e127_22, e127_24, e127_25, e127_26, e127_29, e127_30, e127_33, e127_35, e127_38, e127_41, e127_44, e127_47, e127_48, e127_49, e127_50, e127_53, e127_56, e127_57, List.mem_cons, List.not_mem_nil, ↓reduceIte, Nat.reduceAdd, Nat.reduceLeDiff, Nat.reduceLT, Nat.reduceEqDiff, not_false_eq_true, false_or, true_or, or_true, or_false, n0_e, n1_ne, n1_11, bI_z, bI_1, bI_fo, va_rf_some, aBk_1, aBk_0, nI_add, nI_mul, hk_si, hp_si, hl_si, hk_sp, hk_sl, hk_cp, hp_cp, hT.ktx, hT.p45, hT.kga, x_size hT.G, Int32.le_refl]
    rfl
/-- one who is asked in a house -/
theorem x_AQ (ha : 78 ≤ a ∧ a + 7 < 458) (hH : HS h a) {v : Nat → Int32} (hv : ∀ k, k < 9 → hi_ h (a + 7) k = v k) : AQ h (a + 6) v := ⟨by omega, by unfold xa; omega, hs_k6 hH, hs_p64 hH, hs_k7 hH, hv⟩
theorem NP.E {x f : Nat} (q : NP (a + 6) x f) : HE a x f := Or.inr q
theorem x_told (ha : 78 ≤ a ∧ a + 7 < 458) (hT : XT h T tx sa ga la qs qg) (hX : XH h a w sd) {k g s l : Nat} {o : Int32} {L : aLw} (hk : k < 4) (hg : g < ng_ T) (hs : s < ns_ T) (hl : hp_ h la k = some l) (hL : XL h l L) : ∃ h', (∀ d, (run (d + 402) 133 0 [.ref a, .ref tx, .int (nI k), .int (nI g), .int (nI s), .int o, aU] [] h) = some (.returned (some (.int (tl_ L (vg_ T w g s o)))), h')) ∧ On (HE a) h h' := by
  have hH := hX.s
  have h7 := hT.ng7
  have h4 := hT.ns4
  have g7 : g < 7 := by omega
  have g4 : s < 4 := by omega
  have hx : ∃ x, x = si_ (si_ (si_ (si_ (si_ (si_ (si_ (si_ (si_ h (a + 7) 0 (fe_ T g)) (a + 7) 1 (hs_ T g)) (a + 7) 2 (hr_ T g)) (a + 7) 3 (w (7 + g))) (a + 7) 4 (w (21 + s))) (a + 7) 5 (wo_ T s)) (a + 7) 6 (w 29)) (a + 7) 7 (nI g)) (a + 7) 8 o := ⟨_, rfl⟩
  obtain ⟨x, ex⟩ := hx
  have o1 : On (HE a) h x := by
    rw [ex]
    exact ((((((((On.si (Or.inl rfl)).trans (On.si (Or.inl rfl))).trans (On.si (Or.inl rfl))).trans (On.si (Or.inl rfl))).trans (On.si (Or.inl rfl))).trans (On.si (Or.inl rfl))).trans (On.si (Or.inl rfl))).trans (On.si (Or.inl rfl))).trans (On.si (Or.inl rfl))
  have vx : ∀ k, k < 9 → hi_ x (a + 7) k = vg_ T w g s o k := by
    intro k hk
    rw [ex]
    simp only [hi_si, true_and]
    match k, hk with
    | 0, _ => rfl
    | 1, _ => rfl
    | 2, _ => rfl
    | 3, _ => rfl
    | 4, _ => rfl
    | 5, _ => rfl
    | 6, _ => rfl
    | 7, _ => rfl
    | 8, _ => rfl
  have hS : ∀ z f, HE a z f → ¬ xa z := fun _ _ q => q.n ha
  have hA := x_AQ ha (hH.on o1) vx
  obtain ⟨h', e, o2⟩ := x_lawOf (hL.on o1 hS) hA
  have kl : hk_ x la = (112, 4) := (o1.k _).trans hT.kla
  have pl : hp_ x la k = some l := (o1.p _ _).trans hl
  have px : hp_ x tx 46 = some la := (o1.p _ _).trans hT.p46
  have kx : hk_ x tx = (4, 0) := (o1.k _).trans hT.ktx
  have kl2 : hk_ x l = (12, 0) := (o1.k _).trans hL.2.1
  have hHx := hH.on o1
  -- the texts between
  have ti : ∀ y, On (HE a) h y → XT y T tx sa ga la qs qg := fun y oy => hT.on oy hS
  have ym : On (HE a) h (si_ (si_ (si_ (si_ (si_ h (a + 7) 0 (fe_ T g)) (a + 7) 1 (hs_ T g)) (a + 7) 2 (hr_ T g)) (a + 7) 3 (w (7 + g))) (a + 7) 4 (w (21 + s))) := ((((On.si (Or.inl rfl)).trans (On.si (Or.inl rfl))).trans (On.si (Or.inl rfl))).trans (On.si (Or.inl rfl))).trans (On.si (Or.inl rfl))
  have hTm := ti _ ym
  have nq : ∀ {b : Nat}, xa b → (b = a + 7) = False := fun hb => eq_false (fun z => by unfold xa at hb; omega)
  have xg : xa (qg g) := (hT.G.2.2.2.2.2 g hg).1
  have xs : xa (qs s) := (hT.S.2.2.2.2.2 s hs).1
  have n1 : (a + 2 = a + 7) = False := eq_false (by omega)
  have n2 : (a + 3 = a + 7) = False := eq_false (by omega)
  have n3 : (a = a + 7) = False := eq_false (by omega)
  refine ⟨h', fun d => ?_, o1.trans (o2.mono (fun _ _ q => q.E))⟩
  rw [← min99]
  simp only [e133_0, e133_1, e133_4, e133_5, e133_8, e133_11, e133_13, e133_14, e133_17, e133_20, e133_21, e133_23, e133_26, e133_27, e133_28, e133_31, e133_34, e133_35, e133_37, e133_40, e133_41, e133_42, e133_45, e133_48, e133_49, e133_51, e133_54, e133_55, e133_56, e133_59, e133_62, e133_63, e133_64, e133_67, e133_68, e133_69, e133_70, e133_71, e133_74, e133_77, e133_78, e133_79, e133_82, e133_84, e133_85, e133_86, e133_87, e133_90, e133_93, e133_94, e133_95, e133_98, e133_100, e133_103, e133_106, e133_109, e133_110, e133_111, e133_114, e133_117, e133_119, e133_120, e133_123, e133_124, e133_125, e133_128, e133_131, e133_133, e133_134, e133_135, e133_136, e133_139, e133_142, e133_144, e133_146, hs_k hH, hs_p54 hH, hs_k2 hH, hs_p55 hH, hs_k3 hH, hs_p63 hH, hs_k6 hH, hs_p64 hH, hs_k7 hH, List.mem_cons, List.not_mem_nil, ↓reduceIte, Nat.reduceAdd, Nat.reduceLeDiff, Nat.reduceLT, not_false_eq_true, false_or, true_or, or_true, or_false, n0_e, n1_ne, n1_11, bI_z, bI_1, bI_fo, va_rf_some, aBk_1, aBk_0, nI_add, nI_mul, hk_si, hp_si, hl_si, hk_sp, hk_sl, hk_cp, hp_cp, hT.ktx, hT.p44, hT.p45, hT.kga, hT.ksa, x_get hT.G hg, x_get hTm.S hs, in18 (hT.kqg hg), in16 (hT.kqs hs), hT.kqg hg, hT.kqs hs, hT.fe hg, hT.hs hg, hT.hr hg, hT.wo hs, g7, g4, hX.re g7, hX.wo g4, hX.we, nq xg, nq xs, n1, n2, n3, hi_si, Nat.reduceEqDiff, false_and, true_and, and_false, and_true, g64_0 ha, g64_1 ha, g64_2 ha, g64_3 ha, g64_4 ha, g64_5 ha, g64_6 ha, g64_7 ha]
  rw [← ex]
  simp only [e133_147, e133_149, e133_150, e133_153, e133_154, e133_155, e133_156, e133_159, e133_162, e133_165, hs_k hHx, hs_p54 hHx, hs_k2 hHx, hs_p55 hHx, hs_k3 hHx, hs_p63 hHx, hs_k6 hHx, hs_p64 hHx, hs_k7 hHx, List.mem_cons, List.not_mem_nil, ↓reduceIte, Nat.reduceAdd, Nat.reduceLeDiff, Nat.reduceLT, Nat.reduceEqDiff, not_false_eq_true, false_or, true_or, or_true, or_false, n0_e, n1_ne, n1_11, bI_z, bI_1, bI_fo, va_rf_some, aBk_1, aBk_0, nI_add, nI_mul, hk_si, hp_si, hl_si, hk_sp, hk_sl, hk_cp, hp_cp, px, kx, kl, hk, pl, kl2, e]
theorem x_toldOf (ha : 78 ≤ a ∧ a + 7 < 458) (hT : XT h T tx sa ga la qs qg) (hW : WV T w) (hX : XH h a w sd) {k s l : Nat} {L : aLw} (hk : k < 4) (hs : s < ns_ T) (hl : hp_ h la k = some l) (hL : XL h l L) : ∃ h', (∀ d, (run (d + 402) 126 0 [.ref a, .ref tx, .int (nI k), .int (nI s)] [] h) = some (.returned (some (.int (tl_ L (vs_ T w s)))), h')) ∧ On (HE a) h h' := by
  have hH := hX.s
  have h7 := hT.ng7
  have h4 := hT.ns4
  have g4 : s < 4 := by omega
  have gb : gB_ T w (nI s) < 128 := Nat.lt_of_lt_of_le (orN_lt _ _) (Nat.pow_le_pow_right (n := 2) (by decide) h7)
  have es : nI s ≠ -2 := by
    intro e
    have := congrArg Int32.toInt e
    rw [nI_toInt (by omega)] at this
    revert this
    show ¬ ((s : Int) = (-2 : Int32).toInt)
    have : (-2 : Int32).toInt = -2 := by decide
    omega
  have eg := gB7 hT.v hW es
  have hx : ∃ x, x = si_ (si_ (si_ (si_ (si_ (si_ (si_ (si_ (si_ h (a + 7) 0 (nI 0)) (a + 7) 1 (hT_ T w (nI s))) (a + 7) 2 (nI 0)) (a + 7) 3 (nI 0)) (a + 7) 4 (w (21 + s))) (a + 7) 5 (wo_ T s)) (a + 7) 6 (w 29)) (a + 7) 7 (nI s)) (a + 7) 8 (bc_ (nI (gB_ T w (nI s)))) := ⟨_, rfl⟩
  obtain ⟨x, ex⟩ := hx
  have oA : On (HE a) h (si_ h (a + 7) 0 (nI 0)) := On.si (Or.inl rfl)
  have oB : On (HE a) h (si_ (si_ (si_ (si_ (si_ h (a + 7) 0 (nI 0)) (a + 7) 1 (hT_ T w (nI s))) (a + 7) 2 (nI 0)) (a + 7) 3 (nI 0)) (a + 7) 4 (w (21 + s))) := (((oA.trans (On.si (Or.inl rfl))).trans (On.si (Or.inl rfl))).trans (On.si (Or.inl rfl))).trans (On.si (Or.inl rfl))
  have oC : On (HE a) h (si_ (si_ (si_ (si_ (si_ (si_ (si_ (si_ h (a + 7) 0 (nI 0)) (a + 7) 1 (hT_ T w (nI s))) (a + 7) 2 (nI 0)) (a + 7) 3 (nI 0)) (a + 7) 4 (w (21 + s))) (a + 7) 5 (wo_ T s)) (a + 7) 6 (w 29)) (a + 7) 7 (nI s)) := ((oB.trans (On.si (Or.inl rfl))).trans (On.si (Or.inl rfl))).trans (On.si (Or.inl rfl))
  have o1 : On (HE a) h x := by
    rw [ex]
    exact oC.trans (On.si (Or.inl rfl))
  have vx : ∀ k, k < 9 → hi_ x (a + 7) k = vs_ T w s k := by
    intro k hk
    rw [ex]
    simp only [hi_si, true_and]
    match k, hk with
    | 0, _ => rfl
    | 1, _ => rfl
    | 2, _ => rfl
    | 3, _ => rfl
    | 4, _ => rfl
    | 5, _ => rfl
    | 6, _ => rfl
    | 7, _ => rfl
    | 8, _ => rfl
  have hS : ∀ z f, HE a z f → ¬ xa z := fun _ _ q => q.n ha
  have hA := x_AQ ha (hH.on o1) vx
  obtain ⟨h', e, o2⟩ := x_lawOf (hL.on o1 hS) hA
  have kl : hk_ x la = (112, 4) := (o1.k _).trans hT.kla
  have pl : hp_ x la k = some l := (o1.p _ _).trans hl
  have px : hp_ x tx 46 = some la := (o1.p _ _).trans hT.p46
  have kx : hk_ x tx = (4, 0) := (o1.k _).trans hT.ktx
  have kl2 : hk_ x l = (12, 0) := (o1.k _).trans hL.2.1
  have hHx := hH.on o1
  have hTA := hT.on oA hS
  have hXA := hX.onE oA
  have hTB := hT.on oB hS
  have hXC := hX.onE oC
  have xs : xa (qs s) := (hT.S.2.2.2.2.2 s hs).1
  have nq : ∀ {b : Nat}, xa b → (b = a + 7) = False := fun hb => eq_false (fun z => by unfold xa at hb; omega)
  have n2 : (a + 3 = a + 7) = False := eq_false (by omega)
  have n3 : (a = a + 7) = False := eq_false (by omega)
  refine ⟨h', fun d => ?_, o1.trans (o2.mono (fun _ _ q => q.E))⟩
  rw [← min99]
  simp only [e126_0, e126_1, e126_4, e126_7, e126_8, e126_9, e126_10, e126_11, e126_14, e126_17, e126_18, e126_19, e126_20, e126_21, e126_24, e126_25, e126_26, e126_29, e126_32, e126_33, e126_34, e126_35, e126_36, e126_39, e126_42, e126_43, e126_44, e126_45, e126_46, e126_49, e126_52, e126_53, e126_54, e126_57, e126_58, e126_59, e126_60, e126_61, e126_64, e126_67, e126_68, e126_69, e126_72, e126_73, e126_76, e126_79, e126_82, e126_83, e126_84, e126_87, e126_90, e126_92, e126_93, e126_96, e126_97, e126_98, e126_101, e126_104, e126_106, e126_107, e126_108, e126_109, e126_112, e126_115, e126_117, e126_118, e126_119, e126_122, e126_125, hs_k hH, hs_p55 hH, hs_k3 hH, hs_p63 hH, hs_k6 hH, hs_p64 hH, hs_k7 hH, List.mem_cons, List.not_mem_nil, ↓reduceIte, Nat.reduceAdd, Nat.reduceLeDiff, Nat.reduceLT, not_false_eq_true, false_or, true_or, or_true, or_false, n0_e, n1_ne, n1_11, bI_z, bI_1, bI_fo, va_rf_some, aBk_1, aBk_0, nI_add, nI_mul, hk_si, hp_si, hl_si, hk_sp, hk_sl, hk_cp, hp_cp, hT.ktx, hT.p44, hT.ksa, x_hhours ha hTA hXA, x_get hTB.S hs, in16 (hT.kqs hs), hT.kqs hs, hT.wo hs, g4, hX.wo g4, hX.we, x_hguests ha hXC, eg, x_bits gb, nq xs, n2, n3, hi_si, Nat.reduceEqDiff, false_and, true_and, and_false, and_true, g64_0 ha, g64_1 ha, g64_2 ha, g64_3 ha, g64_4 ha, g64_5 ha, g64_6 ha, g64_7 ha]
  rw [← ex]
  simp only [e126_126, e126_128, e126_129, e126_132, e126_133, e126_134, e126_135, e126_138, e126_141, e126_144, hs_k hHx, hs_p55 hHx, hs_k3 hHx, hs_p63 hHx, hs_k6 hHx, hs_p64 hHx, hs_k7 hHx, List.mem_cons, List.not_mem_nil, ↓reduceIte, Nat.reduceAdd, Nat.reduceLeDiff, Nat.reduceLT, Nat.reduceEqDiff, not_false_eq_true, false_or, true_or, or_true, or_false, n0_e, n1_ne, n1_11, bI_z, bI_1, bI_fo, va_rf_some, aBk_1, aBk_0, nI_add, nI_mul, hk_si, hp_si, hl_si, hk_sp, hk_sl, hk_cp, hp_cp, px, kx, kl, hk, pl, kl2, e]
theorem x_paysIn (ha : 78 ≤ a ∧ a + 7 < 458) (hT : XT h T tx sa ga la qs qg) (hX : XH h a w sd) {g s : Nat} {o : Int32} (hg : g < ng_ T) (hs : s < ns_ T) : ∃ h', (∀ d, (run (d + 403) 132 0 [.ref a, .ref tx, .int (nI g), .int (nI s), .int o] [] h) = some (.returned (some (.int (pA_ T w g s o))), h')) ∧ On (HE a) h h' := by
  have hH := hX.s
  have hl := hT.lw (k := 0) (by decide)
  unfold pA_ te_
  cases hla : la_ T 0 with
  | none =>
    rw [hla] at hl
    refine ⟨h, fun d => ?_, On.refl⟩
    simp only [e132_0, e132_1, e132_4, e132_5, e132_6n, e132_6, e132_9, e132_10, e132_13, e132_14, e132_17, e132_20, e132_23, e132_26, e132_27, e132_28, e132_29, e132_30, e132_31, e132_33, e132_36, hs_k hH, List.mem_cons, List.not_mem_nil, ↓reduceIte, Nat.reduceAdd, Nat.reduceLeDiff, Nat.reduceLT, Nat.reduceEqDiff, not_false_eq_true, false_or, true_or, or_true, or_false, n0_e, n1_ne, n1_11, bI_z, bI_1, bI_fo, va_rf_some, aBk_1, aBk_0, nI_add, nI_mul, hk_si, hp_si, hl_si, hk_sp, hk_sl, hk_cp, hp_cp, hT.ktx, hT.p46, hT.kla, hl, va_rf_none, hT.p45, hT.kga, x_get hT.G hg, in18 (hT.kqg hg), hT.kqg hg, hT.fe hg]
  | some L =>
    rw [hla] at hl
    obtain ⟨l, hl, hL⟩ := hl
    obtain ⟨h', e, o1⟩ := x_told (o := o) ha hT hX (k := 0) (by decide) hg hs hl hL
    have g6 : 64 ≤ l := xa_64 hL.1
    refine ⟨h', fun d => ?_, o1⟩
    simp only [e132_0, e132_1, e132_4, e132_5, e132_6n, e132_6, e132_9, e132_10, e132_13, e132_14, e132_17, e132_20, e132_23, e132_26, e132_27, e132_28, e132_29, e132_30, e132_31, e132_33, e132_36, hs_k hH, List.mem_cons, List.not_mem_nil, ↓reduceIte, Nat.reduceAdd, Nat.reduceLeDiff, Nat.reduceLT, Nat.reduceEqDiff, not_false_eq_true, false_or, true_or, or_true, or_false, n0_e, n1_ne, n1_11, bI_z, bI_1, bI_fo, va_rf_some, aBk_1, aBk_0, nI_add, nI_mul, hk_si, hp_si, hl_si, hk_sp, hk_sl, hk_cp, hp_cp, hT.ktx, hT.p46, hT.kla, hl, g6, e]
theorem x_others (ha : 78 ≤ a ∧ a + 7 < 458) (hT : XT h T tx sa ga la qs qg) (hW : WV T w) (hX : XH h a w sd) {g s : Nat} (hg : g < 7) (hs : s < ns_ T) (e : w g = nI s) : (run (d + 1) 131 0 [.ref a, .int (nI g)] [] h) = some (.returned (some (.int (ot_ T w g))), h) := by
  have hH := hX.s
  have h4 := hT.ns4
  have es : w g ≠ -2 := by
    rw [e]
    intro e
    have := congrArg Int32.toInt e
    rw [nI_toInt (by omega)] at this
    have h2 : (-2 : Int32).toInt = -2 := by decide
    omega
  have eg := gB7 hT.v hW es
  have gb : gB_ T w (w g) < 128 := Nat.lt_of_lt_of_le (orN_lt _ _) (Nat.pow_le_pow_right (n := 2) (by decide) hT.ng7)
  simp only [e131_0, e131_1, e131_2, e131_5, e131_6, e131_7, e131_10, e131_13, e131_14, e131_15, hs_k hH, hs_p53 hH, hs_k1 hH, ↓reduceIte, Nat.reduceAdd, Nat.reduceLeDiff, Nat.reduceLT, Nat.reduceEqDiff, not_false_eq_true, false_or, true_or, or_true, or_false, n0_e, n1_ne, n1_11, bI_z, bI_1, bI_fo, va_rf_some, aBk_1, aBk_0, nI_add, nI_mul, hk_si, hp_si, hl_si, hk_sp, hk_sl, hk_cp, hp_cp, hg, hX.in_ hg, x_hguests ha hX, eg, x_bits gb]
  rfl
theorem WV.in' (hW : WV T w) {g : Nat} (hg : g < 7) : w g < 0 ∨ ∃ s, s < ns_ T ∧ w g = nI s := (hW.1 g hg).imp (fun e => by rw [e]; decide) id
theorem WV.RW (hV : TV T) (hW : WV T w) : RW T w := fun g hg => hW.in' (by have := hV.2.1; omega)
theorem WV.D (hV : TV T) (hW : WV T w) : D01 T w := fun g hg => hW.2.2.1 g (by have := hV.2.1; omega)
theorem x_hpays (ha : 78 ≤ a ∧ a + 7 < 458) (hT : XT h T tx sa ga la qs qg) (hW : WV T w) (hX : XH h a w sd) {g : Nat} (hg : g < ng_ T) : ∃ h', (∀ d, (run (d + 404) 130 0 [.ref a, .ref tx, .int (nI g)] [] h) = some (.returned (some (.int (pO_ T w g))), h')) ∧ On (HE a) h h' := by
  have hH := hX.s
  have h7 := hT.ng7
  have h4 := hT.ns4
  have g7 : g < 7 := by omega
  unfold pO_
  rcases hW.in' g7 with hn | ⟨s, hs, e⟩
  · refine ⟨h, fun d => ?_, On.refl⟩
    have hn' : ¬ 0 ≤ w g := Int32.not_le.mpr hn
    rw [if_pos hn]
    simp only [e130_0, e130_1, e130_4, e130_5, e130_6, e130_9, e130_10, e130_13, e130_14, e130_15, e130_16, e130_17, e130_20, e130_21, e130_22, e130_23, e130_24, e130_27, e130_30, hs_k hH, hs_p53 hH, hs_k1 hH, ↓reduceIte, Nat.reduceAdd, Nat.reduceLeDiff, Nat.reduceLT, Nat.reduceEqDiff, not_false_eq_true, false_or, true_or, or_true, or_false, n0_e, n1_ne, n1_11, bI_z, bI_1, bI_fo, va_rf_some, aBk_1, aBk_0, nI_add, nI_mul, hk_si, hp_si, hl_si, hk_sp, hk_sl, hk_cp, hp_cp, g7, hX.in_ g7, hn']
  · have hn : ¬ w g < 0 := by rw [e]; exact nI_pos (by omega)
    have hn' : 0 ≤ w g := Int32.not_lt.mp hn
    have ec : (w g).toNatClampNeg = s := by rw [e]; exact nI_clamp (by omega)
    obtain ⟨h2, e2, o2⟩ := x_paysIn (o := ot_ T w g) ha hT hX hg hs
    refine ⟨h2, fun d => ?_, o2⟩
    rw [if_neg hn, ec]
    rw [← e] at e2
    simp only [e130_0, e130_1, e130_4, e130_5, e130_6, e130_9, e130_10, e130_13, e130_14, e130_15, e130_16, e130_17, e130_20, e130_21, e130_22, e130_23, e130_24, e130_27, e130_30, hs_k hH, hs_p53 hH, hs_k1 hH, ↓reduceIte, Nat.reduceAdd, Nat.reduceLeDiff, Nat.reduceLT, Nat.reduceEqDiff, not_false_eq_true, false_or, true_or, or_true, or_false, n0_e, n1_ne, n1_11, bI_z, bI_1, bI_fo, va_rf_some, aBk_1, aBk_0, nI_add, nI_mul, hk_si, hp_si, hl_si, hk_sp, hk_sl, hk_cp, hp_cp, g7, hX.in_ g7, hn', x_others ha hT hW hX g7 hs e, e2]
theorem x_hrests (ha : 78 ≤ a ∧ a + 7 < 458) (hT : XT h T tx sa ga la qs qg) (hW : WV T w) (hX : XH h a w sd) {g : Nat} (hg : g < ng_ T) : ∃ h', (∀ d, (run (d + 403) 134 0 [.ref a, .ref tx, .int (nI g)] [] h) = some (.returned (some (.int (rO_ T w g))), h')) ∧ On (HE a) h h' := by
  have hH := hX.s
  have h7 := hT.ng7
  have h4 := hT.ns4
  have g7 : g < 7 := by omega
  have hl := hT.lw (k := 1) (by decide)
  unfold rO_
  rcases hW.in' g7 with hn | ⟨s, hs, e⟩
  · refine ⟨h, fun d => ?_, On.refl⟩
    have hn' : ¬ 0 ≤ w g := Int32.not_le.mpr hn
    rw [if_pos hn]
    simp only [e134_0, e134_1, e134_4, e134_5, e134_6, e134_9, e134_10, e134_13, e134_14, e134_17, e134_18, e134_19n, e134_19, e134_22, e134_23, e134_26, e134_27, e134_30, e134_33, e134_36, e134_39, e134_40, e134_41, e134_42, e134_43, e134_44, e134_47, e134_48, e134_49, e134_50, e134_51, e134_54, e134_57, hs_k hH, hs_p53 hH, hs_k1 hH, List.mem_cons, List.not_mem_nil, ↓reduceIte, Nat.reduceAdd, Nat.reduceLeDiff, Nat.reduceLT, Nat.reduceEqDiff, not_false_eq_true, false_or, true_or, or_true, or_false, n0_e, n1_ne, n1_11, bI_z, bI_1, bI_fo, va_rf_some, aBk_1, aBk_0, nI_add, nI_mul, hk_si, hp_si, hl_si, hk_sp, hk_sl, hk_cp, hp_cp, g7, hX.in_ g7, hn']
  · have hn : ¬ w g < 0 := by rw [e]; exact nI_pos (by omega)
    have hn' : 0 ≤ w g := Int32.not_lt.mp hn
    have ec : (w g).toNatClampNeg = s := by rw [e]; exact nI_clamp (by omega)
    rw [if_neg hn, ec]
    unfold rA_ te_
    cases hla : la_ T 1 with
    | none =>
      rw [hla] at hl
      refine ⟨h, fun d => ?_, On.refl⟩
      simp only [e134_0, e134_1, e134_4, e134_5, e134_6, e134_9, e134_10, e134_13, e134_14, e134_17, e134_18, e134_19n, e134_19, e134_22, e134_23, e134_26, e134_27, e134_30, e134_33, e134_36, e134_39, e134_40, e134_41, e134_42, e134_43, e134_44, e134_47, e134_48, e134_49, e134_50, e134_51, e134_54, e134_57, hs_k hH, hs_p53 hH, hs_k1 hH, List.mem_cons, List.not_mem_nil, ↓reduceIte, Nat.reduceAdd, Nat.reduceLeDiff, Nat.reduceLT, Nat.reduceEqDiff, not_false_eq_true, false_or, true_or, or_true, or_false, n0_e, n1_ne, n1_11, bI_z, bI_1, bI_fo, va_rf_some, aBk_1, aBk_0, nI_add, nI_mul, hk_si, hp_si, hl_si, hk_sp, hk_sl, hk_cp, hp_cp, g7, hX.in_ g7, hn', hT.ktx, hT.p46, hT.kla, hl, va_rf_none, hT.p45, hT.kga, x_get hT.G hg, in18 (hT.kqg hg), hT.kqg hg, hT.hs hg]
    | some L =>
      rw [hla] at hl
      obtain ⟨l, hl, hL⟩ := hl
      obtain ⟨h', e2, o1⟩ := x_told (o := ot_ T w g) ha hT hX (k := 1) (by decide) hg hs hl hL
      have g6 : 64 ≤ l := xa_64 hL.1
      rw [← e] at e2
      refine ⟨h', fun d => ?_, o1⟩
      simp only [e134_0, e134_1, e134_4, e134_5, e134_6, e134_9, e134_10, e134_13, e134_14, e134_17, e134_18, e134_19n, e134_19, e134_22, e134_23, e134_26, e134_27, e134_30, e134_33, e134_36, e134_39, e134_40, e134_41, e134_42, e134_43, e134_44, e134_47, e134_48, e134_49, e134_50, e134_51, e134_54, e134_57, hs_k hH, hs_p53 hH, hs_k1 hH, List.mem_cons, List.not_mem_nil, ↓reduceIte, Nat.reduceAdd, Nat.reduceLeDiff, Nat.reduceLT, Nat.reduceEqDiff, not_false_eq_true, false_or, true_or, or_true, or_false, n0_e, n1_ne, n1_11, bI_z, bI_1, bI_fo, va_rf_some, aBk_1, aBk_0, nI_add, nI_mul, hk_si, hp_si, hl_si, hk_sp, hk_sl, hk_cp, hp_cp, g7, hX.in_ g7, hn', hT.ktx, hT.p46, hT.kla, hl, g6, x_others ha hT hW hX g7 hs e, e2]
theorem x_hwears (ha : 78 ≤ a ∧ a + 7 < 458) (hT : XT h T tx sa ga la qs qg) (hW : WV T w) (hX : XH h a w sd) {s : Nat} (hs : s < ns_ T) : ∃ h', (∀ d, (run (d + 403) 125 0 [.ref a, .ref tx, .int (nI s)] [] h) = some (.returned (some (.int (wO_ T w s))), h')) ∧ On (HE a) h h' := by
  have hH := hX.s
  have h7 := hT.ng7
  have h4 := hT.ns4
  have hl := hT.lw (k := 2) (by decide)
  have es : nI s ≠ -2 := by
    intro e
    have := congrArg Int32.toInt e
    rw [nI_toInt (by omega)] at this
    have h2 : (-2 : Int32).toInt = -2 := by decide
    omega
  have eg := gB7 hT.v hW es
  have gb : gB_ T w (nI s) < 2147483648 := orN_31 h7
  unfold wO_
  by_cases hz : gB_ T w (nI s) = 0
  · refine ⟨h, fun d => ?_, On.refl⟩
    rw [if_pos hz]
    simp only [e125_0, e125_1, e125_2, e125_5, e125_8, e125_9, e125_12, e125_13, e125_16, e125_17, e125_18n, e125_18, e125_21, e125_22, e125_25, e125_26, e125_27, e125_28, e125_29, e125_32, hs_k hH, ↓reduceIte, Nat.reduceAdd, Nat.reduceLeDiff, Nat.reduceLT, Nat.reduceEqDiff, not_false_eq_true, false_or, true_or, or_true, or_false, n0_e, n1_ne, n1_11, bI_z, bI_1, bI_fo, va_rf_some, aBk_1, aBk_0, nI_add, nI_mul, hk_si, hp_si, hl_si, hk_sp, hk_sl, hk_cp, hp_cp, x_hguests ha hX, eg, nI_z gb, hz]
  · rw [if_neg hz]
    unfold te_
    cases hla : la_ T 2 with
    | none =>
      rw [hla] at hl
      refine ⟨h, fun d => ?_, On.refl⟩
      simp only [e125_0, e125_1, e125_2, e125_5, e125_8, e125_9, e125_12, e125_13, e125_16, e125_17, e125_18n, e125_18, e125_21, e125_22, e125_25, e125_26, e125_27, e125_28, e125_29, e125_32, hs_k hH, ↓reduceIte, Nat.reduceAdd, Nat.reduceLeDiff, Nat.reduceLT, Nat.reduceEqDiff, not_false_eq_true, false_or, true_or, or_true, or_false, n0_e, n1_ne, n1_11, bI_z, bI_1, bI_fo, va_rf_some, aBk_1, aBk_0, nI_add, nI_mul, hk_si, hp_si, hl_si, hk_sp, hk_sl, hk_cp, hp_cp, x_hguests ha hX, eg, nI_z gb, hz, hT.ktx, hT.p46, hT.kla, hl, va_rf_none]
    | some L =>
      rw [hla] at hl
      obtain ⟨l, hl, hL⟩ := hl
      obtain ⟨h', e2, o1⟩ := x_toldOf ha hT hW hX (k := 2) (by decide) hs hl hL
      have g6 : 64 ≤ l := xa_64 hL.1
      refine ⟨h', fun d => ?_, o1⟩
      simp only [e125_0, e125_1, e125_2, e125_5, e125_8, e125_9, e125_12, e125_13, e125_16, e125_17, e125_18n, e125_18, e125_21, e125_22, e125_25, e125_26, e125_27, e125_28, e125_29, e125_32, hs_k hH, ↓reduceIte, Nat.reduceAdd, Nat.reduceLeDiff, Nat.reduceLT, Nat.reduceEqDiff, not_false_eq_true, false_or, true_or, or_true, or_false, n0_e, n1_ne, n1_11, bI_z, bI_1, bI_fo, va_rf_some, aBk_1, aBk_0, nI_add, nI_mul, hk_si, hp_si, hl_si, hk_sp, hk_sl, hk_cp, hp_cp, x_hguests ha hX, eg, nI_z gb, hz, hT.ktx, hT.p46, hT.kla, hl, g6, e2]
theorem x_hsells (ha : 78 ≤ a ∧ a + 7 < 458) (hT : XT h T tx sa ga la qs qg) (hW : WV T w) (hX : XH h a w sd) {s : Nat} (hs : s < ns_ T) : ∃ h', (∀ d, (run (d + 403) 128 0 [.ref a, .ref tx, .int (nI s)] [] h) = some (.returned (some (.int (sO_ T w s))), h')) ∧ On (HE a) h h' := by
  have hH := hX.s
  have hl := hT.lw (k := 3) (by decide)
  unfold sO_ te_
  cases hla : la_ T 3 with
  | none =>
    rw [hla] at hl
    refine ⟨h, fun d => ?_, On.refl⟩
    simp only [e128_0, e128_1, e128_4, e128_5, e128_6n, e128_6, e128_9, e128_10, e128_13, e128_14, e128_17, e128_20, e128_23, e128_26, e128_27, e128_28, e128_29, e128_30, e128_33, hs_k hH, List.mem_cons, List.not_mem_nil, ↓reduceIte, Nat.reduceAdd, Nat.reduceLeDiff, Nat.reduceLT, Nat.reduceEqDiff, not_false_eq_true, false_or, true_or, or_true, or_false, n0_e, n1_ne, n1_11, bI_z, bI_1, bI_fo, va_rf_some, aBk_1, aBk_0, nI_add, nI_mul, hk_si, hp_si, hl_si, hk_sp, hk_sl, hk_cp, hp_cp, hT.ktx, hT.p46, hT.kla, hl, va_rf_none, hT.p44, hT.ksa, x_get hT.S hs, in16 (hT.kqs hs), hT.kqs hs, hT.wo hs]
  | some L =>
    rw [hla] at hl
    obtain ⟨l, hl, hL⟩ := hl
    obtain ⟨h', e2, o1⟩ := x_toldOf ha hT hW hX (k := 3) (by decide) hs hl hL
    have g6 : 64 ≤ l := xa_64 hL.1
    refine ⟨h', fun d => ?_, o1⟩
    simp only [e128_0, e128_1, e128_4, e128_5, e128_6n, e128_6, e128_9, e128_10, e128_13, e128_14, e128_17, e128_20, e128_23, e128_26, e128_27, e128_28, e128_29, e128_30, e128_33, hs_k hH, List.mem_cons, List.not_mem_nil, ↓reduceIte, Nat.reduceAdd, Nat.reduceLeDiff, Nat.reduceLT, Nat.reduceEqDiff, not_false_eq_true, false_or, true_or, or_true, or_false, n0_e, n1_ne, n1_11, bI_z, bI_1, bI_fo, va_rf_some, aBk_1, aBk_0, nI_add, nI_mul, hk_si, hp_si, hl_si, hk_sp, hk_sl, hk_cp, hp_cp, hT.ktx, hT.p46, hT.kla, hl, g6, e2]
theorem x_due (ha : 78 ≤ a ∧ a + 7 < 458) (hT : XT h T tx sa ga la qs qg) (hW : WV T w) (hX : XH h a w sd) : ∃ h', (∀ d, (run (d + 405) 139 0 [.ref a, .ref tx, aU, aU] [] h) = some (.returned (some (.int (due_ T w))), h')) ∧ On (HE a) h h' := by
  have hH := hX.s
  have h7 := hT.ng7
  refine Exists.elim (run_invd (F := fun d j (x : Int32 × aH) => (run (d + 405) 139 4 [.ref a, .ref tx, .int x.1, .int (nI j)] [] x.2)) (I := fun j x => x.1 = itn j (fun g b => b + pO_ T w g) (nI 0) ∧ On (HE a) h x.2) (n := ng_ T) (x := (nI 0, h)) ⟨rfl, On.refl⟩ (fun j x hj hI => ?_)) (fun x hh => ?_)
  · obtain ⟨b, x⟩ := x
    obtain ⟨eb, o⟩ := hI
    have o : On (HE a) h x := o
    have hT1 := hT.onE ha o
    have hX1 := hX.onE o
    have hH1 := hX1.s
    obtain ⟨y, e, o2⟩ := x_hpays ha hT1 hW hX1 hj
    have h1 : ¬ nI (ng_ T) ≤ nI j := nI_ge hj (by omega)
    refine ⟨(b + pO_ T w j, y), fun d => ?_, by rw [show b = _ from eb]; rfl, o.trans o2⟩
    refine (e139_4).trans ?_
    simp only [e139_0, e139_1, e139_2, e139_3, e139_5, e139_6, e139_9, e139_12, e139_15, e139_16, e139_17, e139_18, e139_19, e139_22, e139_23, e139_24, e139_27, e139_30, e139_31, hs_k hH1, ↓reduceIte, Nat.reduceAdd, Nat.reduceLeDiff, Nat.reduceLT, Nat.reduceEqDiff, not_false_eq_true, false_or, true_or, or_true, or_false, n0_e, n1_ne, n1_11, bI_z, bI_1, bI_fo, va_rf_some, aBk_1, aBk_0, nI_add, nI_mul, hk_si, hp_si, hl_si, hk_sp, hk_sl, hk_cp, hp_cp, hT1.ktx, hT1.p45, hT1.kga, x_size hT1.G, h1, e]
  · obtain ⟨b, x⟩ := x
    obtain ⟨e, eb, o⟩ := hh
    have o : On (HE a) h x := o
    have hT1 := hT.onE ha o
    refine ⟨x, fun d => ?_, o⟩
    simp only [e139_0, e139_1, e139_2, e139_3, e139_5, e139_6, e139_9, e139_12, e139_15, e139_16, e139_17, e139_18, e139_19, e139_22, e139_23, e139_24, e139_27, e139_30, e139_31, ↓reduceIte, Nat.reduceAdd, Nat.reduceLeDiff, Nat.reduceLT, Nat.reduceEqDiff, not_false_eq_true, false_or, true_or, or_true, or_false, n0_e, n1_ne, n1_11, bI_z, bI_1, bI_fo, va_rf_some, aBk_1, aBk_0, nI_add, nI_mul, hk_si, hp_si, hl_si, hk_sp, hk_sl, hk_cp, hp_cp]
    refine (e d).trans ?_
    refine (e139_4).trans ?_
    simp only [e139_0, e139_1, e139_2, e139_3, e139_5, e139_6, e139_9, e139_12, e139_15, e139_16, e139_17, e139_18, e139_19, e139_22, e139_23, e139_24, e139_27, e139_30, e139_31, ↓reduceIte, Nat.reduceAdd, Nat.reduceLeDiff, Nat.reduceLT, Nat.reduceEqDiff, not_false_eq_true, false_or, true_or, or_true, or_false, n0_e, n1_ne, n1_11, bI_z, bI_1, bI_fo, va_rf_some, aBk_1, aBk_0, nI_add, nI_mul, hk_si, hp_si, hl_si, hk_sp, hk_sl, hk_cp, hp_cp, hT1.ktx, hT1.p45, hT1.kga, x_size hT1.G, Int32.le_refl]
    rw [show b = _ from eb]
    rfl
/-- to which sundays one could be let in -/
theorem x_hroom (ha : 78 ≤ a ∧ a + 7 < 458) (hT : XT h T tx sa ga la qs qg) (hW : WV T w) (hX : XH h a w sd) {g : Nat} (hg : g < ng_ T) : (run (d + 5) 135 0 [.ref a, .ref tx, .int (nI g), aU, aU] [] h) = some (.returned (some (.int (nI (rm_ T w g)))), h) := by
  have hH := hX.s
  have h7 := hT.ng7
  have h4 := hT.ns4
  have g7 : g < 7 := by omega
  by_cases hd : w (14 + g) = 0
  · simp only [e135_0, e135_1, e135_2, e135_3, e135_7, e135_8, e135_11, e135_14, e135_17, e135_18, e135_19, e135_22, e135_25, e135_26, e135_27, e135_29, e135_32, e135_35, e135_36, e135_37, e135_39, e135_42, e135_45, e135_46, e135_48, e135_51, e135_52, e135_53, e135_56, e135_57, e135_60, e135_61, e135_63, e135_64, e135_67, e135_68, e135_69, e135_70, e135_73, e135_76, e135_77, ↓reduceIte, Nat.reduceAdd, Nat.reduceLeDiff, Nat.reduceLT, Nat.reduceEqDiff, not_false_eq_true, false_or, true_or, or_true, or_false, n0_e, n1_ne, n1_11, bI_z, bI_1, bI_fo, va_rf_some, aBk_1, aBk_0, nI_add, nI_mul, hk_si, hp_si, hl_si, hk_sp, hk_sl, hk_cp, hp_cp]
    refine (run_for (F := fun j b => (run (d + 5) 135 5 [.ref a, .ref tx, .int (nI g), .int (nI b), .int (nI j)] [] h)) (f := fun s b => bif mgi_ T w g s then b ||| 2 ^ s else b) (a := 0) (n := ns_ T) (fun j hj => ?_)).trans ?_
    · have h1 : ¬ nI (ns_ T) ≤ nI j := nI_ge hj (by omega)
      have j4 : j < 4 := by omega
      have es : nI j ≠ -2 := by
        intro e
        have := congrArg Int32.toInt e
        rw [nI_toInt (by omega)] at this
        have h2 : (-2 : Int32).toInt = -2 := by decide
        omega
      have eg := gB7 hT.v hW es
      have gb : gB_ T w (nI j) &&& cB_ T g < 2147483648 := Nat.lt_of_le_of_lt Nat.and_le_left (orN_31 h7)
      unfold mgi_ fit_
      refine (e135_5).trans ?_
      by_cases q1 : w (25 + j) = 0
      · by_cases q2 : ti_ T g ≤ lo_ T j
        · by_cases q3 : gB_ T w (nI j) &&& cB_ T g = 0
          · simp only [e135_0, e135_1, e135_2, e135_3, e135_7, e135_8, e135_11, e135_14, e135_17, e135_18, e135_19, e135_22, e135_25, e135_26, e135_27, e135_29, e135_32, e135_35, e135_36, e135_37, e135_39, e135_42, e135_45, e135_46, e135_48, e135_51, e135_52, e135_53, e135_56, e135_57, e135_60, e135_61, e135_63, e135_64, e135_67, e135_68, e135_69, e135_70, e135_73, e135_76, e135_77, hs_k hH, ↓reduceIte, Nat.reduceAdd, Nat.reduceLeDiff, Nat.reduceLT, Nat.reduceEqDiff, not_false_eq_true, false_or, true_or, or_true, or_false, n0_e, n1_ne, n1_11, bI_1, bI_fo, va_rf_some, aBk_1, aBk_0, nI_add, nI_mul, hk_si, hp_si, hl_si, hk_sp, hk_sl, hk_cp, hp_cp, hT.ktx, hT.p44, hT.ksa, x_size hT.S, h1, x_isDead ha hX g7, hd, x_isSold ha hX j4, q1, x_isLong hT hg hj, q2, x_hguests ha hX, eg, x_trivals hT hg, nI_and, nI_z gb, q3, decide_true, Bool.not_true, bI_z, reduceCtorEq, shl_1 j (show j < 32 by omega), nI_or, Bool.and_self, cond_true]
          · simp only [e135_0, e135_1, e135_2, e135_3, e135_7, e135_8, e135_11, e135_14, e135_17, e135_18, e135_19, e135_22, e135_25, e135_26, e135_27, e135_29, e135_32, e135_35, e135_36, e135_37, e135_39, e135_42, e135_45, e135_46, e135_48, e135_51, e135_52, e135_53, e135_56, e135_57, e135_60, e135_61, e135_63, e135_64, e135_67, e135_68, e135_69, e135_70, e135_73, e135_76, e135_77, hs_k hH, ↓reduceIte, Nat.reduceAdd, Nat.reduceLeDiff, Nat.reduceLT, Nat.reduceEqDiff, not_false_eq_true, false_or, true_or, or_true, or_false, n0_e, n1_ne, n1_11, bI_1, bI_fo, va_rf_some, aBk_1, aBk_0, nI_add, nI_mul, hk_si, hp_si, hl_si, hk_sp, hk_sl, hk_cp, hp_cp, hT.ktx, hT.p44, hT.ksa, x_size hT.S, h1, x_isDead ha hX g7, hd, x_isSold ha hX j4, q1, x_isLong hT hg hj, q2, x_hguests ha hX, eg, x_trivals hT hg, nI_and, nI_z gb, q3, decide_true, decide_false, Bool.not_true, bI_z, reduceCtorEq, nI_or, Nat.or_zero, Bool.and_self, Bool.and_false, cond_false]
        · simp only [e135_0, e135_1, e135_2, e135_3, e135_7, e135_8, e135_11, e135_14, e135_17, e135_18, e135_19, e135_22, e135_25, e135_26, e135_27, e135_29, e135_32, e135_35, e135_36, e135_37, e135_39, e135_42, e135_45, e135_46, e135_48, e135_51, e135_52, e135_53, e135_56, e135_57, e135_60, e135_61, e135_63, e135_64, e135_67, e135_68, e135_69, e135_70, e135_73, e135_76, e135_77, hs_k hH, ↓reduceIte, Nat.reduceAdd, Nat.reduceLeDiff, Nat.reduceLT, Nat.reduceEqDiff, not_false_eq_true, false_or, true_or, or_true, or_false, n0_e, n1_ne, n1_11, bI_1, bI_fo, va_rf_some, aBk_1, aBk_0, nI_add, nI_mul, hk_si, hp_si, hl_si, hk_sp, hk_sl, hk_cp, hp_cp, hT.ktx, hT.p44, hT.ksa, x_size hT.S, h1, x_isDead ha hX g7, hd, x_isSold ha hX j4, q1, x_isLong hT hg hj, q2, decide_true, decide_false, Bool.not_true, bI_z, reduceCtorEq, nI_or, Nat.or_zero, Bool.and_self, Bool.and_false, Bool.false_and, cond_false]
      · simp only [e135_0, e135_1, e135_2, e135_3, e135_7, e135_8, e135_11, e135_14, e135_17, e135_18, e135_19, e135_22, e135_25, e135_26, e135_27, e135_29, e135_32, e135_35, e135_36, e135_37, e135_39, e135_42, e135_45, e135_46, e135_48, e135_51, e135_52, e135_53, e135_56, e135_57, e135_60, e135_61, e135_63, e135_64, e135_67, e135_68, e135_69, e135_70, e135_73, e135_76, e135_77, hs_k hH, ↓reduceIte, Nat.reduceAdd, Nat.reduceLeDiff, Nat.reduceLT, Nat.reduceEqDiff, not_false_eq_true, false_or, true_or, or_true, or_false, n0_e, n1_ne, n1_11, bI_1, bI_fo, va_rf_some, aBk_1, aBk_0, nI_add, nI_mul, hk_si, hp_si, hl_si, hk_sp, hk_sl, hk_cp, hp_cp, hT.ktx, hT.p44, hT.ksa, x_size hT.S, h1, x_isDead ha hX g7, hd, x_isSold ha hX j4, q1, decide_true, decide_false, Bool.not_true, Bool.not_false, bI_z, reduceCtorEq, nI_or, Nat.or_zero, Bool.and_self, Bool.and_false, Bool.false_and, cond_false]
    · refine (e135_5).trans ?_
      simp only [e135_0, e135_1, e135_2, e135_3, e135_7, e135_8, e135_11, e135_14, e135_17, e135_18, e135_19, e135_22, e135_25, e135_26, e135_27, e135_29, e135_32, e135_35, e135_36, e135_37, e135_39, e135_42, e135_45, e135_46, e135_48, e135_51, e135_52, e135_53, e135_56, e135_57, e135_60, e135_61, e135_63, e135_64, e135_67, e135_68, e135_69, e135_70, e135_73, e135_76, e135_77, ↓reduceIte, Nat.reduceAdd, Nat.reduceLeDiff, Nat.reduceLT, Nat.reduceEqDiff, not_false_eq_true, false_or, true_or, or_true, or_false, n0_e, n1_ne, n1_11, bI_z, bI_1, bI_fo, va_rf_some, aBk_1, aBk_0, nI_add, nI_mul, hk_si, hp_si, hl_si, hk_sp, hk_sl, hk_cp, hp_cp, hT.ktx, hT.p44, hT.ksa, x_size hT.S, Int32.le_refl]
      rfl
  · have er : rm_ T w g = 0 := by
      unfold rm_
      apply Nat.eq_of_testBit_eq
      intro i
      rw [orN_bit, Nat.zero_testBit]
      unfold mgi_
      rw [decide_eq_false hd]
      simp
    rw [er]
    by_cases hn : ns_ T = 0
    · simp only [e135_0, e135_1, e135_2, e135_3, e135_5, e135_7, e135_8, e135_11, e135_14, e135_17, e135_18, e135_19, e135_22, e135_25, e135_26, e135_27, e135_29, e135_32, e135_35, e135_36, e135_37, e135_39, e135_42, e135_45, e135_46, e135_48, e135_51, e135_52, e135_53, e135_56, e135_57, e135_60, e135_61, e135_63, e135_64, e135_67, e135_68, e135_69, e135_70, e135_73, e135_76, e135_77, hs_k hH, ↓reduceIte, Nat.reduceAdd, Nat.reduceLeDiff, Nat.reduceLT, Nat.reduceEqDiff, not_false_eq_true, false_or, true_or, or_true, or_false, n0_e, n1_ne, n1_11, bI_z, bI_1, bI_fo, va_rf_some, aBk_1, aBk_0, nI_add, nI_mul, hk_si, hp_si, hl_si, hk_sp, hk_sl, hk_cp, hp_cp, hT.ktx, hT.p44, hT.ksa, x_size hT.S, hn, Int32.le_refl]
    · have h1 : ¬ nI (ns_ T) ≤ nI 0 := nI_ge (by omega) (by omega)
      simp only [e135_0, e135_1, e135_2, e135_3, e135_5, e135_7, e135_8, e135_11, e135_14, e135_17, e135_18, e135_19, e135_22, e135_25, e135_26, e135_27, e135_29, e135_32, e135_35, e135_36, e135_37, e135_39, e135_42, e135_45, e135_46, e135_48, e135_51, e135_52, e135_53, e135_56, e135_57, e135_60, e135_61, e135_63, e135_64, e135_67, e135_68, e135_69, e135_70, e135_73, e135_76, e135_77, hs_k hH, ↓reduceIte, Nat.reduceAdd, Nat.reduceLeDiff, Nat.reduceLT, Nat.reduceEqDiff, not_false_eq_true, false_or, true_or, or_true, or_false, n0_e, n1_ne, n1_11, bI_1, bI_fo, va_rf_some, aBk_1, aBk_0, nI_add, nI_mul, hk_si, hp_si, hl_si, hk_sp, hk_sl, hk_cp, hp_cp, hT.ktx, hT.p44, hT.ksa, x_size hT.S, h1, x_isDead ha hX g7, hd, decide_false, Bool.not_false, bI_z, reduceCtorEq]
end X3
