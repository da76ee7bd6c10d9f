set_option maxRecDepth 100000
/-! X: lettings -/
section XA
variable {d : Nat} {h h' : aH} {T : aTx} {w r : Nat → Int32} {tx sa ga la : Nat} {qs qg : Nat → Nat}
theorem xk_pay (hX : XS h) {k : Nat} (hk : k < 4) : hk_ h (124 + k) = (100, 128) := by
  match k, hk with
  | 0, _ => exact xk_124 hX
  | 1, _ => exact xk_125 hX
  | 2, _ => exact xk_126 hX
  | 3, _ => exact xk_127 hX
theorem xk_most (hX : XS h) {k : Nat} (hk : k < 5) : hk_ h (129 + k) = (100, 128) := by
  match k, hk with
  | 0, _ => exact xk_129 hX
  | 1, _ => exact xk_130 hX
  | 2, _ => exact xk_131 hX
  | 3, _ => exact xk_132 hX
  | 4, _ => exact xk_133 hX
theorem x27 (hB : XB h T w tx sa ga la qs qg) : 2 ^ ng_ T ≤ 128 := Nat.pow_le_pow_right (n := 2) (by decide) hB.X.ng7
theorem x24 (hB : XB h T w tx sa ga la qs qg) : 2 ^ ns_ T ≤ 16 := Nat.pow_le_pow_right (n := 2) (by decide) hB.X.ns4
theorem x_sets (hB : XB h T w tx sa ga la qs qg) : (run (d + 2) 29 0 [.ref 64] [] h) = some (.returned (some (.int (nI (2 ^ ng_ T)))), h) := by
  have hXS := hB.S
  have h7 := hB.X.ng7
  simp only [e29_0, e29_1, e29_2, e29_5, e29_6, xk_64 hXS, ↓reduceIte, Nat.reduceAdd, Nat.reduceLeDiff, Nat.reduceLT, Nat.reduceEqDiff, not_false_eq_true, false_or, true_or, or_true, or_false, n0_e, n1_ne, n1_11, bI_z, bI_1, bI_fo, va_rf_some, aBk_1, aBk_0, nI_add, nI_mul, hk_si, hp_si, hl_si, hk_sp, hk_sl, hk_cp, hp_cp, x_guests hB, shl_1 _ (show ng_ T < 32 by omega)]
theorem x_isCalm (hB : XB h T w tx sa ga la qs qg) {set : Nat} (ht : set < 2 ^ ng_ T) : (run (d + 5) 31 0 [.ref 64, .int (nI set), aU] [] h) = some (.returned (some (.int (bI (calm T set)))), h) := by
  have hXS := hB.S
  have hT := hB.X
  have h7 := hT.ng7
  have h128 := x27 hB
  simp only [e31_0, e31_1, e31_3, e31_4, e31_7, e31_10, e31_11, e31_12, e31_13, e31_14, e31_15, e31_16, e31_19, e31_20, e31_21, e31_24, e31_25, e31_28, e31_29, e31_32, e31_33, e31_34, e31_37, e31_40, e31_41, ↓reduceIte, Nat.reduceAdd, Nat.reduceLeDiff, Nat.reduceLT, Nat.reduceEqDiff, not_false_eq_true, false_or, true_or, or_true, or_false, n0_e, n1_ne, n1_11, bI_z, bI_1, bI_fo, va_rf_some, aBk_1, aBk_0, nI_add, nI_mul, hk_si, hp_si, hl_si, hk_sp, hk_sl, hk_cp, hp_cp]
  refine (run_find (F := fun j => (run (d + 5) 31 2 [.ref 64, .int (nI set), .int (nI j)] [] h)) (R := fun j => some (.returned (some (.int (nI 0))), h)) (P := fun g => set.testBit g && !decide (set &&& cB_ T g = 0)) (n := ng_ T) (fun j hj => ?_)).trans ?_
  · have g1 : ¬ nI (ng_ T) ≤ nI j := nI_ge hj (by omega)
    have hb : set &&& cB_ T j < 2147483648 := Nat.lt_of_le_of_lt Nat.and_le_left (by omega)
    refine (e31_2).trans ?_
    cases q : set.testBit j with
    | false => simp only [e31_0, e31_1, e31_3, e31_4, e31_7, e31_10, e31_11, e31_12, e31_13, e31_14, e31_15, e31_16, e31_19, e31_20, e31_21, e31_24, e31_25, e31_28, e31_29, e31_32, e31_33, e31_34, e31_37, e31_40, e31_41, xk_64 hXS, ↓reduceIte, Nat.reduceAdd, Nat.reduceLeDiff, Nat.reduceLT, Nat.reduceEqDiff, not_false_eq_true, false_or, true_or, or_true, or_false, n0_e, n1_ne, n1_11, bI_z, bI_1, bI_fo, va_rf_some, aBk_1, aBk_0, nI_add, nI_mul, hk_si, hp_si, hl_si, hk_sp, hk_sl, hk_cp, hp_cp, x_guests hB, g1, nI_shr (show set < 2 ^ 31 by omega) (show j < 32 by omega), bit_and1, q, reduceCtorEq, Bool.false_and]
    | true =>
      by_cases q2 : set &&& cB_ T j = 0
      · simp only [e31_0, e31_1, e31_3, e31_4, e31_7, e31_10, e31_11, e31_12, e31_13, e31_14, e31_15, e31_16, e31_19, e31_20, e31_21, e31_24, e31_25, e31_28, e31_29, e31_32, e31_33, e31_34, e31_37, e31_40, e31_41, xk_64 hXS, ↓reduceIte, Nat.reduceAdd, Nat.reduceLeDiff, Nat.reduceLT, Nat.reduceEqDiff, not_false_eq_true, false_or, true_or, or_true, or_false, n0_e, n1_ne, n1_11, bI_z, bI_1, bI_fo, va_rf_some, aBk_1, aBk_0, nI_add, nI_mul, hk_si, hp_si, hl_si, hk_sp, hk_sl, hk_cp, hp_cp, x_guests hB, g1, nI_shr (show set < 2 ^ 31 by omega) (show j < 32 by omega), bit_and1, q, reduceCtorEq, hB.t, hT.ktx, x_trivals hT hj, nI_and set (cB_ T j), nI_z hb, q2, decide_true, Bool.not_true, Bool.and_false]
      · simp only [e31_0, e31_1, e31_3, e31_4, e31_7, e31_10, e31_11, e31_12, e31_13, e31_14, e31_15, e31_16, e31_19, e31_20, e31_21, e31_24, e31_25, e31_28, e31_29, e31_32, e31_33, e31_34, e31_37, e31_40, e31_41, xk_64 hXS, ↓reduceIte, Nat.reduceAdd, Nat.reduceLeDiff, Nat.reduceLT, Nat.reduceEqDiff, not_false_eq_true, false_or, true_or, or_true, or_false, n0_e, n1_ne, n1_11, bI_z, bI_1, bI_fo, va_rf_some, aBk_1, aBk_0, nI_add, nI_mul, hk_si, hp_si, hl_si, hk_sp, hk_sl, hk_cp, hp_cp, x_guests hB, g1, nI_shr (show set < 2 ^ 31 by omega) (show j < 32 by omega), bit_and1, q, reduceCtorEq, hB.t, hT.ktx, x_trivals hT hj, nI_and set (cB_ T j), nI_z hb, q2, decide_false, Bool.not_false, Bool.and_true, n0_01]
  · cases hf : fnd (fun g => set.testBit g && !decide (set &&& cB_ T g = 0)) (ng_ T) 0 with
    | some j =>
      obtain ⟨h1, h2, h3, -⟩ := fnd_some _ _ _ hf
      simp only [Bool.and_eq_true, Bool.not_eq_true', decide_eq_false_iff_not] at h3
      have : calm T set = false := by
        apply Bool.eq_false_iff.mpr
        intro hc
        exact h3.2 ((decide_eq_true_iff.mp hc) j (by omega) h3.1)
      rw [this]
      rfl
    | none =>
      have : calm T set = true := by
        refine decide_eq_true_iff.mpr (fun g hg hb => ?_)
        have := fnd_none _ _ hf g (by omega) (by omega)
        simpa [hb] using this
      rw [this]
      dsimp only
      refine (e31_2).trans ?_
      simp only [e31_0, e31_1, e31_3, e31_4, e31_7, e31_10, e31_11, e31_12, e31_13, e31_14, e31_15, e31_16, e31_19, e31_20, e31_21, e31_24, e31_25, e31_28, e31_29, e31_32, e31_33, e31_34, e31_37, e31_40, e31_41, xk_64 hXS, ↓reduceIte, Nat.reduceAdd, Nat.reduceLeDiff, Nat.reduceLT, Nat.reduceEqDiff, not_false_eq_true, false_or, true_or, or_true, or_false, n0_e, n1_ne, n1_11, bI_z, bI_1, bI_fo, va_rf_some, aBk_1, aBk_0, nI_add, nI_mul, hk_si, hp_si, hl_si, hk_sp, hk_sl, hk_cp, hp_cp, x_guests hB, Int32.le_refl, n1_01]
      rfl
theorem dB_128 : dB_ w < 2 ^ 7 := orN_lt _ _
theorem x_payOf (hB : XB h T w tx sa ga la qs qg) (hW : WV T w) {s set : Nat} (hs : s < ns_ T) (ht : set < 2 ^ ng_ T) (h0 : ¬ set = 0) : ∃ h', (∀ d, (run (d + 404) 30 0 [.ref 64, .int (nI s), .int (nI set), aU, aU] [] h) = some (.returned (some (.int (pv_ T w s set))), h')) ∧ On (HE 78) h h' := by
  have hXS := hB.S
  have hA := hB.H.s
  have hT := hB.X
  have h7 := hT.ng7
  have h4 := hT.ns4
  have h128 := x27 hB
  have s4 : s < 4 := by omega
  have hdb : dB_ w < 2 ^ 7 := dB_128
  have hbd : set &&& dB_ w < 2147483648 := Nat.lt_of_le_of_lt Nat.and_le_left (by omega)
  -- some guest of the set
  obtain ⟨g0, hg0, hb0⟩ : ∃ g, g < ng_ T ∧ set.testBit g = true := by
    obtain ⟨l1, l2, -⟩ := low_s h0 (by omega)
    exact ⟨low_ set, bit_lt ht l2, l2⟩
  have hno : okB T w s set = false → pv_ T w s set = -1 := fun e => by unfold pv_; rw [if_neg (by rw [e]; decide)]
  by_cases q1 : w (25 + s) = 0
  · by_cases q2 : set &&& dB_ w = 0
    · cases q3 : calm T set with
      | false =>
        have hok : okB T w s set = false := by
          apply Bool.eq_false_iff.mpr
          intro hk
          have : calm T set = true := decide_eq_true_iff.mpr (fun g hg hb => (okB_iff.mp hk g hg hb).2.2)
          rw [q3] at this; cases this
        refine ⟨h, fun d => ?_, On.refl⟩
        rw [hno hok]
        simp only [e30_0, e30_1, e30_4, e30_5, e30_8, e30_11, e30_12, e30_13, e30_16, e30_19, e30_20, e30_23, e30_24, e30_25, e30_28, e30_31, e30_32, e30_33, e30_34, e30_35, e30_36, e30_40, e30_41, e30_44, e30_47, e30_48, e30_50, e30_51, e30_52, e30_53, e30_56, e30_59, e30_60, e30_63, e30_65, e30_66, e30_69, e30_72, e30_73, e30_74, e30_75, e30_76, e30_79, e30_80, e30_83, e30_85, e30_86, e30_87, e30_90, e30_91, e30_92, e30_95, e30_98, e30_99, xk_64 hXS, xp_7 hXS, h78_k hA, ↓reduceIte, Nat.reduceAdd, Nat.reduceLeDiff, Nat.reduceLT, Nat.reduceEqDiff, not_false_eq_true, false_or, true_or, or_true, or_false, n0_e, n1_ne, n1_11, bI_1, bI_fo, va_rf_some, aBk_1, aBk_0, nI_add, nI_mul, hk_si, hp_si, hl_si, hk_sp, hk_sl, hk_cp, hp_cp, x_isSold ha78 hB.H s4, q1, decide_true, Bool.not_true, bI_z, hB.H.de, nI_and, nI_z hbd, q2, x_isCalm hB ht, q3]
      | true =>
        have hcm := decide_eq_true_iff.mp q3
        have hdd : ∀ g, g < ng_ T → set.testBit g = true → w (14 + g) = 0 := fun g hg hb => by
          have := and0.mp q2 g
          have e : (dB_ w).testBit g = !decide (w (14 + g) = 0) := by
            unfold dB_; rw [orN_bit, decide_eq_true (show g < 7 by omega), Bool.true_and]
          rw [e] at this
          by_cases q : w (14 + g) = 0
          · exact q
          · exact absurd ⟨hb, by simp [q]⟩ this
        have key := run_findd (F := fun d j (x : Int32 × aH) => (run (d + 404) 30 38 [.ref 64, .int (nI s), .int (nI set), .int x.1, .int (nI j)] [] x.2)) (R := fun d j (x : Int32 × aH) => some (.returned (some (.int (-1))), x.2)) (I := fun j x => x.1 = smN T w s set j ∧ On (HE 78) h x.2) (Q := fun j x => On (HE 78) h x.2) (P := fun g => set.testBit g && !decide (ti_ T g ≤ lo_ T s)) (n := ng_ T) (x := (nI 0, h)) ⟨rfl, On.refl⟩ (fun j x hj hI => by
          obtain ⟨b, x⟩ := x
          obtain ⟨eb, o⟩ := hI
          have eb : b = smN T w s set j := eb
          have o : On (HE 78) h x := o
          have bx := hB.onQ (o.mono (fun _ _ q => q.Q))
          have hXSx := bx.S
          have hAx := bx.H.s
          have g1 : ¬ nI (ng_ T) ≤ nI j := nI_ge hj (by omega)
          have hst : smN T w s set (j + 1) = if set.testBit j = true then smN T w s set j + pA_ T w j s (nI 0) else smN T w s set j := rfl
          rw [hst, ← eb]
          cases q : set.testBit j with
          | false =>
            simp only [Bool.false_and]
            rw [if_neg (by decide)]
            refine ⟨(b, x), fun d => ?_, by simp, o⟩
            refine (e30_38).trans ?_
            simp only [e30_0, e30_1, e30_4, e30_5, e30_8, e30_11, e30_12, e30_13, e30_16, e30_19, e30_20, e30_23, e30_24, e30_25, e30_28, e30_31, e30_32, e30_33, e30_34, e30_35, e30_36, e30_40, e30_41, e30_44, e30_47, e30_48, e30_50, e30_51, e30_52, e30_53, e30_56, e30_59, e30_60, e30_63, e30_65, e30_66, e30_69, e30_72, e30_73, e30_74, e30_75, e30_76, e30_79, e30_80, e30_83, e30_85, e30_86, e30_87, e30_90, e30_91, e30_92, e30_95, e30_98, e30_99, xk_64 hXSx, xp_7 hXSx, ↓reduceIte, Nat.reduceAdd, Nat.reduceLeDiff, Nat.reduceLT, Nat.reduceEqDiff, not_false_eq_true, false_or, true_or, or_true, or_false, n0_e, n1_ne, n1_11, bI_z, bI_1, bI_fo, va_rf_some, aBk_1, aBk_0, nI_add, nI_mul, hk_si, hp_si, hl_si, hk_sp, hk_sl, hk_cp, hp_cp, x_guests bx, g1, nI_shr (show set < 2 ^ 31 by omega) (show j < 32 by omega), bit_and0, q]
          | true =>
            by_cases q4 : ti_ T j ≤ lo_ T s
            · simp only [q4, decide_true, Bool.not_true, Bool.and_false]
              rw [if_neg (by decide)]
              obtain ⟨y, e, oy⟩ := x_paysIn (o := nI 0) ha78 bx.X bx.H hj hs
              refine ⟨(b + pA_ T w j s (nI 0), y), fun d => ?_, by simp, o.trans oy⟩
              refine (e30_38).trans ?_
              simp only [e30_0, e30_1, e30_4, e30_5, e30_8, e30_11, e30_12, e30_13, e30_16, e30_19, e30_20, e30_23, e30_24, e30_25, e30_28, e30_31, e30_32, e30_33, e30_34, e30_35, e30_36, e30_40, e30_41, e30_44, e30_47, e30_48, e30_50, e30_51, e30_52, e30_53, e30_56, e30_59, e30_60, e30_63, e30_65, e30_66, e30_69, e30_72, e30_73, e30_74, e30_75, e30_76, e30_79, e30_80, e30_83, e30_85, e30_86, e30_87, e30_90, e30_91, e30_92, e30_95, e30_98, e30_99, xk_64 hXSx, xp_7 hXSx, h78_k hAx, ↓reduceIte, Nat.reduceAdd, Nat.reduceLeDiff, Nat.reduceLT, Nat.reduceEqDiff, not_false_eq_true, false_or, true_or, or_true, or_false, n0_e, n1_ne, n1_11, bI_1, bI_fo, va_rf_some, aBk_1, aBk_0, nI_add, nI_mul, hk_si, hp_si, hl_si, hk_sp, hk_sl, hk_cp, hp_cp, x_guests bx, g1, nI_shr (show set < 2 ^ 31 by omega) (show j < 32 by omega), bit_and0, q, reduceCtorEq, bx.t, bx.X.ktx, x_isLong bx.X hj hs, q4, decide_true, bI_z, e]
            · simp only [q4, decide_false, Bool.not_false, Bool.and_true]
              rw [if_pos trivial]
              refine ⟨(b, x), fun d => ?_, o⟩
              refine (e30_38).trans ?_
              simp only [e30_0, e30_1, e30_4, e30_5, e30_8, e30_11, e30_12, e30_13, e30_16, e30_19, e30_20, e30_23, e30_24, e30_25, e30_28, e30_31, e30_32, e30_33, e30_34, e30_35, e30_36, e30_40, e30_41, e30_44, e30_47, e30_48, e30_50, e30_51, e30_52, e30_53, e30_56, e30_59, e30_60, e30_63, e30_65, e30_66, e30_69, e30_72, e30_73, e30_74, e30_75, e30_76, e30_79, e30_80, e30_83, e30_85, e30_86, e30_87, e30_90, e30_91, e30_92, e30_95, e30_98, e30_99, xk_64 hXSx, xp_7 hXSx, h78_k hAx, ↓reduceIte, Nat.reduceAdd, Nat.reduceLeDiff, Nat.reduceLT, Nat.reduceEqDiff, not_false_eq_true, false_or, true_or, or_true, or_false, n0_e, n1_ne, n1_11, bI_1, bI_fo, va_rf_some, aBk_1, aBk_0, nI_add, nI_mul, hk_si, hp_si, hl_si, hk_sp, hk_sl, hk_cp, hp_cp, x_guests bx, g1, nI_shr (show set < 2 ^ 31 by omega) (show j < 32 by omega), bit_and0, q, reduceCtorEq, bx.t, bx.X.ktx, x_isLong bx.X hj hs, q4, decide_false, bI_z])
        revert key
        cases hf : fnd (fun g => set.testBit g && !decide (ti_ T g ≤ lo_ T s)) (ng_ T) 0 with
        | some j =>
          rintro ⟨y, e, o⟩
          obtain ⟨h1, h2, h3, -⟩ := fnd_some _ _ _ hf
          simp only [Bool.and_eq_true, Bool.not_eq_true', decide_eq_false_iff_not] at h3
          have hok : okB T w s set = false := by
            apply Bool.eq_false_iff.mpr
            intro hk
            have := (okB_iff.mp hk j (by omega) h3.1).2.1
            unfold fit_ at this
            simp only [Bool.and_eq_true, decide_eq_true_eq] at this
            exact h3.2 this.2
          refine ⟨y.2, fun d => ?_, o⟩
          rw [hno hok]
          simp only [e30_0, e30_1, e30_4, e30_5, e30_8, e30_11, e30_12, e30_13, e30_16, e30_19, e30_20, e30_23, e30_24, e30_25, e30_28, e30_31, e30_32, e30_33, e30_34, e30_35, e30_36, e30_40, e30_41, e30_44, e30_47, e30_48, e30_50, e30_51, e30_52, e30_53, e30_56, e30_59, e30_60, e30_63, e30_65, e30_66, e30_69, e30_72, e30_73, e30_74, e30_75, e30_76, e30_79, e30_80, e30_83, e30_85, e30_86, e30_87, e30_90, e30_91, e30_92, e30_95, e30_98, e30_99, xk_64 hXS, xp_7 hXS, h78_k hA, ↓reduceIte, Nat.reduceAdd, Nat.reduceLeDiff, Nat.reduceLT, Nat.reduceEqDiff, not_false_eq_true, false_or, true_or, or_true, or_false, n0_e, n1_ne, n1_11, bI_1, bI_fo, va_rf_some, aBk_1, aBk_0, nI_add, nI_mul, hk_si, hp_si, hl_si, hk_sp, hk_sl, hk_cp, hp_cp, x_isSold ha78 hB.H s4, q1, decide_true, Bool.not_true, bI_z, reduceCtorEq, hB.H.de, nI_and, nI_z hbd, q2, x_isCalm hB ht, q3]
          exact e d
        | none =>
          rintro ⟨y, e, ey, o⟩
          have hok : okB T w s set = true := okB_iff.mpr (fun g hg hb => by
            refine ⟨hdd g hg hb, ?_, hcm g hg hb⟩
            have := fnd_none _ _ hf g (by omega) (by omega)
            unfold fit_
            rw [hb] at this
            simp only [Bool.true_and, Bool.not_eq_false', decide_eq_true_eq] at this
            simp [q1, this])
          have by' := hB.onQ (o.mono (fun _ _ q => q.Q))
          have hXSy := by'.S
          refine ⟨y.2, fun d => ?_, o⟩
          unfold pv_
          rw [if_pos hok, ← ey]
          simp only [e30_0, e30_1, e30_4, e30_5, e30_8, e30_11, e30_12, e30_13, e30_16, e30_19, e30_20, e30_23, e30_24, e30_25, e30_28, e30_31, e30_32, e30_33, e30_34, e30_35, e30_36, e30_40, e30_41, e30_44, e30_47, e30_48, e30_50, e30_51, e30_52, e30_53, e30_56, e30_59, e30_60, e30_63, e30_65, e30_66, e30_69, e30_72, e30_73, e30_74, e30_75, e30_76, e30_79, e30_80, e30_83, e30_85, e30_86, e30_87, e30_90, e30_91, e30_92, e30_95, e30_98, e30_99, xk_64 hXS, xp_7 hXS, h78_k hA, ↓reduceIte, Nat.reduceAdd, Nat.reduceLeDiff, Nat.reduceLT, Nat.reduceEqDiff, not_false_eq_true, false_or, true_or, or_true, or_false, n0_e, n1_ne, n1_11, bI_1, bI_fo, va_rf_some, aBk_1, aBk_0, nI_add, nI_mul, hk_si, hp_si, hl_si, hk_sp, hk_sl, hk_cp, hp_cp, x_isSold ha78 hB.H s4, q1, decide_true, Bool.not_true, bI_z, reduceCtorEq, hB.H.de, nI_and, nI_z hbd, q2, x_isCalm hB ht, q3]
          refine (e d).trans ?_
          refine (e30_38).trans ?_
          simp only [e30_0, e30_1, e30_4, e30_5, e30_8, e30_11, e30_12, e30_13, e30_16, e30_19, e30_20, e30_23, e30_24, e30_25, e30_28, e30_31, e30_32, e30_33, e30_34, e30_35, e30_36, e30_40, e30_41, e30_44, e30_47, e30_48, e30_50, e30_51, e30_52, e30_53, e30_56, e30_59, e30_60, e30_63, e30_65, e30_66, e30_69, e30_72, e30_73, e30_74, e30_75, e30_76, e30_79, e30_80, e30_83, e30_85, e30_86, e30_87, e30_90, e30_91, e30_92, e30_95, e30_98, e30_99, xk_64 hXSy, xp_7 hXSy, ↓reduceIte, Nat.reduceAdd, Nat.reduceLeDiff, Nat.reduceLT, Nat.reduceEqDiff, not_false_eq_true, false_or, true_or, or_true, or_false, n0_e, n1_ne, n1_11, bI_z, bI_1, bI_fo, va_rf_some, aBk_1, aBk_0, nI_add, nI_mul, hk_si, hp_si, hl_si, hk_sp, hk_sl, hk_cp, hp_cp, x_guests by', Int32.le_refl]
    · have hok : okB T w s set = false := by
        apply Bool.eq_false_iff.mpr
        intro hk
        refine q2 (and0.mpr (fun i hi => ?_))
        have hin := bit_lt ht hi.1
        have := (okB_iff.mp hk i hin hi.1).1
        have e : (dB_ w).testBit i = !decide (w (14 + i) = 0) := by
          unfold dB_; rw [orN_bit, decide_eq_true (show i < 7 by omega), Bool.true_and]
        rw [e, this] at hi
        exact absurd hi.2 (by decide)
      refine ⟨h, fun d => ?_, On.refl⟩
      rw [hno hok]
      simp only [e30_0, e30_1, e30_4, e30_5, e30_8, e30_11, e30_12, e30_13, e30_16, e30_19, e30_20, e30_23, e30_24, e30_25, e30_28, e30_31, e30_32, e30_33, e30_34, e30_35, e30_36, e30_40, e30_41, e30_44, e30_47, e30_48, e30_50, e30_51, e30_52, e30_53, e30_56, e30_59, e30_60, e30_63, e30_65, e30_66, e30_69, e30_72, e30_73, e30_74, e30_75, e30_76, e30_79, e30_80, e30_83, e30_85, e30_86, e30_87, e30_90, e30_91, e30_92, e30_95, e30_98, e30_99, xk_64 hXS, xp_7 hXS, h78_k hA, ↓reduceIte, Nat.reduceAdd, Nat.reduceLeDiff, Nat.reduceLT, Nat.reduceEqDiff, not_false_eq_true, false_or, true_or, or_true, or_false, n0_e, n1_ne, n1_11, bI_1, bI_fo, va_rf_some, aBk_1, aBk_0, nI_add, nI_mul, hk_si, hp_si, hl_si, hk_sp, hk_sl, hk_cp, hp_cp, x_isSold ha78 hB.H s4, q1, decide_true, Bool.not_true, bI_z, hB.H.de, nI_and, nI_z hbd, q2]
  · have hok : okB T w s set = false := by
      apply Bool.eq_false_iff.mpr
      intro hk
      have := (okB_iff.mp hk g0 hg0 hb0).2.1
      unfold fit_ at this
      simp only [Bool.and_eq_true, decide_eq_true_eq] at this
      exact q1 this.1
    refine ⟨h, fun d => ?_, On.refl⟩
    rw [hno hok]
    simp only [e30_0, e30_1, e30_4, e30_5, e30_8, e30_11, e30_12, e30_13, e30_16, e30_19, e30_20, e30_23, e30_24, e30_25, e30_28, e30_31, e30_32, e30_33, e30_34, e30_35, e30_36, e30_40, e30_41, e30_44, e30_47, e30_48, e30_50, e30_51, e30_52, e30_53, e30_56, e30_59, e30_60, e30_63, e30_65, e30_66, e30_69, e30_72, e30_73, e30_74, e30_75, e30_76, e30_79, e30_80, e30_83, e30_85, e30_86, e30_87, e30_90, e30_91, e30_92, e30_95, e30_98, e30_99, xk_64 hXS, xp_7 hXS, h78_k hA, ↓reduceIte, Nat.reduceAdd, Nat.reduceLeDiff, Nat.reduceLT, Nat.reduceEqDiff, not_false_eq_true, false_or, true_or, or_true, or_false, n0_e, n1_ne, n1_11, bI_1, bI_fo, va_rf_some, aBk_1, aBk_0, nI_add, nI_mul, hk_si, hp_si, hl_si, hk_sp, hk_sl, hk_cp, hp_cp, x_isSold ha78 hB.H s4, q1, decide_false, Bool.not_false, bI_z, reduceCtorEq]
/-- X's pays lie -/
def PL (h : aH) (T : aTx) (w : Nat → Int32) : Prop := ∀ s, s < ns_ T → ∀ k, k < 2 ^ ng_ T → hi_ h (124 + s) k = pv_ T w s k
def PX (x f : Nat) : Prop := HE 78 x f ∨ (124 ≤ x ∧ x ≤ 127)
theorem PX.Q {x f : Nat} (q : PX x f) : QX x f := by unfold PX HE at q; unfold QX; omega
theorem x_laysPay (hB : XB h T w tx sa ga la qs qg) (hW : WV T w) : ∃ h', (∀ d, (run (d + 405) 28 0 [.ref 64, aU, aU] [] h) = some (.returned none, h')) ∧ On PX h h' ∧ PL h' T w := by
  have h7 := hB.X.ng7
  have h4 := hB.X.ns4
  have h128 := x27 hB
  obtain ⟨y, e, oy, vy⟩ := run_invd (F := fun d j (x : Value × aH) => (run (d + 405) 28 2 [.ref 64, .int (nI j), x.1] [] x.2)) (I := fun j x => On PX h x.2 ∧ ∀ s, s < j → ∀ k, k < 2 ^ ng_ T → hi_ x.2 (124 + s) k = pv_ T w s k) (n := ns_ T) (x := (aU, h)) ⟨On.refl, fun s hs => absurd hs (Nat.not_lt_zero s)⟩ (fun j x hj hI => by
    obtain ⟨v, x⟩ := x
    obtain ⟨o, vx⟩ := hI
    have o : On PX h x := o
    have vx : ∀ s, s < j → ∀ k, k < 2 ^ ng_ T → hi_ x (124 + s) k = pv_ T w s k := vx
    have bx := hB.onQ (o.mono (fun _ _ q => q.Q))
    have hXSx := bx.S
    have g1 : ¬ nI (ns_ T) ≤ nI j := nI_ge hj (by omega)
    have j4 : j < 4 := by omega
    obtain ⟨z, ez, oz, vz1, vz2⟩ := run_invd (F := fun d i x => (run (d + 405) 28 12 [.ref 64, .int (nI j), .int (nI i)] [] x)) (I := fun i x => On PX h x ∧ (∀ s, s < j → ∀ k, k < 2 ^ ng_ T → hi_ x (124 + s) k = pv_ T w s k) ∧ ∀ k, k < i → hi_ x (124 + j) k = pv_ T w j k) (n := 2 ^ ng_ T) (x := x) ⟨o, vx, fun k hk => absurd hk (Nat.not_lt_zero k)⟩ (fun i x hi hI => by
      obtain ⟨o, vx, vi⟩ := hI
      have bx := hB.onQ (o.mono (fun _ _ q => q.Q))
      have hXSx := bx.S
      have g2 : ¬ nI (2 ^ ng_ T) ≤ nI i := nI_ge hi (by omega)
      have g3 : i < 128 := by omega
      have g6 : 64 ≤ 124 + j := by omega
      have fin : ∀ (y : aH), (∀ s k, s < 4 → hi_ y (124 + s) k = hi_ x (124 + s) k) → (∀ s, s < j → ∀ k, k < 2 ^ ng_ T → hi_ (si_ y (124 + j) i (pv_ T w j i)) (124 + s) k = pv_ T w s k) ∧ ∀ k, k < i + 1 → hi_ (si_ y (124 + j) i (pv_ T w j i)) (124 + j) k = pv_ T w j k := by
        intro y ey
        refine ⟨fun s hs k hk => ?_, fun k hk => ?_⟩
        · rw [hi_si, if_neg (by omega), ey s k (by omega)]; exact vx s hs k hk
        · rw [hi_si]
          by_cases q : k = i
          · rw [if_pos ⟨rfl, q⟩, q]
          · rw [if_neg (fun z => q z.2), ey j k j4]; exact vi k (by omega)
      by_cases q0 : i = 0
      · subst q0
        refine ⟨si_ x (124 + j) 0 (pv_ T w j 0), fun d => ?_, o.trans (On.si (Or.inr ⟨by omega, by omega⟩)), fin x (fun _ _ _ => rfl)⟩
        rw [pv_0]
        refine (e28_12).trans ?_
        simp only [e28_0, e28_1, e28_3, e28_4, e28_7, e28_10, e28_11, e28_13, e28_14, e28_17, e28_20, e28_21, e28_24, e28_25, e28_26, e28_27, e28_28, e28_31, e28_32, e28_35, e28_36, e28_37, e28_38, e28_41, e28_42, e28_45, e28_48, e28_51, e28_54, xk_64 hXSx, xp_14 hXSx, xk_123 hXSx, ↓reduceIte, Nat.reduceAdd, Nat.reduceLeDiff, Nat.reduceLT, Nat.reduceEqDiff, not_false_eq_true, false_or, true_or, or_true, or_false, n1_ne, n1_11, bI_z, bI_1, bI_fo, va_rf_some, aBk_1, aBk_0, nI_add, nI_mul, hk_si, hp_si, hl_si, hk_sp, hk_sl, hk_cp, hp_cp, x_sets bx, g2, j4, xp_pay hXSx j4, xk_pay hXSx j4, g6, n0_e]
      · obtain ⟨y, e, oy⟩ := x_payOf bx hW hj hi q0
        have hz : (nI i = 0) = False := by rw [nI_z (by omega)]; exact eq_false q0
        have by' := bx.onQ (oy.mono (fun _ _ q => q.Q))
        have hXSy := by'.S
        refine ⟨si_ y (124 + j) i (pv_ T w j i), fun d => ?_, (o.trans (oy.mono (fun _ _ q => Or.inl q))).trans (On.si (Or.inr ⟨by omega, by omega⟩)), fin y (fun s k hs => oy.i (fun q => by unfold HE at q; omega))⟩
        refine (e28_12).trans ?_
        simp only [e28_0, e28_1, e28_3, e28_4, e28_7, e28_10, e28_11, e28_13, e28_14, e28_17, e28_20, e28_21, e28_24, e28_25, e28_26, e28_27, e28_28, e28_31, e28_32, e28_35, e28_36, e28_37, e28_38, e28_41, e28_42, e28_45, e28_48, e28_51, e28_54, xk_64 hXSx, xp_14 hXSx, xk_123 hXSx, xk_64 hXSy, xp_14 hXSy, xk_123 hXSy, ↓reduceIte, Nat.reduceAdd, Nat.reduceLeDiff, Nat.reduceLT, Nat.reduceEqDiff, not_false_eq_true, false_or, true_or, or_true, or_false, n0_e, n1_ne, n1_11, bI_z, bI_1, bI_fo, va_rf_some, aBk_1, aBk_0, nI_add, nI_mul, hk_si, hp_si, hl_si, hk_sp, hk_sl, hk_cp, hp_cp, x_sets bx, g2, g3, j4, xp_pay hXSx j4, xk_pay hXSy j4, g6, hz, e])
    have bz := hB.onQ (oz.mono (fun _ _ q => q.Q))
    have hXSz := bz.S
    refine ⟨(.int (nI (2 ^ ng_ T)), z), fun d => ?_, oz, ?_⟩
    · refine (e28_2).trans ?_
      simp only [e28_0, e28_1, e28_3, e28_4, e28_7, e28_10, e28_11, e28_13, e28_14, e28_17, e28_20, e28_21, e28_24, e28_25, e28_26, e28_27, e28_28, e28_31, e28_32, e28_35, e28_36, e28_37, e28_38, e28_41, e28_42, e28_45, e28_48, e28_51, e28_54, xk_64 hXSx, xp_14 hXSx, xk_123 hXSx, ↓reduceIte, Nat.reduceAdd, Nat.reduceLeDiff, Nat.reduceLT, Nat.reduceEqDiff, not_false_eq_true, false_or, true_or, or_true, or_false, n0_e, n1_ne, n1_11, bI_z, bI_1, bI_fo, va_rf_some, aBk_1, aBk_0, nI_add, nI_mul, hk_si, hp_si, hl_si, hk_sp, hk_sl, hk_cp, hp_cp, x_sundays bx, g1]
      refine (ez d).trans ?_
      refine (e28_12).trans ?_
      simp only [e28_0, e28_1, e28_3, e28_4, e28_7, e28_10, e28_11, e28_13, e28_14, e28_17, e28_20, e28_21, e28_24, e28_25, e28_26, e28_27, e28_28, e28_31, e28_32, e28_35, e28_36, e28_37, e28_38, e28_41, e28_42, e28_45, e28_48, e28_51, e28_54, xk_64 hXSz, xp_14 hXSz, xk_123 hXSz, ↓reduceIte, Nat.reduceAdd, Nat.reduceLeDiff, Nat.reduceLT, Nat.reduceEqDiff, not_false_eq_true, false_or, true_or, or_true, or_false, n0_e, n1_ne, n1_11, bI_z, bI_1, bI_fo, va_rf_some, aBk_1, aBk_0, nI_add, nI_mul, hk_si, hp_si, hl_si, hk_sp, hk_sl, hk_cp, hp_cp, x_sets bz, Int32.le_refl]
    · intro s hs k hk
      by_cases q : s = j
      · rw [q]; exact vz2 k hk
      · exact vz1 s (by omega) k hk)
  obtain ⟨v, y⟩ := y
  have oy : On PX h y := oy
  have by' := hB.onQ (oy.mono (fun _ _ q => q.Q))
  have hXSy := by'.S
  refine ⟨y, fun d => ?_, oy, vy⟩
  simp only [e28_0, e28_1, e28_3, e28_4, e28_7, e28_10, e28_11, e28_13, e28_14, e28_17, e28_20, e28_21, e28_24, e28_25, e28_26, e28_27, e28_28, e28_31, e28_32, e28_35, e28_36, e28_37, e28_38, e28_41, e28_42, e28_45, e28_48, e28_51, e28_54, ↓reduceIte, Nat.reduceAdd, Nat.reduceLeDiff, Nat.reduceLT, Nat.reduceEqDiff, not_false_eq_true, false_or, true_or, or_true, or_false, n0_e, n1_ne, n1_11, bI_z, bI_1, bI_fo, va_rf_some, aBk_1, aBk_0, nI_add, nI_mul, hk_si, hp_si, hl_si, hk_sp, hk_sl, hk_cp, hp_cp]
  refine (e d).trans ?_
  refine (e28_2).trans ?_
  simp only [e28_0, e28_1, e28_3, e28_4, e28_7, e28_10, e28_11, e28_13, e28_14, e28_17, e28_20, e28_21, e28_24, e28_25, e28_26, e28_27, e28_28, e28_31, e28_32, e28_35, e28_36, e28_37, e28_38, e28_41, e28_42, e28_45, e28_48, e28_51, e28_54, xk_64 hXSy, xp_14 hXSy, xk_123 hXSy, ↓reduceIte, Nat.reduceAdd, Nat.reduceLeDiff, Nat.reduceLT, Nat.reduceEqDiff, not_false_eq_true, false_or, true_or, or_true, or_false, n0_e, n1_ne, n1_11, bI_z, bI_1, bI_fo, va_rf_some, aBk_1, aBk_0, nI_add, nI_mul, hk_si, hp_si, hl_si, hk_sp, hk_sl, hk_cp, hp_cp, x_sundays by', Int32.le_refl]
theorem x_alone (hB : XB h T w tx sa ga la qs qg) (hW : WV T w) (s what : Int32) : ∃ h', (∀ d, (run (d + 406) 27 0 [.ref 64, .int s, .int what, aU, aU] [] h) = some (.returned (some (.int (qAln T w s what))), h')) ∧ On QX h h' := by
  have hXS := hB.S
  have hT := hB.X
  have h7 := hT.ng7
  have h4 := hT.ns4
  have h128 := x27 hB
  have hp1 : 1 ≤ 2 ^ ng_ T := Nat.one_le_two_pow
  unfold qAln
  cases hq : isS T s with
  | false =>
    refine ⟨h, fun d => ?_, On.refl⟩
    simp only [e27_0, e27_1, e27_2, e27_5, e27_8, e27_9, e27_10, e27_11, e27_14, e27_17, e27_18, e27_19, e27_20, e27_21, e27_22, e27_25, e27_26, e27_30, e27_31, e27_34, e27_37, e27_38, e27_41, e27_42, e27_43, e27_45, e27_46, e27_47, e27_50, e27_51, e27_52, e27_53, e27_54, e27_57, e27_59, e27_60, e27_63, e27_66, e27_67, e27_70, e27_71, e27_74, e27_75, e27_76, e27_77, e27_78, e27_81, e27_82, xk_64 hXS, xp_14 hXS, xk_123 hXS, ↓reduceIte, Nat.reduceAdd, Nat.reduceLeDiff, Nat.reduceLT, Nat.reduceEqDiff, not_false_eq_true, false_or, true_or, or_true, or_false, n0_e, n1_ne, n1_11, bI_1, bI_fo, va_rf_some, aBk_1, aBk_0, nI_add, nI_mul, hk_si, hp_si, hl_si, hk_sp, hk_sl, hk_cp, hp_cp, x_isSunday hB, hq, bI_z, reduceCtorEq, false_and]
  | true =>
    obtain ⟨k, hk, rfl⟩ := isS_n hT.v hq
    rw [kk_n (by omega)]
    have k4 : k < 4 := by omega
    cases hq2 : in_ what (nI 0) (nI 1) with
    | false =>
      refine ⟨h, fun d => ?_, On.refl⟩
      simp only [e27_0, e27_1, e27_2, e27_5, e27_8, e27_9, e27_10, e27_11, e27_14, e27_17, e27_18, e27_19, e27_20, e27_21, e27_22, e27_25, e27_26, e27_30, e27_31, e27_34, e27_37, e27_38, e27_41, e27_42, e27_43, e27_45, e27_46, e27_47, e27_50, e27_51, e27_52, e27_53, e27_54, e27_57, e27_59, e27_60, e27_63, e27_66, e27_67, e27_70, e27_71, e27_74, e27_75, e27_76, e27_77, e27_78, e27_81, e27_82, xk_64 hXS, xp_14 hXS, xk_123 hXS, ↓reduceIte, Nat.reduceAdd, Nat.reduceLeDiff, Nat.reduceLT, Nat.reduceEqDiff, not_false_eq_true, false_or, true_or, or_true, or_false, n0_e, n1_ne, n1_11, bI_1, bI_fo, va_rf_some, aBk_1, aBk_0, nI_add, nI_mul, hk_si, hp_si, hl_si, hk_sp, hk_sl, hk_cp, hp_cp, x_isSunday hB, hq, hq2, x_isIn, bI_z, reduceCtorEq, and_false]
    | true =>
      rw [if_pos ⟨rfl, rfl⟩]
      obtain ⟨h1, e1, o1, v1⟩ := x_laysPay hB hW
      have o1 : On QX h h1 := o1.mono (fun _ _ q => q.Q)
      have b1 := hB.onQ o1
      have hXS1 := b1.S
      have hbest : ∀ j, j ≤ 2 ^ ng_ T - 1 → itn j (fun k' b => if pv_ T w k (k' + 1) ≤ pv_ T w k b then b else k' + 1) 0 ≤ j := by
        intro j
        induction j with
        | zero => intro _; exact Nat.le_refl 0
        | succ j ih =>
          intro hj
          rw [itn]
          split
          · have := ih (by omega); omega
          · omega
      refine ⟨h1, fun d => ?_, o1⟩
      simp only [e27_0, e27_1, e27_2, e27_5, e27_8, e27_9, e27_10, e27_11, e27_14, e27_17, e27_18, e27_19, e27_20, e27_21, e27_22, e27_25, e27_26, e27_30, e27_31, e27_34, e27_37, e27_38, e27_41, e27_42, e27_43, e27_45, e27_46, e27_47, e27_50, e27_51, e27_52, e27_53, e27_54, e27_57, e27_59, e27_60, e27_63, e27_66, e27_67, e27_70, e27_71, e27_74, e27_75, e27_76, e27_77, e27_78, e27_81, e27_82, xk_64 hXS, xp_14 hXS, xk_123 hXS, ↓reduceIte, Nat.reduceAdd, Nat.reduceLeDiff, Nat.reduceLT, Nat.reduceEqDiff, not_false_eq_true, false_or, true_or, or_true, or_false, n0_e, n1_ne, n1_11, bI_1, bI_fo, va_rf_some, aBk_1, aBk_0, nI_add, nI_mul, hk_si, hp_si, hl_si, hk_sp, hk_sl, hk_cp, hp_cp, x_isSunday hB, hq, hq2, x_isIn, bI_z, reduceCtorEq, e1]
      refine (run_for (F := fun j b => (run (d + 406) 27 28 [.ref 64, .int (nI k), .int what, .int (nI b), .int (nI (j + 1))] [] h1)) (f := fun k' b => if pv_ T w k (k' + 1) ≤ pv_ T w k b then b else k' + 1) (a := 0) (n := 2 ^ ng_ T - 1) (fun j hj => ?_)).trans ?_
      · have hb := hbest j (by omega)
        generalize itn j (fun k' b => if pv_ T w k (k' + 1) ≤ pv_ T w k b then b else k' + 1) 0 = b at hb ⊢
        have g1 : ¬ nI (2 ^ ng_ T) ≤ nI (j + 1) := nI_ge (by omega) (by omega)
        have g2 : j + 1 < 128 := by omega
        have g3 : b < 128 := by omega
        have f1 := v1 k hk (j + 1) (by omega)
        have f2 := v1 k hk b (by omega)
        refine (e27_28).trans ?_
        by_cases q : pv_ T w k (j + 1) ≤ pv_ T w k b
        · simp only [e27_0, e27_1, e27_2, e27_5, e27_8, e27_9, e27_10, e27_11, e27_14, e27_17, e27_18, e27_19, e27_20, e27_21, e27_22, e27_25, e27_26, e27_30, e27_31, e27_34, e27_37, e27_38, e27_41, e27_42, e27_43, e27_45, e27_46, e27_47, e27_50, e27_51, e27_52, e27_53, e27_54, e27_57, e27_59, e27_60, e27_63, e27_66, e27_67, e27_70, e27_71, e27_74, e27_75, e27_76, e27_77, e27_78, e27_81, e27_82, xk_64 hXS1, xp_14 hXS1, xk_123 hXS1, ↓reduceIte, Nat.reduceAdd, Nat.reduceLeDiff, Nat.reduceLT, Nat.reduceEqDiff, not_false_eq_true, false_or, true_or, or_true, or_false, n0_e, n1_ne, n1_11, bI_z, bI_1, bI_fo, va_rf_some, aBk_1, aBk_0, nI_add, nI_mul, hk_si, hp_si, hl_si, hk_sp, hk_sl, hk_cp, hp_cp, x_sets b1, g1, g2, g3, k4, xp_pay hXS1 k4, xk_pay hXS1 k4, f1, f2, q]
        · simp only [e27_0, e27_1, e27_2, e27_5, e27_8, e27_9, e27_10, e27_11, e27_14, e27_17, e27_18, e27_19, e27_20, e27_21, e27_22, e27_25, e27_26, e27_30, e27_31, e27_34, e27_37, e27_38, e27_41, e27_42, e27_43, e27_45, e27_46, e27_47, e27_50, e27_51, e27_52, e27_53, e27_54, e27_57, e27_59, e27_60, e27_63, e27_66, e27_67, e27_70, e27_71, e27_74, e27_75, e27_76, e27_77, e27_78, e27_81, e27_82, xk_64 hXS1, xp_14 hXS1, xk_123 hXS1, ↓reduceIte, Nat.reduceAdd, Nat.reduceLeDiff, Nat.reduceLT, Nat.reduceEqDiff, not_false_eq_true, false_or, true_or, or_true, or_false, n0_e, n1_ne, n1_11, bI_z, bI_1, bI_fo, va_rf_some, aBk_1, aBk_0, nI_add, nI_mul, hk_si, hp_si, hl_si, hk_sp, hk_sl, hk_cp, hp_cp, x_sets b1, g1, g2, g3, k4, xp_pay hXS1 k4, xk_pay hXS1 k4, f1, f2, q]
      · have hb := hbest (2 ^ ng_ T - 1) (Nat.le_refl _)
        have eb : al_ T w k = itn (2 ^ ng_ T - 1) (fun k' b => if pv_ T w k (k' + 1) ≤ pv_ T w k b then b else k' + 1) 0 := rfl
        rw [← eb] at hb ⊢
        have g3 : al_ T w k < 128 := by omega
        have f2 := v1 k hk (al_ T w k) (by omega)
        rw [Nat.sub_add_cancel hp1]
        obtain ⟨c, hc, rfl⟩ := in_n (by decide) hq2
        have hcc : c = 0 ∨ c = 1 := by omega
        refine (e27_28).trans ?_
        rcases hcc with rfl | rfl
        · simp only [e27_0, e27_1, e27_2, e27_5, e27_8, e27_9, e27_10, e27_11, e27_14, e27_17, e27_18, e27_19, e27_20, e27_21, e27_22, e27_25, e27_26, e27_30, e27_31, e27_34, e27_37, e27_38, e27_41, e27_42, e27_43, e27_45, e27_46, e27_47, e27_50, e27_51, e27_52, e27_53, e27_54, e27_57, e27_59, e27_60, e27_63, e27_66, e27_67, e27_70, e27_71, e27_74, e27_75, e27_76, e27_77, e27_78, e27_81, e27_82, xk_64 hXS1, xp_14 hXS1, xk_123 hXS1, ↓reduceIte, Nat.reduceAdd, Nat.reduceLeDiff, Nat.reduceLT, Nat.reduceEqDiff, not_false_eq_true, false_or, true_or, or_true, or_false, n1_ne, n1_11, bI_z, bI_1, bI_fo, va_rf_some, aBk_1, aBk_0, nI_add, nI_mul, hk_si, hp_si, hl_si, hk_sp, hk_sl, hk_cp, hp_cp, x_sets b1, Int32.le_refl, g3, k4, xp_pay hXS1 k4, xk_pay hXS1 k4, f2, n0_e]
        · simp only [e27_0, e27_1, e27_2, e27_5, e27_8, e27_9, e27_10, e27_11, e27_14, e27_17, e27_18, e27_19, e27_20, e27_21, e27_22, e27_25, e27_26, e27_30, e27_31, e27_34, e27_37, e27_38, e27_41, e27_42, e27_43, e27_45, e27_46, e27_47, e27_50, e27_51, e27_52, e27_53, e27_54, e27_57, e27_59, e27_60, e27_63, e27_66, e27_67, e27_70, e27_71, e27_74, e27_75, e27_76, e27_77, e27_78, e27_81, e27_82, xk_64 hXS1, xp_14 hXS1, xk_123 hXS1, ↓reduceIte, Nat.reduceAdd, Nat.reduceLeDiff, Nat.reduceLT, Nat.reduceEqDiff, not_false_eq_true, false_or, true_or, or_true, or_false, n0_e, n1_11, bI_z, bI_1, bI_fo, va_rf_some, aBk_1, aBk_0, nI_add, nI_mul, hk_si, hp_si, hl_si, hk_sp, hk_sl, hk_cp, hp_cp, x_sets b1, Int32.le_refl, n1_ne, n10_e]
end XA
