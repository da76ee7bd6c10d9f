set_option maxRecDepth 100000
/-! X: fewest, colours, tangles -/
section XC
variable {d : Nat} {h h' : aH} {T : aTx} {w r : Nat → Int32} {tx sa ga la : Nat} {qs qg : Nat → Nat}
theorem fnd_iff {P : Nat → Bool} {n : Nat} : (fnd P n 0).isSome = true ↔ ∃ k, k < n ∧ P k = true := by
  cases hf : fnd P n 0 with
  | none =>
    constructor
    · intro h; cases h
    · rintro ⟨k, hk, hp⟩
      have := fnd_none _ _ hf k (by omega) (by omega)
      rw [hp] at this; cases this
  | some k =>
    obtain ⟨h1, h2, h3, -⟩ := fnd_some _ _ _ hf
    exact ⟨fun _ => ⟨k, by omega, h3⟩, fun _ => rfl⟩
theorem enL_0 (l : List Nat) : enL T w l 0 = true := by
  induction l with
  | nil => rfl
  | cons s l ih =>
    rw [enL]
    exact fnd_iff.mpr ⟨0, by omega, by rw [cb_0, Bool.true_and, dif_0]; exact ih⟩
theorem enL_c (s : Nat) (l : List Nat) (of : Nat) : enL T w (s :: l) of = (enL T w l of || (fnd (fun k => cb_ T w s (k + 1) of && enL T w l (dif of (k + 1))) of 0).isSome) := by
  apply Bool.eq_iff_iff.mpr
  rw [enL, fnd_iff, Bool.or_eq_true, fnd_iff]
  constructor
  · rintro ⟨k, hk, hp⟩
    cases k with
    | zero =>
      rw [cb_0, Bool.true_and, dif_z] at hp
      exact Or.inl hp
    | succ k => exact Or.inr ⟨k, by omega, hp⟩
  · rintro (h | ⟨k, hk, hp⟩)
    · exact ⟨0, by omega, by rw [cb_0, Bool.true_and, dif_z]; exact h⟩
    · exact ⟨k + 1, by omega, hp⟩
theorem x_isPlacedBy (hB : XB h T w tx sa ga la qs qg) (hp : PL h T w) {s of : Nat} {l : List Nat} (hs : s < ns_ T) (ho : of < 2 ^ ng_ T) (hl : ∀ k, k < of → hi_ h 134 k = bI (enL T w l k)) : (run (d) 37 0 [.ref 64, .int (nI s), .int (nI of), aU] [] h) = some (.returned (some (.int (bI (fnd (fun k => cb_ T w s (k + 1) of && enL T w l (dif of (k + 1))) of 0).isSome))), h) := by
  have hXS := hB.S
  have h4 := hB.X.ns4
  have h128 := x27 hB
  have s4 : s < 4 := by omega
  simp only [e37_0, e37_1, e37_3, e37_4, e37_7, e37_8, e37_9, e37_10, e37_11, e37_12, e37_15, e37_16, e37_19, e37_20, e37_21, e37_22, e37_23, e37_26, e37_27, e37_30, e37_31, e37_32, e37_33, e37_34, e37_35, e37_36, e37_39, e37_40, e37_41, e37_44, e37_47, e37_48, ↓reduceIte, Nat.reduceAdd, Nat.reduceLeDiff, Nat.reduceLT, Nat.reduceEqDiff, not_false_eq_true, false_or, true_or, or_true, or_false, n0_e, n1_ne, n1_11, bI_z, bI_1, bI_fo, va_rf_some, aBk_1, aBk_0, nI_add, nI_mul, hk_si, hp_si, hl_si, hk_sp, hk_sl, hk_cp, hp_cp]
  refine (run_find (F := fun j => (run (d) 37 2 [.ref 64, .int (nI s), .int (nI of), .int (nI (j + 1))] [] h)) (R := fun j => some (.returned (some (.int (nI 1))), h)) (P := fun k => cb_ T w s (k + 1) of && enL T w l (dif of (k + 1))) (n := of) (fun j hj => ?_)).trans ?_
  · have g1 : ¬ nI of < nI (j + 1) := nI_nlt (by omega) (by omega)
    have hz : dif (j + 1) of < 2147483648 := dif_lt (n := 31) (by omega)
    have g5 : j + 1 < 128 := by omega
    have f1 := hp s hs (j + 1) (by omega)
    unfold cb_
    refine (e37_2).trans ?_
    by_cases q1 : dif (j + 1) of = 0
    · have hdl : dif of (j + 1) < of := by
        refine Nat.lt_of_le_of_ne dif_le (fun e => ?_)
        have hz : (j + 1) = 0 := by
          apply Nat.eq_of_testBit_eq
          intro n
          have e1 := congrArg (fun x => x.testBit n) e
          have e2 := congrArg (fun x => x.testBit n) q1
          simp only [dif_bit, Nat.zero_testBit] at e1 e2
          rw [Nat.zero_testBit]
          revert e1 e2
          cases (j + 1).testBit n <;> cases of.testBit n <;> simp
        omega
      have g7 : dif of (j + 1) < 128 := by omega
      have f2 := hl _ hdl
      by_cases q2 : 0 ≤ pv_ T w s (j + 1)
      · have q2' : ¬ pv_ T w s (j + 1) < 0 := Int32.not_lt.mpr q2
        cases q3 : enL T w l (dif of (j + 1)) with
        | true =>
          rw [q3] at f2
          simp only [e37_0, e37_1, e37_3, e37_4, e37_7, e37_8, e37_9, e37_10, e37_11, e37_12, e37_15, e37_16, e37_19, e37_20, e37_21, e37_22, e37_23, e37_26, e37_27, e37_30, e37_31, e37_32, e37_33, e37_34, e37_35, e37_36, e37_39, e37_40, e37_41, e37_44, e37_47, e37_48, xk_64 hXS, xp_14 hXS, xk_123 hXS, xp_16 hXS, xk_134 hXS, ↓reduceIte, Nat.reduceAdd, Nat.reduceLeDiff, Nat.reduceLT, Nat.reduceEqDiff, not_false_eq_true, false_or, true_or, or_true, or_false, n0_e, n1_ne, n1_11, bI_1, bI_fo, va_rf_some, aBk_1, aBk_0, nI_add, nI_mul, hk_si, hp_si, hl_si, hk_sp, hk_sl, hk_cp, hp_cp, g1, nI_dif (show of < 2 ^ 31 by omega) (show j + 1 < 2 ^ 31 by omega), nI_dif (show j + 1 < 2 ^ 31 by omega) (show of < 2 ^ 31 by omega), nI_z hz, q1, s4, xp_pay hXS s4, xk_pay hXS s4, g5, g7, f1, f2, q2, q2', bI_z, reduceCtorEq, decide_true, Bool.and_self, n1_01]
        | false =>
          rw [q3] at f2
          simp only [e37_0, e37_1, e37_3, e37_4, e37_7, e37_8, e37_9, e37_10, e37_11, e37_12, e37_15, e37_16, e37_19, e37_20, e37_21, e37_22, e37_23, e37_26, e37_27, e37_30, e37_31, e37_32, e37_33, e37_34, e37_35, e37_36, e37_39, e37_40, e37_41, e37_44, e37_47, e37_48, xk_64 hXS, xp_14 hXS, xk_123 hXS, xp_16 hXS, xk_134 hXS, ↓reduceIte, Nat.reduceAdd, Nat.reduceLeDiff, Nat.reduceLT, Nat.reduceEqDiff, not_false_eq_true, false_or, true_or, or_true, or_false, n0_e, n1_ne, n1_11, bI_1, bI_fo, va_rf_some, aBk_1, aBk_0, nI_add, nI_mul, hk_si, hp_si, hl_si, hk_sp, hk_sl, hk_cp, hp_cp, g1, nI_dif (show of < 2 ^ 31 by omega) (show j + 1 < 2 ^ 31 by omega), nI_dif (show j + 1 < 2 ^ 31 by omega) (show of < 2 ^ 31 by omega), nI_z hz, q1, s4, xp_pay hXS s4, xk_pay hXS s4, g5, g7, f1, f2, q2, q2', bI_z, reduceCtorEq, decide_true, Bool.and_false]
      · have q2' : pv_ T w s (j + 1) < 0 := Int32.not_le.mp q2
        simp only [e37_0, e37_1, e37_3, e37_4, e37_7, e37_8, e37_9, e37_10, e37_11, e37_12, e37_15, e37_16, e37_19, e37_20, e37_21, e37_22, e37_23, e37_26, e37_27, e37_30, e37_31, e37_32, e37_33, e37_34, e37_35, e37_36, e37_39, e37_40, e37_41, e37_44, e37_47, e37_48, xk_64 hXS, xp_14 hXS, xk_123 hXS, xp_16 hXS, xk_134 hXS, ↓reduceIte, Nat.reduceAdd, Nat.reduceLeDiff, Nat.reduceLT, Nat.reduceEqDiff, not_false_eq_true, false_or, true_or, or_true, or_false, n0_e, n1_ne, n1_11, bI_z, bI_1, bI_fo, va_rf_some, aBk_1, aBk_0, nI_add, nI_mul, hk_si, hp_si, hl_si, hk_sp, hk_sl, hk_cp, hp_cp, g1, nI_dif (show of < 2 ^ 31 by omega) (show j + 1 < 2 ^ 31 by omega), nI_z hz, q1, s4, xp_pay hXS s4, xk_pay hXS s4, g5, f1, q2, q2', decide_true, decide_false, Bool.and_false, Bool.false_and, reduceCtorEq]
    · simp only [e37_0, e37_1, e37_3, e37_4, e37_7, e37_8, e37_9, e37_10, e37_11, e37_12, e37_15, e37_16, e37_19, e37_20, e37_21, e37_22, e37_23, e37_26, e37_27, e37_30, e37_31, e37_32, e37_33, e37_34, e37_35, e37_36, e37_39, e37_40, e37_41, e37_44, e37_47, e37_48, xk_64 hXS, xp_14 hXS, xk_123 hXS, xp_16 hXS, xk_134 hXS, ↓reduceIte, Nat.reduceAdd, Nat.reduceLeDiff, Nat.reduceLT, Nat.reduceEqDiff, not_false_eq_true, false_or, true_or, or_true, or_false, n0_e, n1_ne, n1_11, bI_z, bI_1, bI_fo, va_rf_some, aBk_1, aBk_0, nI_add, nI_mul, hk_si, hp_si, hl_si, hk_sp, hk_sl, hk_cp, hp_cp, g1, nI_dif (show of < 2 ^ 31 by omega) (show j + 1 < 2 ^ 31 by omega), nI_z hz, q1, decide_false, Bool.false_and, reduceCtorEq]
  · cases fnd (fun k => cb_ T w s (k + 1) of && enL T w l (dif of (k + 1))) of 0 with
    | some j => rfl
    | none =>
      have g1 : nI of < nI (of + 1) := nI_lt (by omega) (by omega)
      dsimp only
      refine (e37_2).trans ?_
      simp only [e37_0, e37_1, e37_3, e37_4, e37_7, e37_8, e37_9, e37_10, e37_11, e37_12, e37_15, e37_16, e37_19, e37_20, e37_21, e37_22, e37_23, e37_26, e37_27, e37_30, e37_31, e37_32, e37_33, e37_34, e37_35, e37_36, e37_39, e37_40, e37_41, e37_44, e37_47, e37_48, xk_64 hXS, xp_14 hXS, xk_123 hXS, xp_16 hXS, xk_134 hXS, ↓reduceIte, Nat.reduceAdd, Nat.reduceLeDiff, Nat.reduceLT, Nat.reduceEqDiff, not_false_eq_true, false_or, true_or, or_true, or_false, n0_e, n1_ne, n1_11, bI_z, bI_1, bI_fo, va_rf_some, aBk_1, aBk_0, nI_add, nI_mul, hk_si, hp_si, hl_si, hk_sp, hk_sl, hk_cp, hp_cp, g1, n0_01]
      rfl
/-- the chosen sundays below s, the last first -/
def lx_ (chosen s : Nat) : List Nat := itn s (fun i l => if chosen.testBit i = true then i :: l else l) []
/-- all who live -/
theorem all_L (hW : WV T w) (hV : TV T) : dif (2 ^ ng_ T - 1) (dB_ w) = lB_ T w := by
  apply Nat.eq_of_testBit_eq
  intro i
  have h7 := hV.2.1
  unfold lB_ dB_
  rw [dif_bit, Nat.testBit_two_pow_sub_one, orN_bit, orN_bit]
  by_cases q : i < ng_ T
  · rw [decide_eq_true q, decide_eq_true (show i < 7 by omega)]
    cases decide (w (14 + i) = 0) <;> rfl
  · rw [decide_eq_false q]; rfl
theorem x_isEnough (hB : XB h T w tx sa ga la qs qg) (hW : WV T w) (hp : PL h T w) {chosen : Nat} (hc : chosen < 2 ^ ns_ T) : ∃ h', (∀ d, (run (d + 3) 36 0 [.ref 64, .int (nI chosen), aU, aU, aU] [] h) = some (.returned (some (.int (bI (enL T w (lx_ chosen (ns_ T)) (lB_ T w))))), h')) ∧ On (AA 134) h h' := by
  have hXS := hB.S
  have hA := hB.H.s
  have hV := hB.X.v
  have h7 := hB.X.ng7
  have h4 := hB.X.ns4
  have h128 := x27 hB
  have h16 := x24 hB
  have hp1 : 1 ≤ 2 ^ ng_ T := Nat.one_le_two_pow
  have hdb : dB_ w < 2 ^ 7 := dB_128
  have hL : lB_ T w < 2 ^ ng_ T := orN_lt _ _
  have wq : ∀ x f, AA 134 x f → QX x f := fun x f q => by
    have q : x = 134 := q
    unfold QX; omega
  have np : ∀ x f, AA 134 x f → ¬ (124 ≤ x ∧ x ≤ 127) := fun x f q => by
    have q : x = 134 := q
    omega
  -- nobody is placed
  refine Exists.elim (run_fill (F := fun d j x => (run (d + 3) 36 19 [.ref 64, .int (nI chosen), .int (nI (lB_ T w)), .int (nI j), aU] [] x)) (b := 134) (n := 2 ^ ng_ T) (r := fun k => bI (decide (k = 0))) (h := h) (fun d j x hj o _ _ => ?_)) (fun h1 hh => ?_)
  · have o' : On (AA 134) h x := o.mono (fun x f q => q.1)
    have bx := hB.onQ (o'.mono wq)
    have hXSx := bx.S
    have g1 : ¬ nI (2 ^ ng_ T) ≤ nI j := nI_ge hj (by omega)
    have g2 : j < 128 := by omega
    refine (e36_19).trans ?_
    by_cases q : j = 0
    · subst q
      simp only [e36_0, e36_1, e36_4, e36_5, e36_6, e36_7, e36_10, e36_13, e36_14, e36_15, e36_16, e36_17, e36_18, e36_20, e36_21, e36_24, e36_27, e36_28, e36_31, e36_32, e36_33, e36_36, e36_37, e36_40, e36_41, e36_41z, e36_42, e36_45, e36_48, e36_49, e36_51, e36_52, e36_55, e36_58, e36_59, e36_60, e36_61, e36_62, e36_63, e36_64, e36_67, e36_68, e36_72, e36_75, e36_76, e36_79, e36_81, e36_82, e36_85, e36_87, e36_88, e36_91, e36_92, e36_93, e36_95, e36_98, e36_101, e36_102, e36_105, e36_106, e36_106z, e36_107, e36_110, e36_113, e36_116, e36_119, e36_120, e36_123, e36_124, e36_125, xk_64 hXSx, xp_7 hXSx, xp_16 hXSx, xk_134 hXSx, ↓reduceIte, Nat.reduceAdd, Nat.reduceLeDiff, Nat.reduceLT, Nat.reduceEqDiff, not_false_eq_true, false_or, true_or, or_true, or_false, n1_ne, n1_11, bI_z, bI_1, bI_fo, va_rf_some, aBk_1, aBk_0, nI_add, nI_mul, hk_si, hp_si, hl_si, hk_sp, hk_sl, hk_cp, hp_cp, x_sets bx, g1, n0_e, n1_01]
      rfl
    · have hz : (nI j = 0) = False := by rw [nI_z (by omega)]; exact eq_false q
      simp only [e36_0, e36_1, e36_4, e36_5, e36_6, e36_7, e36_10, e36_13, e36_14, e36_15, e36_16, e36_17, e36_18, e36_20, e36_21, e36_24, e36_27, e36_28, e36_31, e36_32, e36_33, e36_36, e36_37, e36_40, e36_41, e36_41z, e36_42, e36_45, e36_48, e36_49, e36_51, e36_52, e36_55, e36_58, e36_59, e36_60, e36_61, e36_62, e36_63, e36_64, e36_67, e36_68, e36_72, e36_75, e36_76, e36_79, e36_81, e36_82, e36_85, e36_87, e36_88, e36_91, e36_92, e36_93, e36_95, e36_98, e36_101, e36_102, e36_105, e36_106, e36_106z, e36_107, e36_110, e36_113, e36_116, e36_119, e36_120, e36_123, e36_124, e36_125, xk_64 hXSx, xp_7 hXSx, xp_16 hXSx, xk_134 hXSx, ↓reduceIte, Nat.reduceAdd, Nat.reduceLeDiff, Nat.reduceLT, Nat.reduceEqDiff, not_false_eq_true, false_or, true_or, or_true, or_false, n0_e, n1_ne, n1_11, bI_z, bI_1, bI_fo, va_rf_some, aBk_1, aBk_0, nI_add, nI_mul, hk_si, hp_si, hl_si, hk_sp, hk_sl, hk_cp, hp_cp, x_sets bx, g1, g2, hz, n0_01, q, decide_false]
      rfl
  obtain ⟨e1, o1, f1⟩ := hh
  have o1 : On (AA 134) h h1 := o1.mono (fun x f q => q.1)
  have b1 := hB.onQ (o1.mono wq)
  have hXS1 := b1.S
  obtain ⟨y, e, oy, py⟩ := run_invd (F := fun d j (x : Value × aH) => (run (d + 3) 36 50 [.ref 64, .int (nI chosen), .int (nI (lB_ T w)), .int (nI j), x.1] [] x.2)) (I := fun j x => On (AA 134) h x.2 ∧ ∀ k, k < lB_ T w + 1 → hi_ x.2 134 k = bI (enL T w (lx_ chosen j) k)) (n := ns_ T) (x := (aU, h1)) ⟨o1, fun k hk => by
      rw [f1 k (by omega)]; rfl⟩ (fun j x hj hI => by
    obtain ⟨v4, x⟩ := x
    obtain ⟨o, px⟩ := hI
    have o : On (AA 134) h x := o
    have px : ∀ k, k < lB_ T w + 1 → hi_ x 134 k = bI (enL T w (lx_ chosen j) k) := px
    have bx := hB.onQ (o.mono wq)
    have hXSx := bx.S
    have g1 : ¬ nI (ns_ T) ≤ nI j := nI_ge hj (by omega)
    have hlx : lx_ chosen (j + 1) = if chosen.testBit j = true then j :: lx_ chosen j else lx_ chosen j := rfl
    cases q : chosen.testBit j with
    | false =>
      refine ⟨(v4, x), fun d => ?_, o, ?_⟩
      · refine (e36_50).trans ?_
        simp only [e36_0, e36_1, e36_4, e36_5, e36_6, e36_7, e36_10, e36_13, e36_14, e36_15, e36_16, e36_17, e36_18, e36_20, e36_21, e36_24, e36_27, e36_28, e36_31, e36_32, e36_33, e36_36, e36_37, e36_40, e36_41, e36_41z, e36_42, e36_45, e36_48, e36_49, e36_51, e36_52, e36_55, e36_58, e36_59, e36_60, e36_61, e36_62, e36_63, e36_64, e36_67, e36_68, e36_72, e36_75, e36_76, e36_79, e36_81, e36_82, e36_85, e36_87, e36_88, e36_91, e36_92, e36_93, e36_95, e36_98, e36_101, e36_102, e36_105, e36_106, e36_106z, e36_107, e36_110, e36_113, e36_116, e36_119, e36_120, e36_123, e36_124, e36_125, xk_64 hXSx, xp_7 hXSx, xp_16 hXSx, xk_134 hXSx, ↓reduceIte, Nat.reduceAdd, Nat.reduceLeDiff, Nat.reduceLT, Nat.reduceEqDiff, not_false_eq_true, false_or, true_or, or_true, or_false, n0_e, n1_ne, n1_11, bI_z, bI_1, bI_fo, va_rf_some, aBk_1, aBk_0, nI_add, nI_mul, hk_si, hp_si, hl_si, hk_sp, hk_sl, hk_cp, hp_cp, x_sundays bx, g1, nI_shr (show chosen < 2 ^ 31 by omega) (show j < 32 by omega), bit_and1, q, reduceCtorEq]
      · rw [hlx, q]; exact px
    | true =>
      obtain ⟨z, ez, oz, uz, vz⟩ := run_invd (F := fun d c (z : aH) => (run (d + 3) 36 70 [.ref 64, .int (nI chosen), .int (nI (lB_ T w)), .int (nI j), .int (nI (lB_ T w - c))] [] z)) (I := fun c z => On (AA 134) h z ∧ (∀ k, k < lB_ T w + 1 - c → hi_ z 134 k = bI (enL T w (lx_ chosen j) k)) ∧ ∀ k, lB_ T w - c < k → k < lB_ T w + 1 → hi_ z 134 k = bI (enL T w (j :: lx_ chosen j) k)) (n := lB_ T w) (x := x) ⟨o, px, fun k h1 h2 => by omega⟩ (fun c z hc hI => by
        obtain ⟨o, u, v⟩ := hI
        have bz := hB.onQ (o.mono wq)
        have hXSz := bz.S
        have ec : nI (lB_ T w - (c + 1)) = nI (lB_ T w - c) + (-1) := by
          rw [show lB_ T w - c = (lB_ T w - (c + 1)) + 1 by omega, nI_m1]
        have hof : lB_ T w - c < 2 ^ ng_ T := by omega
        have hpos : 0 < lB_ T w - c := by omega
        have u0 := u (lB_ T w - c) (by omega)
        have ep := fun d => x_isPlacedBy (d := d) bz (hp.on hV o np) (l := lx_ chosen j) hj hof (fun k hk => u k (by omega))
        have en := enL_c (T := T) (w := w) j (lx_ chosen j) (lB_ T w - c)
        have g2 : ¬ nI (lB_ T w - c) ≤ 0 := nI_nle hpos (by omega)
        have g3 : lB_ T w - c < 128 := by omega
        refine ⟨si_ z 134 (lB_ T w - c) (bI (enL T w (j :: lx_ chosen j) (lB_ T w - c))), fun d => ?_, o.trans (On.sa), fun k hk => ?_, fun k h1 h2 => ?_⟩
        · rw [ec, en]
          refine (e36_70).trans ?_
          cases q1 : enL T w (lx_ chosen j) (lB_ T w - c) with
          | true =>
            rw [q1] at u0
            simp only [e36_0, e36_1, e36_4, e36_5, e36_6, e36_7, e36_10, e36_13, e36_14, e36_15, e36_16, e36_17, e36_18, e36_20, e36_21, e36_24, e36_27, e36_28, e36_31, e36_32, e36_33, e36_36, e36_37, e36_40, e36_41, e36_41z, e36_42, e36_45, e36_48, e36_49, e36_51, e36_52, e36_55, e36_58, e36_59, e36_60, e36_61, e36_62, e36_63, e36_64, e36_67, e36_68, e36_72, e36_75, e36_76, e36_79, e36_81, e36_82, e36_85, e36_87, e36_88, e36_91, e36_92, e36_93, e36_95, e36_98, e36_101, e36_102, e36_105, e36_106, e36_106z, e36_107, e36_110, e36_113, e36_116, e36_119, e36_120, e36_123, e36_124, e36_125, xk_64 hXSz, xp_7 hXSz, xp_16 hXSz, xk_134 hXSz, ↓reduceIte, Nat.reduceAdd, Nat.reduceLeDiff, Nat.reduceLT, Nat.reduceEqDiff, not_false_eq_true, false_or, true_or, or_true, or_false, n0_e, n1_ne, n1_11, bI_1, bI_fo, va_rf_some, aBk_1, aBk_0, nI_add, nI_mul, hk_si, hp_si, hl_si, hk_sp, hk_sl, hk_cp, hp_cp, g2, g3, u0, bI_z, reduceCtorEq, n1_01, Bool.true_or]
            rfl
          | false =>
            rw [q1] at u0
            cases q2 : (fnd (fun k => cb_ T w j (k + 1) (lB_ T w - c) && enL T w (lx_ chosen j) (dif (lB_ T w - c) (k + 1))) (lB_ T w - c) 0).isSome with
            | true =>
              rw [q2] at ep
              simp only [e36_0, e36_1, e36_4, e36_5, e36_6, e36_7, e36_10, e36_13, e36_14, e36_15, e36_16, e36_17, e36_18, e36_20, e36_21, e36_24, e36_27, e36_28, e36_31, e36_32, e36_33, e36_36, e36_37, e36_40, e36_41, e36_41z, e36_42, e36_45, e36_48, e36_49, e36_51, e36_52, e36_55, e36_58, e36_59, e36_60, e36_61, e36_62, e36_63, e36_64, e36_67, e36_68, e36_72, e36_75, e36_76, e36_79, e36_81, e36_82, e36_85, e36_87, e36_88, e36_91, e36_92, e36_93, e36_95, e36_98, e36_101, e36_102, e36_105, e36_106, e36_106z, e36_107, e36_110, e36_113, e36_116, e36_119, e36_120, e36_123, e36_124, e36_125, xk_64 hXSz, xp_7 hXSz, xp_16 hXSz, xk_134 hXSz, ↓reduceIte, Nat.reduceAdd, Nat.reduceLeDiff, Nat.reduceLT, Nat.reduceEqDiff, not_false_eq_true, false_or, true_or, or_true, or_false, n0_e, n1_ne, n1_11, bI_1, bI_fo, va_rf_some, aBk_1, aBk_0, nI_add, nI_mul, hk_si, hp_si, hl_si, hk_sp, hk_sl, hk_cp, hp_cp, g2, g3, u0, bI_z, reduceCtorEq, ep, n1_01, Bool.false_or]
              rfl
            | false =>
              rw [q2] at ep
              simp only [e36_0, e36_1, e36_4, e36_5, e36_6, e36_7, e36_10, e36_13, e36_14, e36_15, e36_16, e36_17, e36_18, e36_20, e36_21, e36_24, e36_27, e36_28, e36_31, e36_32, e36_33, e36_36, e36_37, e36_40, e36_41, e36_41z, e36_42, e36_45, e36_48, e36_49, e36_51, e36_52, e36_55, e36_58, e36_59, e36_60, e36_61, e36_62, e36_63, e36_64, e36_67, e36_68, e36_72, e36_75, e36_76, e36_79, e36_81, e36_82, e36_85, e36_87, e36_88, e36_91, e36_92, e36_93, e36_95, e36_98, e36_101, e36_102, e36_105, e36_106, e36_106z, e36_107, e36_110, e36_113, e36_116, e36_119, e36_120, e36_123, e36_124, e36_125, xk_64 hXSz, xp_7 hXSz, xp_16 hXSz, xk_134 hXSz, ↓reduceIte, Nat.reduceAdd, Nat.reduceLeDiff, Nat.reduceLT, Nat.reduceEqDiff, not_false_eq_true, false_or, true_or, or_true, or_false, n0_e, n1_ne, n1_11, bI_1, bI_fo, va_rf_some, aBk_1, aBk_0, nI_add, nI_mul, hk_si, hp_si, hl_si, hk_sp, hk_sl, hk_cp, hp_cp, g2, g3, u0, bI_z, reduceCtorEq, ep, n0_01, Bool.false_or]
              rfl
        · rw [hi_si, if_neg (by omega)]
          exact u k (by omega)
        · rw [hi_si]
          by_cases qk : k = lB_ T w - c
          · rw [if_pos ⟨rfl, qk⟩, qk]
          · rw [if_neg (fun z => qk z.2)]
            exact v k (by omega) h2)
      have bz := hB.onQ (oz.mono wq)
      refine ⟨(.int (nI 0), z), fun d => ?_, oz, fun k hk => ?_⟩
      · refine (e36_50).trans ?_
        simp only [e36_0, e36_1, e36_4, e36_5, e36_6, e36_7, e36_10, e36_13, e36_14, e36_15, e36_16, e36_17, e36_18, e36_20, e36_21, e36_24, e36_27, e36_28, e36_31, e36_32, e36_33, e36_36, e36_37, e36_40, e36_41, e36_41z, e36_42, e36_45, e36_48, e36_49, e36_51, e36_52, e36_55, e36_58, e36_59, e36_60, e36_61, e36_62, e36_63, e36_64, e36_67, e36_68, e36_72, e36_75, e36_76, e36_79, e36_81, e36_82, e36_85, e36_87, e36_88, e36_91, e36_92, e36_93, e36_95, e36_98, e36_101, e36_102, e36_105, e36_106, e36_106z, e36_107, e36_110, e36_113, e36_116, e36_119, e36_120, e36_123, e36_124, e36_125, xk_64 hXSx, xp_7 hXSx, xp_16 hXSx, xk_134 hXSx, ↓reduceIte, Nat.reduceAdd, Nat.reduceLeDiff, Nat.reduceLT, Nat.reduceEqDiff, not_false_eq_true, false_or, true_or, or_true, or_false, n0_e, n1_ne, n1_11, bI_z, bI_1, bI_fo, va_rf_some, aBk_1, aBk_0, nI_add, nI_mul, hk_si, hp_si, hl_si, hk_sp, hk_sl, hk_cp, hp_cp, x_sundays bx, g1, nI_shr (show chosen < 2 ^ 31 by omega) (show j < 32 by omega), bit_and1, q]
        have e0 := ez d
        rw [Nat.sub_zero, Nat.sub_self] at e0
        refine e0.trans ?_
        have hle : nI 0 ≤ 0 := by decide
        refine (e36_70).trans ?_
        simp only [e36_0, e36_1, e36_4, e36_5, e36_6, e36_7, e36_10, e36_13, e36_14, e36_15, e36_16, e36_17, e36_18, e36_20, e36_21, e36_24, e36_27, e36_28, e36_31, e36_32, e36_33, e36_36, e36_37, e36_40, e36_41, e36_41z, e36_42, e36_45, e36_48, e36_49, e36_51, e36_52, e36_55, e36_58, e36_59, e36_60, e36_61, e36_62, e36_63, e36_64, e36_67, e36_68, e36_72, e36_75, e36_76, e36_79, e36_81, e36_82, e36_85, e36_87, e36_88, e36_91, e36_92, e36_93, e36_95, e36_98, e36_101, e36_102, e36_105, e36_106, e36_106z, e36_107, e36_110, e36_113, e36_116, e36_119, e36_120, e36_123, e36_124, e36_125, ↓reduceIte, Nat.reduceAdd, Nat.reduceLeDiff, Nat.reduceLT, Nat.reduceEqDiff, not_false_eq_true, false_or, true_or, or_true, or_false, n0_e, n1_ne, n1_11, bI_z, bI_1, bI_fo, va_rf_some, aBk_1, aBk_0, nI_add, nI_mul, hk_si, hp_si, hl_si, hk_sp, hk_sl, hk_cp, hp_cp, hle]
      · rw [hlx, q, if_pos rfl]
        by_cases qk : k = 0
        · rw [qk, enL_0]
          have := uz 0 (by omega)
          rw [enL_0] at this
          exact this
        · exact vz k (by omega) hk)
  obtain ⟨v4, y⟩ := y
  have oy : On (AA 134) h y := oy
  have by' := hB.onQ (oy.mono wq)
  have hXSy := by'.S
  have gl : lB_ T w < 128 := by omega
  have fy : hi_ y 134 (lB_ T w) = bI (enL T w (lx_ chosen (ns_ T)) (lB_ T w)) := py (lB_ T w) (by omega)
  refine ⟨y, fun d => ?_, oy⟩
  simp only [e36_0, e36_1, e36_4, e36_5, e36_6, e36_7, e36_10, e36_13, e36_14, e36_15, e36_16, e36_17, e36_18, e36_20, e36_21, e36_24, e36_27, e36_28, e36_31, e36_32, e36_33, e36_36, e36_37, e36_40, e36_41, e36_41z, e36_42, e36_45, e36_48, e36_49, e36_51, e36_52, e36_55, e36_58, e36_59, e36_60, e36_61, e36_62, e36_63, e36_64, e36_67, e36_68, e36_72, e36_75, e36_76, e36_79, e36_81, e36_82, e36_85, e36_87, e36_88, e36_91, e36_92, e36_93, e36_95, e36_98, e36_101, e36_102, e36_105, e36_106, e36_106z, e36_107, e36_110, e36_113, e36_116, e36_119, e36_120, e36_123, e36_124, e36_125, xk_64 hXS, xp_7 hXS, xp_16 hXS, xk_134 hXS, h78_k hA, ↓reduceIte, Nat.reduceAdd, Nat.reduceLeDiff, Nat.reduceLT, Nat.reduceEqDiff, not_false_eq_true, false_or, true_or, or_true, or_false, n0_e, n1_ne, n1_11, bI_z, bI_1, bI_fo, va_rf_some, aBk_1, aBk_0, nI_add, nI_mul, hk_si, hp_si, hl_si, hk_sp, hk_sl, hk_cp, hp_cp, x_sets hB, nI_sub hp1, hB.H.de, nI_dif (show dB_ w < 2 ^ 31 by omega) (show 2 ^ ng_ T - 1 < 2 ^ 31 by omega), all_L hW hV]
  refine (e1 d).trans ?_
  refine (e36_19).trans ?_
  simp only [e36_0, e36_1, e36_4, e36_5, e36_6, e36_7, e36_10, e36_13, e36_14, e36_15, e36_16, e36_17, e36_18, e36_20, e36_21, e36_24, e36_27, e36_28, e36_31, e36_32, e36_33, e36_36, e36_37, e36_40, e36_41, e36_41z, e36_42, e36_45, e36_48, e36_49, e36_51, e36_52, e36_55, e36_58, e36_59, e36_60, e36_61, e36_62, e36_63, e36_64, e36_67, e36_68, e36_72, e36_75, e36_76, e36_79, e36_81, e36_82, e36_85, e36_87, e36_88, e36_91, e36_92, e36_93, e36_95, e36_98, e36_101, e36_102, e36_105, e36_106, e36_106z, e36_107, e36_110, e36_113, e36_116, e36_119, e36_120, e36_123, e36_124, e36_125, xk_64 hXS1, xp_7 hXS1, xp_16 hXS1, xk_134 hXS1, ↓reduceIte, Nat.reduceAdd, Nat.reduceLeDiff, Nat.reduceLT, Nat.reduceEqDiff, not_false_eq_true, false_or, true_or, or_true, or_false, n0_e, n1_ne, n1_11, bI_z, bI_1, bI_fo, va_rf_some, aBk_1, aBk_0, nI_add, nI_mul, hk_si, hp_si, hl_si, hk_sp, hk_sl, hk_cp, hp_cp, x_sets b1, Int32.le_refl]
  refine (e d).trans ?_
  refine (e36_50).trans ?_
  simp only [e36_0, e36_1, e36_4, e36_5, e36_6, e36_7, e36_10, e36_13, e36_14, e36_15, e36_16, e36_17, e36_18, e36_20, e36_21, e36_24, e36_27, e36_28, e36_31, e36_32, e36_33, e36_36, e36_37, e36_40, e36_41, e36_41z, e36_42, e36_45, e36_48, e36_49, e36_51, e36_52, e36_55, e36_58, e36_59, e36_60, e36_61, e36_62, e36_63, e36_64, e36_67, e36_68, e36_72, e36_75, e36_76, e36_79, e36_81, e36_82, e36_85, e36_87, e36_88, e36_91, e36_92, e36_93, e36_95, e36_98, e36_101, e36_102, e36_105, e36_106, e36_106z, e36_107, e36_110, e36_113, e36_116, e36_119, e36_120, e36_123, e36_124, e36_125, xk_64 hXSy, xp_7 hXSy, xp_16 hXSy, xk_134 hXSy, ↓reduceIte, Nat.reduceAdd, Nat.reduceLeDiff, Nat.reduceLT, Nat.reduceEqDiff, not_false_eq_true, false_or, true_or, or_true, or_false, n0_e, n1_ne, n1_11, bI_z, bI_1, bI_fo, va_rf_some, aBk_1, aBk_0, nI_add, nI_mul, hk_si, hp_si, hl_si, hk_sp, hk_sl, hk_cp, hp_cp, x_sundays by', Int32.le_refl, gl, fy, bI_01]
def fxF (T : aTx) (w : Nat → Int32) (those : Nat) (b : Int32) : Int32 := if (b < 0 ∨ bc_ (nI those) < bc_ b) ∧ enL T w (lx_ those (ns_ T)) (lB_ T w) = true then nI those else b
def fxB (T : aTx) (w : Nat → Int32) : Int32 := itn (2 ^ ns_ T) (fxF T w) (-2)
def qFewX (T : aTx) (w : Nat → Int32) (what : Int32) : Int32 := if in_ what (nI 0) (nI 1) = true then (if fxB T w < 0 ∨ what = nI 1 then fxB T w else bc_ (fxB T w)) else -1
theorem fx_c (j : Nat) : itn j (fxF T w) (-2) = -2 ∨ ∃ k, k < j ∧ itn j (fxF T w) (-2) = nI k := by
  induction j with
  | zero => exact Or.inl rfl
  | succ j ih =>
    rw [itn]
    generalize itn j (fxF T w) (-2) = b at ih ⊢
    unfold fxF
    split
    · exact Or.inr ⟨j, by omega, rfl⟩
    · rcases ih with e | ⟨k, hk, e⟩
      · exact Or.inl e
      · exact Or.inr ⟨k, by omega, e⟩
theorem x_fewest (hB : XB h T w tx sa ga la qs qg) (hW : WV T w) (what : Int32) : ∃ h', (∀ d, (run (d + 406) 35 0 [.ref 64, .int what, aU, aU] [] h) = some (.returned (some (.int (qFewX T w what))), h')) ∧ On QX h h' := by
  have hXS := hB.S
  have hV := hB.X.v
  have h4 := hB.X.ns4
  have h16 := x24 hB
  have wq : ∀ x f, AA 134 x f → QX x f := fun x f q => by
    have q : x = 134 := q
    unfold QX; omega
  have np : ∀ x f, AA 134 x f → ¬ (124 ≤ x ∧ x ≤ 127) := fun x f q => by
    have q : x = 134 := q
    omega
  unfold qFewX
  cases hq : in_ what (nI 0) (nI 1) with
  | false =>
    refine ⟨h, fun d => ?_, On.refl⟩
    simp only [e35_0, e35_1, e35_2, e35_3, e35_6, e35_9, e35_10, e35_11, e35_13, e35_14, e35_15, e35_18, e35_19, e35_21, e35_22, e35_23, e35_26, e35_27, e35_30, e35_31, e35_34, e35_35, e35_38, e35_39, e35_42, e35_45, e35_46, e35_47, e35_50, e35_53, e35_54, e35_55, e35_58, e35_61, e35_62, e35_65, e35_66, e35_67, e35_70, e35_71, e35_74, e35_75, e35_78, xk_64 hXS, ↓reduceIte, Nat.reduceAdd, Nat.reduceLeDiff, Nat.reduceLT, Nat.reduceEqDiff, not_false_eq_true, false_or, true_or, or_true, or_false, n0_e, n1_ne, n1_11, bI_1, bI_fo, va_rf_some, aBk_1, aBk_0, nI_add, nI_mul, hk_si, hp_si, hl_si, hk_sp, hk_sl, hk_cp, hp_cp, x_isIn, hq, bI_z, reduceCtorEq]
  | true =>
    rw [if_pos rfl]
    obtain ⟨h1, e1, o1, v1⟩ := x_laysPay hB hW
    have o1 : On QX h h1 := o1.mono (fun _ _ q => q.Q)
    have b1 := hB.onQ o1
    obtain ⟨y, e, eb, oy⟩ := run_invd (F := fun d j (x : Int32 × aH) => (run (d + 406) 35 20 [.ref 64, .int what, .int x.1, .int (nI j)] [] x.2)) (I := fun j x => x.1 = itn j (fxF T w) (-2) ∧ On (AA 134) h1 x.2) (n := 2 ^ ns_ T) (x := (-2, h1)) ⟨rfl, On.refl⟩ (fun j x hj hI => by
      obtain ⟨b, x⟩ := x
      obtain ⟨eb, o⟩ := hI
      have eb : b = itn j (fxF T w) (-2) := eb
      have o : On (AA 134) h1 x := o
      have bx := b1.onQ (o.mono wq)
      have hXSx := bx.S
      have g1 : ¬ nI (2 ^ ns_ T) ≤ nI j := nI_ge hj (by omega)
      have j128 : j < 128 := by omega
      obtain ⟨z, ez, oz⟩ := x_isEnough bx hW (v1.on hV o np) hj
      have hst : itn (j + 1) (fxF T w) (-2) = fxF T w j b := by rw [itn, ← eb]
      rw [hst]
      unfold fxF
      by_cases q2 : b < 0
      · cases q : enL T w (lx_ j (ns_ T)) (lB_ T w) with
        | true =>
          rw [q] at ez
          refine ⟨(nI j, z), fun d => ?_, by rw [if_pos ⟨Or.inl q2, rfl⟩], o.trans oz⟩
          refine (e35_20).trans ?_
          simp only [e35_0, e35_1, e35_2, e35_3, e35_6, e35_9, e35_10, e35_11, e35_13, e35_14, e35_15, e35_18, e35_19, e35_21, e35_22, e35_23, e35_26, e35_27, e35_30, e35_31, e35_34, e35_35, e35_38, e35_39, e35_42, e35_45, e35_46, e35_47, e35_50, e35_53, e35_54, e35_55, e35_58, e35_61, e35_62, e35_65, e35_66, e35_67, e35_70, e35_71, e35_74, e35_75, e35_78, xk_64 hXSx, ↓reduceIte, Nat.reduceAdd, Nat.reduceLeDiff, Nat.reduceLT, Nat.reduceEqDiff, not_false_eq_true, false_or, true_or, or_true, or_false, n0_e, n1_ne, n1_11, bI_1, bI_fo, va_rf_some, aBk_1, aBk_0, nI_add, nI_mul, hk_si, hp_si, hl_si, hk_sp, hk_sl, hk_cp, hp_cp, x_sundays bx, shl_1 _ (show ns_ T < 32 by omega), g1, q2, ez, bI_z, reduceCtorEq]
        | false =>
          rw [q] at ez
          refine ⟨(b, z), fun d => ?_, by rw [if_neg (fun z => by cases z.2)], o.trans oz⟩
          refine (e35_20).trans ?_
          simp only [e35_0, e35_1, e35_2, e35_3, e35_6, e35_9, e35_10, e35_11, e35_13, e35_14, e35_15, e35_18, e35_19, e35_21, e35_22, e35_23, e35_26, e35_27, e35_30, e35_31, e35_34, e35_35, e35_38, e35_39, e35_42, e35_45, e35_46, e35_47, e35_50, e35_53, e35_54, e35_55, e35_58, e35_61, e35_62, e35_65, e35_66, e35_67, e35_70, e35_71, e35_74, e35_75, e35_78, xk_64 hXSx, ↓reduceIte, Nat.reduceAdd, Nat.reduceLeDiff, Nat.reduceLT, Nat.reduceEqDiff, not_false_eq_true, false_or, true_or, or_true, or_false, n0_e, n1_ne, n1_11, bI_1, bI_fo, va_rf_some, aBk_1, aBk_0, nI_add, nI_mul, hk_si, hp_si, hl_si, hk_sp, hk_sl, hk_cp, hp_cp, x_sundays bx, shl_1 _ (show ns_ T < 32 by omega), g1, q2, ez, bI_z]
      · obtain ⟨k, hk, ek⟩ : ∃ k, k < j ∧ b = nI k := by
          rcases fx_c (T := T) (w := w) j with e | ⟨k, hk, e⟩
          · rw [← eb] at e; exact absurd (by rw [e]; decide) q2
          · exact ⟨k, hk, eb.trans e⟩
        have k128 : k < 128 := by omega
        subst ek
        by_cases q3 : bc_ (nI j) < bc_ (nI k)
        · have q3' : ¬ bc_ (nI k) ≤ bc_ (nI j) := Int32.not_le.mpr q3
          cases q : enL T w (lx_ j (ns_ T)) (lB_ T w) with
          | true =>
            rw [q] at ez
            refine ⟨(nI j, z), fun d => ?_, by rw [if_pos ⟨Or.inr q3, rfl⟩], o.trans oz⟩
            refine (e35_20).trans ?_
            simp only [e35_0, e35_1, e35_2, e35_3, e35_6, e35_9, e35_10, e35_11, e35_13, e35_14, e35_15, e35_18, e35_19, e35_21, e35_22, e35_23, e35_26, e35_27, e35_30, e35_31, e35_34, e35_35, e35_38, e35_39, e35_42, e35_45, e35_46, e35_47, e35_50, e35_53, e35_54, e35_55, e35_58, e35_61, e35_62, e35_65, e35_66, e35_67, e35_70, e35_71, e35_74, e35_75, e35_78, xk_64 hXSx, ↓reduceIte, Nat.reduceAdd, Nat.reduceLeDiff, Nat.reduceLT, Nat.reduceEqDiff, not_false_eq_true, false_or, true_or, or_true, or_false, n0_e, n1_ne, n1_11, bI_1, bI_fo, va_rf_some, aBk_1, aBk_0, nI_add, nI_mul, hk_si, hp_si, hl_si, hk_sp, hk_sl, hk_cp, hp_cp, x_sundays bx, shl_1 _ (show ns_ T < 32 by omega), g1, q2, x_bits j128, x_bits k128, q3', ez, bI_z, reduceCtorEq]
          | false =>
            rw [q] at ez
            refine ⟨(nI k, z), fun d => ?_, by rw [if_neg (fun z => by cases z.2)], o.trans oz⟩
            refine (e35_20).trans ?_
            simp only [e35_0, e35_1, e35_2, e35_3, e35_6, e35_9, e35_10, e35_11, e35_13, e35_14, e35_15, e35_18, e35_19, e35_21, e35_22, e35_23, e35_26, e35_27, e35_30, e35_31, e35_34, e35_35, e35_38, e35_39, e35_42, e35_45, e35_46, e35_47, e35_50, e35_53, e35_54, e35_55, e35_58, e35_61, e35_62, e35_65, e35_66, e35_67, e35_70, e35_71, e35_74, e35_75, e35_78, xk_64 hXSx, ↓reduceIte, Nat.reduceAdd, Nat.reduceLeDiff, Nat.reduceLT, Nat.reduceEqDiff, not_false_eq_true, false_or, true_or, or_true, or_false, n0_e, n1_ne, n1_11, bI_1, bI_fo, va_rf_some, aBk_1, aBk_0, nI_add, nI_mul, hk_si, hp_si, hl_si, hk_sp, hk_sl, hk_cp, hp_cp, x_sundays bx, shl_1 _ (show ns_ T < 32 by omega), g1, q2, x_bits j128, x_bits k128, q3', ez, bI_z]
        · have q3' : bc_ (nI k) ≤ bc_ (nI j) := Int32.not_lt.mp q3
          refine ⟨(nI k, x), fun d => ?_, by rw [if_neg (fun z => z.1.elim q2 q3)], o⟩
          refine (e35_20).trans ?_
          simp only [e35_0, e35_1, e35_2, e35_3, e35_6, e35_9, e35_10, e35_11, e35_13, e35_14, e35_15, e35_18, e35_19, e35_21, e35_22, e35_23, e35_26, e35_27, e35_30, e35_31, e35_34, e35_35, e35_38, e35_39, e35_42, e35_45, e35_46, e35_47, e35_50, e35_53, e35_54, e35_55, e35_58, e35_61, e35_62, e35_65, e35_66, e35_67, e35_70, e35_71, e35_74, e35_75, e35_78, xk_64 hXSx, ↓reduceIte, Nat.reduceAdd, Nat.reduceLeDiff, Nat.reduceLT, Nat.reduceEqDiff, not_false_eq_true, false_or, true_or, or_true, or_false, n0_e, n1_ne, n1_11, bI_z, bI_1, bI_fo, va_rf_some, aBk_1, aBk_0, nI_add, nI_mul, hk_si, hp_si, hl_si, hk_sp, hk_sl, hk_cp, hp_cp, x_sundays bx, shl_1 _ (show ns_ T < 32 by omega), g1, q2, x_bits j128, x_bits k128, q3'])
    obtain ⟨b, y⟩ := y
    have eb : b = fxB T w := eb
    have oy : On (AA 134) h1 y := oy
    have by' := b1.onQ (oy.mono wq)
    have hXSy := by'.S
    have hc : fxB T w = -2 ∨ ∃ k, k < 2 ^ ns_ T ∧ fxB T w = nI k := fx_c (T := T) (w := w) _
    rw [← eb] at hc ⊢
    refine ⟨y, fun d => ?_, o1.trans (oy.mono wq)⟩
    simp only [e35_0, e35_1, e35_2, e35_3, e35_6, e35_9, e35_10, e35_11, e35_13, e35_14, e35_15, e35_18, e35_19, e35_21, e35_22, e35_23, e35_26, e35_27, e35_30, e35_31, e35_34, e35_35, e35_38, e35_39, e35_42, e35_45, e35_46, e35_47, e35_50, e35_53, e35_54, e35_55, e35_58, e35_61, e35_62, e35_65, e35_66, e35_67, e35_70, e35_71, e35_74, e35_75, e35_78, xk_64 hXS, ↓reduceIte, Nat.reduceAdd, Nat.reduceLeDiff, Nat.reduceLT, Nat.reduceEqDiff, not_false_eq_true, false_or, true_or, or_true, or_false, n0_e, n1_ne, n1_11, bI_1, bI_fo, va_rf_some, aBk_1, aBk_0, nI_add, nI_mul, hk_si, hp_si, hl_si, hk_sp, hk_sl, hk_cp, hp_cp, x_isIn, hq, bI_z, reduceCtorEq, e1]
    refine (e d).trans ?_
    refine (e35_20).trans ?_
    obtain ⟨c, hc', rfl⟩ := in_n (by decide) hq
    have hcc : c = 0 ∨ c = 1 := by omega
    rcases hc with e2 | ⟨k, hk, e2⟩
    · have q2 : b < 0 := by rw [e2]; decide
      rw [if_pos (Or.inl q2)]
      simp only [e35_0, e35_1, e35_2, e35_3, e35_6, e35_9, e35_10, e35_11, e35_13, e35_14, e35_15, e35_18, e35_19, e35_21, e35_22, e35_23, e35_26, e35_27, e35_30, e35_31, e35_34, e35_35, e35_38, e35_39, e35_42, e35_45, e35_46, e35_47, e35_50, e35_53, e35_54, e35_55, e35_58, e35_61, e35_62, e35_65, e35_66, e35_67, e35_70, e35_71, e35_74, e35_75, e35_78, xk_64 hXSy, ↓reduceIte, Nat.reduceAdd, Nat.reduceLeDiff, Nat.reduceLT, Nat.reduceEqDiff, not_false_eq_true, false_or, true_or, or_true, or_false, n0_e, n1_ne, n1_11, bI_z, bI_1, bI_fo, va_rf_some, aBk_1, aBk_0, nI_add, nI_mul, hk_si, hp_si, hl_si, hk_sp, hk_sl, hk_cp, hp_cp, x_sundays by', shl_1 _ (show ns_ T < 32 by omega), Int32.le_refl, q2]
    · have q2 : ¬ b < 0 := by rw [e2]; exact nI_pos (by omega)
      have k128 : k < 128 := by omega
      subst e2
      have n01 : (nI 0 = nI 1) = False := by decide
      rcases hcc with rfl | rfl
      · rw [if_neg (fun z => z.elim q2 (by decide))]
        simp only [e35_0, e35_1, e35_2, e35_3, e35_6, e35_9, e35_10, e35_11, e35_13, e35_14, e35_15, e35_18, e35_19, e35_21, e35_22, e35_23, e35_26, e35_27, e35_30, e35_31, e35_34, e35_35, e35_38, e35_39, e35_42, e35_45, e35_46, e35_47, e35_50, e35_53, e35_54, e35_55, e35_58, e35_61, e35_62, e35_65, e35_66, e35_67, e35_70, e35_71, e35_74, e35_75, e35_78, xk_64 hXSy, ↓reduceIte, Nat.reduceAdd, Nat.reduceLeDiff, Nat.reduceLT, Nat.reduceEqDiff, not_false_eq_true, false_or, true_or, or_true, or_false, n0_e, n1_ne, n1_11, bI_z, bI_1, bI_fo, va_rf_some, aBk_1, aBk_0, nI_add, nI_mul, hk_si, hp_si, hl_si, hk_sp, hk_sl, hk_cp, hp_cp, x_sundays by', shl_1 _ (show ns_ T < 32 by omega), Int32.le_refl, q2, n01, x_bits k128]
      · rw [if_pos (Or.inr rfl)]
        simp only [e35_0, e35_1, e35_2, e35_3, e35_6, e35_9, e35_10, e35_11, e35_13, e35_14, e35_15, e35_18, e35_19, e35_21, e35_22, e35_23, e35_26, e35_27, e35_30, e35_31, e35_34, e35_35, e35_38, e35_39, e35_42, e35_45, e35_46, e35_47, e35_50, e35_53, e35_54, e35_55, e35_58, e35_61, e35_62, e35_65, e35_66, e35_67, e35_70, e35_71, e35_74, e35_75, e35_78, xk_64 hXSy, ↓reduceIte, Nat.reduceAdd, Nat.reduceLeDiff, Nat.reduceLT, Nat.reduceEqDiff, not_false_eq_true, false_or, true_or, or_true, or_false, n0_e, n1_ne, n1_11, bI_z, bI_1, bI_fo, va_rf_some, aBk_1, aBk_0, nI_add, nI_mul, hk_si, hp_si, hl_si, hk_sp, hk_sl, hk_cp, hp_cp, x_sundays by', shl_1 _ (show ns_ T < 32 by omega), Int32.le_refl, q2]
end XC
