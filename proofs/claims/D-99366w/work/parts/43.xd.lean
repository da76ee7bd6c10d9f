set_option maxRecDepth 100000
/-! X: colours, tangles, counts -/
section XD
variable {d : Nat} {h h' : aH} {T : aTx} {w r : Nat → Int32} {tx sa ga la : Nat} {qs qg : Nat → Nat}
def cxV (T : aTx) (c : Nat → Int32) (of : Nat) : Int32 := if of = 0 then nI 0 else itn of (fun i b => if dif (i + 1) of = 0 ∧ calm T (i + 1) = true then min_ b (nI 1 + c (dif of (i + 1))) else b) (nI 1000000)
def cxT (T : aTx) (n : Nat) : Nat → Int32 := itn n (fun m c => up_ c m (cxV T c m)) (fun _ => 0)
def qColX (T : aTx) (w : Nat → Int32) : Int32 := cxT T (2 ^ ng_ T) (lB_ T w)
theorem x_colours (hB : XB h T w tx sa ga la qs qg) (hW : WV T w) : ∃ h', (∀ d, (run (d + 6) 38 0 [.ref 64, aU, aU] [] h) = some (.returned (some (.int (qColX T w))), h')) ∧ On QX h h' := by
  have hXS := hB.S
  have hV := hB.X.v
  have h7 := hB.X.ng7
  have h128 := x27 hB
  have hp1 : 1 ≤ 2 ^ ng_ T := Nat.one_le_two_pow
  have hdb : dB_ w < 2 ^ 7 := dB_128
  have hL : lB_ T w < 2 ^ ng_ T := orN_lt _ _
  have wq : ∀ x f, AA 135 x f → QX x f := fun x f q => by
    have q : x = 135 := q
    unfold QX; omega
  have oA : On (AA 135) h (si_ h 135 0 (nI 0)) := On.sa
  obtain ⟨y, e, oy, cy⟩ := run_invd (F := fun d j (x : Value × aH) => (run (d + 6) 38 9 [.ref 64, .int (nI (j + 1)), x.1] [] x.2)) (I := fun j x => On (AA 135) h x.2 ∧ ∀ k, k < j + 1 → hi_ x.2 135 k = cxT T (j + 1) k) (n := 2 ^ ng_ T - 1) (x := (aU, si_ h 135 0 (nI 0))) ⟨oA, fun k hk => by
      have : k = 0 := by omega
      subst this
      rw [hi_si, if_pos ⟨rfl, rfl⟩]
      rfl⟩ (fun j x hj hI => by
    obtain ⟨v, x⟩ := x
    obtain ⟨o, cx⟩ := hI
    have o : On (AA 135) h x := o
    have cx : ∀ k, k < j + 1 → hi_ x 135 k = cxT T (j + 1) k := cx
    have bx := hB.onQ (o.mono wq)
    have hXSx := bx.S
    have g1 : ¬ nI (2 ^ ng_ T) ≤ nI (j + 1) := nI_ge (by omega) (by omega)
    have g2 : j + 1 < 128 := by omega
    have oB : On (AA 135) h (si_ x 135 (j + 1) (nI 1000000)) := o.trans (On.sa)
    obtain ⟨z, ez, oz, cz, bz⟩ := run_invd (F := fun d i x => (run (d + 6) 38 28 [.ref 64, .int (nI (j + 1)), .int (nI (i + 1))] [] x)) (I := fun i x => On (AA 135) h x ∧ (∀ k, k < j + 1 → hi_ x 135 k = cxT T (j + 1) k) ∧ hi_ x 135 (j + 1) = itn i (fun i b => if dif (i + 1) (j + 1) = 0 ∧ calm T (i + 1) = true then min_ b (nI 1 + cxT T (j + 1) (dif (j + 1) (i + 1))) else b) (nI 1000000)) (n := j + 1) (x := si_ x 135 (j + 1) (nI 1000000)) ⟨oB, fun k hk => by rw [hi_si, if_neg (by omega)]; exact cx k hk, by rw [hi_si, if_pos ⟨rfl, rfl⟩]; rfl⟩ (fun i x hi hI => by
      obtain ⟨o, cx, bx'⟩ := hI
      have bx := hB.onQ (o.mono wq)
      have hXSx := bx.S
      rw [itn]
      generalize itn i (fun i b => if dif (i + 1) (j + 1) = 0 ∧ calm T (i + 1) = true then min_ b (nI 1 + cxT T (j + 1) (dif (j + 1) (i + 1))) else b) (nI 1000000) = b at bx' ⊢
      have g3 : ¬ nI (j + 1) < nI (i + 1) := nI_nlt (by omega) (by omega)
      have ec := fun d => x_isCalm (d := d) bx (show i + 1 < 2 ^ ng_ T by omega)
      have hz : dif (i + 1) (j + 1) < 2147483648 := dif_lt (n := 31) (by omega)
      by_cases q : dif (i + 1) (j + 1) = 0
      · have hdl : dif (j + 1) (i + 1) < j + 1 := by
          refine Nat.lt_of_le_of_ne dif_le (fun e => ?_)
          have hz : (i + 1) = 0 := by
            apply Nat.eq_of_testBit_eq
            intro n
            have e1 := congrArg (fun x => x.testBit n) e
            have e2 := congrArg (fun x => x.testBit n) q
            simp only [dif_bit, Nat.zero_testBit] at e1 e2
            rw [Nat.zero_testBit]
            revert e1 e2
            cases (i + 1).testBit n <;> cases (j + 1).testBit n <;> simp
          omega
        have g4 : dif (j + 1) (i + 1) < 128 := by omega
        have f1 := cx _ hdl
        cases q3 : calm T (i + 1) with
        | false =>
          refine ⟨x, fun d => ?_, o, cx, ?_⟩
          · refine (e38_28).trans ?_
            simp only [e38_0, e38_1, e38_4, e38_5, e38_6, e38_7, e38_8, e38_10, e38_11, e38_14, e38_17, e38_18, e38_21, e38_22, e38_25, e38_26, e38_27, e38_29, e38_30, e38_33, e38_34, e38_35, e38_36, e38_37, e38_38, e38_41, e38_42, e38_43, e38_46, e38_49, e38_50, e38_53, e38_54, e38_55, e38_58, e38_59, e38_60, e38_61, e38_62, e38_65, e38_66, e38_67, e38_68, e38_69, e38_70, e38_71, e38_72, e38_75, e38_76, e38_79, e38_82, e38_85, e38_88, e38_89, e38_92, e38_93, e38_96, e38_97, e38_98, e38_99, e38_102, e38_105, e38_106, e38_107, e38_108, e38_109, xk_64 hXSx, xp_7 hXSx, xp_17 hXSx, xk_135 hXSx, ↓reduceIte, Nat.reduceAdd, Nat.reduceLeDiff, Nat.reduceLT, Nat.reduceEqDiff, not_false_eq_true, false_or, true_or, or_true, or_false, n0_e, n1_ne, n1_11, bI_1, bI_fo, va_rf_some, aBk_1, aBk_0, nI_add, nI_mul, hk_si, hp_si, hl_si, hk_sp, hk_sl, hk_cp, hp_cp, g3, nI_dif (show j + 1 < 2 ^ 31 by omega) (show i + 1 < 2 ^ 31 by omega), nI_z hz, q, ec, q3, bI_z]
          · rw [if_neg (fun z => by cases z.2)]; exact bx'
        | true =>
          refine ⟨si_ x 135 (j + 1) (min_ b (nI 1 + cxT T (j + 1) (dif (j + 1) (i + 1)))), fun d => ?_, o.trans (On.sa), fun k hk => by rw [hi_si, if_neg (by omega)]; exact cx k hk, ?_⟩
          · refine (e38_28).trans ?_
            simp only [e38_0, e38_1, e38_4, e38_5, e38_6, e38_7, e38_8, e38_10, e38_11, e38_14, e38_17, e38_18, e38_21, e38_22, e38_25, e38_26, e38_27, e38_29, e38_30, e38_33, e38_34, e38_35, e38_36, e38_37, e38_38, e38_41, e38_42, e38_43, e38_46, e38_49, e38_50, e38_53, e38_54, e38_55, e38_58, e38_59, e38_60, e38_61, e38_62, e38_65, e38_66, e38_67, e38_68, e38_69, e38_70, e38_71, e38_72, e38_75, e38_76, e38_79, e38_82, e38_85, e38_88, e38_89, e38_92, e38_93, e38_96, e38_97, e38_98, e38_99, e38_102, e38_105, e38_106, e38_107, e38_108, e38_109, xk_64 hXSx, xp_7 hXSx, xp_17 hXSx, xk_135 hXSx, ↓reduceIte, Nat.reduceAdd, Nat.reduceLeDiff, Nat.reduceLT, Nat.reduceEqDiff, not_false_eq_true, false_or, true_or, or_true, or_false, n0_e, n1_ne, n1_11, bI_1, bI_fo, va_rf_some, aBk_1, aBk_0, nI_add, nI_mul, hk_si, hp_si, hl_si, hk_sp, hk_sl, hk_cp, hp_cp, g3, nI_dif (show j + 1 < 2 ^ 31 by omega) (show i + 1 < 2 ^ 31 by omega), nI_dif (show i + 1 < 2 ^ 31 by omega) (show j + 1 < 2 ^ 31 by omega), nI_z hz, q, ec, q3, bI_z, reduceCtorEq, g2, g4, f1, bx']
          · rw [if_pos ⟨q, rfl⟩, hi_si, if_pos ⟨rfl, rfl⟩]
      · refine ⟨x, fun d => ?_, o, cx, ?_⟩
        · refine (e38_28).trans ?_
          simp only [e38_0, e38_1, e38_4, e38_5, e38_6, e38_7, e38_8, e38_10, e38_11, e38_14, e38_17, e38_18, e38_21, e38_22, e38_25, e38_26, e38_27, e38_29, e38_30, e38_33, e38_34, e38_35, e38_36, e38_37, e38_38, e38_41, e38_42, e38_43, e38_46, e38_49, e38_50, e38_53, e38_54, e38_55, e38_58, e38_59, e38_60, e38_61, e38_62, e38_65, e38_66, e38_67, e38_68, e38_69, e38_70, e38_71, e38_72, e38_75, e38_76, e38_79, e38_82, e38_85, e38_88, e38_89, e38_92, e38_93, e38_96, e38_97, e38_98, e38_99, e38_102, e38_105, e38_106, e38_107, e38_108, e38_109, xk_64 hXSx, xp_7 hXSx, xp_17 hXSx, xk_135 hXSx, ↓reduceIte, Nat.reduceAdd, Nat.reduceLeDiff, Nat.reduceLT, Nat.reduceEqDiff, not_false_eq_true, false_or, true_or, or_true, or_false, n0_e, n1_ne, n1_11, bI_z, bI_1, bI_fo, va_rf_some, aBk_1, aBk_0, nI_add, nI_mul, hk_si, hp_si, hl_si, hk_sp, hk_sl, hk_cp, hp_cp, g3, nI_dif (show j + 1 < 2 ^ 31 by omega) (show i + 1 < 2 ^ 31 by omega), nI_z hz, q]
        · rw [if_neg (fun z => q z.1)]; exact bx')
    refine ⟨(.int (nI (j + 1 + 1)), z), fun d => ?_, oz, fun k hk => ?_⟩
    · have g5 : nI (j + 1) < nI (j + 1 + 1) := nI_lt (by omega) (by omega)
      refine (e38_9).trans ?_
      simp only [e38_0, e38_1, e38_4, e38_5, e38_6, e38_7, e38_8, e38_10, e38_11, e38_14, e38_17, e38_18, e38_21, e38_22, e38_25, e38_26, e38_27, e38_29, e38_30, e38_33, e38_34, e38_35, e38_36, e38_37, e38_38, e38_41, e38_42, e38_43, e38_46, e38_49, e38_50, e38_53, e38_54, e38_55, e38_58, e38_59, e38_60, e38_61, e38_62, e38_65, e38_66, e38_67, e38_68, e38_69, e38_70, e38_71, e38_72, e38_75, e38_76, e38_79, e38_82, e38_85, e38_88, e38_89, e38_92, e38_93, e38_96, e38_97, e38_98, e38_99, e38_102, e38_105, e38_106, e38_107, e38_108, e38_109, xk_64 hXSx, xp_7 hXSx, xp_17 hXSx, xk_135 hXSx, ↓reduceIte, Nat.reduceAdd, Nat.reduceLeDiff, Nat.reduceLT, Nat.reduceEqDiff, not_false_eq_true, false_or, true_or, or_true, or_false, n0_e, n1_ne, n1_11, bI_z, bI_1, bI_fo, va_rf_some, aBk_1, aBk_0, nI_add, nI_mul, hk_si, hp_si, hl_si, hk_sp, hk_sl, hk_cp, hp_cp, x_sets bx, g1, g2]
      refine (ez d).trans ?_
      refine (e38_28).trans ?_
      simp only [e38_0, e38_1, e38_4, e38_5, e38_6, e38_7, e38_8, e38_10, e38_11, e38_14, e38_17, e38_18, e38_21, e38_22, e38_25, e38_26, e38_27, e38_29, e38_30, e38_33, e38_34, e38_35, e38_36, e38_37, e38_38, e38_41, e38_42, e38_43, e38_46, e38_49, e38_50, e38_53, e38_54, e38_55, e38_58, e38_59, e38_60, e38_61, e38_62, e38_65, e38_66, e38_67, e38_68, e38_69, e38_70, e38_71, e38_72, e38_75, e38_76, e38_79, e38_82, e38_85, e38_88, e38_89, e38_92, e38_93, e38_96, e38_97, e38_98, e38_99, e38_102, e38_105, e38_106, e38_107, e38_108, e38_109, ↓reduceIte, Nat.reduceAdd, Nat.reduceLeDiff, Nat.reduceLT, Nat.reduceEqDiff, not_false_eq_true, false_or, true_or, or_true, or_false, n0_e, n1_ne, n1_11, bI_z, bI_1, bI_fo, va_rf_some, aBk_1, aBk_0, nI_add, nI_mul, hk_si, hp_si, hl_si, hk_sp, hk_sl, hk_cp, hp_cp, g5]
    · show hi_ z 135 k = up_ (cxT T (j + 1)) (j + 1) (cxV T (cxT T (j + 1)) (j + 1)) k
      unfold up_
      by_cases q : k = j + 1
      · rw [if_pos q, q, bz]
        unfold cxV
        rw [if_neg (by omega)]
      · rw [if_neg q]
        exact cz k (by omega))
  obtain ⟨v, y⟩ := y
  have oy : On (AA 135) h y := oy
  have by' := hB.onQ (oy.mono wq)
  have hXSy := by'.S
  have hAy := by'.H.s
  rw [Nat.sub_add_cancel hp1] at e cy
  have cy : ∀ k, k < 2 ^ ng_ T → hi_ y 135 k = cxT T (2 ^ ng_ T) k := cy
  have g6 : lB_ T w < 128 := by omega
  refine ⟨y, fun d => ?_, oy.mono wq⟩
  simp only [e38_0, e38_1, e38_4, e38_5, e38_6, e38_7, e38_8, e38_10, e38_11, e38_14, e38_17, e38_18, e38_21, e38_22, e38_25, e38_26, e38_27, e38_29, e38_30, e38_33, e38_34, e38_35, e38_36, e38_37, e38_38, e38_41, e38_42, e38_43, e38_46, e38_49, e38_50, e38_53, e38_54, e38_55, e38_58, e38_59, e38_60, e38_61, e38_62, e38_65, e38_66, e38_67, e38_68, e38_69, e38_70, e38_71, e38_72, e38_75, e38_76, e38_79, e38_82, e38_85, e38_88, e38_89, e38_92, e38_93, e38_96, e38_97, e38_98, e38_99, e38_102, e38_105, e38_106, e38_107, e38_108, e38_109, xk_64 hXS, xp_7 hXS, xp_17 hXS, xk_135 hXS, ↓reduceIte, Nat.reduceAdd, Nat.reduceLeDiff, Nat.reduceLT, Nat.reduceEqDiff, not_false_eq_true, false_or, true_or, or_true, or_false, n0_e, n1_ne, n1_11, bI_z, bI_1, bI_fo, va_rf_some, aBk_1, aBk_0, nI_add, nI_mul, hk_si, hp_si, hl_si, hk_sp, hk_sl, hk_cp, hp_cp]
  refine (e d).trans ?_
  refine (e38_9).trans ?_
  simp only [e38_0, e38_1, e38_4, e38_5, e38_6, e38_7, e38_8, e38_10, e38_11, e38_14, e38_17, e38_18, e38_21, e38_22, e38_25, e38_26, e38_27, e38_29, e38_30, e38_33, e38_34, e38_35, e38_36, e38_37, e38_38, e38_41, e38_42, e38_43, e38_46, e38_49, e38_50, e38_53, e38_54, e38_55, e38_58, e38_59, e38_60, e38_61, e38_62, e38_65, e38_66, e38_67, e38_68, e38_69, e38_70, e38_71, e38_72, e38_75, e38_76, e38_79, e38_82, e38_85, e38_88, e38_89, e38_92, e38_93, e38_96, e38_97, e38_98, e38_99, e38_102, e38_105, e38_106, e38_107, e38_108, e38_109, xk_64 hXSy, xp_7 hXSy, xp_17 hXSy, xk_135 hXSy, h78_k hAy, ↓reduceIte, Nat.reduceAdd, Nat.reduceLeDiff, Nat.reduceLT, Nat.reduceEqDiff, not_false_eq_true, false_or, true_or, or_true, or_false, n0_e, n1_ne, n1_11, bI_z, bI_1, bI_fo, va_rf_some, aBk_1, aBk_0, nI_add, nI_mul, hk_si, hp_si, hl_si, hk_sp, hk_sl, hk_cp, hp_cp, x_sets by', Int32.le_refl, nI_sub hp1, by'.H.de, nI_dif (show dB_ w < 2 ^ 31 by omega) (show 2 ^ ng_ T - 1 < 2 ^ 31 by omega), all_L hW hV, g6, cy _ hL]
  rfl
theorem x_isTangle (hB : XB h T w tx sa ga la qs qg) {set : Nat} (ht : set < 2 ^ ng_ T) : (run (d + 5) 40 0 [.ref 64, .int (nI set), aU] [] h) = some (.returned (some (.int (bI (tgl T set && decide (set &&& dB_ w = 0))))), h) := by
  have hXS := hB.S
  have hA := hB.H.s
  have hT := hB.X
  have h7 := hT.ng7
  have h128 := x27 hB
  have hbd : set &&& dB_ w < 2147483648 := Nat.lt_of_le_of_lt Nat.and_le_left (by omega)
  simp only [e40_0, e40_1, e40_3, e40_4, e40_7, e40_10, e40_11, e40_12, e40_13, e40_14, e40_15, e40_16, e40_19, e40_20, e40_21, e40_22, e40_23, e40_24, e40_25, e40_26, e40_27, e40_30, e40_31, e40_34, e40_35, e40_36, e40_37, e40_40, e40_41, e40_42, e40_45, e40_48, e40_49, e40_50, e40_53, e40_56, e40_57, e40_60, e40_61, e40_64, e40_65, ↓reduceIte, Nat.reduceAdd, Nat.reduceLeDiff, Nat.reduceLT, Nat.reduceEqDiff, not_false_eq_true, false_or, true_or, or_true, or_false, n0_e, n1_ne, n1_11, bI_z, bI_1, bI_fo, va_rf_some, aBk_1, aBk_0, nI_add, nI_mul, hk_si, hp_si, hl_si, hk_sp, hk_sl, hk_cp, hp_cp]
  refine (run_find (F := fun j => (run (d + 5) 40 2 [.ref 64, .int (nI set), .int (nI j)] [] h)) (R := fun j => some (.returned (some (.int (nI 0))), h)) (P := fun g => set.testBit g && !decide (dif (dif set (2 ^ g)) (cB_ T g) = 0)) (n := ng_ T) (fun j hj => ?_)).trans ?_
  · have g1 : ¬ nI (ng_ T) ≤ nI j := nI_ge hj (by omega)
    have hp : 2 ^ j < 2 ^ 31 := Nat.pow_lt_pow_right (by decide) (by omega)
    have hd : dif set (2 ^ j) < 2 ^ 31 := dif_lt (by omega)
    have hc : cB_ T j < 2 ^ 31 := orN_31 h7
    have hz : dif (dif set (2 ^ j)) (cB_ T j) < 2147483648 := dif_lt (n := 31) hd
    refine (e40_2).trans ?_
    cases q : set.testBit j with
    | false => simp only [e40_0, e40_1, e40_3, e40_4, e40_7, e40_10, e40_11, e40_12, e40_13, e40_14, e40_15, e40_16, e40_19, e40_20, e40_21, e40_22, e40_23, e40_24, e40_25, e40_26, e40_27, e40_30, e40_31, e40_34, e40_35, e40_36, e40_37, e40_40, e40_41, e40_42, e40_45, e40_48, e40_49, e40_50, e40_53, e40_56, e40_57, e40_60, e40_61, e40_64, e40_65, xk_64 hXS, xp_7 hXS, ↓reduceIte, Nat.reduceAdd, Nat.reduceLeDiff, Nat.reduceLT, Nat.reduceEqDiff, not_false_eq_true, false_or, true_or, or_true, or_false, n0_e, n1_ne, n1_11, bI_z, bI_1, bI_fo, va_rf_some, aBk_1, aBk_0, nI_add, nI_mul, hk_si, hp_si, hl_si, hk_sp, hk_sl, hk_cp, hp_cp, x_guests hB, g1, nI_shr (show set < 2 ^ 31 by omega) (show j < 32 by omega), bit_and1, q, reduceCtorEq, Bool.false_and]
    | true =>
      by_cases q2 : dif (dif set (2 ^ j)) (cB_ T j) = 0
      · simp only [e40_0, e40_1, e40_3, e40_4, e40_7, e40_10, e40_11, e40_12, e40_13, e40_14, e40_15, e40_16, e40_19, e40_20, e40_21, e40_22, e40_23, e40_24, e40_25, e40_26, e40_27, e40_30, e40_31, e40_34, e40_35, e40_36, e40_37, e40_40, e40_41, e40_42, e40_45, e40_48, e40_49, e40_50, e40_53, e40_56, e40_57, e40_60, e40_61, e40_64, e40_65, xk_64 hXS, xp_7 hXS, ↓reduceIte, Nat.reduceAdd, Nat.reduceLeDiff, Nat.reduceLT, Nat.reduceEqDiff, not_false_eq_true, false_or, true_or, or_true, or_false, n0_e, n1_ne, n1_11, bI_z, bI_1, bI_fo, va_rf_some, aBk_1, aBk_0, nI_add, nI_mul, hk_si, hp_si, hl_si, hk_sp, hk_sl, hk_cp, hp_cp, x_guests hB, g1, nI_shr (show set < 2 ^ 31 by omega) (show j < 32 by omega), bit_and1, q, reduceCtorEq, shl_1 j (show j < 32 by omega), nI_dif hp (show set < 2 ^ 31 by omega), hB.t, hT.ktx, x_trivals hT hj, nI_dif hc hd, nI_z hz, q2, decide_true, Bool.not_true, Bool.and_false]
      · simp only [e40_0, e40_1, e40_3, e40_4, e40_7, e40_10, e40_11, e40_12, e40_13, e40_14, e40_15, e40_16, e40_19, e40_20, e40_21, e40_22, e40_23, e40_24, e40_25, e40_26, e40_27, e40_30, e40_31, e40_34, e40_35, e40_36, e40_37, e40_40, e40_41, e40_42, e40_45, e40_48, e40_49, e40_50, e40_53, e40_56, e40_57, e40_60, e40_61, e40_64, e40_65, xk_64 hXS, xp_7 hXS, ↓reduceIte, Nat.reduceAdd, Nat.reduceLeDiff, Nat.reduceLT, Nat.reduceEqDiff, not_false_eq_true, false_or, true_or, or_true, or_false, n0_e, n1_ne, n1_11, bI_z, bI_1, bI_fo, va_rf_some, aBk_1, aBk_0, nI_add, nI_mul, hk_si, hp_si, hl_si, hk_sp, hk_sl, hk_cp, hp_cp, x_guests hB, g1, nI_shr (show set < 2 ^ 31 by omega) (show j < 32 by omega), bit_and1, q, reduceCtorEq, shl_1 j (show j < 32 by omega), nI_dif hp (show set < 2 ^ 31 by omega), hB.t, hT.ktx, x_trivals hT hj, nI_dif hc hd, nI_z hz, q2, decide_false, Bool.not_false, Bool.and_true, n0_01]
  · cases hf : fnd (fun g => set.testBit g && !decide (dif (dif set (2 ^ g)) (cB_ T g) = 0)) (ng_ T) 0 with
    | some j =>
      obtain ⟨h1, h2, h3, -⟩ := fnd_some _ _ _ hf
      simp only [Bool.and_eq_true, Bool.not_eq_true', decide_eq_false_iff_not] at h3
      have : tgl T set = false := by
        apply Bool.eq_false_iff.mpr
        intro hc
        exact h3.2 ((decide_eq_true_iff.mp hc) j (by omega) h3.1)
      rw [this]
      rfl
    | none =>
      have : tgl T set = true := by
        refine decide_eq_true_iff.mpr (fun g hg hb => ?_)
        have := fnd_none _ _ hf g (by omega) (by omega)
        simpa [hb] using this
      rw [this]
      dsimp only
      refine (e40_2).trans ?_
      by_cases q : set &&& dB_ w = 0
      · simp only [e40_0, e40_1, e40_3, e40_4, e40_7, e40_10, e40_11, e40_12, e40_13, e40_14, e40_15, e40_16, e40_19, e40_20, e40_21, e40_22, e40_23, e40_24, e40_25, e40_26, e40_27, e40_30, e40_31, e40_34, e40_35, e40_36, e40_37, e40_40, e40_41, e40_42, e40_45, e40_48, e40_49, e40_50, e40_53, e40_56, e40_57, e40_60, e40_61, e40_64, e40_65, xk_64 hXS, xp_7 hXS, h78_k hA, ↓reduceIte, Nat.reduceAdd, Nat.reduceLeDiff, Nat.reduceLT, Nat.reduceEqDiff, not_false_eq_true, false_or, true_or, or_true, or_false, n0_e, n1_ne, n1_11, bI_z, bI_1, bI_fo, va_rf_some, aBk_1, aBk_0, nI_add, nI_mul, hk_si, hp_si, hl_si, hk_sp, hk_sl, hk_cp, hp_cp, x_guests hB, Int32.le_refl, hB.H.de, nI_and, nI_z hbd, q, n1_01, decide_true, Bool.and_self]
        rfl
      · simp only [e40_0, e40_1, e40_3, e40_4, e40_7, e40_10, e40_11, e40_12, e40_13, e40_14, e40_15, e40_16, e40_19, e40_20, e40_21, e40_22, e40_23, e40_24, e40_25, e40_26, e40_27, e40_30, e40_31, e40_34, e40_35, e40_36, e40_37, e40_40, e40_41, e40_42, e40_45, e40_48, e40_49, e40_50, e40_53, e40_56, e40_57, e40_60, e40_61, e40_64, e40_65, xk_64 hXS, xp_7 hXS, h78_k hA, ↓reduceIte, Nat.reduceAdd, Nat.reduceLeDiff, Nat.reduceLT, Nat.reduceEqDiff, not_false_eq_true, false_or, true_or, or_true, or_false, n0_e, n1_ne, n1_11, bI_z, bI_1, bI_fo, va_rf_some, aBk_1, aBk_0, nI_add, nI_mul, hk_si, hp_si, hl_si, hk_sp, hk_sl, hk_cp, hp_cp, x_guests hB, Int32.le_refl, hB.H.de, nI_and, nI_z hbd, q, n0_01, decide_false, Bool.and_false]
        rfl
def txF (T : aTx) (w : Nat → Int32) (i b : Nat) : Nat := if bc_ (nI b) < bc_ (nI (i + 1)) ∧ (tgl T (i + 1) && decide ((i + 1) &&& dB_ w = 0)) = true then i + 1 else b
def tgX (T : aTx) (w : Nat → Int32) : Nat := itn (2 ^ ng_ T - 1) (txF T w) 0
def qTanX (T : aTx) (w : Nat → Int32) (what : Int32) : Int32 := if in_ what (nI 0) (nI 1) = true then (if what = nI 0 then bc_ (nI (tgX T w)) else nI (tgX T w)) else -1
theorem tx_b : ∀ j, itn j (txF T w) 0 ≤ j := by
  intro j
  induction j with
  | zero => exact Nat.le_refl 0
  | succ j ih =>
    rw [itn]
    generalize itn j (txF T w) 0 = b at ih ⊢
    unfold txF
    split <;> omega
theorem x_tangle (hB : XB h T w tx sa ga la qs qg) (what : Int32) : (run (d + 6) 39 0 [.ref 64, .int what, aU, aU] [] h) = some (.returned (some (.int (qTanX T w what))), h) := by
  have hXS := hB.S
  have h7 := hB.X.ng7
  have h128 := x27 hB
  have hp1 : 1 ≤ 2 ^ ng_ T := Nat.one_le_two_pow
  unfold qTanX
  cases hq : in_ what (nI 0) (nI 1) with
  | false => simp only [e39_0, e39_1, e39_2, e39_3, e39_6, e39_9, e39_10, e39_11, e39_12, e39_13, e39_14, e39_16, e39_17, e39_20, e39_23, e39_24, e39_27, e39_28, e39_31, e39_34, e39_35, e39_36, e39_39, e39_42, e39_43, e39_44, e39_47, e39_50, e39_51, e39_54, e39_55, e39_58, e39_61, e39_62, xk_64 hXS, ↓reduceIte, Nat.reduceAdd, Nat.reduceLeDiff, Nat.reduceLT, Nat.reduceEqDiff, not_false_eq_true, false_or, true_or, or_true, or_false, n0_e, n1_ne, n1_11, bI_1, bI_fo, va_rf_some, aBk_1, aBk_0, nI_add, nI_mul, hk_si, hp_si, hl_si, hk_sp, hk_sl, hk_cp, hp_cp, x_isIn, hq, bI_z, reduceCtorEq]
  | true =>
    rw [if_pos rfl]
    unfold tgX
    simp only [e39_0, e39_1, e39_2, e39_3, e39_6, e39_9, e39_10, e39_11, e39_12, e39_13, e39_14, e39_16, e39_17, e39_20, e39_23, e39_24, e39_27, e39_28, e39_31, e39_34, e39_35, e39_36, e39_39, e39_42, e39_43, e39_44, e39_47, e39_50, e39_51, e39_54, e39_55, e39_58, e39_61, e39_62, xk_64 hXS, ↓reduceIte, Nat.reduceAdd, Nat.reduceLeDiff, Nat.reduceLT, Nat.reduceEqDiff, not_false_eq_true, false_or, true_or, or_true, or_false, n0_e, n1_ne, n1_11, bI_1, bI_fo, va_rf_some, aBk_1, aBk_0, nI_add, nI_mul, hk_si, hp_si, hl_si, hk_sp, hk_sl, hk_cp, hp_cp, x_isIn, hq, bI_z, reduceCtorEq]
    refine (run_for (F := fun j b => (run (d + 6) 39 15 [.ref 64, .int what, .int (nI b), .int (nI (j + 1))] [] h)) (f := txF T w) (a := 0) (n := 2 ^ ng_ T - 1) (fun j hj => ?_)).trans ?_
    · have g1 : ¬ nI (2 ^ ng_ T) ≤ nI (j + 1) := nI_ge (by omega) (by omega)
      have et := fun d => x_isTangle (d := d) hB (show j + 1 < 2 ^ ng_ T by omega)
      have hb := tx_b (T := T) (w := w) j
      generalize itn j (txF T w) 0 = b at hb ⊢
      unfold txF
      refine (e39_15).trans ?_
      by_cases q2 : bc_ (nI b) < bc_ (nI (j + 1))
      · have q2' : ¬ bc_ (nI (j + 1)) ≤ bc_ (nI b) := Int32.not_le.mpr q2
        cases q3 : (tgl T (j + 1) && decide ((j + 1) &&& dB_ w = 0)) with
        | false =>
          rw [q3] at et
          simp only [e39_0, e39_1, e39_2, e39_3, e39_6, e39_9, e39_10, e39_11, e39_12, e39_13, e39_14, e39_16, e39_17, e39_20, e39_23, e39_24, e39_27, e39_28, e39_31, e39_34, e39_35, e39_36, e39_39, e39_42, e39_43, e39_44, e39_47, e39_50, e39_51, e39_54, e39_55, e39_58, e39_61, e39_62, xk_64 hXS, ↓reduceIte, Nat.reduceAdd, Nat.reduceLeDiff, Nat.reduceLT, Nat.reduceEqDiff, not_false_eq_true, false_or, true_or, or_true, or_false, n0_e, n1_ne, n1_11, bI_1, bI_fo, va_rf_some, aBk_1, aBk_0, nI_add, nI_mul, hk_si, hp_si, hl_si, hk_sp, hk_sl, hk_cp, hp_cp, x_sets hB, g1, x_bits (show j + 1 < 128 by omega), x_bits (show b < 128 by omega), q2, q2', et, bI_z, reduceCtorEq, and_false]
        | true =>
          rw [q3] at et
          simp only [e39_0, e39_1, e39_2, e39_3, e39_6, e39_9, e39_10, e39_11, e39_12, e39_13, e39_14, e39_16, e39_17, e39_20, e39_23, e39_24, e39_27, e39_28, e39_31, e39_34, e39_35, e39_36, e39_39, e39_42, e39_43, e39_44, e39_47, e39_50, e39_51, e39_54, e39_55, e39_58, e39_61, e39_62, xk_64 hXS, ↓reduceIte, Nat.reduceAdd, Nat.reduceLeDiff, Nat.reduceLT, Nat.reduceEqDiff, not_false_eq_true, false_or, true_or, or_true, or_false, n0_e, n1_ne, n1_11, bI_1, bI_fo, va_rf_some, aBk_1, aBk_0, nI_add, nI_mul, hk_si, hp_si, hl_si, hk_sp, hk_sl, hk_cp, hp_cp, x_sets hB, g1, x_bits (show j + 1 < 128 by omega), x_bits (show b < 128 by omega), q2, q2', et, bI_z, reduceCtorEq, and_self]
      · have q2' : bc_ (nI (j + 1)) ≤ bc_ (nI b) := Int32.not_lt.mp q2
        simp only [e39_0, e39_1, e39_2, e39_3, e39_6, e39_9, e39_10, e39_11, e39_12, e39_13, e39_14, e39_16, e39_17, e39_20, e39_23, e39_24, e39_27, e39_28, e39_31, e39_34, e39_35, e39_36, e39_39, e39_42, e39_43, e39_44, e39_47, e39_50, e39_51, e39_54, e39_55, e39_58, e39_61, e39_62, xk_64 hXS, ↓reduceIte, Nat.reduceAdd, Nat.reduceLeDiff, Nat.reduceLT, Nat.reduceEqDiff, not_false_eq_true, false_or, true_or, or_true, or_false, n0_e, n1_ne, n1_11, bI_z, bI_1, bI_fo, va_rf_some, aBk_1, aBk_0, nI_add, nI_mul, hk_si, hp_si, hl_si, hk_sp, hk_sl, hk_cp, hp_cp, x_sets hB, g1, x_bits (show j + 1 < 128 by omega), x_bits (show b < 128 by omega), q2, q2', false_and]
    · have hb := tx_b (T := T) (w := w) (2 ^ ng_ T - 1)
      generalize itn (2 ^ ng_ T - 1) (txF T w) 0 = b at hb ⊢
      rw [Nat.sub_add_cancel hp1]
      obtain ⟨c, hc, rfl⟩ := in_n (by decide) hq
      have hcc : c = 0 ∨ c = 1 := by omega
      refine (e39_15).trans ?_
      rcases hcc with rfl | rfl
      · simp only [e39_0, e39_1, e39_2, e39_3, e39_6, e39_9, e39_10, e39_11, e39_12, e39_13, e39_14, e39_16, e39_17, e39_20, e39_23, e39_24, e39_27, e39_28, e39_31, e39_34, e39_35, e39_36, e39_39, e39_42, e39_43, e39_44, e39_47, e39_50, e39_51, e39_54, e39_55, e39_58, e39_61, e39_62, xk_64 hXS, ↓reduceIte, Nat.reduceAdd, Nat.reduceLeDiff, Nat.reduceLT, Nat.reduceEqDiff, not_false_eq_true, false_or, true_or, or_true, or_false, n1_ne, n1_11, bI_z, bI_1, bI_fo, va_rf_some, aBk_1, aBk_0, nI_add, nI_mul, hk_si, hp_si, hl_si, hk_sp, hk_sl, hk_cp, hp_cp, x_sets hB, Int32.le_refl, n0_e, x_bits (show b < 128 by omega)]
      · simp only [e39_0, e39_1, e39_2, e39_3, e39_6, e39_9, e39_10, e39_11, e39_12, e39_13, e39_14, e39_16, e39_17, e39_20, e39_23, e39_24, e39_27, e39_28, e39_31, e39_34, e39_35, e39_36, e39_39, e39_42, e39_43, e39_44, e39_47, e39_50, e39_51, e39_54, e39_55, e39_58, e39_61, e39_62, xk_64 hXS, ↓reduceIte, Nat.reduceAdd, Nat.reduceLeDiff, Nat.reduceLT, Nat.reduceEqDiff, not_false_eq_true, false_or, true_or, or_true, or_false, n0_e, n1_11, bI_z, bI_1, bI_fo, va_rf_some, aBk_1, aBk_0, nI_add, nI_mul, hk_si, hp_si, hl_si, hk_sp, hk_sl, hk_cp, hp_cp, x_sets hB, Int32.le_refl, n1_ne, n10_e]
theorem x_sum {a n : Nat} {v : Nat → Int32} (hk : hk_ h a = (100, n)) (hn : n ≤ 1000) (hv : ∀ i, i < n → hi_ h a i = v i) : (run (d) 66 0 [.ref a, aU, aU] [] h) = some (.returned (some (.int (itn n (fun k b => b + v k) (nI 0)))), h) := by
  simp only [e66_0, e66_1, e66_2, e66_3, e66_5, e66_6, e66_7, e66_10, e66_11, e66_12, e66_13, e66_14, e66_15, e66_16, e66_19, e66_22, e66_23, ↓reduceIte, Nat.reduceAdd, Nat.reduceLeDiff, Nat.reduceLT, Nat.reduceEqDiff, not_false_eq_true, false_or, true_or, or_true, or_false, n0_e, n1_ne, n1_11, bI_z, bI_1, bI_fo, va_rf_some, aBk_1, aBk_0, nI_add, nI_mul, hk_si, hp_si, hl_si, hk_sp, hk_sl, hk_cp, hp_cp]
  refine (run_for (F := fun j b => (run (d) 66 4 [.ref a, .int b, .int (nI j)] [] h)) (f := fun k b => b + v k) (a := nI 0) (n := n) (fun j hj => ?_)).trans ?_
  · have g1 : ¬ nI n ≤ nI j := nI_ge hj (by omega)
    have g2 : n ≤ 2147483647 := by omega
    refine (e66_4).trans ?_
    simp only [e66_0, e66_1, e66_2, e66_3, e66_5, e66_6, e66_7, e66_10, e66_11, e66_12, e66_13, e66_14, e66_15, e66_16, e66_19, e66_22, e66_23, ↓reduceIte, Nat.reduceAdd, Nat.reduceLeDiff, Nat.reduceLT, Nat.reduceEqDiff, not_false_eq_true, false_or, true_or, or_true, or_false, n0_e, n1_ne, n1_11, bI_z, bI_1, bI_fo, va_rf_some, aBk_1, aBk_0, nI_add, nI_mul, hk_si, hp_si, hl_si, hk_sp, hk_sl, hk_cp, hp_cp, hk, g1, hj, g2, hv j hj]
  · refine (e66_4).trans ?_
    simp only [e66_0, e66_1, e66_2, e66_3, e66_5, e66_6, e66_7, e66_10, e66_11, e66_12, e66_13, e66_14, e66_15, e66_16, e66_19, e66_22, e66_23, ↓reduceIte, Nat.reduceAdd, Nat.reduceLeDiff, Nat.reduceLT, Nat.reduceEqDiff, not_false_eq_true, false_or, true_or, or_true, or_false, n0_e, n1_ne, n1_11, bI_z, bI_1, bI_fo, va_rf_some, aBk_1, aBk_0, nI_add, nI_mul, hk_si, hp_si, hl_si, hk_sp, hk_sl, hk_cp, hp_cp, hk, Int32.le_refl]
theorem x_count (hB : XB h T w tx sa ga la qs qg) (hW : WV T w) {n u m : Nat} {b : Nat → Bool} (en : hi_ h 66 31 = nI n) (eu : hi_ h 64 5 = nI u) (em : hi_ h 64 18 = nI m) (hb : ∀ i, i < 3 → hi_ h 122 i = bI (b i)) (what : Int32) : ∃ h', (∀ d, (run (d + 406) 65 0 [.ref 64, .int what, aU, aU] [] h) = some (.returned (some (.int (qCnt T w n u m b what))), h')) ∧ On QX h h' := by
  have hXS := hB.S
  have hA := hB.H.s
  have hT := hB.X
  have hV := hT.v
  have h7 := hT.ng7
  have h4 := hT.ns4
  unfold qCnt
  rcases sw_cases 18 18 rfl (by decide) what (qCntF T w n u m b) with ⟨hd, e⟩ | ⟨c, hc, rfl⟩
  · refine ⟨h, fun d => ?_, On.refl⟩
    rw [e]
    simp only [e65_0, e65_1, e65_2, e65_3_0, e65_3_1, e65_3_2, e65_3_3, e65_3_4, e65_3_5, e65_3_6, e65_3_7, e65_3_8, e65_3_9, e65_3_10, e65_3_11, e65_3_12, e65_3_13, e65_3_14, e65_3_15, e65_3_16, e65_3_17, e65_3_18, e65_3_d, e65_486, e65_487, xk_64 hXS, xp_1 hXS, xk_66 hXS, xp_7 hXS, xp_13 hXS, xk_122 hXS, List.mem_cons, List.not_mem_nil, ↓reduceIte, Nat.reduceAdd, Nat.reduceLeDiff, Nat.reduceLT, Nat.reduceEqDiff, not_false_eq_true, false_or, true_or, or_true, or_false, n0_e, n1_ne, n1_11, bI_z, bI_1, bI_fo, va_rf_some, aBk_1, aBk_0, nI_add, nI_mul, hk_si, hp_si, hl_si, hk_sp, hk_sl, hk_cp, hp_cp, hd]
  · rw [swf_n hc (by decide)]
    match c, hc with
    | 0, _ => refine ⟨h, fun d => ?_, On.refl⟩; (simp only [e65_0, e65_1, e65_2, e65_3_0, e65_3_1, e65_3_2, e65_3_3, e65_3_4, e65_3_5, e65_3_6, e65_3_7, e65_3_8, e65_3_9, e65_3_10, e65_3_11, e65_3_12, e65_3_13, e65_3_14, e65_3_15, e65_3_16, e65_3_17, e65_3_18, e65_3_d, e65_92, e65_93, e65_96, xk_64 hXS, xp_1 hXS, xk_66 hXS, xp_7 hXS, xp_13 hXS, xk_122 hXS, List.mem_cons, List.not_mem_nil, ↓reduceIte, Nat.reduceAdd, Nat.reduceLeDiff, Nat.reduceLT, Nat.reduceEqDiff, not_false_eq_true, false_or, true_or, or_true, or_false, n0_e, n1_ne, n1_11, bI_z, bI_1, bI_fo, va_rf_some, aBk_1, aBk_0, nI_add, nI_mul, hk_si, hp_si, hl_si, hk_sp, hk_sl, hk_cp, hp_cp, x_sundays hB]); rfl
    | 1, _ => refine ⟨h, fun d => ?_, On.refl⟩; (simp only [e65_0, e65_1, e65_2, e65_3_0, e65_3_1, e65_3_2, e65_3_3, e65_3_4, e65_3_5, e65_3_6, e65_3_7, e65_3_8, e65_3_9, e65_3_10, e65_3_11, e65_3_12, e65_3_13, e65_3_14, e65_3_15, e65_3_16, e65_3_17, e65_3_18, e65_3_d, e65_97, e65_98, e65_101, xk_64 hXS, xp_1 hXS, xk_66 hXS, xp_7 hXS, xp_13 hXS, xk_122 hXS, List.mem_cons, List.not_mem_nil, ↓reduceIte, Nat.reduceAdd, Nat.reduceLeDiff, Nat.reduceLT, Nat.reduceEqDiff, not_false_eq_true, false_or, true_or, or_true, or_false, n0_e, n1_ne, n1_11, bI_z, bI_1, bI_fo, va_rf_some, aBk_1, aBk_0, nI_add, nI_mul, hk_si, hp_si, hl_si, hk_sp, hk_sl, hk_cp, hp_cp, x_guests hB]); rfl
    | 2, _ => refine ⟨h, fun d => ?_, On.refl⟩; (simp only [e65_0, e65_1, e65_2, e65_3_0, e65_3_1, e65_3_2, e65_3_3, e65_3_4, e65_3_5, e65_3_6, e65_3_7, e65_3_8, e65_3_9, e65_3_10, e65_3_11, e65_3_12, e65_3_13, e65_3_14, e65_3_15, e65_3_16, e65_3_17, e65_3_18, e65_3_d, e65_102, e65_103, e65_106, e65_109, xk_64 hXS, xp_1 hXS, xk_66 hXS, xp_7 hXS, xp_13 hXS, xk_122 hXS, h78_k hA, h78_p53 hA, h78_k1 hA, h78_p54 hA, h78_k2 hA, h78_p55 hA, h78_k3 hA, List.mem_cons, List.not_mem_nil, ↓reduceIte, Nat.reduceAdd, Nat.reduceLeDiff, Nat.reduceLT, Nat.reduceEqDiff, not_false_eq_true, false_or, true_or, or_true, or_false, n0_e, n1_ne, n1_11, bI_z, bI_1, bI_fo, va_rf_some, aBk_1, aBk_0, nI_add, nI_mul, hk_si, hp_si, hl_si, hk_sp, hk_sl, hk_cp, hp_cp, hB.H.we]); rfl
    | 3, _ => refine ⟨h, fun d => ?_, On.refl⟩; (simp only [e65_0, e65_1, e65_2, e65_3_0, e65_3_1, e65_3_2, e65_3_3, e65_3_4, e65_3_5, e65_3_6, e65_3_7, e65_3_8, e65_3_9, e65_3_10, e65_3_11, e65_3_12, e65_3_13, e65_3_14, e65_3_15, e65_3_16, e65_3_17, e65_3_18, e65_3_d, e65_110, e65_111, e65_114, e65_117, xk_64 hXS, xp_1 hXS, xk_66 hXS, xp_7 hXS, xp_13 hXS, xk_122 hXS, h78_k hA, h78_p53 hA, h78_k1 hA, h78_p54 hA, h78_k2 hA, h78_p55 hA, h78_k3 hA, List.mem_cons, List.not_mem_nil, ↓reduceIte, Nat.reduceAdd, Nat.reduceLeDiff, Nat.reduceLT, Nat.reduceEqDiff, not_false_eq_true, false_or, true_or, or_true, or_false, n0_e, n1_ne, n1_11, bI_z, bI_1, bI_fo, va_rf_some, aBk_1, aBk_0, nI_add, nI_mul, hk_si, hp_si, hl_si, hk_sp, hk_sl, hk_cp, hp_cp, hB.H.mo]); rfl
    | 4, _ =>
      refine ⟨h, fun d => ?_, On.refl⟩
      simp only [e65_0, e65_1, e65_2, e65_3_0, e65_3_1, e65_3_2, e65_3_3, e65_3_4, e65_3_5, e65_3_6, e65_3_7, e65_3_8, e65_3_9, e65_3_10, e65_3_11, e65_3_12, e65_3_13, e65_3_14, e65_3_15, e65_3_16, e65_3_17, e65_3_18, e65_3_d, e65_118, e65_119, xk_64 hXS, xp_1 hXS, xk_66 hXS, xp_7 hXS, xp_13 hXS, xk_122 hXS, List.mem_cons, List.not_mem_nil, ↓reduceIte, Nat.reduceAdd, Nat.reduceLeDiff, Nat.reduceLT, Nat.reduceEqDiff, not_false_eq_true, false_or, true_or, or_true, or_false, n0_e, n1_ne, n1_11, bI_z, bI_1, bI_fo, va_rf_some, aBk_1, aBk_0, nI_add, nI_mul, hk_si, hp_si, hl_si, hk_sp, hk_sl, hk_cp, hp_cp]
      refine (run_for (F := fun j a => (run (d + 406) 65 120 [.ref 64, .int (nI 4), .int (nI a), .int (nI j)] [] h)) (f := fun g a => bif decide (0 ≤ w g) then a ||| 2 ^ g else a) (a := 0) (n := ng_ T) (fun j hj => ?_)).trans ?_
      · have g1 : ¬ nI (ng_ T) ≤ nI j := nI_ge hj (by omega)
        have j7 : j < 7 := by omega
        refine (e65_120).trans ?_
        by_cases q : 0 ≤ w j
        · have q' : ¬ w j < 0 := Int32.not_lt.mpr q
          simp only [e65_121, e65_122, e65_125, e65_128, e65_129, e65_130, e65_133, e65_136, e65_137, e65_138, e65_141, e65_142, e65_143, e65_144, e65_147, e65_148, e65_149, e65_150, e65_153, e65_156, e65_157, xk_64 hXS, xp_1 hXS, xk_66 hXS, xp_7 hXS, xp_13 hXS, xk_122 hXS, h78_k hA, h78_p53 hA, h78_k1 hA, h78_p54 hA, h78_k2 hA, h78_p55 hA, h78_k3 hA, List.mem_cons, List.not_mem_nil, ↓reduceIte, Nat.reduceAdd, Nat.reduceLeDiff, Nat.reduceLT, Nat.reduceEqDiff, not_false_eq_true, false_or, true_or, or_true, or_false, n0_e, n1_ne, n1_11, bI_z, bI_1, bI_fo, va_rf_some, aBk_1, aBk_0, nI_add, nI_mul, hk_si, hp_si, hl_si, hk_sp, hk_sl, hk_cp, hp_cp, x_guests hB, g1, j7, x78_in hB.H j7, q, q', shl_1 j (show j < 32 by omega), nI_or, decide_true, cond_true]
        · have q' : w j < 0 := Int32.not_le.mp q
          simp only [e65_121, e65_122, e65_125, e65_128, e65_129, e65_130, e65_133, e65_136, e65_137, e65_138, e65_141, e65_142, e65_143, e65_144, e65_147, e65_148, e65_149, e65_150, e65_153, e65_156, e65_157, xk_64 hXS, xp_1 hXS, xk_66 hXS, xp_7 hXS, xp_13 hXS, xk_122 hXS, h78_k hA, h78_p53 hA, h78_k1 hA, h78_p54 hA, h78_k2 hA, h78_p55 hA, h78_k3 hA, List.mem_cons, List.not_mem_nil, ↓reduceIte, Nat.reduceAdd, Nat.reduceLeDiff, Nat.reduceLT, Nat.reduceEqDiff, not_false_eq_true, false_or, true_or, or_true, or_false, n0_e, n1_ne, n1_11, bI_z, bI_1, bI_fo, va_rf_some, aBk_1, aBk_0, nI_add, nI_mul, hk_si, hp_si, hl_si, hk_sp, hk_sl, hk_cp, hp_cp, x_guests hB, g1, j7, x78_in hB.H j7, q, q', nI_or, Nat.or_zero, decide_false, cond_false]
      · refine (e65_120).trans ?_
        simp only [e65_121, e65_122, e65_125, e65_128, e65_129, e65_130, e65_133, e65_136, e65_137, e65_138, e65_141, e65_142, e65_143, e65_144, e65_147, e65_148, e65_149, e65_150, e65_153, e65_156, e65_157, xk_64 hXS, xp_1 hXS, xk_66 hXS, xp_7 hXS, xp_13 hXS, xk_122 hXS, List.mem_cons, List.not_mem_nil, ↓reduceIte, Nat.reduceAdd, Nat.reduceLeDiff, Nat.reduceLT, Nat.reduceEqDiff, not_false_eq_true, false_or, true_or, or_true, or_false, n0_e, n1_ne, n1_11, bI_z, bI_1, bI_fo, va_rf_some, aBk_1, aBk_0, nI_add, nI_mul, hk_si, hp_si, hl_si, hk_sp, hk_sl, hk_cp, hp_cp, x_guests hB, Int32.le_refl]
        rfl
    | 5, _ =>
      refine ⟨h, fun d => ?_, On.refl⟩
      simp only [e65_0, e65_1, e65_2, e65_3_0, e65_3_1, e65_3_2, e65_3_3, e65_3_4, e65_3_5, e65_3_6, e65_3_7, e65_3_8, e65_3_9, e65_3_10, e65_3_11, e65_3_12, e65_3_13, e65_3_14, e65_3_15, e65_3_16, e65_3_17, e65_3_18, e65_3_d, e65_158, e65_159, e65_162, e65_165, xk_64 hXS, xp_1 hXS, xk_66 hXS, xp_7 hXS, xp_13 hXS, xk_122 hXS, h78_k hA, h78_p53 hA, h78_k1 hA, h78_p54 hA, h78_k2 hA, h78_p55 hA, h78_k3 hA, List.mem_cons, List.not_mem_nil, ↓reduceIte, Nat.reduceAdd, Nat.reduceLeDiff, Nat.reduceLT, Nat.reduceEqDiff, not_false_eq_true, false_or, true_or, or_true, or_false, n0_e, n1_ne, n1_11, bI_z, bI_1, bI_fo, va_rf_some, aBk_1, aBk_0, nI_add, nI_mul, hk_si, hp_si, hl_si, hk_sp, hk_sl, hk_cp, hp_cp, hB.H.de]
      have : dB_ w = orN (ng_ T) (fun g => !decide (w (14 + g) = 0)) := by
        apply Nat.eq_of_testBit_eq
        intro i
        unfold dB_
        rw [orN_bit, orN_bit]
        by_cases q : i < ng_ T
        · rw [decide_eq_true q, decide_eq_true (show i < 7 by omega)]
        · rw [decide_eq_false q]
          by_cases q2 : i < 7
          · rw [(hW.2.1 i (by omega) q2).2]; simp
          · rw [decide_eq_false q2]
      rw [this]
      rfl
    | 6, _ =>
      refine ⟨h, fun d => ?_, On.refl⟩
      simp only [e65_0, e65_1, e65_2, e65_3_0, e65_3_1, e65_3_2, e65_3_3, e65_3_4, e65_3_5, e65_3_6, e65_3_7, e65_3_8, e65_3_9, e65_3_10, e65_3_11, e65_3_12, e65_3_13, e65_3_14, e65_3_15, e65_3_16, e65_3_17, e65_3_18, e65_3_d, e65_166, e65_167, e65_170, e65_173, xk_64 hXS, xp_1 hXS, xk_66 hXS, xp_7 hXS, xp_13 hXS, xk_122 hXS, h78_k hA, h78_p53 hA, h78_k1 hA, h78_p54 hA, h78_k2 hA, h78_p55 hA, h78_k3 hA, List.mem_cons, List.not_mem_nil, ↓reduceIte, Nat.reduceAdd, Nat.reduceLeDiff, Nat.reduceLT, Nat.reduceEqDiff, not_false_eq_true, false_or, true_or, or_true, or_false, n0_e, n1_ne, n1_11, bI_z, bI_1, bI_fo, va_rf_some, aBk_1, aBk_0, nI_add, nI_mul, hk_si, hp_si, hl_si, hk_sp, hk_sl, hk_cp, hp_cp, hB.H.so]
      have : oB_ w = orN (ns_ T) (fun g => !decide (w (25 + g) = 0)) := by
        apply Nat.eq_of_testBit_eq
        intro i
        unfold oB_
        rw [orN_bit, orN_bit]
        by_cases q : i < ns_ T
        · rw [decide_eq_true q, decide_eq_true (show i < 4 by omega)]
        · rw [decide_eq_false q]
          by_cases q2 : i < 4
          · rw [hW.2.2.2.2.2.1 i (by omega) q2]; simp
          · rw [decide_eq_false q2]
      rw [this]
      rfl
    | 7, _ =>
      obtain ⟨h2, e2, o2⟩ := x_due ha78 hT hW hB.H
      refine ⟨h2, fun d => ?_, o2.mono (fun _ _ q => q.Q)⟩; (simp only [e65_0, e65_1, e65_2, e65_3_0, e65_3_1, e65_3_2, e65_3_3, e65_3_4, e65_3_5, e65_3_6, e65_3_7, e65_3_8, e65_3_9, e65_3_10, e65_3_11, e65_3_12, e65_3_13, e65_3_14, e65_3_15, e65_3_16, e65_3_17, e65_3_18, e65_3_d, e65_174, e65_175, e65_178, e65_179, e65_182, e65_185, xk_64 hXS, xp_1 hXS, xk_66 hXS, xp_7 hXS, xp_13 hXS, xk_122 hXS, h78_k hA, h78_p53 hA, h78_k1 hA, h78_p54 hA, h78_k2 hA, h78_p55 hA, h78_k3 hA, List.mem_cons, List.not_mem_nil, ↓reduceIte, Nat.reduceAdd, Nat.reduceLeDiff, Nat.reduceLT, Nat.reduceEqDiff, not_false_eq_true, false_or, true_or, or_true, or_false, n0_e, n1_ne, n1_11, bI_z, bI_1, bI_fo, va_rf_some, aBk_1, aBk_0, nI_add, nI_mul, hk_si, hp_si, hl_si, hk_sp, hk_sl, hk_cp, hp_cp, hB.t, e2]); rfl
    | 8, _ => refine ⟨h, fun d => ?_, On.refl⟩; (simp only [e65_0, e65_1, e65_2, e65_3_0, e65_3_1, e65_3_2, e65_3_3, e65_3_4, e65_3_5, e65_3_6, e65_3_7, e65_3_8, e65_3_9, e65_3_10, e65_3_11, e65_3_12, e65_3_13, e65_3_14, e65_3_15, e65_3_16, e65_3_17, e65_3_18, e65_3_d, e65_186, e65_187, e65_190, e65_193, xk_64 hXS, xp_1 hXS, xk_66 hXS, xp_7 hXS, xp_13 hXS, xk_122 hXS, List.mem_cons, List.not_mem_nil, ↓reduceIte, Nat.reduceAdd, Nat.reduceLeDiff, Nat.reduceLT, Nat.reduceEqDiff, not_false_eq_true, false_or, true_or, or_true, or_false, n0_e, n1_ne, n1_11, bI_z, bI_1, bI_fo, va_rf_some, aBk_1, aBk_0, nI_add, nI_mul, hk_si, hp_si, hl_si, hk_sp, hk_sl, hk_cp, hp_cp, en]); rfl
    | 9, _ => refine ⟨h, fun d => ?_, On.refl⟩; (simp only [e65_0, e65_1, e65_2, e65_3_0, e65_3_1, e65_3_2, e65_3_3, e65_3_4, e65_3_5, e65_3_6, e65_3_7, e65_3_8, e65_3_9, e65_3_10, e65_3_11, e65_3_12, e65_3_13, e65_3_14, e65_3_15, e65_3_16, e65_3_17, e65_3_18, e65_3_d, e65_194, e65_195, e65_198, xk_64 hXS, xp_1 hXS, xk_66 hXS, xp_7 hXS, xp_13 hXS, xk_122 hXS, List.mem_cons, List.not_mem_nil, ↓reduceIte, Nat.reduceAdd, Nat.reduceLeDiff, Nat.reduceLT, Nat.reduceEqDiff, not_false_eq_true, false_or, true_or, or_true, or_false, n0_e, n1_ne, n1_11, bI_z, bI_1, bI_fo, va_rf_some, aBk_1, aBk_0, nI_add, nI_mul, hk_si, hp_si, hl_si, hk_sp, hk_sl, hk_cp, hp_cp, eu]); rfl
    | 10, _ => refine ⟨h, fun d => ?_, On.refl⟩; (simp only [e65_0, e65_1, e65_2, e65_3_0, e65_3_1, e65_3_2, e65_3_3, e65_3_4, e65_3_5, e65_3_6, e65_3_7, e65_3_8, e65_3_9, e65_3_10, e65_3_11, e65_3_12, e65_3_13, e65_3_14, e65_3_15, e65_3_16, e65_3_17, e65_3_18, e65_3_d, e65_199, e65_200, e65_203, xk_64 hXS, xp_1 hXS, xk_66 hXS, xp_7 hXS, xp_13 hXS, xk_122 hXS, List.mem_cons, List.not_mem_nil, ↓reduceIte, Nat.reduceAdd, Nat.reduceLeDiff, Nat.reduceLT, Nat.reduceEqDiff, not_false_eq_true, false_or, true_or, or_true, or_false, n0_e, n1_ne, n1_11, bI_z, bI_1, bI_fo, va_rf_some, aBk_1, aBk_0, nI_add, nI_mul, hk_si, hp_si, hl_si, hk_sp, hk_sl, hk_cp, hp_cp, em]); rfl
    | 11, _ =>
      refine ⟨h, fun d => ?_, On.refl⟩
      have b0 := hb 0 (by decide)
      have b1 := hb 1 (by decide)
      have b2 := hb 2 (by decide)
      show _ = some (Outcome.returned (some (.int (bI (b 0) + bI (b 1) + bI (b 2)))), h)
      generalize b 0 = c0 at b0 ⊢
      generalize b 1 = c1 at b1 ⊢
      generalize b 2 = c2 at b2 ⊢
      cases c0 <;> cases c1 <;> cases c2 <;> (simp only [e65_0, e65_1, e65_2, e65_3_0, e65_3_1, e65_3_2, e65_3_3, e65_3_4, e65_3_5, e65_3_6, e65_3_7, e65_3_8, e65_3_9, e65_3_10, e65_3_11, e65_3_12, e65_3_13, e65_3_14, e65_3_15, e65_3_16, e65_3_17, e65_3_18, e65_3_d, e65_204, e65_205, e65_208, e65_209, e65_210, e65_213, e65_214, e65_217, e65_218, e65_219, e65_222, e65_223, e65_224, e65_227, e65_228, e65_231, e65_232, e65_233, e65_234, e65_237, e65_238, e65_239, e65_242, e65_243, e65_246, e65_247, e65_248, xk_64 hXS, xp_1 hXS, xk_66 hXS, xp_7 hXS, xp_13 hXS, xk_122 hXS, List.mem_cons, List.not_mem_nil, ↓reduceIte, Nat.reduceAdd, Nat.reduceLeDiff, Nat.reduceLT, Nat.reduceEqDiff, not_false_eq_true, false_or, true_or, or_true, or_false, n0_e, n1_ne, n1_11, bI_1, bI_fo, va_rf_some, aBk_1, aBk_0, nI_add, nI_mul, hk_si, hp_si, hl_si, hk_sp, hk_sl, hk_cp, hp_cp, b0, b1, b2, bI_z, reduceCtorEq]) <;> rfl
    | 12, _ =>
      refine ⟨h, fun d => ?_, On.refl⟩
      simp only [e65_0, e65_1, e65_2, e65_3_0, e65_3_1, e65_3_2, e65_3_3, e65_3_4, e65_3_5, e65_3_6, e65_3_7, e65_3_8, e65_3_9, e65_3_10, e65_3_11, e65_3_12, e65_3_13, e65_3_14, e65_3_15, e65_3_16, e65_3_17, e65_3_18, e65_3_d, e65_249, e65_250, e65_253, e65_256, e65_259, xk_64 hXS, xp_1 hXS, xk_66 hXS, xp_7 hXS, xp_13 hXS, xk_122 hXS, h78_k hA, h78_p53 hA, h78_k1 hA, h78_p54 hA, h78_k2 hA, h78_p55 hA, h78_k3 hA, List.mem_cons, List.not_mem_nil, ↓reduceIte, Nat.reduceAdd, Nat.reduceLeDiff, Nat.reduceLT, Nat.reduceEqDiff, not_false_eq_true, false_or, true_or, or_true, or_false, n0_e, n1_ne, n1_11, bI_z, bI_1, bI_fo, va_rf_some, aBk_1, aBk_0, nI_add, nI_mul, hk_si, hp_si, hl_si, hk_sp, hk_sl, hk_cp, hp_cp, x_sum (h78_k3 hA) (by decide) (fun i hi => x78_wo hB.H hi)]
      rfl
    | 13, _ =>
      refine ⟨h, fun d => ?_, On.refl⟩
      simp only [e65_0, e65_1, e65_2, e65_3_0, e65_3_1, e65_3_2, e65_3_3, e65_3_4, e65_3_5, e65_3_6, e65_3_7, e65_3_8, e65_3_9, e65_3_10, e65_3_11, e65_3_12, e65_3_13, e65_3_14, e65_3_15, e65_3_16, e65_3_17, e65_3_18, e65_3_d, e65_260, e65_261, e65_264, e65_267, e65_270, xk_64 hXS, xp_1 hXS, xk_66 hXS, xp_7 hXS, xp_13 hXS, xk_122 hXS, h78_k hA, h78_p53 hA, h78_k1 hA, h78_p54 hA, h78_k2 hA, h78_p55 hA, h78_k3 hA, List.mem_cons, List.not_mem_nil, ↓reduceIte, Nat.reduceAdd, Nat.reduceLeDiff, Nat.reduceLT, Nat.reduceEqDiff, not_false_eq_true, false_or, true_or, or_true, or_false, n0_e, n1_ne, n1_11, bI_z, bI_1, bI_fo, va_rf_some, aBk_1, aBk_0, nI_add, nI_mul, hk_si, hp_si, hl_si, hk_sp, hk_sl, hk_cp, hp_cp, x_sum (h78_k2 hA) (by decide) (fun i hi => x78_re hB.H hi)]
      rfl
    | 14, _ =>
      refine ⟨h, fun d => ?_, On.refl⟩
      simp only [e65_0, e65_1, e65_2, e65_3_0, e65_3_1, e65_3_2, e65_3_3, e65_3_4, e65_3_5, e65_3_6, e65_3_7, e65_3_8, e65_3_9, e65_3_10, e65_3_11, e65_3_12, e65_3_13, e65_3_14, e65_3_15, e65_3_16, e65_3_17, e65_3_18, e65_3_d, e65_271, e65_272, xk_64 hXS, xp_1 hXS, xk_66 hXS, xp_7 hXS, xp_13 hXS, xk_122 hXS, List.mem_cons, List.not_mem_nil, ↓reduceIte, Nat.reduceAdd, Nat.reduceLeDiff, Nat.reduceLT, Nat.reduceEqDiff, not_false_eq_true, false_or, true_or, or_true, or_false, n0_e, n1_ne, n1_11, bI_z, bI_1, bI_fo, va_rf_some, aBk_1, aBk_0, nI_add, nI_mul, hk_si, hp_si, hl_si, hk_sp, hk_sl, hk_cp, hp_cp]
      refine (run_for (F := fun j a => (run (d + 406) 65 273 [.ref 64, .int (nI 14), .int a, .int (nI j)] [] h)) (f := fun g a => a + bc_ (nI (cB_ T g))) (a := nI 0) (n := ng_ T) (fun j hj => ?_)).trans ?_
      · have g1 : ¬ nI (ng_ T) ≤ nI j := nI_ge hj (by omega)
        have gb : cB_ T j < 128 := Nat.lt_of_lt_of_le (orN_lt _ _) (Nat.pow_le_pow_right (n := 2) (by decide) h7)
        refine (e65_273).trans ?_
        simp only [e65_274, e65_275, e65_278, e65_281, e65_282, e65_283, e65_286, e65_287, e65_290, e65_293, e65_294, e65_295, e65_298, e65_301, e65_302, e65_303, e65_304, xk_64 hXS, xp_1 hXS, xk_66 hXS, xp_7 hXS, xp_13 hXS, xk_122 hXS, List.mem_cons, List.not_mem_nil, ↓reduceIte, Nat.reduceAdd, Nat.reduceLeDiff, Nat.reduceLT, Nat.reduceEqDiff, not_false_eq_true, false_or, true_or, or_true, or_false, n0_e, n1_ne, n1_11, bI_z, bI_1, bI_fo, va_rf_some, aBk_1, aBk_0, nI_add, nI_mul, hk_si, hp_si, hl_si, hk_sp, hk_sl, hk_cp, hp_cp, x_guests hB, g1, hB.t, hT.ktx, x_trivals hT hj, x_bits gb]
      · refine (e65_273).trans ?_
        simp only [e65_274, e65_275, e65_278, e65_281, e65_282, e65_283, e65_286, e65_287, e65_290, e65_293, e65_294, e65_295, e65_298, e65_301, e65_302, e65_303, e65_304, xk_64 hXS, xp_1 hXS, xk_66 hXS, xp_7 hXS, xp_13 hXS, xk_122 hXS, List.mem_cons, List.not_mem_nil, ↓reduceIte, Nat.reduceAdd, Nat.reduceLeDiff, Nat.reduceLT, Nat.reduceEqDiff, not_false_eq_true, false_or, true_or, or_true, or_false, n0_e, n1_ne, n1_11, bI_z, bI_1, bI_fo, va_rf_some, aBk_1, aBk_0, nI_add, nI_mul, hk_si, hp_si, hl_si, hk_sp, hk_sl, hk_cp, hp_cp, x_guests hB, Int32.le_refl, n2_ne]
        rfl
    | 15, _ =>
      refine ⟨h, fun d => ?_, On.refl⟩
      simp only [e65_0, e65_1, e65_2, e65_3_0, e65_3_1, e65_3_2, e65_3_3, e65_3_4, e65_3_5, e65_3_6, e65_3_7, e65_3_8, e65_3_9, e65_3_10, e65_3_11, e65_3_12, e65_3_13, e65_3_14, e65_3_15, e65_3_16, e65_3_17, e65_3_18, e65_3_d, e65_305, e65_306, xk_64 hXS, xp_1 hXS, xk_66 hXS, xp_7 hXS, xp_13 hXS, xk_122 hXS, List.mem_cons, List.not_mem_nil, ↓reduceIte, Nat.reduceAdd, Nat.reduceLeDiff, Nat.reduceLT, Nat.reduceEqDiff, not_false_eq_true, false_or, true_or, or_true, or_false, n0_e, n1_ne, n1_11, bI_z, bI_1, bI_fo, va_rf_some, aBk_1, aBk_0, nI_add, nI_mul, hk_si, hp_si, hl_si, hk_sp, hk_sl, hk_cp, hp_cp]
      refine (run_for (F := fun j a => (run (d + 406) 65 307 [.ref 64, .int (nI 15), .int (nI a), .int (nI j)] [] h)) (f := fun s a => bif !decide (gB_ T w (nI s) = 0) then a ||| 2 ^ s else a) (a := 0) (n := ns_ T) (fun j hj => ?_)).trans ?_
      · have g1 : ¬ nI (ns_ T) ≤ nI j := nI_ge hj (by omega)
        have gb : gB_ T w (nI j) < 2147483648 := orN_31 h7
        have eg := gB7 hV hW (nIne2 (show j < 2147483648 by omega))
        refine (e65_307).trans ?_
        by_cases q : gB_ T w (nI j) = 0
        · simp only [e65_308, e65_309, e65_312, e65_315, e65_316, e65_317, e65_320, e65_321, e65_324, e65_327, e65_328, e65_329, e65_330, e65_333, e65_334, e65_335, e65_336, e65_339, e65_342, e65_343, xk_64 hXS, xp_1 hXS, xk_66 hXS, xp_7 hXS, xp_13 hXS, xk_122 hXS, h78_k hA, h78_p53 hA, h78_k1 hA, h78_p54 hA, h78_k2 hA, h78_p55 hA, h78_k3 hA, List.mem_cons, List.not_mem_nil, ↓reduceIte, Nat.reduceAdd, Nat.reduceLeDiff, Nat.reduceLT, Nat.reduceEqDiff, not_false_eq_true, false_or, true_or, or_true, or_false, n0_e, n1_ne, n1_11, bI_z, bI_1, bI_fo, va_rf_some, aBk_1, aBk_0, nI_add, nI_mul, hk_si, hp_si, hl_si, hk_sp, hk_sl, hk_cp, hp_cp, x_sundays hB, g1, x_hguests ha78 hB.H, eg, nI_z gb, q, nI_or, Nat.or_zero, decide_true, Bool.not_true, cond_false]
        · simp only [e65_308, e65_309, e65_312, e65_315, e65_316, e65_317, e65_320, e65_321, e65_324, e65_327, e65_328, e65_329, e65_330, e65_333, e65_334, e65_335, e65_336, e65_339, e65_342, e65_343, xk_64 hXS, xp_1 hXS, xk_66 hXS, xp_7 hXS, xp_13 hXS, xk_122 hXS, h78_k hA, h78_p53 hA, h78_k1 hA, h78_p54 hA, h78_k2 hA, h78_p55 hA, h78_k3 hA, List.mem_cons, List.not_mem_nil, ↓reduceIte, Nat.reduceAdd, Nat.reduceLeDiff, Nat.reduceLT, Nat.reduceEqDiff, not_false_eq_true, false_or, true_or, or_true, or_false, n0_e, n1_ne, n1_11, bI_z, bI_1, bI_fo, va_rf_some, aBk_1, aBk_0, nI_add, nI_mul, hk_si, hp_si, hl_si, hk_sp, hk_sl, hk_cp, hp_cp, x_sundays hB, g1, x_hguests ha78 hB.H, eg, nI_z gb, q, shl_1 j (show j < 32 by omega), nI_or, decide_false, Bool.not_false, cond_true]
      · refine (e65_307).trans ?_
        simp only [e65_308, e65_309, e65_312, e65_315, e65_316, e65_317, e65_320, e65_321, e65_324, e65_327, e65_328, e65_329, e65_330, e65_333, e65_334, e65_335, e65_336, e65_339, e65_342, e65_343, xk_64 hXS, xp_1 hXS, xk_66 hXS, xp_7 hXS, xp_13 hXS, xk_122 hXS, List.mem_cons, List.not_mem_nil, ↓reduceIte, Nat.reduceAdd, Nat.reduceLeDiff, Nat.reduceLT, Nat.reduceEqDiff, not_false_eq_true, false_or, true_or, or_true, or_false, n0_e, n1_ne, n1_11, bI_z, bI_1, bI_fo, va_rf_some, aBk_1, aBk_0, nI_add, nI_mul, hk_si, hp_si, hl_si, hk_sp, hk_sl, hk_cp, hp_cp, x_sundays hB, Int32.le_refl]
        rfl
    | 16, _ =>
      refine ⟨h, fun d => ?_, On.refl⟩
      simp only [e65_0, e65_1, e65_2, e65_3_0, e65_3_1, e65_3_2, e65_3_3, e65_3_4, e65_3_5, e65_3_6, e65_3_7, e65_3_8, e65_3_9, e65_3_10, e65_3_11, e65_3_12, e65_3_13, e65_3_14, e65_3_15, e65_3_16, e65_3_17, e65_3_18, e65_3_d, e65_344, e65_345, xk_64 hXS, xp_1 hXS, xk_66 hXS, xp_7 hXS, xp_13 hXS, xk_122 hXS, List.mem_cons, List.not_mem_nil, ↓reduceIte, Nat.reduceAdd, Nat.reduceLeDiff, Nat.reduceLT, Nat.reduceEqDiff, not_false_eq_true, false_or, true_or, or_true, or_false, n0_e, n1_ne, n1_11, bI_z, bI_1, bI_fo, va_rf_some, aBk_1, aBk_0, nI_add, nI_mul, hk_si, hp_si, hl_si, hk_sp, hk_sl, hk_cp, hp_cp]
      refine (run_for (F := fun j a => (run (d + 406) 65 346 [.ref 64, .int (nI 16), .int (nI a), .int (nI j)] [] h)) (f := fun g a => bif !decide (fB_ T w g = 0) then a ||| 2 ^ g else a) (a := 0) (n := ng_ T) (fun j hj => ?_)).trans ?_
      · have g1 : ¬ nI (ng_ T) ≤ nI j := nI_ge hj (by omega)
        have gb : fB_ T w j < 2147483648 := orN_31 (by omega)
        have ef : qFit T w (nI j) = nI (fB_ T w j) := by
          unfold qFit
          rw [if_pos (isG_t hV hj), kk_n (by omega)]
        have ex := fun d => x_fitting (d := d) hB (nI j)
        rw [ef] at ex
        refine (e65_346).trans ?_
        by_cases q : fB_ T w j = 0
        · simp only [e65_347, e65_348, e65_351, e65_354, e65_355, e65_356, e65_357, e65_360, e65_363, e65_364, e65_365, e65_366, e65_369, e65_370, e65_371, e65_372, e65_375, e65_378, e65_379, xk_64 hXS, xp_1 hXS, xk_66 hXS, xp_7 hXS, xp_13 hXS, xk_122 hXS, List.mem_cons, List.not_mem_nil, ↓reduceIte, Nat.reduceAdd, Nat.reduceLeDiff, Nat.reduceLT, Nat.reduceEqDiff, not_false_eq_true, false_or, true_or, or_true, or_false, n0_e, n1_ne, n1_11, bI_z, bI_1, bI_fo, va_rf_some, aBk_1, aBk_0, nI_add, nI_mul, hk_si, hp_si, hl_si, hk_sp, hk_sl, hk_cp, hp_cp, x_guests hB, g1, ex, nI_z gb, q, nI_or, Nat.or_zero, decide_true, Bool.not_true, cond_false]
        · simp only [e65_347, e65_348, e65_351, e65_354, e65_355, e65_356, e65_357, e65_360, e65_363, e65_364, e65_365, e65_366, e65_369, e65_370, e65_371, e65_372, e65_375, e65_378, e65_379, xk_64 hXS, xp_1 hXS, xk_66 hXS, xp_7 hXS, xp_13 hXS, xk_122 hXS, List.mem_cons, List.not_mem_nil, ↓reduceIte, Nat.reduceAdd, Nat.reduceLeDiff, Nat.reduceLT, Nat.reduceEqDiff, not_false_eq_true, false_or, true_or, or_true, or_false, n0_e, n1_ne, n1_11, bI_z, bI_1, bI_fo, va_rf_some, aBk_1, aBk_0, nI_add, nI_mul, hk_si, hp_si, hl_si, hk_sp, hk_sl, hk_cp, hp_cp, x_guests hB, g1, ex, nI_z gb, q, shl_1 j (show j < 32 by omega), nI_or, decide_false, Bool.not_false, cond_true]
      · refine (e65_346).trans ?_
        simp only [e65_347, e65_348, e65_351, e65_354, e65_355, e65_356, e65_357, e65_360, e65_363, e65_364, e65_365, e65_366, e65_369, e65_370, e65_371, e65_372, e65_375, e65_378, e65_379, xk_64 hXS, xp_1 hXS, xk_66 hXS, xp_7 hXS, xp_13 hXS, xk_122 hXS, List.mem_cons, List.not_mem_nil, ↓reduceIte, Nat.reduceAdd, Nat.reduceLeDiff, Nat.reduceLT, Nat.reduceEqDiff, not_false_eq_true, false_or, true_or, or_true, or_false, n0_e, n1_ne, n1_11, bI_z, bI_1, bI_fo, va_rf_some, aBk_1, aBk_0, nI_add, nI_mul, hk_si, hp_si, hl_si, hk_sp, hk_sl, hk_cp, hp_cp, x_guests hB, Int32.le_refl]
        rfl
    | 17, _ =>
      refine ⟨h, fun d => ?_, On.refl⟩
      simp only [e65_0, e65_1, e65_2, e65_3_0, e65_3_1, e65_3_2, e65_3_3, e65_3_4, e65_3_5, e65_3_6, e65_3_7, e65_3_8, e65_3_9, e65_3_10, e65_3_11, e65_3_12, e65_3_13, e65_3_14, e65_3_15, e65_3_16, e65_3_17, e65_3_18, e65_3_d, e65_380, e65_381, xk_64 hXS, xp_1 hXS, xk_66 hXS, xp_7 hXS, xp_13 hXS, xk_122 hXS, List.mem_cons, List.not_mem_nil, ↓reduceIte, Nat.reduceAdd, Nat.reduceLeDiff, Nat.reduceLT, Nat.reduceEqDiff, not_false_eq_true, false_or, true_or, or_true, or_false, n0_e, n1_ne, n1_11, bI_z, bI_1, bI_fo, va_rf_some, aBk_1, aBk_0, nI_add, nI_mul, hk_si, hp_si, hl_si, hk_sp, hk_sl, hk_cp, hp_cp]
      refine (run_for (F := fun j a => (run (d + 406) 65 382 [.ref 64, .int (nI 17), .int a, .int (nI j)] [] h)) (f := fun s a => if w (25 + s) = 0 then a + lo_ T s else a) (a := nI 0) (n := ns_ T) (fun j hj => ?_)).trans ?_
      · have g1 : ¬ nI (ns_ T) ≤ nI j := nI_ge hj (by omega)
        have j4 : j < 4 := by omega
        refine (e65_382).trans ?_
        by_cases q : w (25 + j) = 0
        · simp only [e65_383, e65_384, e65_387, e65_390, e65_391, e65_392, e65_395, e65_396, e65_399, e65_402, e65_403, e65_406, e65_407, e65_410, e65_413, e65_414, e65_417, e65_420, e65_423, e65_424, e65_425, e65_428, e65_431, e65_432, xk_64 hXS, xp_1 hXS, xk_66 hXS, xp_7 hXS, xp_13 hXS, xk_122 hXS, h78_k hA, h78_p53 hA, h78_k1 hA, h78_p54 hA, h78_k2 hA, h78_p55 hA, h78_k3 hA, List.mem_cons, List.not_mem_nil, ↓reduceIte, Nat.reduceAdd, Nat.reduceLeDiff, Nat.reduceLT, Nat.reduceEqDiff, not_false_eq_true, false_or, true_or, or_true, or_false, n0_e, n1_ne, n1_11, bI_1, bI_fo, va_rf_some, aBk_1, aBk_0, nI_add, nI_mul, hk_si, hp_si, hl_si, hk_sp, hk_sl, hk_cp, hp_cp, x_sundays hB, g1, x_isSold ha78 hB.H j4, q, decide_true, Bool.not_true, bI_z, hB.t, hT.ktx, hT.p44, hT.ksa, x_get hT.S hj, in16 (hT.kqs hj), hT.kqs hj, hT.lo hj]
        · simp only [e65_383, e65_384, e65_387, e65_390, e65_391, e65_392, e65_395, e65_396, e65_399, e65_402, e65_403, e65_406, e65_407, e65_410, e65_413, e65_414, e65_417, e65_420, e65_423, e65_424, e65_425, e65_428, e65_431, e65_432, xk_64 hXS, xp_1 hXS, xk_66 hXS, xp_7 hXS, xp_13 hXS, xk_122 hXS, h78_k hA, h78_p53 hA, h78_k1 hA, h78_p54 hA, h78_k2 hA, h78_p55 hA, h78_k3 hA, List.mem_cons, List.not_mem_nil, ↓reduceIte, Nat.reduceAdd, Nat.reduceLeDiff, Nat.reduceLT, Nat.reduceEqDiff, not_false_eq_true, false_or, true_or, or_true, or_false, n0_e, n1_ne, n1_11, bI_1, bI_fo, va_rf_some, aBk_1, aBk_0, nI_add, nI_mul, hk_si, hp_si, hl_si, hk_sp, hk_sl, hk_cp, hp_cp, x_sundays hB, g1, x_isSold ha78 hB.H j4, q, decide_false, Bool.not_false, bI_z, reduceCtorEq, add0]
      · refine (e65_382).trans ?_
        simp only [e65_383, e65_384, e65_387, e65_390, e65_391, e65_392, e65_395, e65_396, e65_399, e65_402, e65_403, e65_406, e65_407, e65_410, e65_413, e65_414, e65_417, e65_420, e65_423, e65_424, e65_425, e65_428, e65_431, e65_432, xk_64 hXS, xp_1 hXS, xk_66 hXS, xp_7 hXS, xp_13 hXS, xk_122 hXS, List.mem_cons, List.not_mem_nil, ↓reduceIte, Nat.reduceAdd, Nat.reduceLeDiff, Nat.reduceLT, Nat.reduceEqDiff, not_false_eq_true, false_or, true_or, or_true, or_false, n0_e, n1_ne, n1_11, bI_z, bI_1, bI_fo, va_rf_some, aBk_1, aBk_0, nI_add, nI_mul, hk_si, hp_si, hl_si, hk_sp, hk_sl, hk_cp, hp_cp, x_sundays hB, Int32.le_refl]
        rfl
    | 18, _ =>
      refine ⟨h, fun d => ?_, On.refl⟩
      simp only [e65_0, e65_1, e65_2, e65_3_0, e65_3_1, e65_3_2, e65_3_3, e65_3_4, e65_3_5, e65_3_6, e65_3_7, e65_3_8, e65_3_9, e65_3_10, e65_3_11, e65_3_12, e65_3_13, e65_3_14, e65_3_15, e65_3_16, e65_3_17, e65_3_18, e65_3_d, e65_433, e65_434, xk_64 hXS, xp_1 hXS, xk_66 hXS, xp_7 hXS, xp_13 hXS, xk_122 hXS, List.mem_cons, List.not_mem_nil, ↓reduceIte, Nat.reduceAdd, Nat.reduceLeDiff, Nat.reduceLT, Nat.reduceEqDiff, not_false_eq_true, false_or, true_or, or_true, or_false, n0_e, n1_ne, n1_11, bI_z, bI_1, bI_fo, va_rf_some, aBk_1, aBk_0, nI_add, nI_mul, hk_si, hp_si, hl_si, hk_sp, hk_sl, hk_cp, hp_cp]
      refine (run_for (F := fun j a => (run (d + 406) 65 435 [.ref 64, .int (nI 18), .int a, .int (nI j)] [] h)) (f := fun g a => if w (14 + g) = 0 then a + fe_ T g else a) (a := nI 0) (n := ng_ T) (fun j hj => ?_)).trans ?_
      · have g1 : ¬ nI (ng_ T) ≤ nI j := nI_ge hj (by omega)
        have j7 : j < 7 := by omega
        refine (e65_435).trans ?_
        by_cases q : w (14 + j) = 0
        · simp only [e65_436, e65_437, e65_440, e65_443, e65_444, e65_445, e65_448, e65_449, e65_452, e65_455, e65_456, e65_459, e65_460, e65_463, e65_466, e65_467, e65_470, e65_473, e65_476, e65_477, e65_478, e65_481, e65_484, e65_485, xk_64 hXS, xp_1 hXS, xk_66 hXS, xp_7 hXS, xp_13 hXS, xk_122 hXS, h78_k hA, h78_p53 hA, h78_k1 hA, h78_p54 hA, h78_k2 hA, h78_p55 hA, h78_k3 hA, List.mem_cons, List.not_mem_nil, ↓reduceIte, Nat.reduceAdd, Nat.reduceLeDiff, Nat.reduceLT, Nat.reduceEqDiff, not_false_eq_true, false_or, true_or, or_true, or_false, n0_e, n1_ne, n1_11, bI_1, bI_fo, va_rf_some, aBk_1, aBk_0, nI_add, nI_mul, hk_si, hp_si, hl_si, hk_sp, hk_sl, hk_cp, hp_cp, x_guests hB, g1, x_isDead ha78 hB.H j7, q, decide_true, Bool.not_true, bI_z, hB.t, hT.ktx, hT.p45, hT.kga, x_get hT.G hj, in18 (hT.kqg hj), hT.kqg hj, hT.fe hj]
        · simp only [e65_436, e65_437, e65_440, e65_443, e65_444, e65_445, e65_448, e65_449, e65_452, e65_455, e65_456, e65_459, e65_460, e65_463, e65_466, e65_467, e65_470, e65_473, e65_476, e65_477, e65_478, e65_481, e65_484, e65_485, xk_64 hXS, xp_1 hXS, xk_66 hXS, xp_7 hXS, xp_13 hXS, xk_122 hXS, h78_k hA, h78_p53 hA, h78_k1 hA, h78_p54 hA, h78_k2 hA, h78_p55 hA, h78_k3 hA, List.mem_cons, List.not_mem_nil, ↓reduceIte, Nat.reduceAdd, Nat.reduceLeDiff, Nat.reduceLT, Nat.reduceEqDiff, not_false_eq_true, false_or, true_or, or_true, or_false, n0_e, n1_ne, n1_11, bI_1, bI_fo, va_rf_some, aBk_1, aBk_0, nI_add, nI_mul, hk_si, hp_si, hl_si, hk_sp, hk_sl, hk_cp, hp_cp, x_guests hB, g1, x_isDead ha78 hB.H j7, q, decide_false, Bool.not_false, bI_z, reduceCtorEq, add0]
      · refine (e65_435).trans ?_
        simp only [e65_436, e65_437, e65_440, e65_443, e65_444, e65_445, e65_448, e65_449, e65_452, e65_455, e65_456, e65_459, e65_460, e65_463, e65_466, e65_467, e65_470, e65_473, e65_476, e65_477, e65_478, e65_481, e65_484, e65_485, xk_64 hXS, xp_1 hXS, xk_66 hXS, xp_7 hXS, xp_13 hXS, xk_122 hXS, List.mem_cons, List.not_mem_nil, ↓reduceIte, Nat.reduceAdd, Nat.reduceLeDiff, Nat.reduceLT, Nat.reduceEqDiff, not_false_eq_true, false_or, true_or, or_true, or_false, n0_e, n1_ne, n1_11, bI_z, bI_1, bI_fo, va_rf_some, aBk_1, aBk_0, nI_add, nI_mul, hk_si, hp_si, hl_si, hk_sp, hk_sl, hk_cp, hp_cp, x_guests hB, Int32.le_refl]
        rfl
    | c + 19, hc => exact absurd hc (by omega)
end XD
