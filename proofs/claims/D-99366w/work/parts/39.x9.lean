set_option maxRecDepth 100000
/-! X: questions (4) -/
section X9
variable {d : Nat} {h h' : aH} {T : aTx} {w r : Nat → Int32} {tx sa ga la : Nat} {qs qg : Nat → Nat}
theorem x_payer (hB : XB h T w tx sa ga la qs qg) (hW : WV T w) (what : Int32) : ∃ h', (∀ d, (run (d + 405) 44 0 [.ref 64, .int what, aU, aU] [] h) = some (.returned (some (.int (qPyr T w what))), h')) ∧ On QX h h' := by
  have hXS := hB.S
  have hT := hB.X
  have h7 := hT.ng7
  unfold qPyr
  cases hq : in_ what (nI 0) (nI 1) with
  | false =>
    refine ⟨h, fun d => ?_, On.refl⟩
    simp only [e44_0, e44_1, e44_2, e44_3, e44_6, e44_9, e44_10, e44_11, e44_13, e44_14, e44_15, e44_17, e44_18, e44_21, e44_24, e44_25, e44_28, e44_31, e44_32, e44_33, e44_36, e44_37, e44_40, e44_41, e44_44, e44_45, e44_48, e44_49, e44_52, e44_53, e44_56, e44_57, e44_60, e44_61, e44_64, e44_67, e44_68, e44_69, e44_72, e44_75, e44_76, e44_79, e44_80, e44_83, e44_84, e44_87, e44_88, e44_91, e44_92, e44_95, e44_96, e44_99, xk_64 hXS, xp_7 hXS, ↓reduceIte, Nat.reduceAdd, Nat.reduceLeDiff, Nat.reduceLT, Nat.reduceEqDiff, not_false_eq_true, false_or, true_or, or_true, or_false, n0_e, n1_ne, n1_11, bI_1, bI_fo, va_rf_some, aBk_1, aBk_0, nI_add, nI_mul, hk_si, hp_si, hl_si, hk_sp, hk_sl, hk_cp, hp_cp, x_isIn, hq, bI_z, reduceCtorEq]
  | true =>
    rw [if_pos rfl]
    obtain ⟨y, e, ey, oy⟩ := run_invd (F := fun d j (x : Int32 × aH) => (run (d + 405) 44 16 [.ref 64, .int what, .int x.1, .int (nI j)] [] x.2)) (I := fun j x => x.1 = itn j (fun g b => if 0 ≤ w g ∧ (b < 0 ∨ pO_ T w (kk b) < pO_ T w g) then nI g else b) (-2 : Int32) ∧ On (HE 78) h x.2) (n := ng_ T) (x := (-2, h)) ⟨rfl, On.refl⟩ (fun j x hj hI => by
      obtain ⟨b, x⟩ := x
      obtain ⟨eb, o⟩ := hI
      have eb : b = itn j (fun g b => if 0 ≤ w g ∧ (b < 0 ∨ pO_ T w (kk b) < pO_ T w g) then nI g else b) (-2 : Int32) := eb
      have o : On (HE 78) h x := o
      have bx := hB.onQ (o.mono (fun _ _ q => q.Q))
      have hXSx := bx.S
      have hAx := bx.H.s
      have g1 : ¬ nI (ng_ T) ≤ nI j := nI_ge hj (by omega)
      have g2 : j < 7 := by omega
      have hs : itn (j + 1) (fun g b => if 0 ≤ w g ∧ (b < 0 ∨ pO_ T w (kk b) < pO_ T w g) then nI g else b) (-2 : Int32) = if 0 ≤ w j ∧ (b < 0 ∨ pO_ T w (kk b) < pO_ T w j) then nI j else b := by rw [itn, ← eb]
      by_cases q1 : 0 ≤ w j
      · have q1' : ¬ w j < 0 := Int32.not_lt.mpr q1
        by_cases q2 : b < 0
        · refine ⟨(nI j, x), fun d => ?_, ?_, o⟩
          · refine (e44_16).trans ?_
            simp only [e44_0, e44_1, e44_2, e44_3, e44_6, e44_9, e44_10, e44_11, e44_13, e44_14, e44_15, e44_17, e44_18, e44_21, e44_24, e44_25, e44_28, e44_31, e44_32, e44_33, e44_36, e44_37, e44_40, e44_41, e44_44, e44_45, e44_48, e44_49, e44_52, e44_53, e44_56, e44_57, e44_60, e44_61, e44_64, e44_67, e44_68, e44_69, e44_72, e44_75, e44_76, e44_79, e44_80, e44_83, e44_84, e44_87, e44_88, e44_91, e44_92, e44_95, e44_96, e44_99, xk_64 hXSx, xp_7 hXSx, h78_k hAx, h78_p53 hAx, h78_k1 hAx, ↓reduceIte, Nat.reduceAdd, Nat.reduceLeDiff, Nat.reduceLT, Nat.reduceEqDiff, not_false_eq_true, false_or, true_or, or_true, or_false, n0_e, n1_ne, n1_11, bI_z, bI_1, bI_fo, va_rf_some, aBk_1, aBk_0, nI_add, nI_mul, hk_si, hp_si, hl_si, hk_sp, hk_sl, hk_cp, hp_cp, x_guests bx, g1, g2, x78_in bx.H g2, q1', q2]
          · rw [hs, if_pos ⟨q1, Or.inl q2⟩]
        · obtain ⟨k, hk, ek⟩ : ∃ k, k < j ∧ b = nI k := by
            rcases pyr_c (T := T) (w := w) j with e | ⟨k, hk, e⟩
            · rw [← eb] at e; exact absurd (by rw [e]; decide) q2
            · exact ⟨k, hk, eb.trans e⟩
          subst ek
          have ekk : kk (nI k) = k := kk_n (by omega)
          obtain ⟨x2, e2, o2⟩ := x_hpays ha78 bx.X hW bx.H hj
          have bx2 := bx.onQ (o2.mono (fun _ _ q => q.Q))
          have hXSx2 := bx2.S
          have hAx2 := bx2.H.s
          obtain ⟨x3, e3, o3⟩ := x_hpays ha78 bx2.X hW bx2.H (g := k) (by omega)
          by_cases q3 : pO_ T w j ≤ pO_ T w k
          · refine ⟨(nI k, x3), fun d => ?_, ?_, (o.trans o2).trans o3⟩
            · refine (e44_16).trans ?_
              simp only [e44_0, e44_1, e44_2, e44_3, e44_6, e44_9, e44_10, e44_11, e44_13, e44_14, e44_15, e44_17, e44_18, e44_21, e44_24, e44_25, e44_28, e44_31, e44_32, e44_33, e44_36, e44_37, e44_40, e44_41, e44_44, e44_45, e44_48, e44_49, e44_52, e44_53, e44_56, e44_57, e44_60, e44_61, e44_64, e44_67, e44_68, e44_69, e44_72, e44_75, e44_76, e44_79, e44_80, e44_83, e44_84, e44_87, e44_88, e44_91, e44_92, e44_95, e44_96, e44_99, xk_64 hXSx, xp_7 hXSx, h78_k hAx, h78_p53 hAx, h78_k1 hAx, xk_64 hXSx2, xp_7 hXSx2, h78_k hAx2, h78_p53 hAx2, h78_k1 hAx2, ↓reduceIte, Nat.reduceAdd, Nat.reduceLeDiff, Nat.reduceLT, Nat.reduceEqDiff, not_false_eq_true, false_or, true_or, or_true, or_false, n0_e, n1_ne, n1_11, bI_z, bI_1, bI_fo, va_rf_some, aBk_1, aBk_0, nI_add, nI_mul, hk_si, hp_si, hl_si, hk_sp, hk_sl, hk_cp, hp_cp, x_guests bx, g1, g2, x78_in bx.H g2, q1', q2, bx.t, bx2.t, e2, e3, q3]
            · rw [hs, if_neg (fun z => by rw [ekk] at z; exact z.2.elim q2 (Int32.not_lt.mpr q3))]
          · refine ⟨(nI j, x3), fun d => ?_, ?_, (o.trans o2).trans o3⟩
            · refine (e44_16).trans ?_
              simp only [e44_0, e44_1, e44_2, e44_3, e44_6, e44_9, e44_10, e44_11, e44_13, e44_14, e44_15, e44_17, e44_18, e44_21, e44_24, e44_25, e44_28, e44_31, e44_32, e44_33, e44_36, e44_37, e44_40, e44_41, e44_44, e44_45, e44_48, e44_49, e44_52, e44_53, e44_56, e44_57, e44_60, e44_61, e44_64, e44_67, e44_68, e44_69, e44_72, e44_75, e44_76, e44_79, e44_80, e44_83, e44_84, e44_87, e44_88, e44_91, e44_92, e44_95, e44_96, e44_99, xk_64 hXSx, xp_7 hXSx, h78_k hAx, h78_p53 hAx, h78_k1 hAx, xk_64 hXSx2, xp_7 hXSx2, h78_k hAx2, h78_p53 hAx2, h78_k1 hAx2, ↓reduceIte, Nat.reduceAdd, Nat.reduceLeDiff, Nat.reduceLT, Nat.reduceEqDiff, not_false_eq_true, false_or, true_or, or_true, or_false, n0_e, n1_ne, n1_11, bI_z, bI_1, bI_fo, va_rf_some, aBk_1, aBk_0, nI_add, nI_mul, hk_si, hp_si, hl_si, hk_sp, hk_sl, hk_cp, hp_cp, x_guests bx, g1, g2, x78_in bx.H g2, q1', q2, bx.t, bx2.t, e2, e3, q3]
            · rw [hs, if_pos ⟨q1, Or.inr (by rw [ekk]; exact Int32.not_le.mp q3)⟩]
      · have q1' : w j < 0 := Int32.not_le.mp q1
        refine ⟨(b, x), fun d => ?_, ?_, o⟩
        · refine (e44_16).trans ?_
          simp only [e44_0, e44_1, e44_2, e44_3, e44_6, e44_9, e44_10, e44_11, e44_13, e44_14, e44_15, e44_17, e44_18, e44_21, e44_24, e44_25, e44_28, e44_31, e44_32, e44_33, e44_36, e44_37, e44_40, e44_41, e44_44, e44_45, e44_48, e44_49, e44_52, e44_53, e44_56, e44_57, e44_60, e44_61, e44_64, e44_67, e44_68, e44_69, e44_72, e44_75, e44_76, e44_79, e44_80, e44_83, e44_84, e44_87, e44_88, e44_91, e44_92, e44_95, e44_96, e44_99, xk_64 hXSx, xp_7 hXSx, h78_k hAx, h78_p53 hAx, h78_k1 hAx, ↓reduceIte, Nat.reduceAdd, Nat.reduceLeDiff, Nat.reduceLT, Nat.reduceEqDiff, not_false_eq_true, false_or, true_or, or_true, or_false, n0_e, n1_ne, n1_11, bI_z, bI_1, bI_fo, va_rf_some, aBk_1, aBk_0, nI_add, nI_mul, hk_si, hp_si, hl_si, hk_sp, hk_sl, hk_cp, hp_cp, x_guests bx, g1, g2, x78_in bx.H g2, q1']
        · rw [hs, if_neg (fun z => q1 z.1)])
    obtain ⟨b, y⟩ := y
    have ey : b = pyr_ T w := ey
    have oy : On (HE 78) h y := oy
    have by' := hB.onQ (oy.mono (fun _ _ q => q.Q))
    have hXSy := by'.S
    have hAy := by'.H.s
    have hc : pyr_ T w = -2 ∨ ∃ k, k < ng_ T ∧ pyr_ T w = nI k := pyr_c (T := T) (w := w) (ng_ T)
    rw [← ey] at hc ⊢
    obtain ⟨c, hcc, rfl⟩ := in_n (by decide) hq
    have oo : On QX h y := oy.mono (fun _ _ q => q.Q)
    rcases hc with e2 | ⟨k, hk, e2⟩
    · have e3 : b < 0 := by rw [e2]; decide
      refine ⟨y, fun d => ?_, oo⟩
      rw [if_pos (Or.inl e3)]
      simp only [e44_0, e44_1, e44_2, e44_3, e44_6, e44_9, e44_10, e44_11, e44_13, e44_14, e44_15, e44_17, e44_18, e44_21, e44_24, e44_25, e44_28, e44_31, e44_32, e44_33, e44_36, e44_37, e44_40, e44_41, e44_44, e44_45, e44_48, e44_49, e44_52, e44_53, e44_56, e44_57, e44_60, e44_61, e44_64, e44_67, e44_68, e44_69, e44_72, e44_75, e44_76, e44_79, e44_80, e44_83, e44_84, e44_87, e44_88, e44_91, e44_92, e44_95, e44_96, e44_99, xk_64 hXS, xp_7 hXS, ↓reduceIte, Nat.reduceAdd, Nat.reduceLeDiff, Nat.reduceLT, Nat.reduceEqDiff, not_false_eq_true, false_or, true_or, or_true, or_false, n0_e, n1_ne, n1_11, bI_1, bI_fo, va_rf_some, aBk_1, aBk_0, nI_add, nI_mul, hk_si, hp_si, hl_si, hk_sp, hk_sl, hk_cp, hp_cp, x_isIn, hq, bI_z, reduceCtorEq]
      refine (e d).trans ?_
      refine (e44_16).trans ?_
      simp only [e44_0, e44_1, e44_2, e44_3, e44_6, e44_9, e44_10, e44_11, e44_13, e44_14, e44_15, e44_17, e44_18, e44_21, e44_24, e44_25, e44_28, e44_31, e44_32, e44_33, e44_36, e44_37, e44_40, e44_41, e44_44, e44_45, e44_48, e44_49, e44_52, e44_53, e44_56, e44_57, e44_60, e44_61, e44_64, e44_67, e44_68, e44_69, e44_72, e44_75, e44_76, e44_79, e44_80, e44_83, e44_84, e44_87, e44_88, e44_91, e44_92, e44_95, e44_96, e44_99, xk_64 hXSy, xp_7 hXSy, ↓reduceIte, Nat.reduceAdd, Nat.reduceLeDiff, Nat.reduceLT, Nat.reduceEqDiff, not_false_eq_true, false_or, true_or, or_true, or_false, n0_e, n1_ne, n1_11, bI_z, bI_1, bI_fo, va_rf_some, aBk_1, aBk_0, nI_add, nI_mul, hk_si, hp_si, hl_si, hk_sp, hk_sl, hk_cp, hp_cp, x_guests by', Int32.le_refl, e3]
    · have e3 : ¬ b < 0 := by rw [e2]; exact nI_pos (by omega)
      have ekk : kk b = k := by rw [e2]; exact kk_n (by omega)
      obtain ⟨y2, e4, o4⟩ := x_hpays ha78 by'.X hW by'.H hk
      rw [← e2] at e4
      have hcq : c = 0 ∨ c = 1 := by omega
      rcases hcq with rfl | rfl
      · refine ⟨y, fun d => ?_, oo⟩
        rw [if_pos (Or.inr rfl)]
        simp only [e44_0, e44_1, e44_2, e44_3, e44_6, e44_9, e44_10, e44_11, e44_13, e44_14, e44_15, e44_17, e44_18, e44_21, e44_24, e44_25, e44_28, e44_31, e44_32, e44_33, e44_36, e44_37, e44_40, e44_41, e44_44, e44_45, e44_48, e44_49, e44_52, e44_53, e44_56, e44_57, e44_60, e44_61, e44_64, e44_67, e44_68, e44_69, e44_72, e44_75, e44_76, e44_79, e44_80, e44_83, e44_84, e44_87, e44_88, e44_91, e44_92, e44_95, e44_96, e44_99, xk_64 hXS, xp_7 hXS, ↓reduceIte, Nat.reduceAdd, Nat.reduceLeDiff, Nat.reduceLT, Nat.reduceEqDiff, not_false_eq_true, false_or, true_or, or_true, or_false, n0_e, n1_ne, n1_11, bI_1, bI_fo, va_rf_some, aBk_1, aBk_0, nI_add, nI_mul, hk_si, hp_si, hl_si, hk_sp, hk_sl, hk_cp, hp_cp, x_isIn, hq, bI_z, reduceCtorEq]
        refine (e d).trans ?_
        refine (e44_16).trans ?_
        simp only [e44_0, e44_1, e44_2, e44_3, e44_6, e44_9, e44_10, e44_11, e44_13, e44_14, e44_15, e44_17, e44_18, e44_21, e44_24, e44_25, e44_28, e44_31, e44_32, e44_33, e44_36, e44_37, e44_40, e44_41, e44_44, e44_45, e44_48, e44_49, e44_52, e44_53, e44_56, e44_57, e44_60, e44_61, e44_64, e44_67, e44_68, e44_69, e44_72, e44_75, e44_76, e44_79, e44_80, e44_83, e44_84, e44_87, e44_88, e44_91, e44_92, e44_95, e44_96, e44_99, xk_64 hXSy, xp_7 hXSy, ↓reduceIte, Nat.reduceAdd, Nat.reduceLeDiff, Nat.reduceLT, Nat.reduceEqDiff, not_false_eq_true, false_or, true_or, or_true, or_false, n1_ne, n1_11, bI_z, bI_1, bI_fo, va_rf_some, aBk_1, aBk_0, nI_add, nI_mul, hk_si, hp_si, hl_si, hk_sp, hk_sl, hk_cp, hp_cp, x_guests by', Int32.le_refl, e3, n0_e]
      · refine ⟨y2, fun d => ?_, oo.trans (o4.mono (fun _ _ q => q.Q))⟩
        rw [if_neg (fun z => z.elim e3 (by decide)), ekk]
        simp only [e44_0, e44_1, e44_2, e44_3, e44_6, e44_9, e44_10, e44_11, e44_13, e44_14, e44_15, e44_17, e44_18, e44_21, e44_24, e44_25, e44_28, e44_31, e44_32, e44_33, e44_36, e44_37, e44_40, e44_41, e44_44, e44_45, e44_48, e44_49, e44_52, e44_53, e44_56, e44_57, e44_60, e44_61, e44_64, e44_67, e44_68, e44_69, e44_72, e44_75, e44_76, e44_79, e44_80, e44_83, e44_84, e44_87, e44_88, e44_91, e44_92, e44_95, e44_96, e44_99, xk_64 hXS, xp_7 hXS, ↓reduceIte, Nat.reduceAdd, Nat.reduceLeDiff, Nat.reduceLT, Nat.reduceEqDiff, not_false_eq_true, false_or, true_or, or_true, or_false, n0_e, n1_ne, n1_11, bI_1, bI_fo, va_rf_some, aBk_1, aBk_0, nI_add, nI_mul, hk_si, hp_si, hl_si, hk_sp, hk_sl, hk_cp, hp_cp, x_isIn, hq, bI_z, reduceCtorEq]
        refine (e d).trans ?_
        refine (e44_16).trans ?_
        simp only [e44_0, e44_1, e44_2, e44_3, e44_6, e44_9, e44_10, e44_11, e44_13, e44_14, e44_15, e44_17, e44_18, e44_21, e44_24, e44_25, e44_28, e44_31, e44_32, e44_33, e44_36, e44_37, e44_40, e44_41, e44_44, e44_45, e44_48, e44_49, e44_52, e44_53, e44_56, e44_57, e44_60, e44_61, e44_64, e44_67, e44_68, e44_69, e44_72, e44_75, e44_76, e44_79, e44_80, e44_83, e44_84, e44_87, e44_88, e44_91, e44_92, e44_95, e44_96, e44_99, xk_64 hXSy, xp_7 hXSy, h78_k hAy, h78_p53 hAy, h78_k1 hAy, ↓reduceIte, Nat.reduceAdd, Nat.reduceLeDiff, Nat.reduceLT, Nat.reduceEqDiff, not_false_eq_true, false_or, true_or, or_true, or_false, n0_e, n1_11, bI_z, bI_1, bI_fo, va_rf_some, aBk_1, aBk_0, nI_add, nI_mul, hk_si, hp_si, hl_si, hk_sp, hk_sl, hk_cp, hp_cp, x_guests by', Int32.le_refl, e3, n1_ne, by'.t, e4]
theorem add0 (x : Int32) : x + nI 0 = x := by rw [nI_0]; exact Int32.add_zero x
theorem x_idle (hB : XB h T w tx sa ga la qs qg) : (run (d + 4) 45 0 [.ref 64, aU, aU] [] h) = some (.returned (some (.int (qIdl T w))), h) := by
  have hXS := hB.S
  have hA := hB.H.s
  have hT := hB.X
  have h4 := hT.ns4
  simp only [e45_0, e45_1, e45_2, e45_3, e45_5, e45_6, e45_9, e45_12, e45_13, e45_14, e45_17, e45_18, e45_21, e45_24, e45_25, e45_28, e45_29, e45_32, e45_35, e45_36, e45_39, e45_42, e45_45, e45_46, e45_49, e45_50, e45_53, e45_54, e45_57, e45_58, e45_59, e45_60, e45_63, e45_66, e45_67, List.mem_cons, List.not_mem_nil, ↓reduceIte, Nat.reduceAdd, Nat.reduceLeDiff, Nat.reduceLT, Nat.reduceEqDiff, not_false_eq_true, false_or, true_or, or_true, or_false, n0_e, n1_ne, n1_11, bI_z, bI_1, bI_fo, va_rf_some, aBk_1, aBk_0, nI_add, nI_mul, hk_si, hp_si, hl_si, hk_sp, hk_sl, hk_cp, hp_cp]
  refine (run_for (F := fun j b => (run (d + 4) 45 4 [.ref 64, .int b, .int (nI j)] [] h)) (f := fun s b => if w (25 + s) = 0 then b + (lo_ T s - hT_ T w (nI s)) else b) (a := nI 0) (n := ns_ T) (fun j hj => ?_)).trans ?_
  · have g1 : ¬ nI (ns_ T) ≤ nI j := nI_ge hj (by omega)
    have j4 : j < 4 := by omega
    refine (e45_4).trans ?_
    by_cases q : w (25 + j) = 0
    · simp only [e45_0, e45_1, e45_2, e45_3, e45_5, e45_6, e45_9, e45_12, e45_13, e45_14, e45_17, e45_18, e45_21, e45_24, e45_25, e45_28, e45_29, e45_32, e45_35, e45_36, e45_39, e45_42, e45_45, e45_46, e45_49, e45_50, e45_53, e45_54, e45_57, e45_58, e45_59, e45_60, e45_63, e45_66, e45_67, xk_64 hXS, xp_7 hXS, h78_k hA, List.mem_cons, List.not_mem_nil, ↓reduceIte, Nat.reduceAdd, Nat.reduceLeDiff, Nat.reduceLT, Nat.reduceEqDiff, not_false_eq_true, false_or, true_or, or_true, or_false, n0_e, n1_ne, n1_11, bI_1, bI_fo, va_rf_some, aBk_1, aBk_0, nI_add, nI_mul, hk_si, hp_si, hl_si, hk_sp, hk_sl, hk_cp, hp_cp, x_sundays hB, g1, x_isSold ha78 hB.H j4, q, decide_true, Bool.not_true, bI_z, hB.t, hT.ktx, hT.p44, hT.ksa, x_get hT.S hj, in16 (hT.kqs hj), hT.kqs hj, hT.lo hj, x_hhours ha78 hT hB.H]
    · simp only [e45_0, e45_1, e45_2, e45_3, e45_5, e45_6, e45_9, e45_12, e45_13, e45_14, e45_17, e45_18, e45_21, e45_24, e45_25, e45_28, e45_29, e45_32, e45_35, e45_36, e45_39, e45_42, e45_45, e45_46, e45_49, e45_50, e45_53, e45_54, e45_57, e45_58, e45_59, e45_60, e45_63, e45_66, e45_67, xk_64 hXS, xp_7 hXS, h78_k hA, List.mem_cons, List.not_mem_nil, ↓reduceIte, Nat.reduceAdd, Nat.reduceLeDiff, Nat.reduceLT, Nat.reduceEqDiff, not_false_eq_true, false_or, true_or, or_true, or_false, n0_e, n1_ne, n1_11, bI_1, bI_fo, va_rf_some, aBk_1, aBk_0, nI_add, nI_mul, hk_si, hp_si, hl_si, hk_sp, hk_sl, hk_cp, hp_cp, x_sundays hB, g1, x_isSold ha78 hB.H j4, q, decide_false, Bool.not_false, bI_z, reduceCtorEq, add0]
  · refine (e45_4).trans ?_
    simp only [e45_0, e45_1, e45_2, e45_3, e45_5, e45_6, e45_9, e45_12, e45_13, e45_14, e45_17, e45_18, e45_21, e45_24, e45_25, e45_28, e45_29, e45_32, e45_35, e45_36, e45_39, e45_42, e45_45, e45_46, e45_49, e45_50, e45_53, e45_54, e45_57, e45_58, e45_59, e45_60, e45_63, e45_66, e45_67, xk_64 hXS, xp_7 hXS, List.mem_cons, List.not_mem_nil, ↓reduceIte, Nat.reduceAdd, Nat.reduceLeDiff, Nat.reduceLT, Nat.reduceEqDiff, not_false_eq_true, false_or, true_or, or_true, or_false, n0_e, n1_ne, n1_11, bI_z, bI_1, bI_fo, va_rf_some, aBk_1, aBk_0, nI_add, nI_mul, hk_si, hp_si, hl_si, hk_sp, hk_sl, hk_cp, hp_cp, x_sundays hB, Int32.le_refl]
    rfl
theorem x_gap (hB : XB h T w tx sa ga la qs qg) (s what : Int32) : (run (d + 4) 46 0 [.ref 64, .int s, .int what, aU, aU, aU, aU] [] h) = some (.returned (some (.int (qGap T w s what))), h) := by
  have hXS := hB.S
  have hT := hB.X
  unfold qGap
  cases hq : isS T s with
  | false => simp only [e46_0, e46_1, e46_2, e46_5, e46_8, e46_9, e46_10, e46_11, e46_14, e46_17, e46_18, e46_19, e46_21, e46_22, e46_23, e46_25, e46_26, e46_28, e46_29, e46_33, e46_34, e46_37, e46_40, e46_41, e46_44, e46_47, e46_50, e46_53, e46_54, e46_55, e46_57, e46_60, e46_63, e46_64, e46_67, e46_69, e46_70, e46_71, e46_73, e46_75, e46_77, e46_80, e46_83, e46_85, e46_87, e46_88, e46_89, e46_90, e46_91, e46_93, e46_95, e46_98, e46_101, e46_102, e46_105, e46_107, e46_110, e46_111, xk_64 hXS, List.mem_cons, List.not_mem_nil, ↓reduceIte, Nat.reduceAdd, Nat.reduceLeDiff, Nat.reduceLT, Nat.reduceEqDiff, not_false_eq_true, false_or, true_or, or_true, or_false, n0_e, n1_ne, n1_11, bI_1, bI_fo, va_rf_some, aBk_1, aBk_0, nI_add, nI_mul, hk_si, hp_si, hl_si, hk_sp, hk_sl, hk_cp, hp_cp, x_isSunday hB, hq, bI_z, reduceCtorEq, false_and]
  | true =>
    obtain ⟨k, hk, rfl⟩ := isS_n hT.v hq
    have h4 := hT.ns4
    cases hq2 : in_ what (nI 0) (nI 1) with
    | false => simp only [e46_0, e46_1, e46_2, e46_5, e46_8, e46_9, e46_10, e46_11, e46_14, e46_17, e46_18, e46_19, e46_21, e46_22, e46_23, e46_25, e46_26, e46_28, e46_29, e46_33, e46_34, e46_37, e46_40, e46_41, e46_44, e46_47, e46_50, e46_53, e46_54, e46_55, e46_57, e46_60, e46_63, e46_64, e46_67, e46_69, e46_70, e46_71, e46_73, e46_75, e46_77, e46_80, e46_83, e46_85, e46_87, e46_88, e46_89, e46_90, e46_91, e46_93, e46_95, e46_98, e46_101, e46_102, e46_105, e46_107, e46_110, e46_111, xk_64 hXS, List.mem_cons, List.not_mem_nil, ↓reduceIte, Nat.reduceAdd, Nat.reduceLeDiff, Nat.reduceLT, Nat.reduceEqDiff, not_false_eq_true, false_or, true_or, or_true, or_false, n0_e, n1_ne, n1_11, bI_1, bI_fo, va_rf_some, aBk_1, aBk_0, nI_add, nI_mul, hk_si, hp_si, hl_si, hk_sp, hk_sl, hk_cp, hp_cp, x_isSunday hB, hq, hq2, x_isIn, bI_z, reduceCtorEq, and_false]
    | true =>
      rw [if_pos ⟨rfl, rfl⟩]
      obtain ⟨⟨l1, l2⟩, -⟩ := hT.v.2.2.2.1 k hk
      obtain ⟨m, hm, em⟩ : ∃ m, m ≤ 24 ∧ lo_ T k = nI m := by
        refine ⟨(lo_ T k).toInt.toNat, by omega, ?_⟩
        apply Int32.toInt_inj.mp
        rw [nI_toInt (by omega)]
        omega
      have lo1 : hi_ h (qs k) 147 = nI m := (hT.lo hk).trans em
      have ek : kk (lo_ T (kk (nI k))) = m := by rw [kk_n (by omega), em, kk_n (by omega)]
      have eg : gp_ T w (nI k) = itn m (gpF T w (nI k)) (-2, nI 0, nI 0) := by unfold gp_; rw [ek]
      rw [eg]
      simp only [e46_0, e46_1, e46_2, e46_5, e46_8, e46_9, e46_10, e46_11, e46_14, e46_17, e46_18, e46_19, e46_21, e46_22, e46_23, e46_25, e46_26, e46_28, e46_29, e46_33, e46_34, e46_37, e46_40, e46_41, e46_44, e46_47, e46_50, e46_53, e46_54, e46_55, e46_57, e46_60, e46_63, e46_64, e46_67, e46_69, e46_70, e46_71, e46_73, e46_75, e46_77, e46_80, e46_83, e46_85, e46_87, e46_88, e46_89, e46_90, e46_91, e46_93, e46_95, e46_98, e46_101, e46_102, e46_105, e46_107, e46_110, e46_111, xk_64 hXS, List.mem_cons, List.not_mem_nil, ↓reduceIte, Nat.reduceAdd, Nat.reduceLeDiff, Nat.reduceLT, Nat.reduceEqDiff, not_false_eq_true, false_or, true_or, or_true, or_false, n0_e, n1_ne, n1_11, bI_1, bI_fo, va_rf_some, aBk_1, aBk_0, nI_add, nI_mul, hk_si, hp_si, hl_si, hk_sp, hk_sl, hk_cp, hp_cp, x_isSunday hB, hq, hq2, x_isIn, bI_z, reduceCtorEq]
      refine (run_for (F := fun j (a : Int32 × Int32 × Int32) => (run (d + 4) 46 31 [.ref 64, .int (nI k), .int what, .int a.1, .int a.2.1, .int a.2.2, .int (nI j)] [] h)) (f := gpF T w (nI k)) (a := (-2, nI 0, nI 0)) (n := m) (fun j hj => ?_)).trans ?_
      · have g1 : ¬ nI m ≤ nI j := nI_ge hj (by omega)
        generalize itn j (gpF T w (nI k)) (-2, nI 0, nI 0) = a
        obtain ⟨b, mo, n⟩ := a
        refine (e46_31).trans ?_
        unfold gpF
        by_cases c1 : who_ T w (nI k) (nI j) < 0
        · by_cases c2 : n + nI 1 ≤ mo
          · have c2' : ¬ mo < n + nI 1 := Int32.not_lt.mpr c2
            simp only [e46_0, e46_1, e46_2, e46_5, e46_8, e46_9, e46_10, e46_11, e46_14, e46_17, e46_18, e46_19, e46_21, e46_22, e46_23, e46_25, e46_26, e46_28, e46_29, e46_33, e46_34, e46_37, e46_40, e46_41, e46_44, e46_47, e46_50, e46_53, e46_54, e46_55, e46_57, e46_60, e46_63, e46_64, e46_67, e46_69, e46_70, e46_71, e46_73, e46_75, e46_77, e46_80, e46_83, e46_85, e46_87, e46_88, e46_89, e46_90, e46_91, e46_93, e46_95, e46_98, e46_101, e46_102, e46_105, e46_107, e46_110, e46_111, xk_64 hXS, List.mem_cons, List.not_mem_nil, ↓reduceIte, Nat.reduceAdd, Nat.reduceLeDiff, Nat.reduceLT, Nat.reduceEqDiff, not_false_eq_true, false_or, true_or, or_true, or_false, n0_e, n1_ne, n1_11, bI_z, bI_1, bI_fo, va_rf_some, aBk_1, aBk_0, nI_add, nI_mul, hk_si, hp_si, hl_si, hk_sp, hk_sl, hk_cp, hp_cp, hB.t, hT.ktx, hT.p44, hT.ksa, x_get hT.S hk, in16 (hT.kqs hk), hT.kqs hk, lo1, g1, x_whoAt hB, c1, c2, c2']
          · have c2' : mo < n + nI 1 := Int32.not_le.mp c2
            simp only [e46_0, e46_1, e46_2, e46_5, e46_8, e46_9, e46_10, e46_11, e46_14, e46_17, e46_18, e46_19, e46_21, e46_22, e46_23, e46_25, e46_26, e46_28, e46_29, e46_33, e46_34, e46_37, e46_40, e46_41, e46_44, e46_47, e46_50, e46_53, e46_54, e46_55, e46_57, e46_60, e46_63, e46_64, e46_67, e46_69, e46_70, e46_71, e46_73, e46_75, e46_77, e46_80, e46_83, e46_85, e46_87, e46_88, e46_89, e46_90, e46_91, e46_93, e46_95, e46_98, e46_101, e46_102, e46_105, e46_107, e46_110, e46_111, xk_64 hXS, List.mem_cons, List.not_mem_nil, ↓reduceIte, Nat.reduceAdd, Nat.reduceLeDiff, Nat.reduceLT, Nat.reduceEqDiff, not_false_eq_true, false_or, true_or, or_true, or_false, n0_e, n1_ne, n1_11, bI_z, bI_1, bI_fo, va_rf_some, aBk_1, aBk_0, nI_add, nI_mul, hk_si, hp_si, hl_si, hk_sp, hk_sl, hk_cp, hp_cp, hB.t, hT.ktx, hT.p44, hT.ksa, x_get hT.S hk, in16 (hT.kqs hk), hT.kqs hk, lo1, g1, x_whoAt hB, c1, c2, c2']
        · by_cases c2 : nI 0 ≤ mo
          · have c2' : ¬ mo < nI 0 := Int32.not_lt.mpr c2
            simp only [e46_0, e46_1, e46_2, e46_5, e46_8, e46_9, e46_10, e46_11, e46_14, e46_17, e46_18, e46_19, e46_21, e46_22, e46_23, e46_25, e46_26, e46_28, e46_29, e46_33, e46_34, e46_37, e46_40, e46_41, e46_44, e46_47, e46_50, e46_53, e46_54, e46_55, e46_57, e46_60, e46_63, e46_64, e46_67, e46_69, e46_70, e46_71, e46_73, e46_75, e46_77, e46_80, e46_83, e46_85, e46_87, e46_88, e46_89, e46_90, e46_91, e46_93, e46_95, e46_98, e46_101, e46_102, e46_105, e46_107, e46_110, e46_111, xk_64 hXS, List.mem_cons, List.not_mem_nil, ↓reduceIte, Nat.reduceAdd, Nat.reduceLeDiff, Nat.reduceLT, Nat.reduceEqDiff, not_false_eq_true, false_or, true_or, or_true, or_false, n0_e, n1_ne, n1_11, bI_z, bI_1, bI_fo, va_rf_some, aBk_1, aBk_0, nI_add, nI_mul, hk_si, hp_si, hl_si, hk_sp, hk_sl, hk_cp, hp_cp, hB.t, hT.ktx, hT.p44, hT.ksa, x_get hT.S hk, in16 (hT.kqs hk), hT.kqs hk, lo1, g1, x_whoAt hB, c1, c2, c2']
          · have c2' : mo < nI 0 := Int32.not_le.mp c2
            simp only [e46_0, e46_1, e46_2, e46_5, e46_8, e46_9, e46_10, e46_11, e46_14, e46_17, e46_18, e46_19, e46_21, e46_22, e46_23, e46_25, e46_26, e46_28, e46_29, e46_33, e46_34, e46_37, e46_40, e46_41, e46_44, e46_47, e46_50, e46_53, e46_54, e46_55, e46_57, e46_60, e46_63, e46_64, e46_67, e46_69, e46_70, e46_71, e46_73, e46_75, e46_77, e46_80, e46_83, e46_85, e46_87, e46_88, e46_89, e46_90, e46_91, e46_93, e46_95, e46_98, e46_101, e46_102, e46_105, e46_107, e46_110, e46_111, xk_64 hXS, List.mem_cons, List.not_mem_nil, ↓reduceIte, Nat.reduceAdd, Nat.reduceLeDiff, Nat.reduceLT, Nat.reduceEqDiff, not_false_eq_true, false_or, true_or, or_true, or_false, n0_e, n1_ne, n1_11, bI_z, bI_1, bI_fo, va_rf_some, aBk_1, aBk_0, nI_add, nI_mul, hk_si, hp_si, hl_si, hk_sp, hk_sl, hk_cp, hp_cp, hB.t, hT.ktx, hT.p44, hT.ksa, x_get hT.S hk, in16 (hT.kqs hk), hT.kqs hk, lo1, g1, x_whoAt hB, c1, c2, c2']
      · generalize itn m (gpF T w (nI k)) (-2, nI 0, nI 0) = a
        obtain ⟨b, mo, n⟩ := a
        refine (e46_31).trans ?_
        obtain ⟨c, hc, rfl⟩ := in_n (by decide) hq2
        have hcc : c = 0 ∨ c = 1 := by omega
        rcases hcc with rfl | rfl
        · simp only [e46_0, e46_1, e46_2, e46_5, e46_8, e46_9, e46_10, e46_11, e46_14, e46_17, e46_18, e46_19, e46_21, e46_22, e46_23, e46_25, e46_26, e46_28, e46_29, e46_33, e46_34, e46_37, e46_40, e46_41, e46_44, e46_47, e46_50, e46_53, e46_54, e46_55, e46_57, e46_60, e46_63, e46_64, e46_67, e46_69, e46_70, e46_71, e46_73, e46_75, e46_77, e46_80, e46_83, e46_85, e46_87, e46_88, e46_89, e46_90, e46_91, e46_93, e46_95, e46_98, e46_101, e46_102, e46_105, e46_107, e46_110, e46_111, xk_64 hXS, List.mem_cons, List.not_mem_nil, ↓reduceIte, Nat.reduceAdd, Nat.reduceLeDiff, Nat.reduceLT, Nat.reduceEqDiff, not_false_eq_true, false_or, true_or, or_true, or_false, n1_ne, n1_11, bI_z, bI_1, bI_fo, va_rf_some, aBk_1, aBk_0, nI_add, nI_mul, hk_si, hp_si, hl_si, hk_sp, hk_sl, hk_cp, hp_cp, hB.t, hT.ktx, hT.p44, hT.ksa, x_get hT.S hk, in16 (hT.kqs hk), hT.kqs hk, lo1, Int32.le_refl, n0_e]
        · simp only [e46_0, e46_1, e46_2, e46_5, e46_8, e46_9, e46_10, e46_11, e46_14, e46_17, e46_18, e46_19, e46_21, e46_22, e46_23, e46_25, e46_26, e46_28, e46_29, e46_33, e46_34, e46_37, e46_40, e46_41, e46_44, e46_47, e46_50, e46_53, e46_54, e46_55, e46_57, e46_60, e46_63, e46_64, e46_67, e46_69, e46_70, e46_71, e46_73, e46_75, e46_77, e46_80, e46_83, e46_85, e46_87, e46_88, e46_89, e46_90, e46_91, e46_93, e46_95, e46_98, e46_101, e46_102, e46_105, e46_107, e46_110, e46_111, xk_64 hXS, List.mem_cons, List.not_mem_nil, ↓reduceIte, Nat.reduceAdd, Nat.reduceLeDiff, Nat.reduceLT, Nat.reduceEqDiff, not_false_eq_true, false_or, true_or, or_true, or_false, n0_e, n1_11, bI_z, bI_1, bI_fo, va_rf_some, aBk_1, aBk_0, nI_add, nI_mul, hk_si, hp_si, hl_si, hk_sp, hk_sl, hk_cp, hp_cp, hB.t, hT.ktx, hT.p44, hT.ksa, x_get hT.S hk, in16 (hT.kqs hk), hT.kqs hk, lo1, Int32.le_refl, n1_ne, n10_e]
/-- X's rows: last and count over the hours -/
def rxF (T : aTx) (w : Nat → Int32) (s : Int32) (h : Nat) (q : Int32 × Nat) : Int32 × Nat := if who_ T w s (nI h) < 0 ∨ who_ T w s (nI h) = q.1 then q else (who_ T w s (nI h), q.2 + 1)
def rx_ (T : aTx) (w : Nat → Int32) (s : Int32) (h : Nat) : Int32 × Nat := itn h (rxF T w s) (-1, 0)
def rxP (T : aTx) (w : Nat → Int32) (s i : Int32) (h : Nat) : Bool := !(decide (who_ T w s (nI h) < 0)) && !(decide (who_ T w s (nI h) = (rx_ T w s h).1)) && decide (nI (rx_ T w s h).2 = i)
def qRowX (T : aTx) (w : Nat → Int32) (s i : Int32) : Int32 := if isS T s = true ∧ 0 ≤ i then (match fnd (rxP T w s i) 24 0 with
  | some h => who_ T w s (nI h)
  | none => -1) else -1
theorem x_row (hB : XB h T w tx sa ga la qs qg) (s i : Int32) : (run (d + 4) 42 0 [.ref 64, .int s, .int i, aU, aU, aU, aU] [] h) = some (.returned (some (.int (qRowX T w s i))), h) := by
  have hXS := hB.S
  have hT := hB.X
  unfold qRowX
  cases hq : isS T s with
  | false => simp only [e42_0, e42_1, e42_2, e42_5, e42_8, e42_9, e42_12, e42_13, e42_14, e42_15, e42_16, e42_17, e42_19, e42_20, e42_24, e42_26, e42_29, e42_30, e42_31, e42_33, e42_36, e42_38, e42_40, e42_43, e42_45, e42_46, e42_49, e42_52, e42_54, e42_55, e42_58, e42_60, e42_61, e42_63, e42_64, e42_67, e42_70, e42_73, e42_74, xk_64 hXS, ↓reduceIte, Nat.reduceAdd, Nat.reduceLeDiff, Nat.reduceLT, Nat.reduceEqDiff, not_false_eq_true, false_or, true_or, or_true, or_false, n0_e, n1_ne, n1_11, bI_1, bI_fo, va_rf_some, aBk_1, aBk_0, nI_add, nI_mul, hk_si, hp_si, hl_si, hk_sp, hk_sl, hk_cp, hp_cp, x_isSunday hB, hq, bI_z, reduceCtorEq, false_and]
  | true =>
    by_cases q : 0 ≤ i
    · rw [if_pos ⟨rfl, q⟩]
      have key := run_findd (F := fun d j (x : Value) => (run (d + 4) 42 22 [.ref 64, .int s, .int i, .int (rx_ T w s j).1, .int (nI (rx_ T w s j).2), .int (nI j), x] [] h)) (R := fun d j (x : Value) => some (.returned (some (.int (who_ T w s (nI j)))), h)) (I := fun j x => True) (Q := fun j x => True) (P := rxP T w s i) (n := 24) (x := aU) trivial (fun j x hj _ => by
        have g1 : ¬ nI 24 ≤ nI j := nI_ge hj (by decide)
        have hc : rx_ T w s (j + 1) = rxF T w s j (rx_ T w s j) := rfl
        unfold rxP
        rw [hc]
        generalize rx_ T w s j = qq
        obtain ⟨la', n⟩ := qq
        unfold rxF
        by_cases c1 : who_ T w s (nI j) < 0
        · simp only [c1, decide_true, Bool.not_true, Bool.false_and, true_or, ↓reduceIte]
          rw [if_neg (by decide)]
          refine ⟨.int (who_ T w s (nI j)), fun d => ?_, trivial⟩
          refine (e42_22).trans ?_
          simp only [e42_0, e42_1, e42_2, e42_5, e42_8, e42_9, e42_12, e42_13, e42_14, e42_15, e42_16, e42_17, e42_19, e42_20, e42_24, e42_26, e42_29, e42_30, e42_31, e42_33, e42_36, e42_38, e42_40, e42_43, e42_45, e42_46, e42_49, e42_52, e42_54, e42_55, e42_58, e42_60, e42_61, e42_63, e42_64, e42_67, e42_70, e42_73, e42_74, xk_64 hXS, ↓reduceIte, Nat.reduceAdd, Nat.reduceLeDiff, Nat.reduceLT, Nat.reduceEqDiff, not_false_eq_true, false_or, true_or, or_true, or_false, n0_e, n1_ne, n1_11, bI_z, bI_1, bI_fo, va_rf_some, aBk_1, aBk_0, nI_add, nI_mul, hk_si, hp_si, hl_si, hk_sp, hk_sl, hk_cp, hp_cp, g1, x_whoAt hB, c1]
        · by_cases c2 : who_ T w s (nI j) = la'
          · have c1' : ¬ la' < 0 := by rw [← c2]; exact c1
            simp only [c1, c1', c2, decide_true, decide_false, Bool.not_true, Bool.not_false, Bool.true_and, Bool.false_and, or_true, ↓reduceIte]
            rw [if_neg (by decide)]
            refine ⟨.int (who_ T w s (nI j)), fun d => ?_, trivial⟩
            refine (e42_22).trans ?_
            simp only [e42_0, e42_1, e42_2, e42_5, e42_8, e42_9, e42_12, e42_13, e42_14, e42_15, e42_16, e42_17, e42_19, e42_20, e42_24, e42_26, e42_29, e42_30, e42_31, e42_33, e42_36, e42_38, e42_40, e42_43, e42_45, e42_46, e42_49, e42_52, e42_54, e42_55, e42_58, e42_60, e42_61, e42_63, e42_64, e42_67, e42_70, e42_73, e42_74, xk_64 hXS, ↓reduceIte, Nat.reduceAdd, Nat.reduceLeDiff, Nat.reduceLT, Nat.reduceEqDiff, not_false_eq_true, false_or, true_or, or_true, or_false, n0_e, n1_ne, n1_11, bI_z, bI_1, bI_fo, va_rf_some, aBk_1, aBk_0, nI_add, nI_mul, hk_si, hp_si, hl_si, hk_sp, hk_sl, hk_cp, hp_cp, g1, x_whoAt hB, c1, c1', c2]
          · by_cases c3 : nI n = i
            · simp only [c1, c2, c3, decide_true, decide_false, Bool.not_false, Bool.true_and, or_self, ↓reduceIte]
              refine ⟨x, fun d => ?_, trivial⟩
              refine (e42_22).trans ?_
              simp only [e42_0, e42_1, e42_2, e42_5, e42_8, e42_9, e42_12, e42_13, e42_14, e42_15, e42_16, e42_17, e42_19, e42_20, e42_24, e42_26, e42_29, e42_30, e42_31, e42_33, e42_36, e42_38, e42_40, e42_43, e42_45, e42_46, e42_49, e42_52, e42_54, e42_55, e42_58, e42_60, e42_61, e42_63, e42_64, e42_67, e42_70, e42_73, e42_74, xk_64 hXS, ↓reduceIte, Nat.reduceAdd, Nat.reduceLeDiff, Nat.reduceLT, Nat.reduceEqDiff, not_false_eq_true, false_or, true_or, or_true, or_false, n0_e, n1_ne, n1_11, bI_z, bI_1, bI_fo, va_rf_some, aBk_1, aBk_0, nI_add, nI_mul, hk_si, hp_si, hl_si, hk_sp, hk_sl, hk_cp, hp_cp, g1, x_whoAt hB, c1, c2, c3]
            · simp only [c1, c2, c3, decide_false, Bool.not_false, Bool.true_and, or_self, ↓reduceIte]
              rw [if_neg (by decide)]
              refine ⟨.int (who_ T w s (nI j)), fun d => ?_, trivial⟩
              refine (e42_22).trans ?_
              simp only [e42_0, e42_1, e42_2, e42_5, e42_8, e42_9, e42_12, e42_13, e42_14, e42_15, e42_16, e42_17, e42_19, e42_20, e42_24, e42_26, e42_29, e42_30, e42_31, e42_33, e42_36, e42_38, e42_40, e42_43, e42_45, e42_46, e42_49, e42_52, e42_54, e42_55, e42_58, e42_60, e42_61, e42_63, e42_64, e42_67, e42_70, e42_73, e42_74, xk_64 hXS, ↓reduceIte, Nat.reduceAdd, Nat.reduceLeDiff, Nat.reduceLT, Nat.reduceEqDiff, not_false_eq_true, false_or, true_or, or_true, or_false, n0_e, n1_ne, n1_11, bI_z, bI_1, bI_fo, va_rf_some, aBk_1, aBk_0, nI_add, nI_mul, hk_si, hp_si, hl_si, hk_sp, hk_sl, hk_cp, hp_cp, g1, x_whoAt hB, c1, c2, c3])
      simp only [e42_0, e42_1, e42_2, e42_5, e42_8, e42_9, e42_12, e42_13, e42_14, e42_15, e42_16, e42_17, e42_19, e42_20, e42_24, e42_26, e42_29, e42_30, e42_31, e42_33, e42_36, e42_38, e42_40, e42_43, e42_45, e42_46, e42_49, e42_52, e42_54, e42_55, e42_58, e42_60, e42_61, e42_63, e42_64, e42_67, e42_70, e42_73, e42_74, xk_64 hXS, ↓reduceIte, Nat.reduceAdd, Nat.reduceLeDiff, Nat.reduceLT, Nat.reduceEqDiff, not_false_eq_true, false_or, true_or, or_true, or_false, n0_e, n1_ne, n1_11, bI_1, bI_fo, va_rf_some, aBk_1, aBk_0, nI_add, nI_mul, hk_si, hp_si, hl_si, hk_sp, hk_sl, hk_cp, hp_cp, x_isSunday hB, hq, bI_z, reduceCtorEq, q]
      revert key
      cases fnd (rxP T w s i) 24 0 with
      | some j =>
        rintro ⟨y, e, -⟩
        exact e d
      | none =>
        rintro ⟨y, e, -⟩
        refine (e d).trans ?_
        refine (e42_22).trans ?_
        simp only [e42_0, e42_1, e42_2, e42_5, e42_8, e42_9, e42_12, e42_13, e42_14, e42_15, e42_16, e42_17, e42_19, e42_20, e42_24, e42_26, e42_29, e42_30, e42_31, e42_33, e42_36, e42_38, e42_40, e42_43, e42_45, e42_46, e42_49, e42_52, e42_54, e42_55, e42_58, e42_60, e42_61, e42_63, e42_64, e42_67, e42_70, e42_73, e42_74, ↓reduceIte, Nat.reduceAdd, Nat.reduceLeDiff, Nat.reduceLT, Nat.reduceEqDiff, not_false_eq_true, false_or, true_or, or_true, or_false, n0_e, n1_ne, n1_11, bI_z, bI_1, bI_fo, va_rf_some, aBk_1, aBk_0, nI_add, nI_mul, hk_si, hp_si, hl_si, hk_sp, hk_sl, hk_cp, hp_cp, Int32.le_refl]
    · rw [if_neg (fun z => q z.2)]
      simp only [e42_0, e42_1, e42_2, e42_5, e42_8, e42_9, e42_12, e42_13, e42_14, e42_15, e42_16, e42_17, e42_19, e42_20, e42_24, e42_26, e42_29, e42_30, e42_31, e42_33, e42_36, e42_38, e42_40, e42_43, e42_45, e42_46, e42_49, e42_52, e42_54, e42_55, e42_58, e42_60, e42_61, e42_63, e42_64, e42_67, e42_70, e42_73, e42_74, xk_64 hXS, ↓reduceIte, Nat.reduceAdd, Nat.reduceLeDiff, Nat.reduceLT, Nat.reduceEqDiff, not_false_eq_true, false_or, true_or, or_true, or_false, n0_e, n1_ne, n1_11, bI_1, bI_fo, va_rf_some, aBk_1, aBk_0, nI_add, nI_mul, hk_si, hp_si, hl_si, hk_sp, hk_sl, hk_cp, hp_cp, x_isSunday hB, hq, bI_z, reduceCtorEq, q]
theorem x_whoseBy (hB : XB h T w tx sa ga la qs qg) {th : Nat → Int32} {ts : Nat → Bool} {k : Nat} (hk : k ≤ 20) (ht : ∀ i, i < k → hi_ h 136 i = th i ∧ hi_ h 137 i = bI (ts i)) : (run (d + 3) 61 0 [.ref 64, .int (nI k), aU, aU, aU, aU] [] h) = some (.returned (some (.int (nI (wB_ T th ts k)))), h) := by
  have hXS := hB.S
  have hT := hB.X
  have h7 := hT.ng7
  simp only [e61_0, e61_1, e61_2, e61_3, e61_5, e61_6, e61_9, e61_12, e61_13, e61_15, e61_16, e61_20, e61_21, e61_24, e61_26, e61_29, e61_30, e61_33, e61_36, e61_37, e61_40, e61_43, e61_44, e61_47, e61_49, e61_50, e61_53, e61_54, e61_57, e61_59, e61_60, e61_63, e61_64, e61_67, e61_68, e61_70, e61_73, e61_76, e61_77, e61_79, e61_82, e61_83, e61_84, e61_85, e61_88, e61_89, e61_90, e61_91, e61_94, e61_97, e61_98, List.mem_cons, List.not_mem_nil, ↓reduceIte, Nat.reduceAdd, Nat.reduceLeDiff, Nat.reduceLT, Nat.reduceEqDiff, not_false_eq_true, false_or, true_or, or_true, or_false, n0_e, n1_ne, n1_11, bI_z, bI_1, bI_fo, va_rf_some, aBk_1, aBk_0, nI_add, nI_mul, hk_si, hp_si, hl_si, hk_sp, hk_sl, hk_cp, hp_cp]
  refine Exists.elim (run_inv (F := fun j (x : Nat × Value × Value) => (run (d + 3) 61 4 [.ref 64, .int (nI k), .int (nI x.1), .int (nI j), x.2.1, x.2.2] [] h)) (I := fun j x => x.1 = orN j (fun g => itn k (fun i b => b && (th_ T g (th i) == ts i)) true)) (n := ng_ T) (x := (0, aU, aU)) rfl (fun j x hj hI => ?_)) (fun x hh => ?_)
  · obtain ⟨a, v4, v5⟩ := x
    have ea : a = orN j (fun g => itn k (fun i b => b && (th_ T g (th i) == ts i)) true) := hI
    have g1 : ¬ nI (ng_ T) ≤ nI j := nI_ge hj (by omega)
    refine ⟨(bif itn k (fun i b => b && (th_ T j (th i) == ts i)) true then a ||| 2 ^ j else a, .int (bI (itn k (fun i b => b && (th_ T j (th i) == ts i)) true)), .int (nI k)), ?_, by rw [ea]; rfl⟩
    refine (e61_4).trans ?_
    simp only [e61_0, e61_1, e61_2, e61_3, e61_5, e61_6, e61_9, e61_12, e61_13, e61_15, e61_16, e61_20, e61_21, e61_24, e61_26, e61_29, e61_30, e61_33, e61_36, e61_37, e61_40, e61_43, e61_44, e61_47, e61_49, e61_50, e61_53, e61_54, e61_57, e61_59, e61_60, e61_63, e61_64, e61_67, e61_68, e61_70, e61_73, e61_76, e61_77, e61_79, e61_82, e61_83, e61_84, e61_85, e61_88, e61_89, e61_90, e61_91, e61_94, e61_97, e61_98, xk_64 hXS, xp_19 hXS, xk_136 hXS, xp_20 hXS, xk_137 hXS, List.mem_cons, List.not_mem_nil, ↓reduceIte, Nat.reduceAdd, Nat.reduceLeDiff, Nat.reduceLT, Nat.reduceEqDiff, not_false_eq_true, false_or, true_or, or_true, or_false, n0_e, n1_ne, n1_11, bI_z, bI_1, bI_fo, va_rf_some, aBk_1, aBk_0, nI_add, nI_mul, hk_si, hp_si, hl_si, hk_sp, hk_sl, hk_cp, hp_cp, x_guests hB, g1]
    rw [bI_t]
    refine (run_for (F := fun i b => (run (d + 3) 61 18 [.ref 64, .int (nI k), .int (nI a), .int (nI j), .int (bI b), .int (nI i)] [] h)) (f := fun i b => b && (th_ T j (th i) == ts i)) (a := true) (n := k) (fun i hi => ?_)).trans ?_
    · obtain ⟨t1, t2⟩ := ht i hi
      have g2 : ¬ nI k ≤ nI i := nI_ge hi (by omega)
      have g3 : i < 20 := by omega
      generalize itn i (fun i b => b && (th_ T j (th i) == ts i)) true = b
      refine (e61_18).trans ?_
      cases b with
      | false =>
        simp only [e61_0, e61_1, e61_2, e61_3, e61_5, e61_6, e61_9, e61_12, e61_13, e61_15, e61_16, e61_20, e61_21, e61_24, e61_26, e61_29, e61_30, e61_33, e61_36, e61_37, e61_40, e61_43, e61_44, e61_47, e61_49, e61_50, e61_53, e61_54, e61_57, e61_59, e61_60, e61_63, e61_64, e61_67, e61_68, e61_70, e61_73, e61_76, e61_77, e61_79, e61_82, e61_83, e61_84, e61_85, e61_88, e61_89, e61_90, e61_91, e61_94, e61_97, e61_98, xk_64 hXS, xp_19 hXS, xk_136 hXS, xp_20 hXS, xk_137 hXS, List.mem_cons, List.not_mem_nil, ↓reduceIte, Nat.reduceAdd, Nat.reduceLeDiff, Nat.reduceLT, Nat.reduceEqDiff, not_false_eq_true, false_or, true_or, or_true, or_false, n0_e, n1_ne, n1_11, bI_1, bI_fo, va_rf_some, aBk_1, aBk_0, nI_add, nI_mul, hk_si, hp_si, hl_si, hk_sp, hk_sl, hk_cp, hp_cp, g2, bI_z, Bool.false_and]
        rfl
      | true =>
        cases hx : (th_ T j (th i) == ts i) with
        | true =>
          simp only [e61_0, e61_1, e61_2, e61_3, e61_5, e61_6, e61_9, e61_12, e61_13, e61_15, e61_16, e61_20, e61_21, e61_24, e61_26, e61_29, e61_30, e61_33, e61_36, e61_37, e61_40, e61_43, e61_44, e61_47, e61_49, e61_50, e61_53, e61_54, e61_57, e61_59, e61_60, e61_63, e61_64, e61_67, e61_68, e61_70, e61_73, e61_76, e61_77, e61_79, e61_82, e61_83, e61_84, e61_85, e61_88, e61_89, e61_90, e61_91, e61_94, e61_97, e61_98, xk_64 hXS, xp_19 hXS, xk_136 hXS, xp_20 hXS, xk_137 hXS, List.mem_cons, List.not_mem_nil, ↓reduceIte, Nat.reduceAdd, Nat.reduceLeDiff, Nat.reduceLT, Nat.reduceEqDiff, not_false_eq_true, false_or, true_or, or_true, or_false, n0_e, n1_ne, n1_11, bI_1, bI_fo, va_rf_some, aBk_1, aBk_0, nI_add, nI_mul, hk_si, hp_si, hl_si, hk_sp, hk_sl, hk_cp, hp_cp, g2, g3, bI_z, reduceCtorEq, hB.t, hT.ktx, hT.p45, hT.kga, x_get hT.G hj, in18 (hT.kqg hj), hT.kqg hj, t1, t2, x_isThere hT hj, bI_ieq, hx, Bool.and_self]
          rfl
        | false =>
          simp only [e61_0, e61_1, e61_2, e61_3, e61_5, e61_6, e61_9, e61_12, e61_13, e61_15, e61_16, e61_20, e61_21, e61_24, e61_26, e61_29, e61_30, e61_33, e61_36, e61_37, e61_40, e61_43, e61_44, e61_47, e61_49, e61_50, e61_53, e61_54, e61_57, e61_59, e61_60, e61_63, e61_64, e61_67, e61_68, e61_70, e61_73, e61_76, e61_77, e61_79, e61_82, e61_83, e61_84, e61_85, e61_88, e61_89, e61_90, e61_91, e61_94, e61_97, e61_98, xk_64 hXS, xp_19 hXS, xk_136 hXS, xp_20 hXS, xk_137 hXS, List.mem_cons, List.not_mem_nil, ↓reduceIte, Nat.reduceAdd, Nat.reduceLeDiff, Nat.reduceLT, Nat.reduceEqDiff, not_false_eq_true, false_or, true_or, or_true, or_false, n0_e, n1_ne, n1_11, bI_1, bI_fo, va_rf_some, aBk_1, aBk_0, nI_add, nI_mul, hk_si, hp_si, hl_si, hk_sp, hk_sl, hk_cp, hp_cp, g2, g3, bI_z, reduceCtorEq, hB.t, hT.ktx, hT.p45, hT.kga, x_get hT.G hj, in18 (hT.kqg hj), hT.kqg hj, t1, t2, x_isThere hT hj, bI_ieq, hx, Bool.and_false]
          rfl
    · refine (e61_18).trans ?_
      cases itn k (fun i b => b && (th_ T j (th i) == ts i)) true with
      | true => simp only [e61_0, e61_1, e61_2, e61_3, e61_5, e61_6, e61_9, e61_12, e61_13, e61_15, e61_16, e61_20, e61_21, e61_24, e61_26, e61_29, e61_30, e61_33, e61_36, e61_37, e61_40, e61_43, e61_44, e61_47, e61_49, e61_50, e61_53, e61_54, e61_57, e61_59, e61_60, e61_63, e61_64, e61_67, e61_68, e61_70, e61_73, e61_76, e61_77, e61_79, e61_82, e61_83, e61_84, e61_85, e61_88, e61_89, e61_90, e61_91, e61_94, e61_97, e61_98, List.mem_cons, List.not_mem_nil, ↓reduceIte, Nat.reduceAdd, Nat.reduceLeDiff, Nat.reduceLT, Nat.reduceEqDiff, not_false_eq_true, false_or, true_or, or_true, or_false, n0_e, n1_ne, n1_11, bI_1, bI_fo, va_rf_some, aBk_1, aBk_0, nI_add, nI_mul, hk_si, hp_si, hl_si, hk_sp, hk_sl, hk_cp, hp_cp, Int32.le_refl, bI_z, reduceCtorEq, shl_1 j (show j < 32 by omega), nI_or, cond_true]
      | false => simp only [e61_0, e61_1, e61_2, e61_3, e61_5, e61_6, e61_9, e61_12, e61_13, e61_15, e61_16, e61_20, e61_21, e61_24, e61_26, e61_29, e61_30, e61_33, e61_36, e61_37, e61_40, e61_43, e61_44, e61_47, e61_49, e61_50, e61_53, e61_54, e61_57, e61_59, e61_60, e61_63, e61_64, e61_67, e61_68, e61_70, e61_73, e61_76, e61_77, e61_79, e61_82, e61_83, e61_84, e61_85, e61_88, e61_89, e61_90, e61_91, e61_94, e61_97, e61_98, List.mem_cons, List.not_mem_nil, ↓reduceIte, Nat.reduceAdd, Nat.reduceLeDiff, Nat.reduceLT, Nat.reduceEqDiff, not_false_eq_true, false_or, true_or, or_true, or_false, n0_e, n1_ne, n1_11, bI_1, bI_fo, va_rf_some, aBk_1, aBk_0, nI_add, nI_mul, hk_si, hp_si, hl_si, hk_sp, hk_sl, hk_cp, hp_cp, Int32.le_refl, bI_z, nI_or, Nat.or_zero, cond_false]
  · obtain ⟨a, v4, v5⟩ := x
    obtain ⟨e, ea⟩ := hh
    have ea : a = wB_ T th ts k := ea
    refine e.trans ?_
    rw [← ea]
    refine (e61_4).trans ?_
    simp only [e61_0, e61_1, e61_2, e61_3, e61_5, e61_6, e61_9, e61_12, e61_13, e61_15, e61_16, e61_20, e61_21, e61_24, e61_26, e61_29, e61_30, e61_33, e61_36, e61_37, e61_40, e61_43, e61_44, e61_47, e61_49, e61_50, e61_53, e61_54, e61_57, e61_59, e61_60, e61_63, e61_64, e61_67, e61_68, e61_70, e61_73, e61_76, e61_77, e61_79, e61_82, e61_83, e61_84, e61_85, e61_88, e61_89, e61_90, e61_91, e61_94, e61_97, e61_98, xk_64 hXS, xp_19 hXS, xk_136 hXS, xp_20 hXS, xk_137 hXS, List.mem_cons, List.not_mem_nil, ↓reduceIte, Nat.reduceAdd, Nat.reduceLeDiff, Nat.reduceLT, Nat.reduceEqDiff, not_false_eq_true, false_or, true_or, or_true, or_false, n0_e, n1_ne, n1_11, bI_z, bI_1, bI_fo, va_rf_some, aBk_1, aBk_0, nI_add, nI_mul, hk_si, hp_si, hl_si, hk_sp, hk_sl, hk_cp, hp_cp, x_guests hB, Int32.le_refl]
theorem wB_128 (hV : TV T) {th : Nat → Int32} {ts : Nat → Bool} {k : Nat} : wB_ T th ts k < 128 := Nat.lt_of_lt_of_le (orN_lt _ _) (Nat.pow_le_pow_right (n := 2) (by decide) hV.2.1)
theorem x_whose (hB : XB h T w tx sa ga la qs qg) {th : Nat → Int32} {ts : Nat → Bool} {m : Nat} (hm : m ≤ 20) (em : hi_ h 64 18 = nI m) (ht : ∀ i, i < m → hi_ h 136 i = th i ∧ hi_ h 137 i = bI (ts i)) (k what : Int32) : (run (d + 4) 60 0 [.ref 64, .int k, .int what, aU] [] h) = some (.returned (some (.int (qWho T th ts m k what))), h) := by
  have hXS := hB.S
  unfold qWho
  cases hq : in_ k (nI 0) (nI m) with
  | false => simp only [e60_0, e60_1, e60_2, e60_3, e60_6, e60_9, e60_12, e60_13, e60_14, e60_15, e60_18, e60_21, e60_22, e60_23, e60_24, e60_25, e60_28, e60_29, e60_30, e60_33, e60_34, e60_37, e60_40, e60_41, xk_64 hXS, ↓reduceIte, Nat.reduceAdd, Nat.reduceLeDiff, Nat.reduceLT, Nat.reduceEqDiff, not_false_eq_true, false_or, true_or, or_true, or_false, n0_e, n1_ne, n1_11, bI_1, bI_fo, va_rf_some, aBk_1, aBk_0, nI_add, nI_mul, hk_si, hp_si, hl_si, hk_sp, hk_sl, hk_cp, hp_cp, em, x_isIn, hq, bI_z, reduceCtorEq, false_and]
  | true =>
    cases hq2 : in_ what (nI 0) (nI 1) with
    | false => simp only [e60_0, e60_1, e60_2, e60_3, e60_6, e60_9, e60_12, e60_13, e60_14, e60_15, e60_18, e60_21, e60_22, e60_23, e60_24, e60_25, e60_28, e60_29, e60_30, e60_33, e60_34, e60_37, e60_40, e60_41, xk_64 hXS, ↓reduceIte, Nat.reduceAdd, Nat.reduceLeDiff, Nat.reduceLT, Nat.reduceEqDiff, not_false_eq_true, false_or, true_or, or_true, or_false, n0_e, n1_ne, n1_11, bI_1, bI_fo, va_rf_some, aBk_1, aBk_0, nI_add, nI_mul, hk_si, hp_si, hl_si, hk_sp, hk_sl, hk_cp, hp_cp, em, x_isIn, hq, hq2, bI_z, reduceCtorEq, and_false]
    | true =>
      obtain ⟨j, hj, rfl⟩ := in_n (by omega) hq
      rw [if_pos ⟨rfl, rfl⟩, kk_n (by omega)]
      have ew := fun d => x_whoseBy (d := d) hB (th := th) (ts := ts) (k := j) (by omega) (fun i hi => ht i (by omega))
      obtain ⟨c, hc, rfl⟩ := in_n (by decide) hq2
      have hcc : c = 0 ∨ c = 1 := by omega
      rcases hcc with rfl | rfl
      · simp only [e60_0, e60_1, e60_2, e60_3, e60_6, e60_9, e60_12, e60_13, e60_14, e60_15, e60_18, e60_21, e60_22, e60_23, e60_24, e60_25, e60_28, e60_29, e60_30, e60_33, e60_34, e60_37, e60_40, e60_41, xk_64 hXS, ↓reduceIte, Nat.reduceAdd, Nat.reduceLeDiff, Nat.reduceLT, Nat.reduceEqDiff, not_false_eq_true, false_or, true_or, or_true, or_false, n1_ne, n1_11, bI_1, bI_fo, va_rf_some, aBk_1, aBk_0, nI_add, nI_mul, hk_si, hp_si, hl_si, hk_sp, hk_sl, hk_cp, hp_cp, em, x_isIn, hq, hq2, bI_z, reduceCtorEq, ew, n0_e, x_bits (wB_128 hB.X.v)]
      · simp only [e60_0, e60_1, e60_2, e60_3, e60_6, e60_9, e60_12, e60_13, e60_14, e60_15, e60_18, e60_21, e60_22, e60_23, e60_24, e60_25, e60_28, e60_29, e60_30, e60_33, e60_34, e60_37, e60_40, e60_41, xk_64 hXS, ↓reduceIte, Nat.reduceAdd, Nat.reduceLeDiff, Nat.reduceLT, Nat.reduceEqDiff, not_false_eq_true, false_or, true_or, or_true, or_false, n0_e, n1_11, bI_1, bI_fo, va_rf_some, aBk_1, aBk_0, nI_add, nI_mul, hk_si, hp_si, hl_si, hk_sp, hk_sl, hk_cp, hp_cp, em, x_isIn, hq, hq2, bI_z, reduceCtorEq, ew, n1_ne, n10_e]
/-- X's look -/
def lxF (T : aTx) (set : Nat) (h : Nat) (q : Int32 × Int32) : Int32 × Int32 := if lkW T set h < q.2 then (nI h, lkW T set h) else q
def qLkX (T : aTx) (th : Nat → Int32) (ts : Nat → Bool) (m : Nat) (k : Int32) : Int32 := if in_ k (nI 0) (nI m) = true then (if wB_ T th ts (kk k) = 0 then -2 else (itn 24 (lxF T (wB_ T th ts (kk k))) (-2, nI 1000000)).1) else -1
theorem maxW (n b : Int32) : max_ n (b - n) = if n ≤ b - n then b - n else n := by
  unfold max_
  by_cases q : n < b - n
  · rw [if_pos q, if_pos (Int32.le_of_lt q)]
  · rw [if_neg q]
    by_cases q2 : n ≤ b - n
    · rw [if_pos q2]
      exact Int32.le_antisymm q2 (Int32.not_lt.mp q)
    · rw [if_neg q2]
theorem x_look (hB : XB h T w tx sa ga la qs qg) {th : Nat → Int32} {ts : Nat → Bool} {m : Nat} (hm : m ≤ 20) (em : hi_ h 64 18 = nI m) (ht : ∀ i, i < m → hi_ h 136 i = th i ∧ hi_ h 137 i = bI (ts i)) (k : Int32) : (run (d + 4) 62 0 [.ref 64, .int k, aU, aU, aU, aU, aU, aU] [] h) = some (.returned (some (.int (qLkX T th ts m k))), h) := by
  have hXS := hB.S
  have hT := hB.X
  have h7 := hT.ng7
  unfold qLkX
  cases hq : in_ k (nI 0) (nI m) with
  | false => simp only [e62_0, e62_1, e62_2, e62_3, e62_6, e62_9, e62_12, e62_13, e62_14, e62_15, e62_16, e62_19, e62_20, e62_22, e62_23, e62_26, e62_28, e62_29, e62_33, e62_35, e62_38, e62_39, e62_42, e62_43, e62_45, e62_46, e62_50, e62_51, e62_54, e62_57, e62_59, e62_60, e62_62, e62_63, e62_64, e62_65, e62_66, e62_69, e62_70, e62_73, e62_76, e62_78, e62_81, e62_84, e62_86, e62_89, e62_92, e62_93, e62_96, e62_97, e62_98, e62_100, e62_103, e62_106, e62_108, e62_109, e62_112, e62_114, e62_115, e62_118, e62_120, e62_122, e62_124, e62_127, e62_130, e62_132, e62_133, e62_135, e62_137, e62_140, e62_143, e62_144, xk_64 hXS, List.mem_cons, List.not_mem_nil, ↓reduceIte, Nat.reduceAdd, Nat.reduceLeDiff, Nat.reduceLT, Nat.reduceEqDiff, not_false_eq_true, false_or, true_or, or_true, or_false, n0_e, n1_ne, n1_11, bI_1, bI_fo, va_rf_some, aBk_1, aBk_0, nI_add, nI_mul, hk_si, hp_si, hl_si, hk_sp, hk_sl, hk_cp, hp_cp, em, x_isIn, hq, bI_z, reduceCtorEq]
  | true =>
    obtain ⟨j, hj, rfl⟩ := in_n (by omega) hq
    rw [if_pos rfl, kk_n (by omega)]
    have ew := fun d => x_whoseBy (d := d) hB (th := th) (ts := ts) (k := j) (by omega) (fun i hi => ht i (by omega))
    have hb : wB_ T th ts j < 128 := wB_128 hT.v
    generalize wB_ T th ts j = set at ew hb ⊢
    have hb2 : set < 2147483648 := by omega
    simp only [e62_0, e62_1, e62_2, e62_3, e62_6, e62_9, e62_12, e62_13, e62_14, e62_15, e62_16, e62_19, e62_20, e62_22, e62_23, e62_26, e62_28, e62_29, e62_33, e62_35, e62_38, e62_39, e62_42, e62_43, e62_45, e62_46, e62_50, e62_51, e62_54, e62_57, e62_59, e62_60, e62_62, e62_63, e62_64, e62_65, e62_66, e62_69, e62_70, e62_73, e62_76, e62_78, e62_81, e62_84, e62_86, e62_89, e62_92, e62_93, e62_96, e62_97, e62_98, e62_100, e62_103, e62_106, e62_108, e62_109, e62_112, e62_114, e62_115, e62_118, e62_120, e62_122, e62_124, e62_127, e62_130, e62_132, e62_133, e62_135, e62_137, e62_140, e62_143, e62_144, xk_64 hXS, List.mem_cons, List.not_mem_nil, ↓reduceIte, Nat.reduceAdd, Nat.reduceLeDiff, Nat.reduceLT, Nat.reduceEqDiff, not_false_eq_true, false_or, true_or, or_true, or_false, n0_e, n1_ne, n1_11, bI_1, bI_fo, va_rf_some, aBk_1, aBk_0, nI_add, nI_mul, hk_si, hp_si, hl_si, hk_sp, hk_sl, hk_cp, hp_cp, em, x_isIn, hq, bI_z, reduceCtorEq, ew]
    by_cases qz : set = 0
    · rw [if_pos qz]
      subst qz
      have g0 : ¬ nI 24 ≤ nI 0 := by decide
      refine (e62_31).trans ?_
      simp only [e62_0, e62_1, e62_2, e62_3, e62_6, e62_9, e62_12, e62_13, e62_14, e62_15, e62_16, e62_19, e62_20, e62_22, e62_23, e62_26, e62_28, e62_29, e62_33, e62_35, e62_38, e62_39, e62_42, e62_43, e62_45, e62_46, e62_50, e62_51, e62_54, e62_57, e62_59, e62_60, e62_62, e62_63, e62_64, e62_65, e62_66, e62_69, e62_70, e62_73, e62_76, e62_78, e62_81, e62_84, e62_86, e62_89, e62_92, e62_93, e62_96, e62_97, e62_98, e62_100, e62_103, e62_106, e62_108, e62_109, e62_112, e62_114, e62_115, e62_118, e62_120, e62_122, e62_124, e62_127, e62_130, e62_132, e62_133, e62_135, e62_137, e62_140, e62_143, e62_144, xk_64 hXS, List.mem_cons, List.not_mem_nil, ↓reduceIte, Nat.reduceAdd, Nat.reduceLeDiff, Nat.reduceLT, Nat.reduceEqDiff, not_false_eq_true, false_or, true_or, or_true, or_false, n1_ne, n1_11, bI_z, bI_1, bI_fo, va_rf_some, aBk_1, aBk_0, nI_add, nI_mul, hk_si, hp_si, hl_si, hk_sp, hk_sl, hk_cp, hp_cp, g0, n0_e]
    · rw [if_neg qz]
      have qz' : (nI set = 0) = False := by rw [nI_z hb2]; exact eq_false qz
      refine Exists.elim (run_inv (F := fun i (x : (Int32 × Int32) × Value × Value) => (run (d + 4) 62 31 [.ref 64, .int (nI j), .int (nI set), .int x.1.1, .int x.1.2, .int (nI i), x.2.1, x.2.2] [] h)) (I := fun i x => x.1 = itn i (lxF T set) (-2, nI 1000000)) (n := 24) (x := ((-2, nI 1000000), aU, aU)) rfl (fun i x hi hx => ?_)) (fun x hh => ?_)
      · obtain ⟨⟨b, f⟩, v6, v7⟩ := x
        have ex : (b, f) = itn i (lxF T set) (-2, nI 1000000) := hx
        have g1 : ¬ nI 24 ≤ nI i := nI_ge hi (by decide)
        have inner : (run (d + 4) 62 48 [.ref 64, .int (nI j), .int (nI set), .int b, .int f, .int (nI i), .int (nI 0), .int (nI 0)] [] h) = (run (d + 4) 62 48 [.ref 64, .int (nI j), .int (nI set), .int b, .int f, .int (nI i), .int (nI (lkN T set i)), .int (nI (ng_ T))] [] h) := by
          refine run_for (F := fun g a => (run (d + 4) 62 48 [.ref 64, .int (nI j), .int (nI set), .int b, .int f, .int (nI i), .int (nI a), .int (nI g)] [] h)) (f := fun g a => bif set.testBit g && th_ T g (nI i) then a + 1 else a) (a := 0) (n := ng_ T) (fun g hg => ?_)
          have g2 : ¬ nI (ng_ T) ≤ nI g := nI_ge hg (by omega)
          generalize itn g (fun g a => bif set.testBit g && th_ T g (nI i) then a + 1 else a) 0 = a
          refine (e62_48).trans ?_
          cases t1 : set.testBit g with
          | false => simp only [e62_0, e62_1, e62_2, e62_3, e62_6, e62_9, e62_12, e62_13, e62_14, e62_15, e62_16, e62_19, e62_20, e62_22, e62_23, e62_26, e62_28, e62_29, e62_33, e62_35, e62_38, e62_39, e62_42, e62_43, e62_45, e62_46, e62_50, e62_51, e62_54, e62_57, e62_59, e62_60, e62_62, e62_63, e62_64, e62_65, e62_66, e62_69, e62_70, e62_73, e62_76, e62_78, e62_81, e62_84, e62_86, e62_89, e62_92, e62_93, e62_96, e62_97, e62_98, e62_100, e62_103, e62_106, e62_108, e62_109, e62_112, e62_114, e62_115, e62_118, e62_120, e62_122, e62_124, e62_127, e62_130, e62_132, e62_133, e62_135, e62_137, e62_140, e62_143, e62_144, xk_64 hXS, List.mem_cons, List.not_mem_nil, ↓reduceIte, Nat.reduceAdd, Nat.reduceLeDiff, Nat.reduceLT, Nat.reduceEqDiff, not_false_eq_true, false_or, true_or, or_true, or_false, n0_e, n1_ne, n1_11, bI_z, bI_1, bI_fo, va_rf_some, aBk_1, aBk_0, nI_add, nI_mul, hk_si, hp_si, hl_si, hk_sp, hk_sl, hk_cp, hp_cp, x_guests hB, g2, nI_shr hb2 (show g < 32 by omega), bit_and1, t1, reduceCtorEq, Bool.false_and, cond_false, Nat.add_zero]
          | true =>
            cases t2 : th_ T g (nI i) with
            | false => simp only [e62_0, e62_1, e62_2, e62_3, e62_6, e62_9, e62_12, e62_13, e62_14, e62_15, e62_16, e62_19, e62_20, e62_22, e62_23, e62_26, e62_28, e62_29, e62_33, e62_35, e62_38, e62_39, e62_42, e62_43, e62_45, e62_46, e62_50, e62_51, e62_54, e62_57, e62_59, e62_60, e62_62, e62_63, e62_64, e62_65, e62_66, e62_69, e62_70, e62_73, e62_76, e62_78, e62_81, e62_84, e62_86, e62_89, e62_92, e62_93, e62_96, e62_97, e62_98, e62_100, e62_103, e62_106, e62_108, e62_109, e62_112, e62_114, e62_115, e62_118, e62_120, e62_122, e62_124, e62_127, e62_130, e62_132, e62_133, e62_135, e62_137, e62_140, e62_143, e62_144, xk_64 hXS, List.mem_cons, List.not_mem_nil, ↓reduceIte, Nat.reduceAdd, Nat.reduceLeDiff, Nat.reduceLT, Nat.reduceEqDiff, not_false_eq_true, false_or, true_or, or_true, or_false, n0_e, n1_ne, n1_11, bI_1, bI_fo, va_rf_some, aBk_1, aBk_0, nI_add, nI_mul, hk_si, hp_si, hl_si, hk_sp, hk_sl, hk_cp, hp_cp, x_guests hB, g2, nI_shr hb2 (show g < 32 by omega), bit_and1, t1, hB.t, hT.ktx, hT.p45, hT.kga, x_get hT.G hg, in18 (hT.kqg hg), hT.kqg hg, x_isThere hT hg, t2, bI_z, Bool.true_and, cond_false, Nat.add_zero]
            | true => simp only [e62_0, e62_1, e62_2, e62_3, e62_6, e62_9, e62_12, e62_13, e62_14, e62_15, e62_16, e62_19, e62_20, e62_22, e62_23, e62_26, e62_28, e62_29, e62_33, e62_35, e62_38, e62_39, e62_42, e62_43, e62_45, e62_46, e62_50, e62_51, e62_54, e62_57, e62_59, e62_60, e62_62, e62_63, e62_64, e62_65, e62_66, e62_69, e62_70, e62_73, e62_76, e62_78, e62_81, e62_84, e62_86, e62_89, e62_92, e62_93, e62_96, e62_97, e62_98, e62_100, e62_103, e62_106, e62_108, e62_109, e62_112, e62_114, e62_115, e62_118, e62_120, e62_122, e62_124, e62_127, e62_130, e62_132, e62_133, e62_135, e62_137, e62_140, e62_143, e62_144, xk_64 hXS, List.mem_cons, List.not_mem_nil, ↓reduceIte, Nat.reduceAdd, Nat.reduceLeDiff, Nat.reduceLT, Nat.reduceEqDiff, not_false_eq_true, false_or, true_or, or_true, or_false, n0_e, n1_ne, n1_11, bI_1, bI_fo, va_rf_some, aBk_1, aBk_0, nI_add, nI_mul, hk_si, hp_si, hl_si, hk_sp, hk_sl, hk_cp, hp_cp, x_guests hB, g2, nI_shr hb2 (show g < 32 by omega), bit_and1, t1, hB.t, hT.ktx, hT.p45, hT.kga, x_get hT.G hg, in18 (hT.kqg hg), hT.kqg hg, x_isThere hT hg, t2, bI_z, reduceCtorEq, Bool.true_and, cond_true]
        refine ⟨(lxF T set i (b, f), .int (nI (lkN T set i)), .int (lkW T set i)), ?_, by show lxF T set i (b, f) = lxF T set i (itn i (lxF T set) (-2, nI 1000000)); rw [← ex]⟩
        refine (e62_31).trans ?_
        simp only [e62_0, e62_1, e62_2, e62_3, e62_6, e62_9, e62_12, e62_13, e62_14, e62_15, e62_16, e62_19, e62_20, e62_22, e62_23, e62_26, e62_28, e62_29, e62_33, e62_35, e62_38, e62_39, e62_42, e62_43, e62_45, e62_46, e62_50, e62_51, e62_54, e62_57, e62_59, e62_60, e62_62, e62_63, e62_64, e62_65, e62_66, e62_69, e62_70, e62_73, e62_76, e62_78, e62_81, e62_84, e62_86, e62_89, e62_92, e62_93, e62_96, e62_97, e62_98, e62_100, e62_103, e62_106, e62_108, e62_109, e62_112, e62_114, e62_115, e62_118, e62_120, e62_122, e62_124, e62_127, e62_130, e62_132, e62_133, e62_135, e62_137, e62_140, e62_143, e62_144, xk_64 hXS, List.mem_cons, List.not_mem_nil, ↓reduceIte, Nat.reduceAdd, Nat.reduceLeDiff, Nat.reduceLT, Nat.reduceEqDiff, not_false_eq_true, false_or, true_or, or_true, or_false, n0_e, n1_ne, n1_11, bI_z, bI_1, bI_fo, va_rf_some, aBk_1, aBk_0, nI_add, nI_mul, hk_si, hp_si, hl_si, hk_sp, hk_sl, hk_cp, hp_cp, g1, qz']
        refine inner.trans ?_
        refine (e62_48).trans ?_
        have eW : max_ (nI (lkN T set i)) (bc_ (nI set) - nI (lkN T set i)) = lkW T set i := maxW _ _
        unfold lxF
        by_cases q1 : lkW T set i < f
        · simp only [e62_0, e62_1, e62_2, e62_3, e62_6, e62_9, e62_12, e62_13, e62_14, e62_15, e62_16, e62_19, e62_20, e62_22, e62_23, e62_26, e62_28, e62_29, e62_33, e62_35, e62_38, e62_39, e62_42, e62_43, e62_45, e62_46, e62_50, e62_51, e62_54, e62_57, e62_59, e62_60, e62_62, e62_63, e62_64, e62_65, e62_66, e62_69, e62_70, e62_73, e62_76, e62_78, e62_81, e62_84, e62_86, e62_89, e62_92, e62_93, e62_96, e62_97, e62_98, e62_100, e62_103, e62_106, e62_108, e62_109, e62_112, e62_114, e62_115, e62_118, e62_120, e62_122, e62_124, e62_127, e62_130, e62_132, e62_133, e62_135, e62_137, e62_140, e62_143, e62_144, xk_64 hXS, List.mem_cons, List.not_mem_nil, ↓reduceIte, Nat.reduceAdd, Nat.reduceLeDiff, Nat.reduceLT, Nat.reduceEqDiff, not_false_eq_true, false_or, true_or, or_true, or_false, n0_e, n1_ne, n1_11, bI_z, bI_1, bI_fo, va_rf_some, aBk_1, aBk_0, nI_add, nI_mul, hk_si, hp_si, hl_si, hk_sp, hk_sl, hk_cp, hp_cp, x_guests hB, Int32.le_refl, x_bits hb, eW, q1]
        · simp only [e62_0, e62_1, e62_2, e62_3, e62_6, e62_9, e62_12, e62_13, e62_14, e62_15, e62_16, e62_19, e62_20, e62_22, e62_23, e62_26, e62_28, e62_29, e62_33, e62_35, e62_38, e62_39, e62_42, e62_43, e62_45, e62_46, e62_50, e62_51, e62_54, e62_57, e62_59, e62_60, e62_62, e62_63, e62_64, e62_65, e62_66, e62_69, e62_70, e62_73, e62_76, e62_78, e62_81, e62_84, e62_86, e62_89, e62_92, e62_93, e62_96, e62_97, e62_98, e62_100, e62_103, e62_106, e62_108, e62_109, e62_112, e62_114, e62_115, e62_118, e62_120, e62_122, e62_124, e62_127, e62_130, e62_132, e62_133, e62_135, e62_137, e62_140, e62_143, e62_144, xk_64 hXS, List.mem_cons, List.not_mem_nil, ↓reduceIte, Nat.reduceAdd, Nat.reduceLeDiff, Nat.reduceLT, Nat.reduceEqDiff, not_false_eq_true, false_or, true_or, or_true, or_false, n0_e, n1_ne, n1_11, bI_z, bI_1, bI_fo, va_rf_some, aBk_1, aBk_0, nI_add, nI_mul, hk_si, hp_si, hl_si, hk_sp, hk_sl, hk_cp, hp_cp, x_guests hB, Int32.le_refl, x_bits hb, eW, q1]
      · obtain ⟨⟨b, f⟩, v6, v7⟩ := x
        obtain ⟨e, ex⟩ := hh
        have ex : (b, f) = itn 24 (lxF T set) (-2, nI 1000000) := ex
        refine e.trans ?_
        rw [← ex]
        refine (e62_31).trans ?_
        simp only [e62_0, e62_1, e62_2, e62_3, e62_6, e62_9, e62_12, e62_13, e62_14, e62_15, e62_16, e62_19, e62_20, e62_22, e62_23, e62_26, e62_28, e62_29, e62_33, e62_35, e62_38, e62_39, e62_42, e62_43, e62_45, e62_46, e62_50, e62_51, e62_54, e62_57, e62_59, e62_60, e62_62, e62_63, e62_64, e62_65, e62_66, e62_69, e62_70, e62_73, e62_76, e62_78, e62_81, e62_84, e62_86, e62_89, e62_92, e62_93, e62_96, e62_97, e62_98, e62_100, e62_103, e62_106, e62_108, e62_109, e62_112, e62_114, e62_115, e62_118, e62_120, e62_122, e62_124, e62_127, e62_130, e62_132, e62_133, e62_135, e62_137, e62_140, e62_143, e62_144, xk_64 hXS, List.mem_cons, List.not_mem_nil, ↓reduceIte, Nat.reduceAdd, Nat.reduceLeDiff, Nat.reduceLT, Nat.reduceEqDiff, not_false_eq_true, false_or, true_or, or_true, or_false, n0_e, n1_ne, n1_11, bI_z, bI_1, bI_fo, va_rf_some, aBk_1, aBk_0, nI_add, nI_mul, hk_si, hp_si, hl_si, hk_sp, hk_sl, hk_cp, hp_cp, Int32.le_refl]
end X9
