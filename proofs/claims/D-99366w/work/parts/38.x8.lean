set_option maxRecDepth 100000
/-! X: questions (3) -/
section X8
variable {d : Nat} {h h' : aH} {T : aTx} {w r : Nat → Int32} {sd : Int32} {still : Bool} {a f tx sa ga la : Nat} {qs qg : Nat → Nat}
def qBstX (T : aTx) (w : Nat → Int32) (s n what : Int32) : Int32 := if sale_ T w s = true ∧ lng_ n = true ∧ in_ what (nI 0) (nI 1) = true then (if what = nI 0 then (bs_ T w (kk s) (kk n) (nI 0)).1 else (bs_ T w (kk s) (kk n) (nI 0)).2) else -1
theorem n10_e : (nI 1 = nI 0) = False := by decide
theorem x_best (hB : XB h T w tx sa ga la qs qg) (hW : WV T w) (s n what : Int32) : ∃ h', (∀ d, (run (d + 407) 50 0 [.ref 64, .int s, .int n, .int what, aU, aU, aU, aU] [] h) = some (.returned (some (.int (qBstX T w s n what))), h')) ∧ On QX h h' := by
  have hXS := hB.S
  have hT := hB.X
  have hV := hT.v
  unfold qBstX
  cases hq : sale_ T w s with
  | false =>
    refine ⟨h, fun d => ?_, On.refl⟩
    simp only [e50_0, e50_1, e50_2, e50_5, e50_8, e50_9, e50_12, e50_15, e50_16, e50_17, e50_18, e50_21, e50_24, e50_25, e50_26, e50_27, e50_29, e50_30, e50_32, e50_33, e50_36, e50_37, e50_40, e50_43, e50_44, e50_48, e50_49, e50_52, e50_53, e50_56, e50_57, e50_60, e50_61, e50_64, e50_66, e50_68, e50_70, e50_73, e50_75, e50_77, e50_79, e50_81, e50_82, e50_85, e50_86, e50_89, e50_90, e50_93, e50_96, e50_99, e50_102, e50_103, e50_106, e50_108, e50_111, e50_113, xk_64 hXS, xp_7 hXS, xp_8 hXS, xp_12 hXS, xk_121 hXS, ↓reduceIte, Nat.reduceAdd, Nat.reduceLeDiff, Nat.reduceLT, Nat.reduceEqDiff, not_false_eq_true, false_or, true_or, or_true, or_false, n0_e, n1_ne, n1_11, bI_1, bI_fo, va_rf_some, aBk_1, aBk_0, nI_add, nI_mul, hk_si, hp_si, hl_si, hk_sp, hk_sl, hk_cp, hp_cp, x_isKept hB, hq, bI_z, reduceCtorEq, false_and]
  | true =>
    obtain ⟨k, hk, rfl⟩ := sale_s hV hq
    have h4 := hT.ns4
    rw [kk_n (by omega)]
    cases hq2 : lng_ n with
    | false =>
      refine ⟨h, fun d => ?_, On.refl⟩
      simp only [e50_0, e50_1, e50_2, e50_5, e50_8, e50_9, e50_12, e50_15, e50_16, e50_17, e50_18, e50_21, e50_24, e50_25, e50_26, e50_27, e50_29, e50_30, e50_32, e50_33, e50_36, e50_37, e50_40, e50_43, e50_44, e50_48, e50_49, e50_52, e50_53, e50_56, e50_57, e50_60, e50_61, e50_64, e50_66, e50_68, e50_70, e50_73, e50_75, e50_77, e50_79, e50_81, e50_82, e50_85, e50_86, e50_89, e50_90, e50_93, e50_96, e50_99, e50_102, e50_103, e50_106, e50_108, e50_111, e50_113, xk_64 hXS, xp_7 hXS, xp_8 hXS, xp_12 hXS, xk_121 hXS, ↓reduceIte, Nat.reduceAdd, Nat.reduceLeDiff, Nat.reduceLT, Nat.reduceEqDiff, not_false_eq_true, false_or, true_or, or_true, or_false, n0_e, n1_ne, n1_11, bI_1, bI_fo, va_rf_some, aBk_1, aBk_0, nI_add, nI_mul, hk_si, hp_si, hl_si, hk_sp, hk_sl, hk_cp, hp_cp, x_isKept hB, hq, hq2, x_isAhead, bI_z, reduceCtorEq, and_false, false_and]
    | true =>
      obtain ⟨m, hm, rfl⟩ := lng_n hq2
      rw [kk_n (by omega)]
      cases hq3 : in_ what (nI 0) (nI 1) with
      | false =>
        refine ⟨h, fun d => ?_, On.refl⟩
        simp only [e50_0, e50_1, e50_2, e50_5, e50_8, e50_9, e50_12, e50_15, e50_16, e50_17, e50_18, e50_21, e50_24, e50_25, e50_26, e50_27, e50_29, e50_30, e50_32, e50_33, e50_36, e50_37, e50_40, e50_43, e50_44, e50_48, e50_49, e50_52, e50_53, e50_56, e50_57, e50_60, e50_61, e50_64, e50_66, e50_68, e50_70, e50_73, e50_75, e50_77, e50_79, e50_81, e50_82, e50_85, e50_86, e50_89, e50_90, e50_93, e50_96, e50_99, e50_102, e50_103, e50_106, e50_108, e50_111, e50_113, xk_64 hXS, xp_7 hXS, xp_8 hXS, xp_12 hXS, xk_121 hXS, ↓reduceIte, Nat.reduceAdd, Nat.reduceLeDiff, Nat.reduceLT, Nat.reduceEqDiff, not_false_eq_true, false_or, true_or, or_true, or_false, n0_e, n1_ne, n1_11, bI_1, bI_fo, va_rf_some, aBk_1, aBk_0, nI_add, nI_mul, hk_si, hp_si, hl_si, hk_sp, hk_sl, hk_cp, hp_cp, x_isKept hB, hq, hq2, hq3, x_isAhead, x_isIn, bI_z, reduceCtorEq, and_false]
      | true =>
        rw [if_pos ⟨rfl, rfl, rfl⟩]
        obtain ⟨h1, e1, o1, x1, b1⟩ := x_try hB
        have hZ := hB.tr
        obtain ⟨y, e, ey, oy, -⟩ := run_invd (F := fun d j (x : ((Int32 × Int32) × Value) × aH) => (run (d + 407) 50 46 [.ref 64, .int (nI k), .int (nI m), .int what, .int x.1.1.1, .int x.1.1.2, .int (nI j), x.1.2] [] x.2)) (I := fun j x => x.1.1 = itn j (bsF T w k) (nI 0, -1) ∧ On (HA 86) h1 x.2 ∧ XH x.2 86 (ah_ T w j) (se_ T)) (n := m + 1) (x := (((nI 0, -1), aU), h1)) ⟨rfl, On.refl, x1⟩ (fun j x hj hI => by
          obtain ⟨⟨⟨b, mo⟩, v7⟩, x⟩ := x
          obtain ⟨eb, o, xx⟩ := hI
          have eb : (b, mo) = itn j (bsF T w k) (nI 0, -1) := eb
          have o : On (HA 86) h1 x := o
          have xx : XH x 86 (ah_ T w j) (se_ T) := xx
          have bx := b1.onT o
          have hXSx := bx.S
          have hZx := xx.s
          have g1 : ¬ nI m < nI j := nI_nlt (by omega) (by omega)
          obtain ⟨x2, e2, o2⟩ := x_hsells ha86 bx.X (hW.wks hV j) xx hk
          have e2 : (∀ d, (run (d + 403) 128 0 [.ref 86, .ref tx, .int (nI k)] [] x) = some (.returned (some (.int (sO_ T (ah_ T w j) k))), x2)) := e2
          have xx2 := xx.onE o2
          have o2 : On (HA 86) h1 x2 := o.trans (o2.mono (fun _ _ q => q.A))
          have bx2 := b1.onT o2
          have hXSx2 := bx2.S
          have hZx2 := xx2.s
          obtain ⟨y, e, oy, hy⟩ := x_goesBy ha86 bx2.X (hW.wks hV j) xx2 bx2.sp
          by_cases q : sO_ T (ah_ T w j) k ≤ mo
          · refine ⟨(((b, mo), .int (sO_ T (ah_ T w j) k)), y), fun d => ?_, ?_, o2.trans oy, hy⟩
            · refine (e50_46).trans ?_
              simp only [e50_0, e50_1, e50_2, e50_5, e50_8, e50_9, e50_12, e50_15, e50_16, e50_17, e50_18, e50_21, e50_24, e50_25, e50_26, e50_27, e50_29, e50_30, e50_32, e50_33, e50_36, e50_37, e50_40, e50_43, e50_44, e50_48, e50_49, e50_52, e50_53, e50_56, e50_57, e50_60, e50_61, e50_64, e50_66, e50_68, e50_70, e50_73, e50_75, e50_77, e50_79, e50_81, e50_82, e50_85, e50_86, e50_89, e50_90, e50_93, e50_96, e50_99, e50_102, e50_103, e50_106, e50_108, e50_111, e50_113, xk_64 hXSx, xp_7 hXSx, xp_8 hXSx, xp_12 hXSx, xk_121 hXSx, xk_64 hXSx2, xp_7 hXSx2, xp_8 hXSx2, xp_12 hXSx2, xk_121 hXSx2, h86_k hZx, h86_k hZx2, ↓reduceIte, Nat.reduceAdd, Nat.reduceLeDiff, Nat.reduceLT, Nat.reduceEqDiff, not_false_eq_true, false_or, true_or, or_true, or_false, n0_e, n1_ne, n1_11, bI_z, bI_1, bI_fo, va_rf_some, aBk_1, aBk_0, nI_add, nI_mul, hk_si, hp_si, hl_si, hk_sp, hk_sl, hk_cp, hp_cp, g1, bx.t, bx2.t, e2, q, e]
            · show (b, mo) = bsF T w k j (itn j (bsF T w k) (nI 0, -1))
              rw [← eb]; exact (if_pos q).symm
          · refine ⟨(((nI j, sO_ T (ah_ T w j) k), .int (sO_ T (ah_ T w j) k)), y), fun d => ?_, ?_, o2.trans oy, hy⟩
            · refine (e50_46).trans ?_
              simp only [e50_0, e50_1, e50_2, e50_5, e50_8, e50_9, e50_12, e50_15, e50_16, e50_17, e50_18, e50_21, e50_24, e50_25, e50_26, e50_27, e50_29, e50_30, e50_32, e50_33, e50_36, e50_37, e50_40, e50_43, e50_44, e50_48, e50_49, e50_52, e50_53, e50_56, e50_57, e50_60, e50_61, e50_64, e50_66, e50_68, e50_70, e50_73, e50_75, e50_77, e50_79, e50_81, e50_82, e50_85, e50_86, e50_89, e50_90, e50_93, e50_96, e50_99, e50_102, e50_103, e50_106, e50_108, e50_111, e50_113, xk_64 hXSx, xp_7 hXSx, xp_8 hXSx, xp_12 hXSx, xk_121 hXSx, xk_64 hXSx2, xp_7 hXSx2, xp_8 hXSx2, xp_12 hXSx2, xk_121 hXSx2, h86_k hZx, h86_k hZx2, ↓reduceIte, Nat.reduceAdd, Nat.reduceLeDiff, Nat.reduceLT, Nat.reduceEqDiff, not_false_eq_true, false_or, true_or, or_true, or_false, n0_e, n1_ne, n1_11, bI_z, bI_1, bI_fo, va_rf_some, aBk_1, aBk_0, nI_add, nI_mul, hk_si, hp_si, hl_si, hk_sp, hk_sl, hk_cp, hp_cp, g1, bx.t, bx2.t, e2, q, e]
            · show (nI j, sO_ T (ah_ T w j) k) = bsF T w k j (itn j (bsF T w k) (nI 0, -1))
              rw [← eb]; exact (if_neg q).symm)
        obtain ⟨⟨⟨b, mo⟩, v7⟩, y⟩ := y
        have ey : (b, mo) = bs_ T w k m (nI 0) := ey
        have oy : On (HA 86) h1 y := oy
        rw [← ey]
        refine ⟨y, fun d => ?_, (o1.trans oy).mono (fun _ _ q => q.Q)⟩
        have g1 : nI m < nI (m + 1) := nI_lt (by omega) (by omega)
        simp only [e50_0, e50_1, e50_2, e50_5, e50_8, e50_9, e50_12, e50_15, e50_16, e50_17, e50_18, e50_21, e50_24, e50_25, e50_26, e50_27, e50_29, e50_30, e50_32, e50_33, e50_36, e50_37, e50_40, e50_43, e50_44, e50_48, e50_49, e50_52, e50_53, e50_56, e50_57, e50_60, e50_61, e50_64, e50_66, e50_68, e50_70, e50_73, e50_75, e50_77, e50_79, e50_81, e50_82, e50_85, e50_86, e50_89, e50_90, e50_93, e50_96, e50_99, e50_102, e50_103, e50_106, e50_108, e50_111, e50_113, xk_64 hXS, xp_7 hXS, xp_8 hXS, xp_12 hXS, xk_121 hXS, h86_k hZ, ↓reduceIte, Nat.reduceAdd, Nat.reduceLeDiff, Nat.reduceLT, Nat.reduceEqDiff, not_false_eq_true, false_or, true_or, or_true, or_false, n0_e, n1_ne, n1_11, bI_1, bI_fo, va_rf_some, aBk_1, aBk_0, nI_add, nI_mul, hk_si, hp_si, hl_si, hk_sp, hk_sl, hk_cp, hp_cp, x_isKept hB, hq, hq2, hq3, x_isAhead, x_isIn, bI_z, reduceCtorEq, e1]
        refine (e d).trans ?_
        refine (e50_46).trans ?_
        obtain ⟨c, hc, rfl⟩ := in_n (by decide) hq3
        have hcc : c = 0 ∨ c = 1 := by omega
        rcases hcc with rfl | rfl
        · simp only [e50_0, e50_1, e50_2, e50_5, e50_8, e50_9, e50_12, e50_15, e50_16, e50_17, e50_18, e50_21, e50_24, e50_25, e50_26, e50_27, e50_29, e50_30, e50_32, e50_33, e50_36, e50_37, e50_40, e50_43, e50_44, e50_48, e50_49, e50_52, e50_53, e50_56, e50_57, e50_60, e50_61, e50_64, e50_66, e50_68, e50_70, e50_73, e50_75, e50_77, e50_79, e50_81, e50_82, e50_85, e50_86, e50_89, e50_90, e50_93, e50_96, e50_99, e50_102, e50_103, e50_106, e50_108, e50_111, e50_113, ↓reduceIte, Nat.reduceAdd, Nat.reduceLeDiff, Nat.reduceLT, Nat.reduceEqDiff, not_false_eq_true, false_or, true_or, or_true, or_false, n1_ne, n1_11, bI_z, bI_1, bI_fo, va_rf_some, aBk_1, aBk_0, nI_add, nI_mul, hk_si, hp_si, hl_si, hk_sp, hk_sl, hk_cp, hp_cp, g1, n0_e]
        · simp only [e50_0, e50_1, e50_2, e50_5, e50_8, e50_9, e50_12, e50_15, e50_16, e50_17, e50_18, e50_21, e50_24, e50_25, e50_26, e50_27, e50_29, e50_30, e50_32, e50_33, e50_36, e50_37, e50_40, e50_43, e50_44, e50_48, e50_49, e50_52, e50_53, e50_56, e50_57, e50_60, e50_61, e50_64, e50_66, e50_68, e50_70, e50_73, e50_75, e50_77, e50_79, e50_81, e50_82, e50_85, e50_86, e50_89, e50_90, e50_93, e50_96, e50_99, e50_102, e50_103, e50_106, e50_108, e50_111, e50_113, ↓reduceIte, Nat.reduceAdd, Nat.reduceLeDiff, Nat.reduceLT, Nat.reduceEqDiff, not_false_eq_true, false_or, true_or, or_true, or_false, n0_e, n1_11, bI_z, bI_1, bI_fo, va_rf_some, aBk_1, aBk_0, nI_add, nI_mul, hk_si, hp_si, hl_si, hk_sp, hk_sl, hk_cp, hp_cp, g1, n1_ne, n10_e]
theorem x_year (hB : XB h T w tx sa ga la qs qg) (hW : WV T w) (g n s : Int32) : ∃ h', (∀ d, (run (d + 408) 57 0 [.ref 64, .int g, .int n, .int s, aU, aU] [] h) = some (.returned (some (.int (qYr T w g n s))), h')) ∧ On QX h h' := by
  have hXS := hB.S
  have hT := hB.X
  have hV := hT.v
  unfold qYr
  cases hq : isG T g with
  | false =>
    refine ⟨h, fun d => ?_, On.refl⟩
    simp only [e57_0, e57_1, e57_2, e57_5, e57_8, e57_9, e57_12, e57_15, e57_16, e57_17, e57_19, e57_22, e57_25, e57_26, e57_27, e57_28, e57_30, e57_31, e57_35, e57_36, e57_39, e57_40, e57_43, e57_44, e57_47, e57_50, e57_51, e57_54, e57_55, e57_58, e57_61, e57_63, e57_64, e57_67, e57_68, e57_69, e57_72, e57_73, e57_74, e57_77, e57_80, e57_82, e57_83, e57_86, e57_87, e57_90, e57_93, e57_94, e57_97, e57_98, e57_99, e57_101, e57_104, e57_107, e57_109, xk_64 hXS, xp_7 hXS, xp_8 hXS, xp_11 hXS, xk_120 hXS, ↓reduceIte, Nat.reduceAdd, Nat.reduceLeDiff, Nat.reduceLT, Nat.reduceEqDiff, not_false_eq_true, false_or, true_or, or_true, or_false, n0_e, n1_ne, n1_11, bI_1, bI_fo, va_rf_some, aBk_1, aBk_0, nI_add, nI_mul, hk_si, hp_si, hl_si, hk_sp, hk_sl, hk_cp, hp_cp, x_isGuest hB, hq, bI_z, reduceCtorEq, false_and]
  | true =>
    obtain ⟨k, hk, rfl⟩ := isG_n hV hq
    have h7 := hT.ng7
    have k7 : k < 7 := by omega
    rw [kk_n (by omega)]
    cases hq2 : lng_ n with
    | false =>
      refine ⟨h, fun d => ?_, On.refl⟩
      simp only [e57_0, e57_1, e57_2, e57_5, e57_8, e57_9, e57_12, e57_15, e57_16, e57_17, e57_19, e57_22, e57_25, e57_26, e57_27, e57_28, e57_30, e57_31, e57_35, e57_36, e57_39, e57_40, e57_43, e57_44, e57_47, e57_50, e57_51, e57_54, e57_55, e57_58, e57_61, e57_63, e57_64, e57_67, e57_68, e57_69, e57_72, e57_73, e57_74, e57_77, e57_80, e57_82, e57_83, e57_86, e57_87, e57_90, e57_93, e57_94, e57_97, e57_98, e57_99, e57_101, e57_104, e57_107, e57_109, xk_64 hXS, xp_7 hXS, xp_8 hXS, xp_11 hXS, xk_120 hXS, ↓reduceIte, Nat.reduceAdd, Nat.reduceLeDiff, Nat.reduceLT, Nat.reduceEqDiff, not_false_eq_true, false_or, true_or, or_true, or_false, n0_e, n1_ne, n1_11, bI_1, bI_fo, va_rf_some, aBk_1, aBk_0, nI_add, nI_mul, hk_si, hp_si, hl_si, hk_sp, hk_sl, hk_cp, hp_cp, x_isGuest hB, hq, hq2, x_isAhead, bI_z, reduceCtorEq, and_false, false_and]
    | true =>
      obtain ⟨m, hm, rfl⟩ := lng_n hq2
      rw [kk_n (by omega)]
      cases hq3 : in_ s (nI 1) (nI 20) with
      | false =>
        refine ⟨h, fun d => ?_, On.refl⟩
        simp only [e57_0, e57_1, e57_2, e57_5, e57_8, e57_9, e57_12, e57_15, e57_16, e57_17, e57_19, e57_22, e57_25, e57_26, e57_27, e57_28, e57_30, e57_31, e57_35, e57_36, e57_39, e57_40, e57_43, e57_44, e57_47, e57_50, e57_51, e57_54, e57_55, e57_58, e57_61, e57_63, e57_64, e57_67, e57_68, e57_69, e57_72, e57_73, e57_74, e57_77, e57_80, e57_82, e57_83, e57_86, e57_87, e57_90, e57_93, e57_94, e57_97, e57_98, e57_99, e57_101, e57_104, e57_107, e57_109, xk_64 hXS, xp_7 hXS, xp_8 hXS, xp_11 hXS, xk_120 hXS, ↓reduceIte, Nat.reduceAdd, Nat.reduceLeDiff, Nat.reduceLT, Nat.reduceEqDiff, not_false_eq_true, false_or, true_or, or_true, or_false, n0_e, n1_ne, n1_11, bI_1, bI_fo, va_rf_some, aBk_1, aBk_0, nI_add, nI_mul, hk_si, hp_si, hl_si, hk_sp, hk_sl, hk_cp, hp_cp, x_isGuest hB, hq, hq2, hq3, x_isAhead, x_isIn, bI_z, reduceCtorEq, and_false]
      | true =>
        obtain ⟨c, -, hc, rfl⟩ := in_n1 (by decide) hq3
        rw [if_pos ⟨rfl, rfl, rfl⟩, kk_n (by omega)]
        obtain ⟨y, e, ey, oy⟩ := run_invd (F := fun d j (x : Nat × aH) => (run (d + 408) 57 33 [.ref 64, .int (nI k), .int (nI m), .int (nI c), .int (nI x.1), .int (nI j)] [] x.2)) (I := fun j x => x.1 = itn j (fun k' a => bif qYrF T w k m k' then a + 1 else a) 0 ∧ On (HA 86) h x.2) (n := c) (x := (0, h)) ⟨rfl, On.refl⟩ (fun j x hj hI => by
          obtain ⟨b, x⟩ := x
          obtain ⟨ea, o⟩ := hI
          have ea : b = itn j (fun k' a => bif qYrF T w k m k' then a + 1 else a) 0 := ea
          have o : On (HA 86) h x := o
          have bx := hB.onT o
          have hXSx := bx.S
          have hZx := bx.tr
          have g1 : ¬ nI c ≤ nI j := nI_ge hj (by omega)
          obtain ⟨h1, e1, o1, x1, b1⟩ := x_try bx
          have hXS1 := b1.S
          have hZ1 := b1.tr
          have o2 : On (HA 86) h1 (si_ h1 86 60 (se_ T + nI j)) := On.si ⟨by decide, by decide⟩
          have b2 := b1.onT o2
          have hXS2 := b2.S
          have hZ2 := b2.tr
          have x2 : XH (si_ h1 86 60 (se_ T + nI j)) 86 w (se_ T + nI j) := by
            refine ⟨x1.s.on o2, fun g hg => ?_, fun g hg => ?_, fun s hs => ?_, ?_, ?_, ?_, ?_, ?_⟩
            · rw [hi_si, if_neg (by omega)]; exact x1.in_ hg
            · rw [hi_si, if_neg (by omega)]; exact x1.re hg
            · rw [hi_si, if_neg (by omega)]; exact x1.wo hs
            · rw [hi_si, if_neg (by omega)]; exact x1.de
            · rw [hi_si, if_neg (by omega)]; exact x1.so
            · rw [hi_si, if_neg (by omega)]; exact x1.we
            · rw [hi_si, if_neg (by omega)]; exact x1.mo
            · rw [hi_si, if_pos ⟨rfl, rfl⟩]
          obtain ⟨h3, e3, o3, x3⟩ := x_runs ha86 b2.S b2.t b2.X hW x2 b2.dr (n := m) (by omega)
          have b3 := b2.onT o3
          have hXS3 := b3.S
          have hZ3 := b3.tr
          have ed := fun d => x_isDead (d := d) ha86 x3 k7
          refine ⟨(bif qYrF T w k m j then b + 1 else b, h3), fun d => ?_, ?_, ((o.trans o1).trans o2).trans o3⟩
          · refine (e57_33).trans ?_
            unfold qYrF
            by_cases q : wks_ T false (se_ T + nI j) m w (14 + k) = 0
            · simp only [e57_0, e57_1, e57_2, e57_5, e57_8, e57_9, e57_12, e57_15, e57_16, e57_17, e57_19, e57_22, e57_25, e57_26, e57_27, e57_28, e57_30, e57_31, e57_35, e57_36, e57_39, e57_40, e57_43, e57_44, e57_47, e57_50, e57_51, e57_54, e57_55, e57_58, e57_61, e57_63, e57_64, e57_67, e57_68, e57_69, e57_72, e57_73, e57_74, e57_77, e57_80, e57_82, e57_83, e57_86, e57_87, e57_90, e57_93, e57_94, e57_97, e57_98, e57_99, e57_101, e57_104, e57_107, e57_109, xk_64 hXSx, xp_7 hXSx, xp_8 hXSx, xp_11 hXSx, xk_120 hXSx, xk_64 hXS1, xp_7 hXS1, xp_8 hXS1, xp_11 hXS1, xk_120 hXS1, xk_64 hXS2, xp_7 hXS2, xp_8 hXS2, xp_11 hXS2, xk_120 hXS2, xk_64 hXS3, xp_7 hXS3, xp_8 hXS3, xp_11 hXS3, xk_120 hXS3, h86_k hZx, h86_k hZ1, h86_k hZ2, h86_k hZ3, ↓reduceIte, Nat.reduceAdd, Nat.reduceLeDiff, Nat.reduceLT, Nat.reduceEqDiff, not_false_eq_true, false_or, true_or, or_true, or_false, n0_e, n1_ne, n1_11, bI_1, bI_fo, va_rf_some, aBk_1, aBk_0, nI_add, nI_mul, hk_si, hp_si, hl_si, hk_sp, hk_sl, hk_cp, hp_cp, g1, e1, b1.t, b1.X.ktx, b1.X.se, e3, ed, q, decide_true, Bool.not_true, bI_z, cond_true]
            · simp only [e57_0, e57_1, e57_2, e57_5, e57_8, e57_9, e57_12, e57_15, e57_16, e57_17, e57_19, e57_22, e57_25, e57_26, e57_27, e57_28, e57_30, e57_31, e57_35, e57_36, e57_39, e57_40, e57_43, e57_44, e57_47, e57_50, e57_51, e57_54, e57_55, e57_58, e57_61, e57_63, e57_64, e57_67, e57_68, e57_69, e57_72, e57_73, e57_74, e57_77, e57_80, e57_82, e57_83, e57_86, e57_87, e57_90, e57_93, e57_94, e57_97, e57_98, e57_99, e57_101, e57_104, e57_107, e57_109, xk_64 hXSx, xp_7 hXSx, xp_8 hXSx, xp_11 hXSx, xk_120 hXSx, xk_64 hXS1, xp_7 hXS1, xp_8 hXS1, xp_11 hXS1, xk_120 hXS1, xk_64 hXS2, xp_7 hXS2, xp_8 hXS2, xp_11 hXS2, xk_120 hXS2, xk_64 hXS3, xp_7 hXS3, xp_8 hXS3, xp_11 hXS3, xk_120 hXS3, h86_k hZx, h86_k hZ1, h86_k hZ2, h86_k hZ3, ↓reduceIte, Nat.reduceAdd, Nat.reduceLeDiff, Nat.reduceLT, Nat.reduceEqDiff, not_false_eq_true, false_or, true_or, or_true, or_false, n0_e, n1_ne, n1_11, bI_1, bI_fo, va_rf_some, aBk_1, aBk_0, nI_add, nI_mul, hk_si, hp_si, hl_si, hk_sp, hk_sl, hk_cp, hp_cp, g1, e1, b1.t, b1.X.ktx, b1.X.se, e3, ed, q, decide_false, Bool.not_false, bI_z, reduceCtorEq, cond_false, Nat.add_zero]
          · show _ = (bif qYrF T w k m j then itn j _ 0 + 1 else itn j _ 0)
            rw [← ea])
        obtain ⟨b, y⟩ := y
        have ey : b = itn c (fun k' a => bif qYrF T w k m k' then a + 1 else a) 0 := ey
        rw [← ey]
        refine ⟨y, fun d => ?_, oy.mono (fun _ _ q => q.Q)⟩
        simp only [e57_0, e57_1, e57_2, e57_5, e57_8, e57_9, e57_12, e57_15, e57_16, e57_17, e57_19, e57_22, e57_25, e57_26, e57_27, e57_28, e57_30, e57_31, e57_35, e57_36, e57_39, e57_40, e57_43, e57_44, e57_47, e57_50, e57_51, e57_54, e57_55, e57_58, e57_61, e57_63, e57_64, e57_67, e57_68, e57_69, e57_72, e57_73, e57_74, e57_77, e57_80, e57_82, e57_83, e57_86, e57_87, e57_90, e57_93, e57_94, e57_97, e57_98, e57_99, e57_101, e57_104, e57_107, e57_109, xk_64 hXS, xp_7 hXS, xp_8 hXS, xp_11 hXS, xk_120 hXS, ↓reduceIte, Nat.reduceAdd, Nat.reduceLeDiff, Nat.reduceLT, Nat.reduceEqDiff, not_false_eq_true, false_or, true_or, or_true, or_false, n0_e, n1_ne, n1_11, bI_1, bI_fo, va_rf_some, aBk_1, aBk_0, nI_add, nI_mul, hk_si, hp_si, hl_si, hk_sp, hk_sl, hk_cp, hp_cp, x_isGuest hB, hq, hq2, hq3, x_isAhead, x_isIn, bI_z, reduceCtorEq]
        refine (e d).trans ?_
        refine (e57_33).trans ?_
        simp only [e57_0, e57_1, e57_2, e57_5, e57_8, e57_9, e57_12, e57_15, e57_16, e57_17, e57_19, e57_22, e57_25, e57_26, e57_27, e57_28, e57_30, e57_31, e57_35, e57_36, e57_39, e57_40, e57_43, e57_44, e57_47, e57_50, e57_51, e57_54, e57_55, e57_58, e57_61, e57_63, e57_64, e57_67, e57_68, e57_69, e57_72, e57_73, e57_74, e57_77, e57_80, e57_82, e57_83, e57_86, e57_87, e57_90, e57_93, e57_94, e57_97, e57_98, e57_99, e57_101, e57_104, e57_107, e57_109, ↓reduceIte, Nat.reduceAdd, Nat.reduceLeDiff, Nat.reduceLT, Nat.reduceEqDiff, not_false_eq_true, false_or, true_or, or_true, or_false, n0_e, n1_ne, n1_11, bI_z, bI_1, bI_fo, va_rf_some, aBk_1, aBk_0, nI_add, nI_mul, hk_si, hp_si, hl_si, hk_sp, hk_sl, hk_cp, hp_cp, Int32.le_refl]
theorem x_fitting (hB : XB h T w tx sa ga la qs qg) (g : Int32) : (run (d + 4) 41 0 [.ref 64, .int g, aU, aU] [] h) = some (.returned (some (.int (qFit T w g))), h) := by
  have hXS := hB.S
  have hA := hB.H.s
  have hT := hB.X
  have h7 := hT.ng7
  have h4 := hT.ns4
  unfold qFit
  cases hq : isG T g with
  | false => simp only [e41_0, e41_1, e41_2, e41_5, e41_8, e41_9, e41_10, e41_11, e41_12, e41_13, e41_15, e41_16, e41_19, e41_22, e41_23, e41_24, e41_27, e41_28, e41_31, e41_34, e41_35, e41_38, e41_39, e41_40, e41_43, e41_46, e41_47, e41_48, e41_49, e41_52, e41_53, e41_54, e41_55, e41_58, e41_61, e41_62, xk_64 hXS, xp_7 hXS, ↓reduceIte, Nat.reduceAdd, Nat.reduceLeDiff, Nat.reduceLT, Nat.reduceEqDiff, not_false_eq_true, false_or, true_or, or_true, or_false, n0_e, n1_ne, n1_11, bI_1, bI_fo, va_rf_some, aBk_1, aBk_0, nI_add, nI_mul, hk_si, hp_si, hl_si, hk_sp, hk_sl, hk_cp, hp_cp, x_isGuest hB, hq, bI_z, reduceCtorEq]
  | true =>
    obtain ⟨k, hk, rfl⟩ := isG_n hT.v hq
    rw [if_pos rfl, kk_n (by omega)]
    simp only [e41_0, e41_1, e41_2, e41_5, e41_8, e41_9, e41_10, e41_11, e41_12, e41_13, e41_15, e41_16, e41_19, e41_22, e41_23, e41_24, e41_27, e41_28, e41_31, e41_34, e41_35, e41_38, e41_39, e41_40, e41_43, e41_46, e41_47, e41_48, e41_49, e41_52, e41_53, e41_54, e41_55, e41_58, e41_61, e41_62, xk_64 hXS, xp_7 hXS, ↓reduceIte, Nat.reduceAdd, Nat.reduceLeDiff, Nat.reduceLT, Nat.reduceEqDiff, not_false_eq_true, false_or, true_or, or_true, or_false, n0_e, n1_ne, n1_11, bI_1, bI_fo, va_rf_some, aBk_1, aBk_0, nI_add, nI_mul, hk_si, hp_si, hl_si, hk_sp, hk_sl, hk_cp, hp_cp, x_isGuest hB, hq, bI_z, reduceCtorEq]
    refine (run_for (F := fun j b => (run (d + 4) 41 14 [.ref 64, .int (nI k), .int (nI b), .int (nI j)] [] h)) (f := fun s b => bif fit_ T w k s then b ||| 2 ^ s else b) (a := 0) (n := ns_ T) (fun j hj => ?_)).trans ?_
    · have g1 : ¬ nI (ns_ T) ≤ nI j := nI_ge hj (by omega)
      have j4 : j < 4 := by omega
      unfold fit_
      refine (e41_14).trans ?_
      by_cases q1 : w (25 + j) = 0
      · by_cases q2 : ti_ T k ≤ lo_ T j
        · simp only [e41_0, e41_1, e41_2, e41_5, e41_8, e41_9, e41_10, e41_11, e41_12, e41_13, e41_15, e41_16, e41_19, e41_22, e41_23, e41_24, e41_27, e41_28, e41_31, e41_34, e41_35, e41_38, e41_39, e41_40, e41_43, e41_46, e41_47, e41_48, e41_49, e41_52, e41_53, e41_54, e41_55, e41_58, e41_61, e41_62, xk_64 hXS, xp_7 hXS, h78_k hA, ↓reduceIte, Nat.reduceAdd, Nat.reduceLeDiff, Nat.reduceLT, Nat.reduceEqDiff, not_false_eq_true, false_or, true_or, or_true, or_false, n0_e, n1_ne, n1_11, bI_1, bI_fo, va_rf_some, aBk_1, aBk_0, nI_add, nI_mul, hk_si, hp_si, hl_si, hk_sp, hk_sl, hk_cp, hp_cp, x_sundays hB, g1, x_isSold ha78 hB.H j4, q1, hB.t, hT.ktx, x_isLong hT hk hj, q2, decide_true, Bool.not_true, bI_z, reduceCtorEq, shl_1 j (show j < 32 by omega), nI_or, Bool.and_self, cond_true]
        · simp only [e41_0, e41_1, e41_2, e41_5, e41_8, e41_9, e41_10, e41_11, e41_12, e41_13, e41_15, e41_16, e41_19, e41_22, e41_23, e41_24, e41_27, e41_28, e41_31, e41_34, e41_35, e41_38, e41_39, e41_40, e41_43, e41_46, e41_47, e41_48, e41_49, e41_52, e41_53, e41_54, e41_55, e41_58, e41_61, e41_62, xk_64 hXS, xp_7 hXS, h78_k hA, ↓reduceIte, Nat.reduceAdd, Nat.reduceLeDiff, Nat.reduceLT, Nat.reduceEqDiff, not_false_eq_true, false_or, true_or, or_true, or_false, n0_e, n1_ne, n1_11, bI_1, bI_fo, va_rf_some, aBk_1, aBk_0, nI_add, nI_mul, hk_si, hp_si, hl_si, hk_sp, hk_sl, hk_cp, hp_cp, x_sundays hB, g1, x_isSold ha78 hB.H j4, q1, hB.t, hT.ktx, x_isLong hT hk hj, q2, decide_true, decide_false, Bool.not_true, bI_z, reduceCtorEq, nI_or, Nat.or_zero, Bool.and_false, cond_false]
      · simp only [e41_0, e41_1, e41_2, e41_5, e41_8, e41_9, e41_10, e41_11, e41_12, e41_13, e41_15, e41_16, e41_19, e41_22, e41_23, e41_24, e41_27, e41_28, e41_31, e41_34, e41_35, e41_38, e41_39, e41_40, e41_43, e41_46, e41_47, e41_48, e41_49, e41_52, e41_53, e41_54, e41_55, e41_58, e41_61, e41_62, xk_64 hXS, xp_7 hXS, h78_k hA, ↓reduceIte, Nat.reduceAdd, Nat.reduceLeDiff, Nat.reduceLT, Nat.reduceEqDiff, not_false_eq_true, false_or, true_or, or_true, or_false, n0_e, n1_ne, n1_11, bI_1, bI_fo, va_rf_some, aBk_1, aBk_0, nI_add, nI_mul, hk_si, hp_si, hl_si, hk_sp, hk_sl, hk_cp, hp_cp, x_sundays hB, g1, x_isSold ha78 hB.H j4, q1, decide_false, Bool.not_false, bI_z, reduceCtorEq, nI_or, Nat.or_zero, Bool.false_and, cond_false]
    · refine (e41_14).trans ?_
      simp only [e41_0, e41_1, e41_2, e41_5, e41_8, e41_9, e41_10, e41_11, e41_12, e41_13, e41_15, e41_16, e41_19, e41_22, e41_23, e41_24, e41_27, e41_28, e41_31, e41_34, e41_35, e41_38, e41_39, e41_40, e41_43, e41_46, e41_47, e41_48, e41_49, e41_52, e41_53, e41_54, e41_55, e41_58, e41_61, e41_62, xk_64 hXS, xp_7 hXS, ↓reduceIte, Nat.reduceAdd, Nat.reduceLeDiff, Nat.reduceLT, Nat.reduceEqDiff, not_false_eq_true, false_or, true_or, or_true, or_false, n0_e, n1_ne, n1_11, bI_z, bI_1, bI_fo, va_rf_some, aBk_1, aBk_0, nI_add, nI_mul, hk_si, hp_si, hl_si, hk_sp, hk_sl, hk_cp, hp_cp, x_sundays hB, Int32.le_refl]
      rfl
theorem x_rivals (hB : XB h T w tx sa ga la qs qg) (g : Int32) : (run (d + 5) 48 0 [.ref 64, .int g] [] h) = some (.returned (some (.int (qRiv T g))), h) := by
  have hXS := hB.S
  have hT := hB.X
  have h7 := hT.ng7
  unfold qRiv
  cases hq : isG T g with
  | false => simp only [e48_0, e48_1, e48_2, e48_5, e48_8, e48_9, e48_12, e48_13, e48_16, e48_19, e48_20, xk_64 hXS, ↓reduceIte, Nat.reduceAdd, Nat.reduceLeDiff, Nat.reduceLT, Nat.reduceEqDiff, not_false_eq_true, false_or, true_or, or_true, or_false, n0_e, n1_ne, n1_11, bI_1, bI_fo, va_rf_some, aBk_1, aBk_0, nI_add, nI_mul, hk_si, hp_si, hl_si, hk_sp, hk_sl, hk_cp, hp_cp, x_isGuest hB, hq, bI_z, reduceCtorEq]
  | true =>
    obtain ⟨k, hk, rfl⟩ := isG_n hT.v hq
    rw [if_pos rfl, kk_n (by omega)]
    simp only [e48_0, e48_1, e48_2, e48_5, e48_8, e48_9, e48_12, e48_13, e48_16, e48_19, e48_20, xk_64 hXS, ↓reduceIte, Nat.reduceAdd, Nat.reduceLeDiff, Nat.reduceLT, Nat.reduceEqDiff, not_false_eq_true, false_or, true_or, or_true, or_false, n0_e, n1_ne, n1_11, bI_1, bI_fo, va_rf_some, aBk_1, aBk_0, nI_add, nI_mul, hk_si, hp_si, hl_si, hk_sp, hk_sl, hk_cp, hp_cp, x_isGuest hB, hq, bI_z, reduceCtorEq, hB.t, hT.ktx, x_trivals hT hk]
theorem x_room (hB : XB h T w tx sa ga la qs qg) (hW : WV T w) (g : Int32) : ∃ h', (∀ d, (run (d + 6) 47 0 [.ref 64, .int g] [] h) = some (.returned (some (.int (qRoom T w g))), h')) ∧ On QX h h' := by
  have hXS := hB.S
  have hT := hB.X
  have h7 := hT.ng7
  unfold qRoom
  cases hq : isG T g with
  | false =>
    refine ⟨h, fun d => ?_, On.refl⟩
    simp only [e47_0, e47_1, e47_2, e47_5, e47_8, e47_9, e47_10, e47_11, e47_14, e47_15, e47_18, e47_21, e47_22, e47_25, e47_28, e47_29, e47_31, e47_32, e47_33, e47_36, e47_37, e47_40, e47_41, e47_44, xk_64 hXS, xp_7 hXS, xp_8 hXS, ↓reduceIte, Nat.reduceAdd, Nat.reduceLeDiff, Nat.reduceLT, Nat.reduceEqDiff, not_false_eq_true, false_or, true_or, or_true, or_false, n0_e, n1_ne, n1_11, bI_1, bI_fo, va_rf_some, aBk_1, aBk_0, nI_add, nI_mul, hk_si, hp_si, hl_si, hk_sp, hk_sl, hk_cp, hp_cp, x_isGuest hB, hq, bI_z, reduceCtorEq]
  | true =>
    obtain ⟨k, hk, rfl⟩ := isG_n hT.v hq
    rw [if_pos rfl, kk_n (by omega)]
    have k7 : k < 7 := by omega
    obtain ⟨h1, e1, o1, x1, b1⟩ := x_try hB
    have hZ := hB.tr
    have hXS1 := b1.S
    have hZ1 := b1.tr
    have o2 : On (HA 86) h1 (si_ h1 87 k (-2)) := On.si ⟨by decide, by decide⟩
    have b2 := b1.onT o2
    have hXS2 := b2.S
    have hZ2 := b2.tr
    have x2 : XH (si_ h1 87 k (-2)) 86 (up_ w k (-2)) (se_ T) := x1.upI k7
    refine ⟨si_ h1 87 k (-2), fun d => ?_, (o1.trans o2).mono (fun _ _ q => q.Q)⟩
    simp only [e47_0, e47_1, e47_2, e47_5, e47_8, e47_9, e47_10, e47_11, e47_14, e47_15, e47_18, e47_21, e47_22, e47_25, e47_28, e47_29, e47_31, e47_32, e47_33, e47_36, e47_37, e47_40, e47_41, e47_44, xk_64 hXS, xp_7 hXS, xp_8 hXS, xk_64 hXS1, xp_7 hXS1, xp_8 hXS1, xk_64 hXS2, xp_7 hXS2, xp_8 hXS2, h86_k hZ, h86_p53 hZ, h86_k1 hZ, h86_k hZ1, h86_p53 hZ1, h86_k1 hZ1, h86_k hZ2, h86_p53 hZ2, h86_k1 hZ2, ↓reduceIte, Nat.reduceAdd, Nat.reduceLeDiff, Nat.reduceLT, Nat.reduceEqDiff, not_false_eq_true, false_or, true_or, or_true, or_false, n0_e, n1_ne, n1_11, bI_1, bI_fo, va_rf_some, aBk_1, aBk_0, nI_add, nI_mul, hk_si, hp_si, hl_si, hk_sp, hk_sl, hk_cp, hp_cp, x_isGuest hB, hq, bI_z, reduceCtorEq, e1, k7, b2.t, x_hroom ha86 b2.X (hW.out hT.v k7) x2 hk]
theorem x_change (hB : XB h T w tx sa ga la qs qg) (hW : WV T w) (g o : Int32) : ∃ h', (∀ d, (run (d + 6) 43 0 [.ref 64, .int g, .int o] [] h) = some (.returned (some (.int (qChg T w g o))), h')) ∧ On QX h h' := by
  have hXS := hB.S
  have hA := hB.H.s
  have hT := hB.X
  have h7 := hT.ng7
  have h4 := hT.ns4
  unfold qChg
  cases hq : isG T g with
  | false =>
    refine ⟨h, fun d => ?_, On.refl⟩
    simp only [e43_0, e43_1, e43_2, e43_5, e43_8, e43_9, e43_10, e43_13, e43_16, e43_17, e43_20, e43_23, e43_24, e43_25, e43_28, e43_29, e43_32, e43_35, e43_36, e43_37, e43_40, e43_41, e43_44, e43_47, e43_48, e43_49, e43_50, e43_53, e43_56, e43_57, e43_58, e43_61, e43_62, e43_63, e43_64, e43_67, e43_68, e43_71, e43_74, e43_75, e43_78, e43_81, e43_82, e43_84, e43_85, e43_86, e43_89, e43_92, e43_93, e43_95, e43_96, e43_97, e43_100, e43_101, e43_104, e43_105, e43_108, e43_109, e43_112, e43_115, e43_116, e43_117, e43_118, e43_119, e43_122, e43_123, e43_126, e43_127, e43_130, e43_131, e43_134, e43_137, e43_138, e43_139, e43_140, e43_141, e43_142, e43_143, e43_144, e43_147, e43_148, e43_151, e43_152, xk_64 hXS, xp_7 hXS, xp_8 hXS, ↓reduceIte, Nat.reduceAdd, Nat.reduceLeDiff, Nat.reduceLT, Nat.reduceEqDiff, not_false_eq_true, false_or, true_or, or_true, or_false, n0_e, n1_ne, n1_11, bI_1, bI_fo, va_rf_some, aBk_1, aBk_0, nI_add, nI_mul, hk_si, hp_si, hl_si, hk_sp, hk_sl, hk_cp, hp_cp, x_isGuest hB, hq, bI_z, reduceCtorEq, false_and]
  | true =>
    obtain ⟨k, hk, rfl⟩ := isG_n hT.v hq
    rw [kk_n (by omega)]
    have k7 : k < 7 := by omega
    cases hq2 : isG T o with
    | false =>
      refine ⟨h, fun d => ?_, On.refl⟩
      simp only [e43_0, e43_1, e43_2, e43_5, e43_8, e43_9, e43_10, e43_13, e43_16, e43_17, e43_20, e43_23, e43_24, e43_25, e43_28, e43_29, e43_32, e43_35, e43_36, e43_37, e43_40, e43_41, e43_44, e43_47, e43_48, e43_49, e43_50, e43_53, e43_56, e43_57, e43_58, e43_61, e43_62, e43_63, e43_64, e43_67, e43_68, e43_71, e43_74, e43_75, e43_78, e43_81, e43_82, e43_84, e43_85, e43_86, e43_89, e43_92, e43_93, e43_95, e43_96, e43_97, e43_100, e43_101, e43_104, e43_105, e43_108, e43_109, e43_112, e43_115, e43_116, e43_117, e43_118, e43_119, e43_122, e43_123, e43_126, e43_127, e43_130, e43_131, e43_134, e43_137, e43_138, e43_139, e43_140, e43_141, e43_142, e43_143, e43_144, e43_147, e43_148, e43_151, e43_152, xk_64 hXS, xp_7 hXS, xp_8 hXS, ↓reduceIte, Nat.reduceAdd, Nat.reduceLeDiff, Nat.reduceLT, Nat.reduceEqDiff, not_false_eq_true, false_or, true_or, or_true, or_false, n0_e, n1_ne, n1_11, bI_1, bI_fo, va_rf_some, aBk_1, aBk_0, nI_add, nI_mul, hk_si, hp_si, hl_si, hk_sp, hk_sl, hk_cp, hp_cp, x_isGuest hB, hq, hq2, bI_z, reduceCtorEq, false_and, and_false]
    | true =>
      obtain ⟨j, hj, rfl⟩ := isG_n hT.v hq2
      rw [kk_n (by omega)]
      have j7 : j < 7 := by omega
      by_cases q1 : 0 ≤ w k
      · have q1' : ¬ w k < 0 := Int32.not_lt.mpr q1
        by_cases q2 : 0 ≤ w j
        · have q2' : ¬ w j < 0 := Int32.not_lt.mpr q2
          by_cases q3 : w k = w j
          · refine ⟨h, fun d => ?_, On.refl⟩
            rw [if_neg (fun z => z.2.2.2.2 q3)]
            simp only [e43_0, e43_1, e43_2, e43_5, e43_8, e43_9, e43_10, e43_13, e43_16, e43_17, e43_20, e43_23, e43_24, e43_25, e43_28, e43_29, e43_32, e43_35, e43_36, e43_37, e43_40, e43_41, e43_44, e43_47, e43_48, e43_49, e43_50, e43_53, e43_56, e43_57, e43_58, e43_61, e43_62, e43_63, e43_64, e43_67, e43_68, e43_71, e43_74, e43_75, e43_78, e43_81, e43_82, e43_84, e43_85, e43_86, e43_89, e43_92, e43_93, e43_95, e43_96, e43_97, e43_100, e43_101, e43_104, e43_105, e43_108, e43_109, e43_112, e43_115, e43_116, e43_117, e43_118, e43_119, e43_122, e43_123, e43_126, e43_127, e43_130, e43_131, e43_134, e43_137, e43_138, e43_139, e43_140, e43_141, e43_142, e43_143, e43_144, e43_147, e43_148, e43_151, e43_152, xk_64 hXS, xp_7 hXS, xp_8 hXS, h78_k hA, h78_p53 hA, h78_k1 hA, ↓reduceIte, Nat.reduceAdd, Nat.reduceLeDiff, Nat.reduceLT, Nat.reduceEqDiff, not_false_eq_true, false_or, true_or, or_true, or_false, n0_e, n1_ne, n1_11, bI_1, bI_fo, va_rf_some, aBk_1, aBk_0, nI_add, nI_mul, hk_si, hp_si, hl_si, hk_sp, hk_sl, hk_cp, hp_cp, x_isGuest hB, hq, hq2, bI_z, reduceCtorEq, x78_in hB.H k7, x78_in hB.H j7, k7, j7, q1', q2', q3]
          · obtain ⟨s, hs, es⟩ := (hW.in' k7).resolve_left q1'
            obtain ⟨t, ht, et⟩ := (hW.in' j7).resolve_left q2'
            obtain ⟨h1, e1, o1, x1, b1⟩ := x_try hB
            have hZ := hB.tr
            have hXS1 := b1.S
            have hZ1 := b1.tr
            have o2 : On (HA 86) h1 (si_ h1 87 k (-2)) := On.si ⟨by decide, by decide⟩
            have b2 := b1.onT o2
            have hXS2 := b2.S
            have hZ2 := b2.tr
            have o3 : On (HA 86) (si_ h1 87 k (-2)) (si_ (si_ h1 87 k (-2)) 87 j (-2)) := On.si ⟨by decide, by decide⟩
            have b3 := b2.onT o3
            have hXS3 := b3.S
            have hZ3 := b3.tr
            have hA3 := b3.H.s
            have x3 : XH (si_ (si_ h1 87 k (-2)) 87 j (-2)) 86 (up_ (up_ w k (-2)) j (-2)) (se_ T) := (x1.upI k7).upI j7
            have w3 := (hW.out hT.v k7).out hT.v j7
            have r1 := fun d => x_hroom (d := d) ha86 b3.X w3 x3 hk
            have r2 := fun d => x_hroom (d := d) ha86 b3.X w3 x3 hj
            have c1 : kk (w k) = s := by rw [es]; exact kk_n (by omega)
            have c2 : kk (w j) = t := by rw [et]; exact kk_n (by omega)
            refine ⟨si_ (si_ h1 87 k (-2)) 87 j (-2), fun d => ?_, ((o1.trans o2).trans o3).mono (fun _ _ q => q.Q)⟩
            rw [if_pos ⟨rfl, rfl, q1, q2, q3⟩, c1, c2]
            have hr : ∀ g, rm_ T (up_ (up_ w k (-2)) j (-2)) g < 2 ^ 31 := fun g => Nat.lt_of_lt_of_le (orN_lt _ _) (Nat.pow_le_pow_right (n := 2) (by decide) (show ns_ T ≤ 31 by omega))
            have b : (nI (rm_ T (up_ (up_ w k (-2)) j (-2)) k >>> t) &&& nI (rm_ T (up_ (up_ w k (-2)) j (-2)) j >>> s) &&& nI 1 = nI 1) = ((mgi_ T (up_ (up_ w k (-2)) j (-2)) k t && mgi_ T (up_ (up_ w k (-2)) j (-2)) j s) = true) := by
              rw [nI_and, nI_and]
              have e1 : (rm_ T (up_ (up_ w k (-2)) j (-2)) k).testBit t = mgi_ T (up_ (up_ w k (-2)) j (-2)) k t := by
                unfold rm_; rw [orN_bit, decide_eq_true ht, Bool.true_and]
              have e2 : (rm_ T (up_ (up_ w k (-2)) j (-2)) j).testBit s = mgi_ T (up_ (up_ w k (-2)) j (-2)) j s := by
                unfold rm_; rw [orN_bit, decide_eq_true hs, Bool.true_and]
              rw [← e1, ← e2]
              generalize rm_ T (up_ (up_ w k (-2)) j (-2)) k = A
              generalize rm_ T (up_ (up_ w k (-2)) j (-2)) j = B
              have hm : (A >>> t &&& B >>> s &&& 1) = if A.testBit t && B.testBit s then 1 else 0 := by
                apply Nat.eq_of_testBit_eq
                intro i
                rw [Nat.testBit_and, Nat.testBit_and, Nat.testBit_shiftRight, Nat.testBit_shiftRight]
                cases i with
                | zero =>
                  rw [Nat.add_zero, Nat.add_zero]
                  cases A.testBit t <;> cases B.testBit s <;> rfl
                | succ i =>
                  have : Nat.testBit 1 (i + 1) = false := Nat.testBit_lt_two_pow (Nat.lt_of_lt_of_le (by decide : 1 < 2 ^ 1) (Nat.pow_le_pow_right (by decide) (by omega)))
                  rw [this, Bool.and_false]
                  split
                  · exact this.symm
                  · rw [Nat.zero_testBit]
              rw [hm]
              cases A.testBit t <;> cases B.testBit s <;> decide
            have p1 : ¬ nI s < 0 := by rw [← es]; exact q1'
            have p2 : ¬ nI t < 0 := by rw [← et]; exact q2'
            have p3 : ¬ nI s = nI t := by rw [← es, ← et]; exact q3
            cases qq : (mgi_ T (up_ (up_ w k (-2)) j (-2)) k t && mgi_ T (up_ (up_ w k (-2)) j (-2)) j s) with
            | true =>
              rw [qq] at b
              simp only [e43_0, e43_1, e43_2, e43_5, e43_8, e43_9, e43_10, e43_13, e43_16, e43_17, e43_20, e43_23, e43_24, e43_25, e43_28, e43_29, e43_32, e43_35, e43_36, e43_37, e43_40, e43_41, e43_44, e43_47, e43_48, e43_49, e43_50, e43_53, e43_56, e43_57, e43_58, e43_61, e43_62, e43_63, e43_64, e43_67, e43_68, e43_71, e43_74, e43_75, e43_78, e43_81, e43_82, e43_84, e43_85, e43_86, e43_89, e43_92, e43_93, e43_95, e43_96, e43_97, e43_100, e43_101, e43_104, e43_105, e43_108, e43_109, e43_112, e43_115, e43_116, e43_117, e43_118, e43_119, e43_122, e43_123, e43_126, e43_127, e43_130, e43_131, e43_134, e43_137, e43_138, e43_139, e43_140, e43_141, e43_142, e43_143, e43_144, e43_147, e43_148, e43_151, e43_152, xk_64 hXS, xp_7 hXS, xp_8 hXS, h78_k hA, h78_p53 hA, h78_k1 hA, xk_64 hXS1, xp_7 hXS1, xp_8 hXS1, xk_64 hXS2, xp_7 hXS2, xp_8 hXS2, xk_64 hXS3, xp_7 hXS3, xp_8 hXS3, h86_k hZ, h86_p53 hZ, h86_k1 hZ, h86_k hZ1, h86_p53 hZ1, h86_k1 hZ1, h86_k hZ2, h86_p53 hZ2, h86_k1 hZ2, h86_k hZ3, h86_p53 hZ3, h86_k1 hZ3, h78_k hA3, h78_p53 hA3, h78_k1 hA3, ↓reduceIte, Nat.reduceAdd, Nat.reduceLeDiff, Nat.reduceLT, Nat.reduceEqDiff, not_false_eq_true, false_or, true_or, or_true, or_false, n0_e, n1_ne, n1_11, bI_1, bI_fo, va_rf_some, aBk_1, aBk_0, nI_add, nI_mul, hk_si, hp_si, hl_si, hk_sp, hk_sl, hk_cp, hp_cp, x_isGuest hB, hq, hq2, bI_z, reduceCtorEq, x78_in hB.H k7, x78_in hB.H j7, k7, j7, q1', q2', q3, e1, b3.t, r1, r2, x78_in b3.H k7, x78_in b3.H j7, es, et, nI_shr (hr _) (show s < 32 by omega), nI_shr (hr _) (show t < 32 by omega), b, p1, p2, p3]
              rfl
            | false =>
              rw [qq] at b
              simp only [e43_0, e43_1, e43_2, e43_5, e43_8, e43_9, e43_10, e43_13, e43_16, e43_17, e43_20, e43_23, e43_24, e43_25, e43_28, e43_29, e43_32, e43_35, e43_36, e43_37, e43_40, e43_41, e43_44, e43_47, e43_48, e43_49, e43_50, e43_53, e43_56, e43_57, e43_58, e43_61, e43_62, e43_63, e43_64, e43_67, e43_68, e43_71, e43_74, e43_75, e43_78, e43_81, e43_82, e43_84, e43_85, e43_86, e43_89, e43_92, e43_93, e43_95, e43_96, e43_97, e43_100, e43_101, e43_104, e43_105, e43_108, e43_109, e43_112, e43_115, e43_116, e43_117, e43_118, e43_119, e43_122, e43_123, e43_126, e43_127, e43_130, e43_131, e43_134, e43_137, e43_138, e43_139, e43_140, e43_141, e43_142, e43_143, e43_144, e43_147, e43_148, e43_151, e43_152, xk_64 hXS, xp_7 hXS, xp_8 hXS, h78_k hA, h78_p53 hA, h78_k1 hA, xk_64 hXS1, xp_7 hXS1, xp_8 hXS1, xk_64 hXS2, xp_7 hXS2, xp_8 hXS2, xk_64 hXS3, xp_7 hXS3, xp_8 hXS3, h86_k hZ, h86_p53 hZ, h86_k1 hZ, h86_k hZ1, h86_p53 hZ1, h86_k1 hZ1, h86_k hZ2, h86_p53 hZ2, h86_k1 hZ2, h86_k hZ3, h86_p53 hZ3, h86_k1 hZ3, h78_k hA3, h78_p53 hA3, h78_k1 hA3, ↓reduceIte, Nat.reduceAdd, Nat.reduceLeDiff, Nat.reduceLT, Nat.reduceEqDiff, not_false_eq_true, false_or, true_or, or_true, or_false, n0_e, n1_ne, n1_11, bI_1, bI_fo, va_rf_some, aBk_1, aBk_0, nI_add, nI_mul, hk_si, hp_si, hl_si, hk_sp, hk_sl, hk_cp, hp_cp, x_isGuest hB, hq, hq2, bI_z, reduceCtorEq, x78_in hB.H k7, x78_in hB.H j7, k7, j7, q1', q2', q3, e1, b3.t, r1, r2, x78_in b3.H k7, x78_in b3.H j7, es, et, nI_shr (hr _) (show s < 32 by omega), nI_shr (hr _) (show t < 32 by omega), b, p1, p2, p3]
              rfl
        · have q2' : w j < 0 := Int32.not_le.mp q2
          refine ⟨h, fun d => ?_, On.refl⟩
          rw [if_neg (fun z => q2 z.2.2.2.1)]
          simp only [e43_0, e43_1, e43_2, e43_5, e43_8, e43_9, e43_10, e43_13, e43_16, e43_17, e43_20, e43_23, e43_24, e43_25, e43_28, e43_29, e43_32, e43_35, e43_36, e43_37, e43_40, e43_41, e43_44, e43_47, e43_48, e43_49, e43_50, e43_53, e43_56, e43_57, e43_58, e43_61, e43_62, e43_63, e43_64, e43_67, e43_68, e43_71, e43_74, e43_75, e43_78, e43_81, e43_82, e43_84, e43_85, e43_86, e43_89, e43_92, e43_93, e43_95, e43_96, e43_97, e43_100, e43_101, e43_104, e43_105, e43_108, e43_109, e43_112, e43_115, e43_116, e43_117, e43_118, e43_119, e43_122, e43_123, e43_126, e43_127, e43_130, e43_131, e43_134, e43_137, e43_138, e43_139, e43_140, e43_141, e43_142, e43_143, e43_144, e43_147, e43_148, e43_151, e43_152, xk_64 hXS, xp_7 hXS, xp_8 hXS, h78_k hA, h78_p53 hA, h78_k1 hA, ↓reduceIte, Nat.reduceAdd, Nat.reduceLeDiff, Nat.reduceLT, Nat.reduceEqDiff, not_false_eq_true, false_or, true_or, or_true, or_false, n0_e, n1_ne, n1_11, bI_1, bI_fo, va_rf_some, aBk_1, aBk_0, nI_add, nI_mul, hk_si, hp_si, hl_si, hk_sp, hk_sl, hk_cp, hp_cp, x_isGuest hB, hq, hq2, bI_z, reduceCtorEq, x78_in hB.H k7, x78_in hB.H j7, k7, j7, q1', q2']
      · have q1' : w k < 0 := Int32.not_le.mp q1
        refine ⟨h, fun d => ?_, On.refl⟩
        rw [if_neg (fun z => q1 z.2.2.1)]
        simp only [e43_0, e43_1, e43_2, e43_5, e43_8, e43_9, e43_10, e43_13, e43_16, e43_17, e43_20, e43_23, e43_24, e43_25, e43_28, e43_29, e43_32, e43_35, e43_36, e43_37, e43_40, e43_41, e43_44, e43_47, e43_48, e43_49, e43_50, e43_53, e43_56, e43_57, e43_58, e43_61, e43_62, e43_63, e43_64, e43_67, e43_68, e43_71, e43_74, e43_75, e43_78, e43_81, e43_82, e43_84, e43_85, e43_86, e43_89, e43_92, e43_93, e43_95, e43_96, e43_97, e43_100, e43_101, e43_104, e43_105, e43_108, e43_109, e43_112, e43_115, e43_116, e43_117, e43_118, e43_119, e43_122, e43_123, e43_126, e43_127, e43_130, e43_131, e43_134, e43_137, e43_138, e43_139, e43_140, e43_141, e43_142, e43_143, e43_144, e43_147, e43_148, e43_151, e43_152, xk_64 hXS, xp_7 hXS, xp_8 hXS, h78_k hA, h78_p53 hA, h78_k1 hA, ↓reduceIte, Nat.reduceAdd, Nat.reduceLeDiff, Nat.reduceLT, Nat.reduceEqDiff, not_false_eq_true, false_or, true_or, or_true, or_false, n0_e, n1_ne, n1_11, bI_1, bI_fo, va_rf_some, aBk_1, aBk_0, nI_add, nI_mul, hk_si, hp_si, hl_si, hk_sp, hk_sl, hk_cp, hp_cp, x_isGuest hB, hq, hq2, bI_z, reduceCtorEq, x78_in hB.H k7, k7, q1']
end X8
