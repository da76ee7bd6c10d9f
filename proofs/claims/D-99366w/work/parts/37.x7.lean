set_option maxRecDepth 100000
/-! X: questions (2): weeks ahead -/
section X7
variable {h h' : aH} {T : aTx} {w r : Nat → Int32} {sd : Int32} {still : Bool} {a f tx sa ga la : Nat} {qs qg : Nat → Nat}
theorem x_runs (ha : 78 ≤ a ∧ a + 7 < 458) (hXS : XS h) (ht : hp_ h 64 3 = some tx) (hT : XT h T tx sa ga la qs qg) (hW : WV T w) (hX : XH h a w sd) (hf : FT h f still) {n : Nat} (hn : n < 2147483648) : ∃ h', (∀ d, (run (d + 407) 23 0 [.ref 64, .ref a, .int (nI n), .ref f, aU] [] h) = some (.returned none, h')) ∧ On (HA a) h h' ∧ XH h' a (wks_ T still sd n w) sd := by
  refine Exists.elim (run_invd (F := fun d j x => (run (d + 407) 23 3 [.ref 64, .ref a, .int (nI n), .ref f, .int (nI j)] [] x)) (I := fun j x => On (HA a) h x ∧ XH x a (wks_ T still sd j w) sd) (n := n) (x := h) ⟨On.refl, hX⟩ (fun j x hj hI => ?_)) (fun y hh => ?_)
  · obtain ⟨o, hXx⟩ := hI
    have hTx := hT.onA ha o
    have hXS1 := hXS.on o
    have hH1 := hXx.s
    have tx1 : hp_ x 64 3 = some tx := (o.p _ _).trans ht
    obtain ⟨y, e, oy, hy⟩ := x_goesBy ha hTx (hW.wks hT.v j) hXx (hf.on o)
    have h1 : ¬ nI n ≤ nI j := nI_ge hj hn
    refine ⟨y, fun d => ?_, o.trans oy, hy⟩
    refine (e23_3).trans ?_
    simp only [e23_0, e23_1, e23_5, e23_6, e23_9, e23_10, e23_11, e23_14, e23_15, e23_18, e23_21, e23_24, xk_64 hXS1, ↓reduceIte, Nat.reduceAdd, Nat.reduceLeDiff, Nat.reduceLT, Nat.reduceEqDiff, not_false_eq_true, false_or, true_or, or_true, or_false, n0_e, n1_ne, n1_11, bI_z, bI_1, bI_fo, va_rf_some, aBk_1, aBk_0, nI_add, nI_mul, hk_si, hp_si, hl_si, hk_sp, hk_sl, hk_cp, hp_cp, h1, tx1, hs_k hH1, e]
  · obtain ⟨e, o, hy⟩ := hh
    refine ⟨y, fun d => ?_, o, hy⟩
    simp only [e23_0, e23_1, e23_5, e23_6, e23_9, e23_10, e23_11, e23_14, e23_15, e23_18, e23_21, e23_24, ↓reduceIte, Nat.reduceAdd, Nat.reduceLeDiff, Nat.reduceLT, Nat.reduceEqDiff, not_false_eq_true, false_or, true_or, or_true, or_false, n0_e, n1_ne, n1_11, bI_z, bI_1, bI_fo, va_rf_some, aBk_1, aBk_0, nI_add, nI_mul, hk_si, hp_si, hl_si, hk_sp, hk_sl, hk_cp, hp_cp]
    refine (e d).trans ?_
    refine (e23_3).trans ?_
    simp only [e23_0, e23_1, e23_5, e23_6, e23_9, e23_10, e23_11, e23_14, e23_15, e23_18, e23_21, e23_24, ↓reduceIte, Nat.reduceAdd, Nat.reduceLeDiff, Nat.reduceLT, Nat.reduceEqDiff, not_false_eq_true, false_or, true_or, or_true, or_false, n0_e, n1_ne, n1_11, bI_z, bI_1, bI_fo, va_rf_some, aBk_1, aBk_0, nI_add, nI_mul, hk_si, hp_si, hl_si, hk_sp, hk_sl, hk_cp, hp_cp, Int32.le_refl]
theorem XB.tr (hB : XB h T w tx sa ga la qs qg) : HS h 86 := xs_trial hB.S
theorem XB.dr (hB : XB h T w tx sa ga la qs qg) : FT h 120 false := ⟨by decide, xk_120 hB.S⟩
theorem XB.sp (hB : XB h T w tx sa ga la qs qg) : FT h 121 true := ⟨by decide, xk_121 hB.S⟩
/-- the trial takes the house -/
theorem x_try (hB : XB h T w tx sa ga la qs qg) : ∃ h', (∀ d, (run (d + 1) 136 0 [.ref 86, .ref 78] [] h) = some (.returned none, h')) ∧ On (HA 86) h h' ∧ XH h' 86 w (se_ T) ∧ XB h' T w tx sa ga la qs qg := by
  obtain ⟨h1, e1, o1, x1⟩ := x_takes ha86 ha78 (by decide) hB.H hB.tr
  exact ⟨h1, e1, o1, x1, hB.onQ (o1.mono (fun _ _ q => q.Q))⟩
theorem XB.onT (hB : XB h T w tx sa ga la qs qg) (o : On (HA 86) h h') : XB h' T w tx sa ga la qs qg := hB.onQ (o.mono (fun _ _ q => q.Q))
theorem x_price (hB : XB h T w tx sa ga la qs qg) (hW : WV T w) (s n : Int32) : ∃ h', (∀ d, (run (d + 408) 49 0 [.ref 64, .int s, .int n] [] h) = some (.returned (some (.int (qPri T w s n))), h')) ∧ On QX h h' := by
  have hXS := hB.S
  have hT := hB.X
  have hV := hT.v
  unfold qPri
  cases hq : sale_ T w s with
  | false =>
    refine ⟨h, fun d => ?_, On.refl⟩
    simp only [e49_0, e49_1, e49_2, e49_5, e49_8, e49_9, e49_12, e49_15, e49_16, e49_17, e49_18, e49_21, e49_22, e49_25, e49_28, e49_29, e49_30, e49_33, e49_34, e49_35, e49_38, e49_41, e49_42, e49_45, e49_46, e49_49, e49_50, e49_53, xk_64 hXS, xp_7 hXS, xp_8 hXS, xp_12 hXS, xk_121 hXS, ↓reduceIte, Nat.reduceAdd, Nat.reduceLeDiff, Nat.reduceLT, Nat.reduceEqDiff, not_false_eq_true, false_or, true_or, or_true, or_false, n0_e, n1_ne, n1_11, bI_1, bI_fo, va_rf_some, aBk_1, aBk_0, nI_add, nI_mul, hk_si, hp_si, hl_si, hk_sp, hk_sl, hk_cp, hp_cp, x_isKept hB, hq, bI_z, reduceCtorEq, false_and]
  | true =>
    obtain ⟨k, hk, rfl⟩ := sale_s hV hq
    have h4 := hT.ns4
    rw [kk_n (by omega)]
    cases hq2 : lng_ n with
    | false =>
      refine ⟨h, fun d => ?_, On.refl⟩
      simp only [e49_0, e49_1, e49_2, e49_5, e49_8, e49_9, e49_12, e49_15, e49_16, e49_17, e49_18, e49_21, e49_22, e49_25, e49_28, e49_29, e49_30, e49_33, e49_34, e49_35, e49_38, e49_41, e49_42, e49_45, e49_46, e49_49, e49_50, e49_53, xk_64 hXS, xp_7 hXS, xp_8 hXS, xp_12 hXS, xk_121 hXS, ↓reduceIte, Nat.reduceAdd, Nat.reduceLeDiff, Nat.reduceLT, Nat.reduceEqDiff, not_false_eq_true, false_or, true_or, or_true, or_false, n0_e, n1_ne, n1_11, bI_1, bI_fo, va_rf_some, aBk_1, aBk_0, nI_add, nI_mul, hk_si, hp_si, hl_si, hk_sp, hk_sl, hk_cp, hp_cp, x_isKept hB, hq, hq2, x_isAhead, bI_z, reduceCtorEq, and_false]
    | true =>
      obtain ⟨m, hm, rfl⟩ := lng_n hq2
      rw [if_pos ⟨rfl, rfl⟩, kk_n (by omega)]
      obtain ⟨h1, e1, o1, x1, b1⟩ := x_try hB
      have hXS1 := b1.S
      obtain ⟨h2, e2, o2, x2⟩ := x_runs ha86 b1.S b1.t b1.X hW x1 b1.sp (n := m) (by omega)
      have b2 := b1.onT o2
      have hXS2 := b2.S
      have hZ := x1.s
      have hZ0 := hB.tr
      have hZ2 := x2.s
      obtain ⟨h3, e3, o3⟩ := x_hsells ha86 b2.X (hW.wks hV m) x2 hk
      refine ⟨h3, fun d => ?_, ((o1.trans o2).trans (o3.mono (fun _ _ q => q.A))).mono (fun _ _ q => q.Q)⟩
      simp only [e49_0, e49_1, e49_2, e49_5, e49_8, e49_9, e49_12, e49_15, e49_16, e49_17, e49_18, e49_21, e49_22, e49_25, e49_28, e49_29, e49_30, e49_33, e49_34, e49_35, e49_38, e49_41, e49_42, e49_45, e49_46, e49_49, e49_50, e49_53, xk_64 hXS, xp_7 hXS, xp_8 hXS, xp_12 hXS, xk_121 hXS, xk_64 hXS1, xp_7 hXS1, xp_8 hXS1, xp_12 hXS1, xk_121 hXS1, xk_64 hXS2, xp_7 hXS2, xp_8 hXS2, xp_12 hXS2, xk_121 hXS2, h86_k hZ0, h86_k hZ, h86_k hZ2, ↓reduceIte, Nat.reduceAdd, Nat.reduceLeDiff, Nat.reduceLT, Nat.reduceEqDiff, not_false_eq_true, false_or, true_or, or_true, or_false, n0_e, n1_ne, n1_11, bI_1, bI_fo, va_rf_some, aBk_1, aBk_0, nI_add, nI_mul, hk_si, hp_si, hl_si, hk_sp, hk_sl, hk_cp, hp_cp, x_isKept hB, hq, hq2, x_isAhead, bI_z, reduceCtorEq, e1, e2, b2.t, e3]
      rfl
theorem x_earned (hB : XB h T w tx sa ga la qs qg) (hW : WV T w) (n : Int32) : ∃ h', (∀ d, (run (d + 408) 54 0 [.ref 64, .int n] [] h) = some (.returned (some (.int (qErn T w n))), h')) ∧ On QX h h' := by
  have hXS := hB.S
  have hA := hB.H.s
  unfold qErn
  cases hq2 : lng_ n with
  | false =>
    refine ⟨h, fun d => ?_, On.refl⟩
    simp only [e54_0, e54_1, e54_4, e54_7, e54_8, e54_9, e54_10, e54_13, e54_14, e54_17, e54_20, e54_21, e54_22, e54_25, e54_26, e54_27, e54_30, e54_33, e54_34, e54_37, e54_40, e54_41, e54_44, e54_47, e54_48, xk_64 hXS, xp_7 hXS, xp_8 hXS, xp_12 hXS, xk_121 hXS, ↓reduceIte, Nat.reduceAdd, Nat.reduceLeDiff, Nat.reduceLT, Nat.reduceEqDiff, not_false_eq_true, false_or, true_or, or_true, or_false, n0_e, n1_ne, n1_11, bI_1, bI_fo, va_rf_some, aBk_1, aBk_0, nI_add, nI_mul, hk_si, hp_si, hl_si, hk_sp, hk_sl, hk_cp, hp_cp, hq2, x_isAhead, bI_z, reduceCtorEq]
  | true =>
    obtain ⟨m, hm, rfl⟩ := lng_n hq2
    rw [if_pos rfl, kk_n (by omega)]
    obtain ⟨h1, e1, o1, x1, b1⟩ := x_try hB
    have hXS1 := b1.S
    obtain ⟨h2, e2, o2, x2⟩ := x_runs ha86 b1.S b1.t b1.X hW x1 b1.sp (n := m) (by omega)
    have b2 := b1.onT o2
    have hXS2 := b2.S
    have hZ := hB.tr
    have hZ2 := x2.s
    have hA2 := b2.H.s
    refine ⟨h2, fun d => ?_, (o1.trans o2).mono (fun _ _ q => q.Q)⟩
    simp only [e54_0, e54_1, e54_4, e54_7, e54_8, e54_9, e54_10, e54_13, e54_14, e54_17, e54_20, e54_21, e54_22, e54_25, e54_26, e54_27, e54_30, e54_33, e54_34, e54_37, e54_40, e54_41, e54_44, e54_47, e54_48, xk_64 hXS, xp_7 hXS, xp_8 hXS, xp_12 hXS, xk_121 hXS, xk_64 hXS1, xp_7 hXS1, xp_8 hXS1, xp_12 hXS1, xk_121 hXS1, xk_64 hXS2, xp_7 hXS2, xp_8 hXS2, xp_12 hXS2, xk_121 hXS2, h86_k hZ, h86_k hZ2, h78_k hA2, ↓reduceIte, Nat.reduceAdd, Nat.reduceLeDiff, Nat.reduceLT, Nat.reduceEqDiff, not_false_eq_true, false_or, true_or, or_true, or_false, n0_e, n1_ne, n1_11, bI_1, bI_fo, va_rf_some, aBk_1, aBk_0, nI_add, nI_mul, hk_si, hp_si, hl_si, hk_sp, hk_sl, hk_cp, hp_cp, hq2, x_isAhead, bI_z, reduceCtorEq, e1, e2, x2.mo, b2.H.mo]
    rfl
theorem x_then (hB : XB h T w tx sa ga la qs qg) (hW : WV T w) (g n what : Int32) : ∃ h', (∀ d, (run (d + 408) 55 0 [.ref 64, .int g, .int n, .int what] [] h) = some (.returned (some (.int (qThn T w g n what))), h')) ∧ On QX h h' := by
  have hXS := hB.S
  have hT := hB.X
  have hV := hT.v
  unfold qThn
  cases hq : isG T g with
  | false =>
    refine ⟨h, fun d => ?_, On.refl⟩
    simp only [e55_0, e55_1, e55_2, e55_5, e55_8, e55_9, e55_12, e55_15, e55_16, e55_17, e55_18, e55_21, e55_24, e55_25, e55_26, e55_27, e55_30, e55_31, e55_34, e55_37, e55_38, e55_39, e55_42, e55_43, e55_44, e55_47, e55_50, e55_51, e55_54, e55_55, e55_58, e55_61, e55_62, e55_63, e55_66, e55_67, e55_68, e55_71, e55_72, e55_75, e55_78, e55_79, e55_80, e55_83, e55_84, e55_87, e55_88, e55_91, e55_94, e55_95, e55_98, e55_99, xk_64 hXS, xp_7 hXS, xp_8 hXS, xp_11 hXS, xk_120 hXS, ↓reduceIte, Nat.reduceAdd, Nat.reduceLeDiff, Nat.reduceLT, Nat.reduceEqDiff, not_false_eq_true, false_or, true_or, or_true, or_false, n0_e, n1_ne, n1_11, bI_1, bI_fo, va_rf_some, aBk_1, aBk_0, nI_add, nI_mul, hk_si, hp_si, hl_si, hk_sp, hk_sl, hk_cp, hp_cp, x_isGuest hB, hq, bI_z, reduceCtorEq, false_and]
  | true =>
    obtain ⟨k, hk, rfl⟩ := isG_n hV hq
    have h7 := hT.ng7
    rw [kk_n (by omega)]
    cases hq2 : lng_ n with
    | false =>
      refine ⟨h, fun d => ?_, On.refl⟩
      simp only [e55_0, e55_1, e55_2, e55_5, e55_8, e55_9, e55_12, e55_15, e55_16, e55_17, e55_18, e55_21, e55_24, e55_25, e55_26, e55_27, e55_30, e55_31, e55_34, e55_37, e55_38, e55_39, e55_42, e55_43, e55_44, e55_47, e55_50, e55_51, e55_54, e55_55, e55_58, e55_61, e55_62, e55_63, e55_66, e55_67, e55_68, e55_71, e55_72, e55_75, e55_78, e55_79, e55_80, e55_83, e55_84, e55_87, e55_88, e55_91, e55_94, e55_95, e55_98, e55_99, xk_64 hXS, xp_7 hXS, xp_8 hXS, xp_11 hXS, xk_120 hXS, ↓reduceIte, Nat.reduceAdd, Nat.reduceLeDiff, Nat.reduceLT, Nat.reduceEqDiff, not_false_eq_true, false_or, true_or, or_true, or_false, n0_e, n1_ne, n1_11, bI_1, bI_fo, va_rf_some, aBk_1, aBk_0, nI_add, nI_mul, hk_si, hp_si, hl_si, hk_sp, hk_sl, hk_cp, hp_cp, x_isGuest hB, hq, hq2, x_isAhead, bI_z, reduceCtorEq, and_false, false_and]
    | true =>
      obtain ⟨m, hm, rfl⟩ := lng_n hq2
      rw [kk_n (by omega)]
      cases hq3 : in_ what (nI 0) (nI 2) with
      | false =>
        refine ⟨h, fun d => ?_, On.refl⟩
        simp only [e55_0, e55_1, e55_2, e55_5, e55_8, e55_9, e55_12, e55_15, e55_16, e55_17, e55_18, e55_21, e55_24, e55_25, e55_26, e55_27, e55_30, e55_31, e55_34, e55_37, e55_38, e55_39, e55_42, e55_43, e55_44, e55_47, e55_50, e55_51, e55_54, e55_55, e55_58, e55_61, e55_62, e55_63, e55_66, e55_67, e55_68, e55_71, e55_72, e55_75, e55_78, e55_79, e55_80, e55_83, e55_84, e55_87, e55_88, e55_91, e55_94, e55_95, e55_98, e55_99, xk_64 hXS, xp_7 hXS, xp_8 hXS, xp_11 hXS, xk_120 hXS, ↓reduceIte, Nat.reduceAdd, Nat.reduceLeDiff, Nat.reduceLT, Nat.reduceEqDiff, not_false_eq_true, false_or, true_or, or_true, or_false, n0_e, n1_ne, n1_11, bI_1, bI_fo, va_rf_some, aBk_1, aBk_0, nI_add, nI_mul, hk_si, hp_si, hl_si, hk_sp, hk_sl, hk_cp, hp_cp, x_isGuest hB, hq, hq2, hq3, x_isAhead, x_isIn, bI_z, reduceCtorEq, and_false]
      | true =>
        obtain ⟨c, hc, rfl⟩ := in_n (by decide) hq3
        rw [if_pos ⟨rfl, rfl, rfl⟩, kk_n (by omega)]
        obtain ⟨h1, e1, o1, x1, b1⟩ := x_try hB
        have hXS1 := b1.S
        obtain ⟨h2, e2, o2, x2⟩ := x_runs ha86 b1.S b1.t b1.X hW x1 b1.dr (n := m) (by omega)
        have b2 := b1.onT o2
        have hXS2 := b2.S
        have hZ := hB.tr
        have hZ2 := x2.s
        have k7 : k < 7 := by omega
        refine ⟨h2, fun d => ?_, (o1.trans o2).mono (fun _ _ q => q.Q)⟩
        have hcc : c = 0 ∨ c = 1 ∨ c = 2 := by omega
        rcases hcc with rfl | rfl | rfl
        · simp only [e55_0, e55_1, e55_2, e55_5, e55_8, e55_9, e55_12, e55_15, e55_16, e55_17, e55_18, e55_21, e55_24, e55_25, e55_26, e55_27, e55_30, e55_31, e55_34, e55_37, e55_38, e55_39, e55_42, e55_43, e55_44, e55_47, e55_50, e55_51, e55_54, e55_55, e55_58, e55_61, e55_62, e55_63, e55_66, e55_67, e55_68, e55_71, e55_72, e55_75, e55_78, e55_79, e55_80, e55_83, e55_84, e55_87, e55_88, e55_91, e55_94, e55_95, e55_98, e55_99, xk_64 hXS, xp_7 hXS, xp_8 hXS, xp_11 hXS, xk_120 hXS, xk_64 hXS1, xp_7 hXS1, xp_8 hXS1, xp_11 hXS1, xk_120 hXS1, xk_64 hXS2, xp_7 hXS2, xp_8 hXS2, xp_11 hXS2, xk_120 hXS2, h86_k hZ, h86_p53 hZ, h86_k1 hZ, h86_p54 hZ, h86_k2 hZ, h86_k hZ2, h86_p53 hZ2, h86_k1 hZ2, h86_p54 hZ2, h86_k2 hZ2, ↓reduceIte, Nat.reduceAdd, Nat.reduceLeDiff, Nat.reduceLT, Nat.reduceEqDiff, not_false_eq_true, false_or, true_or, or_true, or_false, n1_ne, n1_11, bI_1, bI_fo, va_rf_some, aBk_1, aBk_0, nI_add, nI_mul, hk_si, hp_si, hl_si, hk_sp, hk_sl, hk_cp, hp_cp, x_isGuest hB, hq, hq2, hq3, x_isAhead, x_isIn, bI_z, reduceCtorEq, e1, e2, n0_e, k7, x86_in x2 k7]
          show _ = some (Outcome.returned (some (.int (dr_ T w m (7 * 0 + k)))), h2)
          rw [Nat.mul_zero, Nat.zero_add]; rfl
        · simp only [e55_0, e55_1, e55_2, e55_5, e55_8, e55_9, e55_12, e55_15, e55_16, e55_17, e55_18, e55_21, e55_24, e55_25, e55_26, e55_27, e55_30, e55_31, e55_34, e55_37, e55_38, e55_39, e55_42, e55_43, e55_44, e55_47, e55_50, e55_51, e55_54, e55_55, e55_58, e55_61, e55_62, e55_63, e55_66, e55_67, e55_68, e55_71, e55_72, e55_75, e55_78, e55_79, e55_80, e55_83, e55_84, e55_87, e55_88, e55_91, e55_94, e55_95, e55_98, e55_99, xk_64 hXS, xp_7 hXS, xp_8 hXS, xp_11 hXS, xk_120 hXS, xk_64 hXS1, xp_7 hXS1, xp_8 hXS1, xp_11 hXS1, xk_120 hXS1, xk_64 hXS2, xp_7 hXS2, xp_8 hXS2, xp_11 hXS2, xk_120 hXS2, h86_k hZ, h86_p53 hZ, h86_k1 hZ, h86_p54 hZ, h86_k2 hZ, h86_k hZ2, h86_p53 hZ2, h86_k1 hZ2, h86_p54 hZ2, h86_k2 hZ2, ↓reduceIte, Nat.reduceAdd, Nat.reduceLeDiff, Nat.reduceLT, Nat.reduceEqDiff, not_false_eq_true, false_or, true_or, or_true, or_false, n0_e, n1_11, bI_1, bI_fo, va_rf_some, aBk_1, aBk_0, nI_add, nI_mul, hk_si, hp_si, hl_si, hk_sp, hk_sl, hk_cp, hp_cp, x_isGuest hB, hq, hq2, hq3, x_isAhead, x_isIn, bI_z, reduceCtorEq, e1, e2, n1_ne, k7, x86_re x2 k7]
          rfl
        · rcases (hW.wks (still := false) (sd := se_ T) hV m).2.2.1 k k7 with q | q
          · simp only [e55_0, e55_1, e55_2, e55_5, e55_8, e55_9, e55_12, e55_15, e55_16, e55_17, e55_18, e55_21, e55_24, e55_25, e55_26, e55_27, e55_30, e55_31, e55_34, e55_37, e55_38, e55_39, e55_42, e55_43, e55_44, e55_47, e55_50, e55_51, e55_54, e55_55, e55_58, e55_61, e55_62, e55_63, e55_66, e55_67, e55_68, e55_71, e55_72, e55_75, e55_78, e55_79, e55_80, e55_83, e55_84, e55_87, e55_88, e55_91, e55_94, e55_95, e55_98, e55_99, xk_64 hXS, xp_7 hXS, xp_8 hXS, xp_11 hXS, xk_120 hXS, xk_64 hXS1, xp_7 hXS1, xp_8 hXS1, xp_11 hXS1, xk_120 hXS1, xk_64 hXS2, xp_7 hXS2, xp_8 hXS2, xp_11 hXS2, xk_120 hXS2, h86_k hZ, h86_p53 hZ, h86_k1 hZ, h86_p54 hZ, h86_k2 hZ, h86_k hZ2, h86_p53 hZ2, h86_k1 hZ2, h86_p54 hZ2, h86_k2 hZ2, ↓reduceIte, Nat.reduceAdd, Nat.reduceLeDiff, Nat.reduceLT, not_false_eq_true, false_or, true_or, or_true, or_false, n0_e, n1_ne, n1_11, bI_1, bI_fo, va_rf_some, aBk_1, aBk_0, nI_add, nI_mul, hk_si, hp_si, hl_si, hk_sp, hk_sl, hk_cp, hp_cp, x_isGuest hB, hq, hq2, hq3, x_isAhead, x_isIn, bI_z, reduceCtorEq, e1, e2, n2_ne, nI_eqL, Nat.reduceEqDiff, x_isDead ha86 x2 k7, q, decide_true, Bool.not_true]
            show _ = some (Outcome.returned (some (.int (wks_ T false (se_ T) m w (14 + k)))), h2)
            rw [q]; rfl
          · simp only [e55_0, e55_1, e55_2, e55_5, e55_8, e55_9, e55_12, e55_15, e55_16, e55_17, e55_18, e55_21, e55_24, e55_25, e55_26, e55_27, e55_30, e55_31, e55_34, e55_37, e55_38, e55_39, e55_42, e55_43, e55_44, e55_47, e55_50, e55_51, e55_54, e55_55, e55_58, e55_61, e55_62, e55_63, e55_66, e55_67, e55_68, e55_71, e55_72, e55_75, e55_78, e55_79, e55_80, e55_83, e55_84, e55_87, e55_88, e55_91, e55_94, e55_95, e55_98, e55_99, xk_64 hXS, xp_7 hXS, xp_8 hXS, xp_11 hXS, xk_120 hXS, xk_64 hXS1, xp_7 hXS1, xp_8 hXS1, xp_11 hXS1, xk_120 hXS1, xk_64 hXS2, xp_7 hXS2, xp_8 hXS2, xp_11 hXS2, xk_120 hXS2, h86_k hZ, h86_p53 hZ, h86_k1 hZ, h86_p54 hZ, h86_k2 hZ, h86_k hZ2, h86_p53 hZ2, h86_k1 hZ2, h86_p54 hZ2, h86_k2 hZ2, ↓reduceIte, Nat.reduceAdd, Nat.reduceLeDiff, Nat.reduceLT, not_false_eq_true, false_or, true_or, or_true, or_false, n0_e, n1_11, bI_1, bI_fo, va_rf_some, aBk_1, aBk_0, nI_add, nI_mul, hk_si, hp_si, hl_si, hk_sp, hk_sl, hk_cp, hp_cp, x_isGuest hB, hq, hq2, hq3, x_isAhead, x_isIn, bI_z, reduceCtorEq, e1, e2, n2_ne, nI_eqL, Nat.reduceEqDiff, x_isDead ha86 x2 k7, q, n1_ne, decide_false, Bool.not_false]
            show _ = some (Outcome.returned (some (.int (wks_ T false (se_ T) m w (14 + k)))), h2)
            rw [q]
theorem x_wornIn (hB : XB h T w tx sa ga la qs qg) (hW : WV T w) (s n : Int32) : ∃ h', (∀ d, (run (d + 408) 56 0 [.ref 64, .int s, .int n] [] h) = some (.returned (some (.int (qWrn T w s n))), h')) ∧ On QX h h' := by
  have hXS := hB.S
  have hT := hB.X
  unfold qWrn
  cases hq : isS T s with
  | false =>
    refine ⟨h, fun d => ?_, On.refl⟩
    simp only [e56_0, e56_1, e56_2, e56_5, e56_8, e56_9, e56_12, e56_15, e56_16, e56_17, e56_18, e56_21, e56_22, e56_25, e56_28, e56_29, e56_30, e56_33, e56_34, e56_35, e56_38, e56_41, e56_42, e56_45, e56_48, e56_49, e56_50, xk_64 hXS, xp_7 hXS, xp_8 hXS, xp_11 hXS, xk_120 hXS, ↓reduceIte, Nat.reduceAdd, Nat.reduceLeDiff, Nat.reduceLT, Nat.reduceEqDiff, not_false_eq_true, false_or, true_or, or_true, or_false, n0_e, n1_ne, n1_11, bI_1, bI_fo, va_rf_some, aBk_1, aBk_0, nI_add, nI_mul, hk_si, hp_si, hl_si, hk_sp, hk_sl, hk_cp, hp_cp, x_isSunday hB, hq, bI_z, reduceCtorEq, false_and]
  | true =>
    obtain ⟨k, hk, rfl⟩ := isS_n hT.v hq
    have h4 := hT.ns4
    rw [kk_n (by omega)]
    cases hq2 : lng_ n with
    | false =>
      refine ⟨h, fun d => ?_, On.refl⟩
      simp only [e56_0, e56_1, e56_2, e56_5, e56_8, e56_9, e56_12, e56_15, e56_16, e56_17, e56_18, e56_21, e56_22, e56_25, e56_28, e56_29, e56_30, e56_33, e56_34, e56_35, e56_38, e56_41, e56_42, e56_45, e56_48, e56_49, e56_50, xk_64 hXS, xp_7 hXS, xp_8 hXS, xp_11 hXS, xk_120 hXS, ↓reduceIte, Nat.reduceAdd, Nat.reduceLeDiff, Nat.reduceLT, Nat.reduceEqDiff, not_false_eq_true, false_or, true_or, or_true, or_false, n0_e, n1_ne, n1_11, bI_1, bI_fo, va_rf_some, aBk_1, aBk_0, nI_add, nI_mul, hk_si, hp_si, hl_si, hk_sp, hk_sl, hk_cp, hp_cp, x_isSunday hB, hq, hq2, x_isAhead, bI_z, reduceCtorEq, and_false]
    | true =>
      obtain ⟨m, hm, rfl⟩ := lng_n hq2
      rw [if_pos ⟨rfl, rfl⟩, kk_n (by omega)]
      obtain ⟨h1, e1, o1, x1, b1⟩ := x_try hB
      have hXS1 := b1.S
      obtain ⟨h2, e2, o2, x2⟩ := x_runs ha86 b1.S b1.t b1.X hW x1 b1.dr (n := m) (by omega)
      have b2 := b1.onT o2
      have hXS2 := b2.S
      have hZ := hB.tr
      have hZ2 := x2.s
      have k4 : k < 4 := by omega
      refine ⟨h2, fun d => ?_, (o1.trans o2).mono (fun _ _ q => q.Q)⟩
      simp only [e56_0, e56_1, e56_2, e56_5, e56_8, e56_9, e56_12, e56_15, e56_16, e56_17, e56_18, e56_21, e56_22, e56_25, e56_28, e56_29, e56_30, e56_33, e56_34, e56_35, e56_38, e56_41, e56_42, e56_45, e56_48, e56_49, e56_50, xk_64 hXS, xp_7 hXS, xp_8 hXS, xp_11 hXS, xk_120 hXS, xk_64 hXS1, xp_7 hXS1, xp_8 hXS1, xp_11 hXS1, xk_120 hXS1, xk_64 hXS2, xp_7 hXS2, xp_8 hXS2, xp_11 hXS2, xk_120 hXS2, h86_k hZ, h86_p55 hZ, h86_k3 hZ, h86_k hZ2, h86_p55 hZ2, h86_k3 hZ2, ↓reduceIte, Nat.reduceAdd, Nat.reduceLeDiff, Nat.reduceLT, Nat.reduceEqDiff, not_false_eq_true, false_or, true_or, or_true, or_false, n0_e, n1_ne, n1_11, bI_1, bI_fo, va_rf_some, aBk_1, aBk_0, nI_add, nI_mul, hk_si, hp_si, hl_si, hk_sp, hk_sl, hk_cp, hp_cp, x_isSunday hB, hq, hq2, x_isAhead, bI_z, reduceCtorEq, e1, e2, k4, x86_wo x2 k4]
      rfl
theorem x_used (hB : XB h T w tx sa ga la qs qg) (hW : WV T w) (s v : Int32) : ∃ h', (∀ d, (run (d + 407) 52 0 [.ref 64, .int s, .int v, aU] [] h) = some (.returned (some (.int (qUsd T w s v))), h')) ∧ On QX h h' := by
  have hXS := hB.S
  have hT := hB.X
  have hV := hT.v
  unfold qUsd
  cases hq : isS T s with
  | false =>
    refine ⟨h, fun d => ?_, On.refl⟩
    simp only [e52_0, e52_1, e52_2, e52_5, e52_8, e52_9, e52_10, e52_12, e52_15, e52_18, e52_19, e52_20, e52_21, e52_24, e52_25, e52_28, e52_31, e52_32, e52_34, e52_36, e52_39, e52_40, e52_43, e52_46, e52_47, e52_48, e52_49, e52_52, e52_53, e52_54, e52_55, e52_58, e52_59, e52_62, e52_63, e52_66, e52_69, e52_72, e52_75, e52_77, xk_64 hXS, xp_7 hXS, xp_8 hXS, xp_12 hXS, xk_121 hXS, ↓reduceIte, Nat.reduceAdd, Nat.reduceLeDiff, Nat.reduceLT, Nat.reduceEqDiff, not_false_eq_true, false_or, true_or, or_true, or_false, n0_e, n1_ne, n1_11, bI_1, bI_fo, va_rf_some, aBk_1, aBk_0, nI_add, nI_mul, hk_si, hp_si, hl_si, hk_sp, hk_sl, hk_cp, hp_cp, x_isSunday hB, hq, bI_z, reduceCtorEq, false_and]
  | true =>
    obtain ⟨k, hk, rfl⟩ := isS_n hV hq
    have h4 := hT.ns4
    have k4 : k < 4 := by omega
    rw [kk_n (by omega)]
    cases hq2 : in_ v (nI 1) (nI 99) with
    | false =>
      refine ⟨h, fun d => ?_, On.refl⟩
      simp only [e52_0, e52_1, e52_2, e52_5, e52_8, e52_9, e52_10, e52_12, e52_15, e52_18, e52_19, e52_20, e52_21, e52_24, e52_25, e52_28, e52_31, e52_32, e52_34, e52_36, e52_39, e52_40, e52_43, e52_46, e52_47, e52_48, e52_49, e52_52, e52_53, e52_54, e52_55, e52_58, e52_59, e52_62, e52_63, e52_66, e52_69, e52_72, e52_75, e52_77, xk_64 hXS, xp_7 hXS, xp_8 hXS, xp_12 hXS, xk_121 hXS, ↓reduceIte, Nat.reduceAdd, Nat.reduceLeDiff, Nat.reduceLT, Nat.reduceEqDiff, not_false_eq_true, false_or, true_or, or_true, or_false, n0_e, n1_ne, n1_11, bI_1, bI_fo, va_rf_some, aBk_1, aBk_0, nI_add, nI_mul, hk_si, hp_si, hl_si, hk_sp, hk_sl, hk_cp, hp_cp, x_isSunday hB, hq, hq2, x_isIn, bI_z, reduceCtorEq, and_false]
    | true =>
      rw [if_pos ⟨rfl, rfl⟩]
      obtain ⟨h1, e1, o1, x1, b1⟩ := x_try hB
      have hZ := hB.tr
      have key := run_findd (F := fun d j x => (run (d + 407) 52 33 [.ref 64, .int (nI k), .int v, .int (nI j)] [] x)) (R := fun d j x => some (.returned (some (.int (nI j))), x)) (I := fun j x => On (HA 86) h1 x ∧ XH x 86 (ah_ T w j) (se_ T)) (Q := fun j x => On (HA 86) h1 x) (P := fun n => decide (v ≤ ah_ T w n (21 + k))) (n := 101) (x := h1) ⟨On.refl, x1⟩ (fun j x hj hI => by
        obtain ⟨o, xx⟩ := hI
        have bx := b1.onT o
        have hXSx := bx.S
        have hZx := xx.s
        have g1 : ¬ nI 100 < nI j := nI_nlt (by omega) (by decide)
        by_cases q : v ≤ ah_ T w j (21 + k)
        · have q' : ¬ ah_ T w j (21 + k) < v := Int32.not_lt.mpr q
          rw [if_pos (decide_eq_true q)]
          refine ⟨x, fun d => ?_, o⟩
          refine (e52_33).trans ?_
          simp only [e52_0, e52_1, e52_2, e52_5, e52_8, e52_9, e52_10, e52_12, e52_15, e52_18, e52_19, e52_20, e52_21, e52_24, e52_25, e52_28, e52_31, e52_32, e52_34, e52_36, e52_39, e52_40, e52_43, e52_46, e52_47, e52_48, e52_49, e52_52, e52_53, e52_54, e52_55, e52_58, e52_59, e52_62, e52_63, e52_66, e52_69, e52_72, e52_75, e52_77, xk_64 hXSx, xp_7 hXSx, xp_8 hXSx, xp_12 hXSx, xk_121 hXSx, h86_k hZx, h86_p55 hZx, h86_k3 hZx, ↓reduceIte, Nat.reduceAdd, Nat.reduceLeDiff, Nat.reduceLT, Nat.reduceEqDiff, not_false_eq_true, false_or, true_or, or_true, or_false, n0_e, n1_ne, n1_11, bI_z, bI_1, bI_fo, va_rf_some, aBk_1, aBk_0, nI_add, nI_mul, hk_si, hp_si, hl_si, hk_sp, hk_sl, hk_cp, hp_cp, g1, k4, x86_wo xx k4, q']
        · have q' : ah_ T w j (21 + k) < v := Int32.not_le.mp q
          rw [if_neg (by rw [decide_eq_false q]; decide)]
          obtain ⟨y, e, oy, hy⟩ := x_goesBy ha86 bx.X (hW.wks hV j) xx bx.sp
          refine ⟨y, fun d => ?_, o.trans oy, hy⟩
          refine (e52_33).trans ?_
          simp only [e52_0, e52_1, e52_2, e52_5, e52_8, e52_9, e52_10, e52_12, e52_15, e52_18, e52_19, e52_20, e52_21, e52_24, e52_25, e52_28, e52_31, e52_32, e52_34, e52_36, e52_39, e52_40, e52_43, e52_46, e52_47, e52_48, e52_49, e52_52, e52_53, e52_54, e52_55, e52_58, e52_59, e52_62, e52_63, e52_66, e52_69, e52_72, e52_75, e52_77, xk_64 hXSx, xp_7 hXSx, xp_8 hXSx, xp_12 hXSx, xk_121 hXSx, h86_k hZx, h86_p55 hZx, h86_k3 hZx, ↓reduceIte, Nat.reduceAdd, Nat.reduceLeDiff, Nat.reduceLT, Nat.reduceEqDiff, not_false_eq_true, false_or, true_or, or_true, or_false, n0_e, n1_ne, n1_11, bI_z, bI_1, bI_fo, va_rf_some, aBk_1, aBk_0, nI_add, nI_mul, hk_si, hp_si, hl_si, hk_sp, hk_sl, hk_cp, hp_cp, g1, k4, x86_wo xx k4, q', bx.t, e])
      revert key
      cases fnd (fun n => decide (v ≤ ah_ T w n (21 + k))) 101 0 with
      | some j =>
        rintro ⟨y, e, o⟩
        refine ⟨y, fun d => ?_, (o1.trans o).mono (fun _ _ q => q.Q)⟩
        simp only [e52_0, e52_1, e52_2, e52_5, e52_8, e52_9, e52_10, e52_12, e52_15, e52_18, e52_19, e52_20, e52_21, e52_24, e52_25, e52_28, e52_31, e52_32, e52_34, e52_36, e52_39, e52_40, e52_43, e52_46, e52_47, e52_48, e52_49, e52_52, e52_53, e52_54, e52_55, e52_58, e52_59, e52_62, e52_63, e52_66, e52_69, e52_72, e52_75, e52_77, xk_64 hXS, xp_7 hXS, xp_8 hXS, xp_12 hXS, xk_121 hXS, h86_k hZ, h86_p55 hZ, h86_k3 hZ, ↓reduceIte, Nat.reduceAdd, Nat.reduceLeDiff, Nat.reduceLT, Nat.reduceEqDiff, not_false_eq_true, false_or, true_or, or_true, or_false, n0_e, n1_ne, n1_11, bI_1, bI_fo, va_rf_some, aBk_1, aBk_0, nI_add, nI_mul, hk_si, hp_si, hl_si, hk_sp, hk_sl, hk_cp, hp_cp, x_isSunday hB, hq, hq2, x_isIn, bI_z, reduceCtorEq, e1]
        exact e d
      | none =>
        rintro ⟨y, e, o, -⟩
        refine ⟨y, fun d => ?_, (o1.trans o).mono (fun _ _ q => q.Q)⟩
        have g1 : nI 100 < nI 101 := by decide
        simp only [e52_0, e52_1, e52_2, e52_5, e52_8, e52_9, e52_10, e52_12, e52_15, e52_18, e52_19, e52_20, e52_21, e52_24, e52_25, e52_28, e52_31, e52_32, e52_34, e52_36, e52_39, e52_40, e52_43, e52_46, e52_47, e52_48, e52_49, e52_52, e52_53, e52_54, e52_55, e52_58, e52_59, e52_62, e52_63, e52_66, e52_69, e52_72, e52_75, e52_77, xk_64 hXS, xp_7 hXS, xp_8 hXS, xp_12 hXS, xk_121 hXS, h86_k hZ, h86_p55 hZ, h86_k3 hZ, ↓reduceIte, Nat.reduceAdd, Nat.reduceLeDiff, Nat.reduceLT, Nat.reduceEqDiff, not_false_eq_true, false_or, true_or, or_true, or_false, n0_e, n1_ne, n1_11, bI_1, bI_fo, va_rf_some, aBk_1, aBk_0, nI_add, nI_mul, hk_si, hp_si, hl_si, hk_sp, hk_sl, hk_cp, hp_cp, x_isSunday hB, hq, hq2, x_isIn, bI_z, reduceCtorEq, e1]
        refine (e d).trans ?_
        refine (e52_33).trans ?_
        simp only [e52_0, e52_1, e52_2, e52_5, e52_8, e52_9, e52_10, e52_12, e52_15, e52_18, e52_19, e52_20, e52_21, e52_24, e52_25, e52_28, e52_31, e52_32, e52_34, e52_36, e52_39, e52_40, e52_43, e52_46, e52_47, e52_48, e52_49, e52_52, e52_53, e52_54, e52_55, e52_58, e52_59, e52_62, e52_63, e52_66, e52_69, e52_72, e52_75, e52_77, ↓reduceIte, Nat.reduceAdd, Nat.reduceLeDiff, Nat.reduceLT, Nat.reduceEqDiff, not_false_eq_true, false_or, true_or, or_true, or_false, n0_e, n1_ne, n1_11, bI_z, bI_1, bI_fo, va_rf_some, aBk_1, aBk_0, nI_add, nI_mul, hk_si, hp_si, hl_si, hk_sp, hk_sl, hk_cp, hp_cp, g1]
        rfl
theorem x_weary (hB : XB h T w tx sa ga la qs qg) (hW : WV T w) (g : Int32) : ∃ h', (∀ d, (run (d + 407) 51 0 [.ref 64, .int g, aU] [] h) = some (.returned (some (.int (qWry T w g))), h')) ∧ On (HA 86) h h' := by
  have hXS := hB.S
  have hT := hB.X
  have hV := hT.v
  unfold qWry
  cases hq : isG T g with
  | false =>
    refine ⟨h, fun d => ?_, On.refl⟩
    simp only [e51_0, e51_1, e51_2, e51_5, e51_8, e51_9, e51_10, e51_11, e51_14, e51_15, e51_18, e51_21, e51_22, e51_24, e51_26, e51_29, e51_30, e51_33, e51_36, e51_37, e51_38, e51_39, e51_42, e51_45, e51_48, e51_49, e51_50, e51_51, e51_54, e51_55, e51_58, e51_59, e51_62, e51_65, e51_68, e51_71, e51_73, xk_64 hXS, xp_7 hXS, xp_8 hXS, xp_12 hXS, xk_121 hXS, ↓reduceIte, Nat.reduceAdd, Nat.reduceLeDiff, Nat.reduceLT, Nat.reduceEqDiff, not_false_eq_true, false_or, true_or, or_true, or_false, n0_e, n1_ne, n1_11, bI_1, bI_fo, va_rf_some, aBk_1, aBk_0, nI_add, nI_mul, hk_si, hp_si, hl_si, hk_sp, hk_sl, hk_cp, hp_cp, x_isGuest hB, hq, bI_z, reduceCtorEq]
  | true =>
    obtain ⟨k, hk, rfl⟩ := isG_n hV hq
    have h7 := hT.ng7
    have k7 : k < 7 := by omega
    rw [kk_n (by omega), if_pos rfl]
    obtain ⟨h1, e1, o1, x1, b1⟩ := x_try hB
    have hZ := hB.tr
    have key := run_findd (F := fun d j x => (run (d + 407) 51 23 [.ref 64, .int (nI k), .int (nI j)] [] x)) (R := fun d j x => some (.returned (some (.int (nI j))), x)) (I := fun j x => On (HA 86) h1 x ∧ XH x 86 (ah_ T w j) (se_ T)) (Q := fun j x => On (HA 86) h1 x) (P := fun n => decide (de_ T ≤ ah_ T w n (7 + k))) (n := 101) (x := h1) ⟨On.refl, x1⟩ (fun j x hj hI => by
      obtain ⟨o, xx⟩ := hI
      have bx := b1.onT o
      have hXSx := bx.S
      have hZx := xx.s
      have g1 : ¬ nI 100 < nI j := nI_nlt (by omega) (by decide)
      by_cases q : de_ T ≤ ah_ T w j (7 + k)
      · have q' : ¬ ah_ T w j (7 + k) < de_ T := Int32.not_lt.mpr q
        rw [if_pos (decide_eq_true q)]
        refine ⟨x, fun d => ?_, o⟩
        refine (e51_23).trans ?_
        simp only [e51_0, e51_1, e51_2, e51_5, e51_8, e51_9, e51_10, e51_11, e51_14, e51_15, e51_18, e51_21, e51_22, e51_24, e51_26, e51_29, e51_30, e51_33, e51_36, e51_37, e51_38, e51_39, e51_42, e51_45, e51_48, e51_49, e51_50, e51_51, e51_54, e51_55, e51_58, e51_59, e51_62, e51_65, e51_68, e51_71, e51_73, xk_64 hXSx, xp_7 hXSx, xp_8 hXSx, xp_12 hXSx, xk_121 hXSx, h86_k hZx, h86_p54 hZx, h86_k2 hZx, ↓reduceIte, Nat.reduceAdd, Nat.reduceLeDiff, Nat.reduceLT, Nat.reduceEqDiff, not_false_eq_true, false_or, true_or, or_true, or_false, n0_e, n1_ne, n1_11, bI_z, bI_1, bI_fo, va_rf_some, aBk_1, aBk_0, nI_add, nI_mul, hk_si, hp_si, hl_si, hk_sp, hk_sl, hk_cp, hp_cp, g1, k7, x86_re xx k7, bx.t, bx.X.ktx, bx.X.de, q']
      · have q' : ah_ T w j (7 + k) < de_ T := Int32.not_le.mp q
        rw [if_neg (by rw [decide_eq_false q]; decide)]
        obtain ⟨y, e, oy, hy⟩ := x_goesBy ha86 bx.X (hW.wks hV j) xx bx.sp
        refine ⟨y, fun d => ?_, o.trans oy, hy⟩
        refine (e51_23).trans ?_
        simp only [e51_0, e51_1, e51_2, e51_5, e51_8, e51_9, e51_10, e51_11, e51_14, e51_15, e51_18, e51_21, e51_22, e51_24, e51_26, e51_29, e51_30, e51_33, e51_36, e51_37, e51_38, e51_39, e51_42, e51_45, e51_48, e51_49, e51_50, e51_51, e51_54, e51_55, e51_58, e51_59, e51_62, e51_65, e51_68, e51_71, e51_73, xk_64 hXSx, xp_7 hXSx, xp_8 hXSx, xp_12 hXSx, xk_121 hXSx, h86_k hZx, h86_p54 hZx, h86_k2 hZx, ↓reduceIte, Nat.reduceAdd, Nat.reduceLeDiff, Nat.reduceLT, Nat.reduceEqDiff, not_false_eq_true, false_or, true_or, or_true, or_false, n0_e, n1_ne, n1_11, bI_z, bI_1, bI_fo, va_rf_some, aBk_1, aBk_0, nI_add, nI_mul, hk_si, hp_si, hl_si, hk_sp, hk_sl, hk_cp, hp_cp, g1, k7, x86_re xx k7, bx.t, bx.X.ktx, bx.X.de, q', e])
    revert key
    cases fnd (fun n => decide (de_ T ≤ ah_ T w n (7 + k))) 101 0 with
    | some j =>
      rintro ⟨y, e, o⟩
      refine ⟨y, fun d => ?_, o1.trans o⟩
      simp only [e51_0, e51_1, e51_2, e51_5, e51_8, e51_9, e51_10, e51_11, e51_14, e51_15, e51_18, e51_21, e51_22, e51_24, e51_26, e51_29, e51_30, e51_33, e51_36, e51_37, e51_38, e51_39, e51_42, e51_45, e51_48, e51_49, e51_50, e51_51, e51_54, e51_55, e51_58, e51_59, e51_62, e51_65, e51_68, e51_71, e51_73, xk_64 hXS, xp_7 hXS, xp_8 hXS, xp_12 hXS, xk_121 hXS, h86_k hZ, h86_p54 hZ, h86_k2 hZ, ↓reduceIte, Nat.reduceAdd, Nat.reduceLeDiff, Nat.reduceLT, Nat.reduceEqDiff, not_false_eq_true, false_or, true_or, or_true, or_false, n0_e, n1_ne, n1_11, bI_1, bI_fo, va_rf_some, aBk_1, aBk_0, nI_add, nI_mul, hk_si, hp_si, hl_si, hk_sp, hk_sl, hk_cp, hp_cp, x_isGuest hB, hq, bI_z, reduceCtorEq, e1]
      exact e d
    | none =>
      rintro ⟨y, e, o, -⟩
      refine ⟨y, fun d => ?_, o1.trans o⟩
      have g1 : nI 100 < nI 101 := by decide
      simp only [e51_0, e51_1, e51_2, e51_5, e51_8, e51_9, e51_10, e51_11, e51_14, e51_15, e51_18, e51_21, e51_22, e51_24, e51_26, e51_29, e51_30, e51_33, e51_36, e51_37, e51_38, e51_39, e51_42, e51_45, e51_48, e51_49, e51_50, e51_51, e51_54, e51_55, e51_58, e51_59, e51_62, e51_65, e51_68, e51_71, e51_73, xk_64 hXS, xp_7 hXS, xp_8 hXS, xp_12 hXS, xk_121 hXS, h86_k hZ, h86_p54 hZ, h86_k2 hZ, ↓reduceIte, Nat.reduceAdd, Nat.reduceLeDiff, Nat.reduceLT, Nat.reduceEqDiff, not_false_eq_true, false_or, true_or, or_true, or_false, n0_e, n1_ne, n1_11, bI_1, bI_fo, va_rf_some, aBk_1, aBk_0, nI_add, nI_mul, hk_si, hp_si, hl_si, hk_sp, hk_sl, hk_cp, hp_cp, x_isGuest hB, hq, bI_z, reduceCtorEq, e1]
      refine (e d).trans ?_
      refine (e51_23).trans ?_
      simp only [e51_0, e51_1, e51_2, e51_5, e51_8, e51_9, e51_10, e51_11, e51_14, e51_15, e51_18, e51_21, e51_22, e51_24, e51_26, e51_29, e51_30, e51_33, e51_36, e51_37, e51_38, e51_39, e51_42, e51_45, e51_48, e51_49, e51_50, e51_51, e51_54, e51_55, e51_58, e51_59, e51_62, e51_65, e51_68, e51_71, e51_73, ↓reduceIte, Nat.reduceAdd, Nat.reduceLeDiff, Nat.reduceLT, Nat.reduceEqDiff, not_false_eq_true, false_or, true_or, or_true, or_false, n0_e, n1_ne, n1_11, bI_z, bI_1, bI_fo, va_rf_some, aBk_1, aBk_0, nI_add, nI_mul, hk_si, hp_si, hl_si, hk_sp, hk_sl, hk_cp, hp_cp, g1]
      rfl
/-- X's first: best and few over the guests -/
def fsF (T : aTx) (w : Nat → Int32) (g : Nat) (q : Int32 × Int32) : Int32 × Int32 :=
  let v := if w (14 + g) = 0 then fnI (fnd (fun n => decide (de_ T ≤ ah_ T w n (7 + g))) 101 0) else -1
  if 0 ≤ v ∧ v < q.2 then (nI g, v) else q
def fs_ (T : aTx) (w : Nat → Int32) : Int32 × Int32 := itn (ng_ T) (fsF T w) (-2, nI 1000000)
def qFstX (T : aTx) (w : Nat → Int32) (what : Int32) : Int32 := if in_ what (nI 0) (nI 1) = true then (if (fs_ T w).1 < 0 ∨ what = nI 1 then (fs_ T w).1 else (fs_ T w).2) else -1
theorem x_first (hB : XB h T w tx sa ga la qs qg) (hW : WV T w) (what : Int32) : ∃ h', (∀ d, (run (d + 408) 53 0 [.ref 64, .int what, aU, aU, aU, aU] [] h) = some (.returned (some (.int (qFstX T w what))), h')) ∧ On QX h h' := by
  have hXS := hB.S
  have hT := hB.X
  have hV := hT.v
  have h7 := hT.ng7
  unfold qFstX
  cases hq : in_ what (nI 0) (nI 1) with
  | false =>
    refine ⟨h, fun d => ?_, On.refl⟩
    simp only [e53_0, e53_1, e53_2, e53_3, e53_6, e53_9, e53_10, e53_11, e53_13, e53_14, e53_17, e53_18, e53_19, e53_23, e53_24, e53_27, e53_30, e53_31, e53_34, e53_36, e53_39, e53_42, e53_43, e53_46, e53_47, e53_49, e53_52, e53_54, e53_56, e53_59, e53_61, e53_62, e53_65, e53_68, e53_70, e53_71, e53_73, e53_74, e53_77, e53_80, e53_81, e53_84, e53_85, e53_86, e53_89, e53_90, e53_93, e53_94, xk_64 hXS, xp_7 hXS, ↓reduceIte, Nat.reduceAdd, Nat.reduceLeDiff, Nat.reduceLT, Nat.reduceEqDiff, not_false_eq_true, false_or, true_or, or_true, or_false, n0_e, n1_ne, n1_11, bI_1, bI_fo, va_rf_some, aBk_1, aBk_0, nI_add, nI_mul, hk_si, hp_si, hl_si, hk_sp, hk_sl, hk_cp, hp_cp, x_isIn, hq, bI_z, reduceCtorEq]
  | true =>
    rw [if_pos rfl]
    obtain ⟨y, e, ey, oy⟩ := run_invd (F := fun d j (x : ((Int32 × Int32) × Value) × aH) => (run (d + 408) 53 21 [.ref 64, .int what, .int x.1.1.1, .int x.1.1.2, .int (nI j), x.1.2] [] x.2)) (I := fun j x => x.1.1 = itn j (fsF T w) (-2, nI 1000000) ∧ On (HA 86) h x.2) (n := ng_ T) (x := (((-2, nI 1000000), aU), h)) ⟨rfl, On.refl⟩ (fun j x hj hI => by
      obtain ⟨⟨⟨b, few⟩, v5⟩, x⟩ := x
      obtain ⟨eb, o⟩ := hI
      have eb : (b, few) = itn j (fsF T w) (-2, nI 1000000) := eb
      have o : On (HA 86) h x := o
      have bx := hB.onT o
      have hXSx := bx.S
      have hAx := bx.H.s
      have g1 : ¬ nI (ng_ T) ≤ nI j := nI_ge hj (by omega)
      have j7 : j < 7 := by omega
      have step : itn (j + 1) (fsF T w) (-2, nI 1000000) = fsF T w j (b, few) := by rw [itn, ← eb]
      by_cases hd : w (14 + j) = 0
      · obtain ⟨y, e, oy⟩ := x_weary bx hW (nI j)
        have ev : qWry T w (nI j) = fnI (fnd (fun n => decide (de_ T ≤ ah_ T w n (7 + j))) 101 0) := by
          unfold qWry
          rw [if_pos (isG_t hV hj), kk_n (by omega)]
        rw [ev] at e
        have es : fsF T w j (b, few) = if 0 ≤ fnI (fnd (fun n => decide (de_ T ≤ ah_ T w n (7 + j))) 101 0) ∧ fnI (fnd (fun n => decide (de_ T ≤ ah_ T w n (7 + j))) 101 0) < few then (nI j, fnI (fnd (fun n => decide (de_ T ≤ ah_ T w n (7 + j))) 101 0)) else (b, few) := by
          unfold fsF
          rw [if_pos hd]
        rw [step, es]
        generalize fnI (fnd (fun n => decide (de_ T ≤ ah_ T w n (7 + j))) 101 0) = v at e ⊢
        by_cases q1 : v < 0
        · refine ⟨(((b, few), .int v), y), fun d => ?_, ?_, o.trans oy⟩
          · refine (e53_21).trans ?_
            simp only [e53_0, e53_1, e53_2, e53_3, e53_6, e53_9, e53_10, e53_11, e53_13, e53_14, e53_17, e53_18, e53_19, e53_23, e53_24, e53_27, e53_30, e53_31, e53_34, e53_36, e53_39, e53_42, e53_43, e53_46, e53_47, e53_49, e53_52, e53_54, e53_56, e53_59, e53_61, e53_62, e53_65, e53_68, e53_70, e53_71, e53_73, e53_74, e53_77, e53_80, e53_81, e53_84, e53_85, e53_86, e53_89, e53_90, e53_93, e53_94, xk_64 hXSx, xp_7 hXSx, h78_k hAx, ↓reduceIte, Nat.reduceAdd, Nat.reduceLeDiff, Nat.reduceLT, Nat.reduceEqDiff, not_false_eq_true, false_or, true_or, or_true, or_false, n0_e, n1_ne, n1_11, bI_1, bI_fo, va_rf_some, aBk_1, aBk_0, nI_add, nI_mul, hk_si, hp_si, hl_si, hk_sp, hk_sl, hk_cp, hp_cp, x_guests bx, g1, x_isDead ha78 bx.H j7, hd, decide_true, Bool.not_true, bI_z, e, q1]
          · rw [if_neg (fun z => Int32.not_le.mpr q1 z.1)]
        · by_cases q2 : v < few
          · refine ⟨(((nI j, v), .int v), y), fun d => ?_, ?_, o.trans oy⟩
            · refine (e53_21).trans ?_
              simp only [e53_0, e53_1, e53_2, e53_3, e53_6, e53_9, e53_10, e53_11, e53_13, e53_14, e53_17, e53_18, e53_19, e53_23, e53_24, e53_27, e53_30, e53_31, e53_34, e53_36, e53_39, e53_42, e53_43, e53_46, e53_47, e53_49, e53_52, e53_54, e53_56, e53_59, e53_61, e53_62, e53_65, e53_68, e53_70, e53_71, e53_73, e53_74, e53_77, e53_80, e53_81, e53_84, e53_85, e53_86, e53_89, e53_90, e53_93, e53_94, xk_64 hXSx, xp_7 hXSx, h78_k hAx, ↓reduceIte, Nat.reduceAdd, Nat.reduceLeDiff, Nat.reduceLT, Nat.reduceEqDiff, not_false_eq_true, false_or, true_or, or_true, or_false, n0_e, n1_ne, n1_11, bI_1, bI_fo, va_rf_some, aBk_1, aBk_0, nI_add, nI_mul, hk_si, hp_si, hl_si, hk_sp, hk_sl, hk_cp, hp_cp, x_guests bx, g1, x_isDead ha78 bx.H j7, hd, decide_true, Bool.not_true, bI_z, e, q1, q2]
            · rw [if_pos ⟨Int32.not_lt.mp q1, q2⟩]
          · refine ⟨(((b, few), .int v), y), fun d => ?_, ?_, o.trans oy⟩
            · refine (e53_21).trans ?_
              simp only [e53_0, e53_1, e53_2, e53_3, e53_6, e53_9, e53_10, e53_11, e53_13, e53_14, e53_17, e53_18, e53_19, e53_23, e53_24, e53_27, e53_30, e53_31, e53_34, e53_36, e53_39, e53_42, e53_43, e53_46, e53_47, e53_49, e53_52, e53_54, e53_56, e53_59, e53_61, e53_62, e53_65, e53_68, e53_70, e53_71, e53_73, e53_74, e53_77, e53_80, e53_81, e53_84, e53_85, e53_86, e53_89, e53_90, e53_93, e53_94, xk_64 hXSx, xp_7 hXSx, h78_k hAx, ↓reduceIte, Nat.reduceAdd, Nat.reduceLeDiff, Nat.reduceLT, Nat.reduceEqDiff, not_false_eq_true, false_or, true_or, or_true, or_false, n0_e, n1_ne, n1_11, bI_1, bI_fo, va_rf_some, aBk_1, aBk_0, nI_add, nI_mul, hk_si, hp_si, hl_si, hk_sp, hk_sl, hk_cp, hp_cp, x_guests bx, g1, x_isDead ha78 bx.H j7, hd, decide_true, Bool.not_true, bI_z, e, q1, q2]
            · rw [if_neg (fun z => q2 z.2)]
      · have hm1 : ((-1 : Int32) < 0) = True := by decide
        refine ⟨(((b, few), .int (-1)), x), fun d => ?_, ?_, o⟩
        · refine (e53_21).trans ?_
          simp only [e53_0, e53_1, e53_2, e53_3, e53_6, e53_9, e53_10, e53_11, e53_13, e53_14, e53_17, e53_18, e53_19, e53_23, e53_24, e53_27, e53_30, e53_31, e53_34, e53_36, e53_39, e53_42, e53_43, e53_46, e53_47, e53_49, e53_52, e53_54, e53_56, e53_59, e53_61, e53_62, e53_65, e53_68, e53_70, e53_71, e53_73, e53_74, e53_77, e53_80, e53_81, e53_84, e53_85, e53_86, e53_89, e53_90, e53_93, e53_94, xk_64 hXSx, xp_7 hXSx, h78_k hAx, ↓reduceIte, Nat.reduceAdd, Nat.reduceLeDiff, Nat.reduceLT, Nat.reduceEqDiff, not_false_eq_true, false_or, true_or, or_true, or_false, n0_e, n1_ne, n1_11, bI_1, bI_fo, va_rf_some, aBk_1, aBk_0, nI_add, nI_mul, hk_si, hp_si, hl_si, hk_sp, hk_sl, hk_cp, hp_cp, x_guests bx, g1, x_isDead ha78 bx.H j7, hd, decide_false, Bool.not_false, bI_z, reduceCtorEq, hm1]
        · rw [step]
          unfold fsF
          rw [if_neg hd, if_neg (fun z => absurd z.1 (by decide))])
    obtain ⟨⟨⟨b, few⟩, v5⟩, y⟩ := y
    have ey : (b, few) = fs_ T w := ey
    have oy : On (HA 86) h y := oy
    have by' := hB.onT oy
    have hXSy := by'.S
    rw [← ey]
    refine ⟨y, fun d => ?_, oy.mono (fun _ _ q => q.Q)⟩
    simp only [e53_0, e53_1, e53_2, e53_3, e53_6, e53_9, e53_10, e53_11, e53_13, e53_14, e53_17, e53_18, e53_19, e53_23, e53_24, e53_27, e53_30, e53_31, e53_34, e53_36, e53_39, e53_42, e53_43, e53_46, e53_47, e53_49, e53_52, e53_54, e53_56, e53_59, e53_61, e53_62, e53_65, e53_68, e53_70, e53_71, e53_73, e53_74, e53_77, e53_80, e53_81, e53_84, e53_85, e53_86, e53_89, e53_90, e53_93, e53_94, xk_64 hXS, xp_7 hXS, ↓reduceIte, Nat.reduceAdd, Nat.reduceLeDiff, Nat.reduceLT, Nat.reduceEqDiff, not_false_eq_true, false_or, true_or, or_true, or_false, n0_e, n1_ne, n1_11, bI_1, bI_fo, va_rf_some, aBk_1, aBk_0, nI_add, nI_mul, hk_si, hp_si, hl_si, hk_sp, hk_sl, hk_cp, hp_cp, x_isIn, hq, bI_z, reduceCtorEq]
    refine (e d).trans ?_
    refine (e53_21).trans ?_
    dsimp only
    obtain ⟨c, hc, rfl⟩ := in_n (by decide) hq
    have hcc : c = 0 ∨ c = 1 := by omega
    by_cases q2 : b < 0
    · rw [if_pos (Or.inl q2)]
      simp only [e53_0, e53_1, e53_2, e53_3, e53_6, e53_9, e53_10, e53_11, e53_13, e53_14, e53_17, e53_18, e53_19, e53_23, e53_24, e53_27, e53_30, e53_31, e53_34, e53_36, e53_39, e53_42, e53_43, e53_46, e53_47, e53_49, e53_52, e53_54, e53_56, e53_59, e53_61, e53_62, e53_65, e53_68, e53_70, e53_71, e53_73, e53_74, e53_77, e53_80, e53_81, e53_84, e53_85, e53_86, e53_89, e53_90, e53_93, e53_94, xk_64 hXSy, xp_7 hXSy, ↓reduceIte, Nat.reduceAdd, Nat.reduceLeDiff, Nat.reduceLT, Nat.reduceEqDiff, not_false_eq_true, false_or, true_or, or_true, or_false, n0_e, n1_ne, n1_11, bI_z, bI_1, bI_fo, va_rf_some, aBk_1, aBk_0, nI_add, nI_mul, hk_si, hp_si, hl_si, hk_sp, hk_sl, hk_cp, hp_cp, x_guests by', Int32.le_refl, q2]
    · rcases hcc with rfl | rfl
      · rw [if_neg (fun z => z.elim q2 (by decide))]
        simp only [e53_0, e53_1, e53_2, e53_3, e53_6, e53_9, e53_10, e53_11, e53_13, e53_14, e53_17, e53_18, e53_19, e53_23, e53_24, e53_27, e53_30, e53_31, e53_34, e53_36, e53_39, e53_42, e53_43, e53_46, e53_47, e53_49, e53_52, e53_54, e53_56, e53_59, e53_61, e53_62, e53_65, e53_68, e53_70, e53_71, e53_73, e53_74, e53_77, e53_80, e53_81, e53_84, e53_85, e53_86, e53_89, e53_90, e53_93, e53_94, xk_64 hXSy, xp_7 hXSy, ↓reduceIte, Nat.reduceAdd, Nat.reduceLeDiff, Nat.reduceLT, not_false_eq_true, false_or, true_or, or_true, or_false, n0_e, n1_ne, n1_11, bI_z, bI_1, bI_fo, va_rf_some, aBk_1, aBk_0, nI_add, nI_mul, hk_si, hp_si, hl_si, hk_sp, hk_sl, hk_cp, hp_cp, x_guests by', Int32.le_refl, q2, nI_eqL, Nat.reduceEqDiff]
      · rw [if_pos (Or.inr rfl)]
        simp only [e53_0, e53_1, e53_2, e53_3, e53_6, e53_9, e53_10, e53_11, e53_13, e53_14, e53_17, e53_18, e53_19, e53_23, e53_24, e53_27, e53_30, e53_31, e53_34, e53_36, e53_39, e53_42, e53_43, e53_46, e53_47, e53_49, e53_52, e53_54, e53_56, e53_59, e53_61, e53_62, e53_65, e53_68, e53_70, e53_71, e53_73, e53_74, e53_77, e53_80, e53_81, e53_84, e53_85, e53_86, e53_89, e53_90, e53_93, e53_94, xk_64 hXSy, xp_7 hXSy, ↓reduceIte, Nat.reduceAdd, Nat.reduceLeDiff, Nat.reduceLT, Nat.reduceEqDiff, not_false_eq_true, false_or, true_or, or_true, or_false, n0_e, n1_ne, n1_11, bI_z, bI_1, bI_fo, va_rf_some, aBk_1, aBk_0, nI_add, nI_mul, hk_si, hp_si, hl_si, hk_sp, hk_sl, hk_cp, hp_cp, x_guests by', Int32.le_refl, q2]
end X7
