set_option maxRecDepth 100000
/-! X: what is done (2) -/
section XF
variable {d : Nat} {h h' : aH} {r : Nat → Int32} {ua tx sa ga la : Nat} {qs qg : Nat → Nat} {Ω : aSg}
/-- what an act on the house writes -/
def DX (x f : Nat) : Prop := (78 ≤ x ∧ x ≤ 85) ∨ (138 ≤ x ∧ x < 458) ∨ (x = 64 ∧ (f = 5 ∨ f = 6))
theorem DX.P {x f : Nat} (q : DX x f) : XP x f := by unfold DX at q; unfold XP; omega
theorem XI.done (hI : XI h Ω tx sa ga la qs qg) (o : On DX h h') (hH : XH h' 78 r (se_ (gT Ω))) (hU : UX h' ua (pu (gu Ω)) (ph (gu Ω) (gh Ω) (gw Ω)) (se_ (gT Ω))) : XI h' (gDo Ω r) tx sa ga la qs qg :=
  ⟨⟨hI.B.S.on o, (o.p _ _).trans hI.B.t, hI.B.X.on o (fun _ _ q => q.P.n), hH⟩, ⟨ua, hU⟩, hI.ks o (fun x f q => by unfold DX at q; omega), hI.km o (fun x f q => by unfold DX at q; omega), hI.kn o (fun x f q => by unfold DX at q; omega), hI.kp o (fun q => by unfold DX at q; omega)⟩
/-- keeping, ahead of an act -/
theorem x_keep (hI : XI h Ω tx sa ga la qs qg) : ∃ h', (∀ d, (run (d + 2) 16 0 [.ref 64] [] h) = some (.returned none, h')) ∧ On DX h h' ∧ XB h' (gT Ω) (gw Ω) tx sa ga la qs qg ∧ ∃ ua, UX h' ua (pu (gu Ω)) (ph (gu Ω) (gh Ω) (gw Ω)) (se_ (gT Ω)) := by
  obtain ⟨ua, hU⟩ := hI.U
  have u1 := hU.1
  obtain ⟨h1, e1, o1, U1⟩ := x_keeps hI.B hU
  have o1' : On DX h h1 := o1.mono (fun x f q => by unfold HA at q; unfold DX; omega)
  exact ⟨h1, e1, o1', hI.B.onS o1 (fun x f q => by unfold HA at q; unfold XP; omega), _, U1⟩
def HB (x _f : Nat) : Prop := 78 ≤ x ∧ x ≤ 85
theorem HB.D {x f : Nat} (q : HB x f) : DX x f := Or.inl q
theorem UX.onH {u : Nat} {H : Nat → Nat → Int32} {sd : Int32} (hU : UX h ua u H sd) (o : On HB h h') : UX h' ua u H sd := hU.on o (fun x f q => by unfold HB at q; omega)
theorem HA.B {x f : Nat} (q : HA 78 x f) : HB x f := q
theorem x_letIn (hI : XI h Ω tx sa ga la qs qg) (hW : WV (gT Ω) (gw Ω)) (g s : Int32) : ∃ h', (∀ d, (run (d + 6) 15 0 [.ref 64, .int g, .int s] [] h) = some (.returned (some (.int ((aLet Ω g s).2))), h')) ∧ On XP h h' ∧ XI h' (aLet Ω g s).1 tx sa ga la qs qg := by
  have hB := hI.B
  have hXS := hB.S
  have hA := hB.H.s
  have hT := hB.X
  have h7 := hT.ng7
  have h4 := hT.ns4
  unfold aLet
  cases hq : isG (gT Ω) g with
  | false =>
    refine ⟨h, fun d => ?_, On.refl, by simpa using hI⟩
    simp only [e15_0, e15_1, e15_2, e15_5, e15_8, e15_9, e15_10, e15_13, e15_16, e15_17, e15_20, e15_23, e15_24, e15_25, e15_28, e15_29, e15_32, e15_33, e15_36, e15_37, e15_40, e15_41, e15_42, e15_43, e15_44, e15_47, e15_48, e15_49, e15_50, e15_53, e15_54, e15_57, e15_60, e15_61, e15_62, e15_63, e15_64, xk_64 hXS, xp_7 hXS, ↓reduceIte, Nat.reduceAdd, Nat.reduceLeDiff, Nat.reduceLT, Nat.reduceEqDiff, not_false_eq_true, false_or, true_or, or_true, or_false, n0_e, n1_ne, n1_11, bI_z, bI_1, bI_fo, va_rf_some, aBk_1, aBk_0, nI_add, nI_mul, hk_si, hp_si, hl_si, hk_sp, hk_sl, hk_cp, hp_cp, x_isGuest hB, hq, reduceCtorEq, false_and]
  | true =>
    obtain ⟨k, hk, rfl⟩ := isG_n hT.v hq
    rw [kk_n (by omega)]
    have k7 : k < 7 := by omega
    cases hq2 : isS (gT Ω) s with
    | false =>
      refine ⟨h, fun d => ?_, On.refl, by simpa using hI⟩
      simp only [e15_0, e15_1, e15_2, e15_5, e15_8, e15_9, e15_10, e15_13, e15_16, e15_17, e15_20, e15_23, e15_24, e15_25, e15_28, e15_29, e15_32, e15_33, e15_36, e15_37, e15_40, e15_41, e15_42, e15_43, e15_44, e15_47, e15_48, e15_49, e15_50, e15_53, e15_54, e15_57, e15_60, e15_61, e15_62, e15_63, e15_64, xk_64 hXS, xp_7 hXS, ↓reduceIte, Nat.reduceAdd, Nat.reduceLeDiff, Nat.reduceLT, Nat.reduceEqDiff, not_false_eq_true, false_or, true_or, or_true, or_false, n0_e, n1_ne, n1_11, bI_z, bI_1, bI_fo, va_rf_some, aBk_1, aBk_0, nI_add, nI_mul, hk_si, hp_si, hl_si, hk_sp, hk_sl, hk_cp, hp_cp, x_isGuest hB, x_isSunday hB, hq, hq2, reduceCtorEq, false_and, and_false]
    | true =>
      obtain ⟨j, hj, rfl⟩ := isS_n hT.v hq2
      rw [kk_n (by omega)]
      have hr : rm_ (gT Ω) (gw Ω) k < 2 ^ 31 := Nat.lt_of_lt_of_le (orN_lt _ _) (Nat.pow_le_pow_right (n := 2) (by decide) (show ns_ (gT Ω) ≤ 31 by omega))
      have hb : (rm_ (gT Ω) (gw Ω) k).testBit j = mgi_ (gT Ω) (gw Ω) k j := by
        unfold rm_; rw [orN_bit, decide_eq_true hj, Bool.true_and]
      by_cases q1 : gw Ω k < 0
      · have q1' : ¬ 0 ≤ gw Ω k := Int32.not_le.mpr q1
        cases q2 : mgi_ (gT Ω) (gw Ω) k j with
        | false =>
          refine ⟨h, fun d => ?_, On.refl, by simpa using hI⟩
          simp only [e15_0, e15_1, e15_2, e15_5, e15_8, e15_9, e15_10, e15_13, e15_16, e15_17, e15_20, e15_23, e15_24, e15_25, e15_28, e15_29, e15_32, e15_33, e15_36, e15_37, e15_40, e15_41, e15_42, e15_43, e15_44, e15_47, e15_48, e15_49, e15_50, e15_53, e15_54, e15_57, e15_60, e15_61, e15_62, e15_63, e15_64, xk_64 hXS, xp_7 hXS, h78_k hA, h78_p53 hA, h78_k1 hA, ↓reduceIte, Nat.reduceAdd, Nat.reduceLeDiff, Nat.reduceLT, Nat.reduceEqDiff, not_false_eq_true, false_or, true_or, or_true, or_false, n0_e, n1_ne, n1_11, bI_z, bI_1, bI_fo, va_rf_some, aBk_1, aBk_0, nI_add, nI_mul, hk_si, hp_si, hl_si, hk_sp, hk_sl, hk_cp, hp_cp, x_isGuest hB, x_isSunday hB, hq, hq2, reduceCtorEq, and_false, k7, x78_in hB.H k7, q1', hB.t, x_hroom ha78 hT hW hB.H hk, nI_shr hr (show j < 32 by omega), bit_and0, hb, q2]
        | true =>
          rw [if_pos ⟨rfl, rfl, q1, rfl⟩]
          obtain ⟨h1, e1, o1, b1, ua, U1⟩ := x_keep hI
          have hXS1 := b1.S
          have hA1 := b1.H.s
          have o2 : On HB h1 (si_ h1 79 k (nI j)) := On.si ⟨by decide, by decide⟩
          refine ⟨si_ h1 79 k (nI j), fun d => ?_, (o1.trans (o2.mono (fun _ _ q => q.D))).mono (fun _ _ q => q.P), hI.done (o1.trans (o2.mono (fun _ _ q => q.D))) (b1.H.upI k7) (U1.onH o2)⟩
          simp only [e15_0, e15_1, e15_2, e15_5, e15_8, e15_9, e15_10, e15_13, e15_16, e15_17, e15_20, e15_23, e15_24, e15_25, e15_28, e15_29, e15_32, e15_33, e15_36, e15_37, e15_40, e15_41, e15_42, e15_43, e15_44, e15_47, e15_48, e15_49, e15_50, e15_53, e15_54, e15_57, e15_60, e15_61, e15_62, e15_63, e15_64, xk_64 hXS, xp_7 hXS, h78_k hA, h78_p53 hA, h78_k1 hA, xk_64 hXS1, xp_7 hXS1, h78_k hA1, h78_p53 hA1, h78_k1 hA1, ↓reduceIte, Nat.reduceAdd, Nat.reduceLeDiff, Nat.reduceLT, Nat.reduceEqDiff, not_false_eq_true, false_or, true_or, or_true, or_false, n0_e, n1_ne, n1_11, bI_z, bI_1, bI_fo, va_rf_some, aBk_1, aBk_0, nI_add, nI_mul, hk_si, hp_si, hl_si, hk_sp, hk_sl, hk_cp, hp_cp, x_isGuest hB, x_isSunday hB, hq, hq2, reduceCtorEq, k7, x78_in hB.H k7, q1', hB.t, x_hroom ha78 hT hW hB.H hk, nI_shr hr (show j < 32 by omega), bit_and0, hb, q2, e1]
      · have q1' : 0 ≤ gw Ω k := Int32.not_lt.mp q1
        rw [if_neg (fun z => q1 z.2.2.1)]
        refine ⟨h, fun d => ?_, On.refl, hI⟩
        simp only [e15_0, e15_1, e15_2, e15_5, e15_8, e15_9, e15_10, e15_13, e15_16, e15_17, e15_20, e15_23, e15_24, e15_25, e15_28, e15_29, e15_32, e15_33, e15_36, e15_37, e15_40, e15_41, e15_42, e15_43, e15_44, e15_47, e15_48, e15_49, e15_50, e15_53, e15_54, e15_57, e15_60, e15_61, e15_62, e15_63, e15_64, xk_64 hXS, xp_7 hXS, h78_k hA, h78_p53 hA, h78_k1 hA, ↓reduceIte, Nat.reduceAdd, Nat.reduceLeDiff, Nat.reduceLT, Nat.reduceEqDiff, not_false_eq_true, false_or, true_or, or_true, or_false, n0_e, n1_ne, n1_11, bI_z, bI_1, bI_fo, va_rf_some, aBk_1, aBk_0, nI_add, nI_mul, hk_si, hp_si, hl_si, hk_sp, hk_sl, hk_cp, hp_cp, x_isGuest hB, x_isSunday hB, hq, hq2, reduceCtorEq, k7, x78_in hB.H k7, q1']
theorem x_putOut (hI : XI h Ω tx sa ga la qs qg) (g : Int32) : ∃ h', (∀ d, (run (d + 3) 17 0 [.ref 64, .int g] [] h) = some (.returned (some (.int ((aPut Ω g).2))), h')) ∧ On XP h h' ∧ XI h' (aPut Ω g).1 tx sa ga la qs qg := by
  have hB := hI.B
  have hXS := hB.S
  have hA := hB.H.s
  have hT := hB.X
  have h7 := hT.ng7
  unfold aPut
  cases hq : isG (gT Ω) g with
  | false =>
    refine ⟨h, fun d => ?_, On.refl, by simpa using hI⟩
    simp only [e17_0, e17_1, e17_2, e17_5, e17_8, e17_9, e17_12, e17_15, e17_16, e17_17, e17_20, e17_21, e17_22, e17_23, e17_26, e17_27, e17_30, e17_33, e17_34, e17_36, e17_37, e17_38, xk_64 hXS, xp_7 hXS, ↓reduceIte, Nat.reduceAdd, Nat.reduceLeDiff, Nat.reduceLT, Nat.reduceEqDiff, not_false_eq_true, false_or, true_or, or_true, or_false, n0_e, n1_ne, n1_11, bI_z, bI_1, bI_fo, va_rf_some, aBk_1, aBk_0, nI_add, nI_mul, hk_si, hp_si, hl_si, hk_sp, hk_sl, hk_cp, hp_cp, x_isGuest hB, hq, reduceCtorEq, false_and]
  | true =>
    obtain ⟨k, hk, rfl⟩ := isG_n hT.v hq
    rw [kk_n (by omega)]
    have k7 : k < 7 := by omega
    by_cases q1 : 0 ≤ gw Ω k
    · rw [if_pos ⟨rfl, q1⟩]
      obtain ⟨h1, e1, o1, b1, ua, U1⟩ := x_keep hI
      have hXS1 := b1.S
      have hA1 := b1.H.s
      have o2 : On HB h1 (si_ h1 79 k (-2)) := On.si ⟨by decide, by decide⟩
      refine ⟨si_ h1 79 k (-2), fun d => ?_, (o1.trans (o2.mono (fun _ _ q => q.D))).mono (fun _ _ q => q.P), hI.done (o1.trans (o2.mono (fun _ _ q => q.D))) (b1.H.upI k7) (U1.onH o2)⟩
      simp only [e17_0, e17_1, e17_2, e17_5, e17_8, e17_9, e17_12, e17_15, e17_16, e17_17, e17_20, e17_21, e17_22, e17_23, e17_26, e17_27, e17_30, e17_33, e17_34, e17_36, e17_37, e17_38, xk_64 hXS, xp_7 hXS, h78_k hA, h78_p53 hA, h78_k1 hA, xk_64 hXS1, xp_7 hXS1, h78_k hA1, h78_p53 hA1, h78_k1 hA1, ↓reduceIte, Nat.reduceAdd, Nat.reduceLeDiff, Nat.reduceLT, Nat.reduceEqDiff, not_false_eq_true, false_or, true_or, or_true, or_false, n0_e, n1_ne, n1_11, bI_z, bI_1, bI_fo, va_rf_some, aBk_1, aBk_0, nI_add, nI_mul, hk_si, hp_si, hl_si, hk_sp, hk_sl, hk_cp, hp_cp, x_isGuest hB, hq, reduceCtorEq, k7, x78_in hB.H k7, q1, e1]
    · rw [if_neg (fun z => q1 z.2)]
      refine ⟨h, fun d => ?_, On.refl, hI⟩
      simp only [e17_0, e17_1, e17_2, e17_5, e17_8, e17_9, e17_12, e17_15, e17_16, e17_17, e17_20, e17_21, e17_22, e17_23, e17_26, e17_27, e17_30, e17_33, e17_34, e17_36, e17_37, e17_38, xk_64 hXS, xp_7 hXS, h78_k hA, h78_p53 hA, h78_k1 hA, ↓reduceIte, Nat.reduceAdd, Nat.reduceLeDiff, Nat.reduceLT, Nat.reduceEqDiff, not_false_eq_true, false_or, true_or, or_true, or_false, n0_e, n1_ne, n1_11, bI_z, bI_1, bI_fo, va_rf_some, aBk_1, aBk_0, nI_add, nI_mul, hk_si, hp_si, hl_si, hk_sp, hk_sl, hk_cp, hp_cp, x_isGuest hB, hq, reduceCtorEq, k7, x78_in hB.H k7, q1]
theorem XH.upS {a s : Nat} {w : Nat → Int32} {sd : Int32} (hX : XH h a w sd) (hs : s < 4) : XH (si_ h a 57 (nI (oB_ w ||| 2 ^ s))) a (up_ w (25 + s) (nI 1)) sd := by
  have ne : ∀ {k : Nat}, k ≠ 25 + s → up_ w (25 + s) (nI 1) k = w k := fun hk => if_neg hk
  refine ⟨hX.s.on (On.si (S := fun _ _ => True) trivial), fun k hk => ?_, fun k hk => ?_, fun k hk => ?_, ?_, ?_, ?_, ?_, ?_⟩
  · rw [hi_ne (by omega), ne (by omega)]; exact hX.in_ hk
  · rw [hi_ne (by omega), ne (by omega)]; exact hX.re hk
  · rw [hi_ne (by omega), ne (by omega)]; exact hX.wo hk
  · rw [hi_ne (by omega), hX.de, dB_congr (fun k hk => (ne (k := 14 + k) (by omega)).symm)]
  · rw [hi_same]
    congr 1
    apply Nat.eq_of_testBit_eq
    intro i
    unfold oB_
    rw [Nat.testBit_or, orN_bit, orN_bit, Nat.testBit_two_pow]
    by_cases q : i = s
    · subst q
      rw [show up_ w (25 + i) (nI 1) (25 + i) = nI 1 from if_pos rfl, decide_eq_true hs]
      simp [n1_ne]
    · rw [ne (by omega), decide_eq_false (show ¬ s = i from fun e => q e.symm), Bool.or_false]
  · rw [hi_ne (by omega), ne (by omega)]; exact hX.we
  · rw [hi_ne (by omega), ne (by omega)]; exact hX.mo
  · rw [hi_ne (by omega)]; exact hX.se
theorem sold_1 {T : aTx} {w : Nat → Int32} (hW : WV T w) {s : Nat} (hs : s < 4) : (w (25 + s) = 0) = ¬ (w (25 + s) = nI 1) := by
  rcases hW.2.2.2.2.1 s hs with q | q <;> rw [q] <;> decide
theorem x_sell (hI : XI h Ω tx sa ga la qs qg) (hW : WV (gT Ω) (gw Ω)) (s : Int32) : ∃ h', (∀ d, (run (d + 404) 18 0 [.ref 64, .int s, aU] [] h) = some (.returned (some (.int ((aSel Ω s).2))), h')) ∧ On XP h h' ∧ XI h' (aSel Ω s).1 tx sa ga la qs qg := by
  have hB := hI.B
  have hXS := hB.S
  have hA := hB.H.s
  have hT := hB.X
  have h4 := hT.ns4
  unfold aSel
  cases hq : isS (gT Ω) s with
  | false =>
    have hs : sale_ (gT Ω) (gw Ω) s = false := by unfold sale_; rw [hq]; rfl
    refine ⟨h, fun d => ?_, On.refl, by simpa using hI⟩
    simp only [e18_0, e18_1, e18_2, e18_5, e18_8, e18_9, e18_12, e18_13, e18_16, e18_19, e18_20, e18_21, e18_22, e18_25, e18_26, e18_29, e18_30, e18_33, e18_34, e18_35, e18_38, e18_39, e18_42, e18_43, e18_46, e18_47, e18_48, e18_51, e18_52, e18_55, e18_56, e18_59, e18_60, e18_61, e18_62, e18_63, e18_66, e18_67, xk_64 hXS, xp_7 hXS, ↓reduceIte, Nat.reduceAdd, Nat.reduceLeDiff, Nat.reduceLT, Nat.reduceEqDiff, not_false_eq_true, false_or, true_or, or_true, or_false, n0_e, n1_ne, n1_11, bI_z, bI_1, bI_fo, va_rf_some, aBk_1, aBk_0, nI_add, nI_mul, hk_si, hp_si, hl_si, hk_sp, hk_sl, hk_cp, hp_cp, x_isKept hB, hs, reduceCtorEq, false_and]
  | true =>
    obtain ⟨k, hk, rfl⟩ := isS_n hT.v hq
    rw [kk_n (by omega)]
    have k4 : k < 4 := by omega
    have gb : gB_ (gT Ω) (gw Ω) (nI k) < 2147483648 := orN_31 hT.ng7
    have eg := gB7 hT.v hW (nIne2 (show k < 2147483648 by omega))
    have hso := sold_1 hW k4
    by_cases q1 : gw Ω (25 + k) = nI 1
    · have hs : sale_ (gT Ω) (gw Ω) (nI k) = false := by
        unfold sale_; rw [hq, kk_n (by omega), decide_eq_false (by rw [hso]; exact fun z => z q1)]; rfl
      rw [if_neg (fun z => z.2.1 q1)]
      refine ⟨h, fun d => ?_, On.refl, hI⟩
      simp only [e18_0, e18_1, e18_2, e18_5, e18_8, e18_9, e18_12, e18_13, e18_16, e18_19, e18_20, e18_21, e18_22, e18_25, e18_26, e18_29, e18_30, e18_33, e18_34, e18_35, e18_38, e18_39, e18_42, e18_43, e18_46, e18_47, e18_48, e18_51, e18_52, e18_55, e18_56, e18_59, e18_60, e18_61, e18_62, e18_63, e18_66, e18_67, xk_64 hXS, xp_7 hXS, ↓reduceIte, Nat.reduceAdd, Nat.reduceLeDiff, Nat.reduceLT, Nat.reduceEqDiff, not_false_eq_true, false_or, true_or, or_true, or_false, n0_e, n1_ne, n1_11, bI_z, bI_1, bI_fo, va_rf_some, aBk_1, aBk_0, nI_add, nI_mul, hk_si, hp_si, hl_si, hk_sp, hk_sl, hk_cp, hp_cp, x_isKept hB, hs]
    · have hs : sale_ (gT Ω) (gw Ω) (nI k) = true := by
        unfold sale_; rw [hq, kk_n (by omega), decide_eq_true (by rw [hso]; exact q1)]; rfl
      by_cases q2 : gB_ (gT Ω) (gw Ω) (nI k) = 0
      · rw [if_pos ⟨rfl, q1, q2⟩]
        obtain ⟨h0, e0, o0⟩ := x_hsells ha78 hT hW hB.H hk
        have o0 : On QX h h0 := o0.mono (fun _ _ q => q.Q)
        have I0 := hI.onQ o0
        have hXS0 := I0.B.S
        have hA0 := I0.B.H.s
        obtain ⟨h1, e1, o1, b1, ua, U1⟩ := x_keep I0
        have hXS1 := b1.S
        have hA1 := b1.H.s
        have o2 : On HB h1 (si_ h1 78 59 (gw Ω 30 + sO_ (gT Ω) (gw Ω) k)) := On.si ⟨by decide, by decide⟩
        have hX2 : XH (si_ h1 78 59 (gw Ω 30 + sO_ (gT Ω) (gw Ω) k)) 78 (up_ (gw Ω) 30 (gw Ω 30 + sO_ (gT Ω) (gw Ω) k)) (se_ (gT Ω)) := b1.H.upM
        have hXS2 := hXS1.on o2
        have hA2 := hX2.s
        have hso2 : oB_ (up_ (gw Ω) 30 (gw Ω 30 + sO_ (gT Ω) (gw Ω) k)) = oB_ (gw Ω) := oB_congr (fun i hi => if_neg (by omega))
        have f57 : hi_ (si_ h1 78 59 (gw Ω 30 + sO_ (gT Ω) (gw Ω) k)) 78 57 = nI (oB_ (gw Ω)) := by rw [hX2.so, hso2]
        have hX3 := hX2.upS k4
        rw [hso2] at hX3
        have o3 : On HB h1 (si_ (si_ h1 78 59 (gw Ω 30 + sO_ (gT Ω) (gw Ω) k)) 78 57 (nI (oB_ (gw Ω) ||| 2 ^ k))) := o2.trans (On.si ⟨by decide, by decide⟩)
        have hX4 := hX3.congr (r' := up_ (up_ (gw Ω) (25 + k) (nI 1)) 30 (gw Ω 30 + sO_ (gT Ω) (gw Ω) k)) (fun i _ => by
          unfold up_
          by_cases c1 : i = 25 + k
          · rw [if_pos c1, if_neg (by omega), if_pos c1]
          · rw [if_neg c1, if_neg c1])
        refine ⟨si_ (si_ h1 78 59 (gw Ω 30 + sO_ (gT Ω) (gw Ω) k)) 78 57 (nI (oB_ (gw Ω) ||| 2 ^ k)), fun d => ?_, (o0.mono (fun _ _ q => q.P)).trans ((o1.trans (o3.mono (fun _ _ q => q.D))).mono (fun _ _ q => q.P)), I0.done (o1.trans (o3.mono (fun _ _ q => q.D))) hX4 (U1.onH o3)⟩
        simp only [e18_0, e18_1, e18_2, e18_5, e18_8, e18_9, e18_12, e18_13, e18_16, e18_19, e18_20, e18_21, e18_22, e18_25, e18_26, e18_29, e18_30, e18_33, e18_34, e18_35, e18_38, e18_39, e18_42, e18_43, e18_46, e18_47, e18_48, e18_51, e18_52, e18_55, e18_56, e18_59, e18_60, e18_61, e18_62, e18_63, e18_66, e18_67, xk_64 hXS, xp_7 hXS, h78_k hA, xk_64 hXS0, xp_7 hXS0, h78_k hA0, xk_64 hXS1, xp_7 hXS1, h78_k hA1, xk_64 hXS2, xp_7 hXS2, h78_k hA2, ↓reduceIte, Nat.reduceAdd, Nat.reduceLeDiff, Nat.reduceLT, Nat.reduceEqDiff, not_false_eq_true, false_or, true_or, or_true, or_false, n0_e, n1_ne, n1_11, bI_z, bI_1, bI_fo, va_rf_some, aBk_1, aBk_0, nI_add, nI_mul, hk_si, hp_si, hl_si, hk_sp, hk_sl, hk_cp, hp_cp, x_isKept hB, hs, reduceCtorEq, x_hguests ha78 hB.H, eg, nI_z gb, q2, hB.t, e0, e1, b1.H.mo, f57, shl_1 k (show k < 32 by omega), nI_or]
      · rw [if_neg (fun z => q2 z.2.2)]
        refine ⟨h, fun d => ?_, On.refl, hI⟩
        simp only [e18_0, e18_1, e18_2, e18_5, e18_8, e18_9, e18_12, e18_13, e18_16, e18_19, e18_20, e18_21, e18_22, e18_25, e18_26, e18_29, e18_30, e18_33, e18_34, e18_35, e18_38, e18_39, e18_42, e18_43, e18_46, e18_47, e18_48, e18_51, e18_52, e18_55, e18_56, e18_59, e18_60, e18_61, e18_62, e18_63, e18_66, e18_67, xk_64 hXS, xp_7 hXS, h78_k hA, ↓reduceIte, Nat.reduceAdd, Nat.reduceLeDiff, Nat.reduceLT, Nat.reduceEqDiff, not_false_eq_true, false_or, true_or, or_true, or_false, n0_e, n1_ne, n1_11, bI_z, bI_1, bI_fo, va_rf_some, aBk_1, aBk_0, nI_add, nI_mul, hk_si, hp_si, hl_si, hk_sp, hk_sl, hk_cp, hp_cp, x_isKept hB, hs, reduceCtorEq, x_hguests ha78 hB.H, eg, nI_z gb, q2]
theorem max_air {x : Int32} (h0 : 0 ≤ x.toInt) : max_ (nI 0) (x - nI 1) = if x ≤ 0 then x else x - nI 1 := by
  have e : (x - nI 1).toInt = x.toInt - 1 := by rw [ti_sub (by rw [n1_toInt]; omega) (by rw [n1_toInt]; have := Int32.toInt_lt x; omega), n1_toInt]
  have z0 : (nI 0).toInt = 0 := by decide
  have z1 : (0 : Int32).toInt = 0 := by decide
  unfold max_
  by_cases q : x ≤ 0
  · rw [if_pos q]
    rw [Int32.le_iff_toInt_le, z1] at q
    rw [if_neg (by rw [Int32.lt_iff_toInt_lt, e, z0]; omega)]
    apply Int32.toInt_inj.mp
    omega
  · rw [if_neg q]
    rw [Int32.le_iff_toInt_le, z1] at q
    by_cases q2 : x.toInt = 1
    · rw [if_neg (by rw [Int32.lt_iff_toInt_lt, e, z0]; omega)]
      apply Int32.toInt_inj.mp
      omega
    · rw [if_pos (by rw [Int32.lt_iff_toInt_lt, e, z0]; omega)]
theorem x_air (hI : XI h Ω tx sa ga la qs qg) (hW : WV (gT Ω) (gw Ω)) (hm : 0 ≤ (gw Ω 30).toInt) (s : Int32) : ∃ h', (∀ d, (run (d + 4) 20 0 [.ref 64, .int s] [] h) = some (.returned (some (.int ((aAir Ω s).2))), h')) ∧ On XP h h' ∧ XI h' (aAir Ω s).1 tx sa ga la qs qg := by
  have hB := hI.B
  have hXS := hB.S
  have hA := hB.H.s
  have hT := hB.X
  have h4 := hT.ns4
  unfold aAir
  cases hq : isS (gT Ω) s with
  | false =>
    have hs : sale_ (gT Ω) (gw Ω) s = false := by unfold sale_; rw [hq]; rfl
    refine ⟨h, fun d => ?_, On.refl, by simpa using hI⟩
    simp only [e20_0, e20_1, e20_2, e20_5, e20_8, e20_9, e20_12, e20_13, e20_16, e20_19, e20_20, e20_23, e20_26, e20_27, e20_28, e20_31, e20_32, e20_33, e20_34, e20_37, e20_38, e20_41, e20_42, e20_43, e20_46, e20_49, e20_50, e20_51, e20_54, e20_57, e20_58, e20_61, e20_64, e20_65, e20_66, e20_67, e20_68, xk_64 hXS, xp_7 hXS, ↓reduceIte, Nat.reduceAdd, Nat.reduceLeDiff, Nat.reduceLT, Nat.reduceEqDiff, not_false_eq_true, false_or, true_or, or_true, or_false, n0_e, n1_ne, n1_11, bI_z, bI_1, bI_fo, va_rf_some, aBk_1, aBk_0, nI_add, nI_mul, hk_si, hp_si, hl_si, hk_sp, hk_sl, hk_cp, hp_cp, x_isKept hB, hs, reduceCtorEq, false_and]
  | true =>
    obtain ⟨k, hk, rfl⟩ := isS_n hT.v hq
    rw [kk_n (by omega)]
    have k4 : k < 4 := by omega
    have gb : gB_ (gT Ω) (gw Ω) (nI k) < 2147483648 := orN_31 hT.ng7
    have eg := gB7 hT.v hW (nIne2 (show k < 2147483648 by omega))
    have hso := sold_1 hW k4
    by_cases q1 : gw Ω (25 + k) = nI 1
    · have hs : sale_ (gT Ω) (gw Ω) (nI k) = false := by
        unfold sale_; rw [hq, kk_n (by omega), decide_eq_false (by rw [hso]; exact fun z => z q1)]; rfl
      rw [if_neg (fun z => z.2.1 q1)]
      refine ⟨h, fun d => ?_, On.refl, hI⟩
      simp only [e20_0, e20_1, e20_2, e20_5, e20_8, e20_9, e20_12, e20_13, e20_16, e20_19, e20_20, e20_23, e20_26, e20_27, e20_28, e20_31, e20_32, e20_33, e20_34, e20_37, e20_38, e20_41, e20_42, e20_43, e20_46, e20_49, e20_50, e20_51, e20_54, e20_57, e20_58, e20_61, e20_64, e20_65, e20_66, e20_67, e20_68, xk_64 hXS, xp_7 hXS, ↓reduceIte, Nat.reduceAdd, Nat.reduceLeDiff, Nat.reduceLT, Nat.reduceEqDiff, not_false_eq_true, false_or, true_or, or_true, or_false, n0_e, n1_ne, n1_11, bI_z, bI_1, bI_fo, va_rf_some, aBk_1, aBk_0, nI_add, nI_mul, hk_si, hp_si, hl_si, hk_sp, hk_sl, hk_cp, hp_cp, x_isKept hB, hs]
    · have hs : sale_ (gT Ω) (gw Ω) (nI k) = true := by
        unfold sale_; rw [hq, kk_n (by omega), decide_eq_true (by rw [hso]; exact q1)]; rfl
      by_cases q2 : gB_ (gT Ω) (gw Ω) (nI k) = 0
      · by_cases q3 : gw Ω (21 + k) = 0
        · rw [if_neg (fun z => z.2.2.1 q3)]
          refine ⟨h, fun d => ?_, On.refl, hI⟩
          simp only [e20_0, e20_1, e20_2, e20_5, e20_8, e20_9, e20_12, e20_13, e20_16, e20_19, e20_20, e20_23, e20_26, e20_27, e20_28, e20_31, e20_32, e20_33, e20_34, e20_37, e20_38, e20_41, e20_42, e20_43, e20_46, e20_49, e20_50, e20_51, e20_54, e20_57, e20_58, e20_61, e20_64, e20_65, e20_66, e20_67, e20_68, xk_64 hXS, xp_7 hXS, h78_k hA, h78_p55 hA, h78_k3 hA, ↓reduceIte, Nat.reduceAdd, Nat.reduceLeDiff, Nat.reduceLT, Nat.reduceEqDiff, not_false_eq_true, false_or, true_or, or_true, or_false, n0_e, n1_ne, n1_11, bI_z, bI_1, bI_fo, va_rf_some, aBk_1, aBk_0, nI_add, nI_mul, hk_si, hp_si, hl_si, hk_sp, hk_sl, hk_cp, hp_cp, x_isKept hB, hs, reduceCtorEq, x_hguests ha78 hB.H, eg, nI_z gb, q2, k4, x78_wo hB.H k4, q3]
        · rw [if_pos ⟨rfl, q1, q3, q2⟩, ← max_air hm]
          obtain ⟨h1, e1, o1, b1, ua, U1⟩ := x_keep hI
          have hXS1 := b1.S
          have hA1 := b1.H.s
          have o2 : On HB h1 (si_ h1 78 59 (max_ (nI 0) (gw Ω 30 - nI 1))) := On.si ⟨by decide, by decide⟩
          have hX2 : XH (si_ h1 78 59 (max_ (nI 0) (gw Ω 30 - nI 1))) 78 (up_ (gw Ω) 30 (max_ (nI 0) (gw Ω 30 - nI 1))) (se_ (gT Ω)) := b1.H.upM
          have hXS2 := hXS1.on o2
          have hA2 := hX2.s
          have o3 : On HB h1 (si_ (si_ h1 78 59 (max_ (nI 0) (gw Ω 30 - nI 1))) 81 k (nI 0)) := o2.trans (On.si ⟨by decide, by decide⟩)
          have hX4 := (hX2.upW (v := nI 0) k4).congr (r' := up_ (up_ (gw Ω) (21 + k) (nI 0)) 30 (max_ (nI 0) (gw Ω 30 - nI 1))) (fun i _ => by
            unfold up_
            by_cases c1 : i = 21 + k
            · rw [if_pos c1, if_neg (by omega), if_pos c1]
            · rw [if_neg c1, if_neg c1])
          refine ⟨si_ (si_ h1 78 59 (max_ (nI 0) (gw Ω 30 - nI 1))) 81 k (nI 0), fun d => ?_, (o1.trans (o3.mono (fun _ _ q => q.D))).mono (fun _ _ q => q.P), hI.done (o1.trans (o3.mono (fun _ _ q => q.D))) hX4 (U1.onH o3)⟩
          simp only [e20_0, e20_1, e20_2, e20_5, e20_8, e20_9, e20_12, e20_13, e20_16, e20_19, e20_20, e20_23, e20_26, e20_27, e20_28, e20_31, e20_32, e20_33, e20_34, e20_37, e20_38, e20_41, e20_42, e20_43, e20_46, e20_49, e20_50, e20_51, e20_54, e20_57, e20_58, e20_61, e20_64, e20_65, e20_66, e20_67, e20_68, xk_64 hXS, xp_7 hXS, h78_k hA, h78_p55 hA, h78_k3 hA, xk_64 hXS1, xp_7 hXS1, h78_k hA1, h78_p55 hA1, h78_k3 hA1, xk_64 hXS2, xp_7 hXS2, h78_k hA2, h78_p55 hA2, h78_k3 hA2, ↓reduceIte, Nat.reduceAdd, Nat.reduceLeDiff, Nat.reduceLT, Nat.reduceEqDiff, not_false_eq_true, false_or, true_or, or_true, or_false, n0_e, n1_ne, n1_11, bI_z, bI_1, bI_fo, va_rf_some, aBk_1, aBk_0, nI_add, nI_mul, hk_si, hp_si, hl_si, hk_sp, hk_sl, hk_cp, hp_cp, x_isKept hB, hs, reduceCtorEq, x_hguests ha78 hB.H, eg, nI_z gb, q2, k4, x78_wo hB.H k4, q3, e1, b1.H.mo]
      · rw [if_neg (fun z => q2 z.2.2.2)]
        refine ⟨h, fun d => ?_, On.refl, hI⟩
        simp only [e20_0, e20_1, e20_2, e20_5, e20_8, e20_9, e20_12, e20_13, e20_16, e20_19, e20_20, e20_23, e20_26, e20_27, e20_28, e20_31, e20_32, e20_33, e20_34, e20_37, e20_38, e20_41, e20_42, e20_43, e20_46, e20_49, e20_50, e20_51, e20_54, e20_57, e20_58, e20_61, e20_64, e20_65, e20_66, e20_67, e20_68, xk_64 hXS, xp_7 hXS, h78_k hA, h78_p55 hA, h78_k3 hA, ↓reduceIte, Nat.reduceAdd, Nat.reduceLeDiff, Nat.reduceLT, Nat.reduceEqDiff, not_false_eq_true, false_or, true_or, or_true, or_false, n0_e, n1_ne, n1_11, bI_z, bI_1, bI_fo, va_rf_some, aBk_1, aBk_0, nI_add, nI_mul, hk_si, hp_si, hl_si, hk_sp, hk_sl, hk_cp, hp_cp, x_isKept hB, hs, reduceCtorEq, x_hguests ha78 hB.H, eg, nI_z gb, q2]
theorem x_weeks (hI : XI h Ω tx sa ga la qs qg) (hW : WV (gT Ω) (gw Ω)) (n : Int32) : ∃ h', (∀ d, (run (d + 408) 21 0 [.ref 64, .int n] [] h) = some (.returned (some (.int ((aWks Ω n).2))), h')) ∧ On XP h h' ∧ XI h' (aWks Ω n).1 tx sa ga la qs qg := by
  have hB := hI.B
  have hXS := hB.S
  have hA := hB.H.s
  unfold aWks
  cases hq : lng_ n with
  | false =>
    refine ⟨h, fun d => ?_, On.refl, by simpa using hI⟩
    simp only [e21_0, e21_1, e21_4, e21_7, e21_8, e21_9, e21_10, e21_13, e21_14, e21_17, e21_18, e21_19, e21_22, e21_23, e21_24, e21_27, e21_30, e21_31, e21_34, e21_37, xk_64 hXS, xp_7 hXS, xp_11 hXS, xk_120 hXS, ↓reduceIte, Nat.reduceAdd, Nat.reduceLeDiff, Nat.reduceLT, Nat.reduceEqDiff, not_false_eq_true, false_or, true_or, or_true, or_false, n0_e, n1_ne, n1_11, bI_z, bI_1, bI_fo, va_rf_some, aBk_1, aBk_0, nI_add, nI_mul, hk_si, hp_si, hl_si, hk_sp, hk_sl, hk_cp, hp_cp, x_isAhead, hq, reduceCtorEq]
  | true =>
    rw [if_pos rfl]
    obtain ⟨m, hm, rfl⟩ := lng_n hq
    by_cases q : nI m = 0
    · rw [if_pos q]
      have m0 : m = 0 := by rw [nI_z (by omega)] at q; exact q
      subst m0
      obtain ⟨h1, e1, o1, x1⟩ := x_runs ha78 hXS hB.t hB.X hW hB.H hB.dr (n := 0) (by decide)
      have hXS1 := hXS.on o1
      have hA1 := x1.s
      have x1 : XH h1 78 (gw Ω) (se_ (gT Ω)) := x1
      have hle : nI 0 ≤ 0 := by decide
      obtain ⟨ua, hU⟩ := hI.U
      refine ⟨h1, fun d => ?_, o1.mono (fun _ _ q => q.P ha78), ⟨hXS1, (o1.p _ _).trans hB.t, hB.X.onA ha78 o1, x1⟩, ⟨ua, hU.onH (o1.mono (fun _ _ q => q.B))⟩, hI.ks o1 (fun x f q => by unfold HA at q; omega), hI.km o1 (fun x f q => by unfold HA at q; omega), hI.kn o1 (fun x f q => by unfold HA at q; omega), hI.kp o1 (fun q => by unfold HA at q; omega)⟩
      simp only [e21_0, e21_1, e21_4, e21_7, e21_8, e21_9, e21_10, e21_13, e21_14, e21_17, e21_18, e21_19, e21_22, e21_23, e21_24, e21_27, e21_30, e21_31, e21_34, e21_37, xk_64 hXS, xp_7 hXS, xp_11 hXS, xk_120 hXS, h78_k hA, xk_64 hXS1, xp_7 hXS1, xp_11 hXS1, xk_120 hXS1, h78_k hA1, ↓reduceIte, Nat.reduceAdd, Nat.reduceLeDiff, Nat.reduceLT, Nat.reduceEqDiff, not_false_eq_true, false_or, true_or, or_true, or_false, n0_e, n1_ne, n1_11, bI_z, bI_1, bI_fo, va_rf_some, aBk_1, aBk_0, nI_add, nI_mul, hk_si, hp_si, hl_si, hk_sp, hk_sl, hk_cp, hp_cp, x_isAhead, hq, reduceCtorEq, hle, e1, x1.we]
    · rw [if_neg q, kk_n (by omega)]
      have hgt : ¬ nI m ≤ 0 := nI_nle (by
        refine Nat.pos_of_ne_zero (fun e => q ?_)
        rw [e]; exact nI_0) (by omega)
      obtain ⟨h1, e1, o1, b1, ua, U1⟩ := x_keep hI
      have hXS1 := b1.S
      have hA1 := b1.H.s
      obtain ⟨h2, e2, o2, x2⟩ := x_runs ha78 b1.S b1.t b1.X hW b1.H b1.dr (n := m) (by omega)
      have hXS2 := hXS1.on o2
      have hA2 := x2.s
      have o2' : On HB h1 h2 := o2.mono (fun _ _ q => q.B)
      refine ⟨h2, fun d => ?_, (o1.trans (o2'.mono (fun _ _ q => q.D))).mono (fun _ _ q => q.P), hI.done (o1.trans (o2'.mono (fun _ _ q => q.D))) x2 (U1.onH o2')⟩
      simp only [e21_0, e21_1, e21_4, e21_7, e21_8, e21_9, e21_10, e21_13, e21_14, e21_17, e21_18, e21_19, e21_22, e21_23, e21_24, e21_27, e21_30, e21_31, e21_34, e21_37, xk_64 hXS, xp_7 hXS, xp_11 hXS, xk_120 hXS, xk_64 hXS1, xp_7 hXS1, xp_11 hXS1, xk_120 hXS1, h78_k hA1, xk_64 hXS2, xp_7 hXS2, xp_11 hXS2, xk_120 hXS2, h78_k hA2, ↓reduceIte, Nat.reduceAdd, Nat.reduceLeDiff, Nat.reduceLT, Nat.reduceEqDiff, not_false_eq_true, false_or, true_or, or_true, or_false, n0_e, n1_ne, n1_11, bI_z, bI_1, bI_fo, va_rf_some, aBk_1, aBk_0, nI_add, nI_mul, hk_si, hp_si, hl_si, hk_sp, hk_sl, hk_cp, hp_cp, x_isAhead, hq, reduceCtorEq, hgt, e1, e2, x2.we]
      rfl
end XF
