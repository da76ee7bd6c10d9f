set_option maxRecDepth 100000
/-! X: its ground -/
section X6
variable {d : Nat} {h h' : aH} {T : aTx} {w r : Nat → Int32} {sd : Int32} {tx sa ga la : Nat} {qs qg : Nat → Nat}
theorem h78_k (hH : HS h 78) : hk_ h 78 = (6, 0) := hs_k hH
theorem h78_k1 (hH : HS h 78) : hk_ h 79 = (100, 7) := hs_k1 hH
theorem h78_k2 (hH : HS h 78) : hk_ h 80 = (100, 7) := hs_k2 hH
theorem h78_k3 (hH : HS h 78) : hk_ h 81 = (100, 4) := hs_k3 hH
theorem h78_p53 (hH : HS h 78) : hp_ h 78 53 = some 79 := hs_p53 hH
theorem h78_p54 (hH : HS h 78) : hp_ h 78 54 = some 80 := hs_p54 hH
theorem h78_p55 (hH : HS h 78) : hp_ h 78 55 = some 81 := hs_p55 hH
theorem x78_in (hX : XH h 78 w sd) {g : Nat} (hg : g < 7) : hi_ h 79 g = w g := hX.in_ hg
theorem x78_re (hX : XH h 78 w sd) {g : Nat} (hg : g < 7) : hi_ h 80 g = w (7 + g) := hX.re hg
theorem x78_wo (hX : XH h 78 w sd) {s : Nat} (hs : s < 4) : hi_ h 81 s = w (21 + s) := hX.wo hs
theorem ha78 : 78 ≤ 78 ∧ 78 + 7 < 458 := by decide
theorem h86_k (hH : HS h 86) : hk_ h 86 = (6, 0) := hs_k hH
theorem h86_k1 (hH : HS h 86) : hk_ h 87 = (100, 7) := hs_k1 hH
theorem h86_k2 (hH : HS h 86) : hk_ h 88 = (100, 7) := hs_k2 hH
theorem h86_k3 (hH : HS h 86) : hk_ h 89 = (100, 4) := hs_k3 hH
theorem h86_p53 (hH : HS h 86) : hp_ h 86 53 = some 87 := hs_p53 hH
theorem h86_p54 (hH : HS h 86) : hp_ h 86 54 = some 88 := hs_p54 hH
theorem h86_p55 (hH : HS h 86) : hp_ h 86 55 = some 89 := hs_p55 hH
theorem x86_in (hX : XH h 86 w sd) {g : Nat} (hg : g < 7) : hi_ h 87 g = w g := hX.in_ hg
theorem x86_re (hX : XH h 86 w sd) {g : Nat} (hg : g < 7) : hi_ h 88 g = w (7 + g) := hX.re hg
theorem x86_wo (hX : XH h 86 w sd) {s : Nat} (hs : s < 4) : hi_ h 89 s = w (21 + s) := hX.wo hs
theorem ha86 : 78 ≤ 86 ∧ 86 + 7 < 458 := by decide
/-- X's ground: its cells, text, house -/
def XB (h : aH) (T : aTx) (w : Nat → Int32) (tx sa ga la : Nat) (qs qg : Nat → Nat) : Prop := XS h ∧ hp_ h 64 3 = some tx ∧ XT h T tx sa ga la qs qg ∧ XH h 78 w (se_ T)
theorem XB.S (hB : XB h T w tx sa ga la qs qg) : XS h := hB.1
theorem XB.t (hB : XB h T w tx sa ga la qs qg) : hp_ h 64 3 = some tx := hB.2.1
theorem XB.X (hB : XB h T w tx sa ga la qs qg) : XT h T tx sa ga la qs qg := hB.2.2.1
theorem XB.H (hB : XB h T w tx sa ga la qs qg) : XH h 78 w (se_ T) := hB.2.2.2
/-- what X's questions write -/
def QX (x f : Nat) : Prop := (86 ≤ x ∧ x ≤ 93) ∨ x = 85 ∨ (x = 84 ∧ f = 65) ∨ (124 ≤ x ∧ x ≤ 127) ∨ (129 ≤ x ∧ x ≤ 135)
theorem QX.n {x f : Nat} (q : QX x f) : ¬ xa x := by unfold QX at q; unfold xa; omega
theorem HE.Q {x f : Nat} (q : HE 78 x f) : QX x f := by unfold HE at q; unfold QX; omega
theorem HA.Q {x f : Nat} (q : HA 86 x f) : QX x f := by unfold HA at q; unfold QX; omega
theorem XS.on {S : Nat → Nat → Prop} (hX : XS h) (o : On S h h') : XS h' := by
  obtain ⟨h1, h2, h3, h4, h5, h6, h7, h8, h9⟩ := hX
  exact ⟨fun q hq => (o.k _).trans (h1 q hq), fun q hq => (o.p _ _).trans (h2 q hq), h3.on o, h4.on o, fun k hk => ⟨(h5 k hk).1.on o, (o.p _ _).trans (h5 k hk).2⟩, fun k hk => ⟨(h6 k hk).1.on o, (o.p _ _).trans (h6 k hk).2⟩, fun k hk => (o.p _ _).trans (h7 k hk), fun k hk => (o.p _ _).trans (h8 k hk), fun k hk => (o.p _ _).trans (h9 k hk)⟩
theorem XB.onQ (hB : XB h T w tx sa ga la qs qg) (o : On QX h h') : XB h' T w tx sa ga la qs qg := ⟨hB.S.on o, (o.p _ _).trans hB.t, hB.X.on o (fun _ _ q => q.n), hB.H.off o (fun x f q => by unfold QX at q; omega)⟩
theorem x_isIn {v a b : Int32} : (run (d) 9 0 [.int v, .int a, .int b] [] h) = some (.returned (some (.int (bI (in_ v a b)))), h) := by
  unfold in_
  by_cases q1 : a ≤ v
  · have q1' : ¬ v < a := Int32.not_lt.mpr q1
    by_cases q2 : v ≤ b
    · have q2' : ¬ b < v := Int32.not_lt.mpr q2
      simp only [e9_0, e9_1, e9_2, e9_5, e9_6, e9_7, e9_10, e9_11, e9_14, e9_15, ↓reduceIte, Nat.reduceAdd, Nat.reduceLeDiff, Nat.reduceLT, Nat.reduceEqDiff, not_false_eq_true, false_or, true_or, or_true, or_false, n0_e, n1_ne, n1_11, bI_z, bI_1, bI_fo, va_rf_some, aBk_1, aBk_0, nI_add, nI_mul, hk_si, hp_si, hl_si, hk_sp, hk_sl, hk_cp, hp_cp, q1, q1', q2, q2', n1_01, decide_true, Bool.and_self]
      rfl
    · have q2' : b < v := Int32.not_le.mp q2
      simp only [e9_0, e9_1, e9_2, e9_5, e9_6, e9_7, e9_10, e9_11, e9_14, e9_15, ↓reduceIte, Nat.reduceAdd, Nat.reduceLeDiff, Nat.reduceLT, Nat.reduceEqDiff, not_false_eq_true, false_or, true_or, or_true, or_false, n0_e, n1_ne, n1_11, bI_z, bI_1, bI_fo, va_rf_some, aBk_1, aBk_0, nI_add, nI_mul, hk_si, hp_si, hl_si, hk_sp, hk_sl, hk_cp, hp_cp, q1, q1', q2, q2', n0_01, decide_true, decide_false, Bool.and_false]
      rfl
  · have q1' : v < a := Int32.not_le.mp q1
    simp only [e9_0, e9_1, e9_2, e9_5, e9_6, e9_7, e9_10, e9_11, e9_14, e9_15, ↓reduceIte, Nat.reduceAdd, Nat.reduceLeDiff, Nat.reduceLT, Nat.reduceEqDiff, not_false_eq_true, false_or, true_or, or_true, or_false, n0_e, n1_ne, n1_11, bI_z, bI_1, bI_fo, va_rf_some, aBk_1, aBk_0, nI_add, nI_mul, hk_si, hp_si, hl_si, hk_sp, hk_sl, hk_cp, hp_cp, q1, q1', n0_01, decide_false, Bool.false_and]
    rfl
theorem x_sundays (hB : XB h T w tx sa ga la qs qg) : (run (d + 1) 8 0 [.ref 64] [] h) = some (.returned (some (.int (nI (ns_ T)))), h) := by
  have hXS := hB.S
  simp only [e8_0, e8_1, e8_4, e8_7, e8_10, xk_64 hXS, ↓reduceIte, Nat.reduceAdd, Nat.reduceLeDiff, Nat.reduceLT, Nat.reduceEqDiff, not_false_eq_true, false_or, true_or, or_true, or_false, n0_e, n1_ne, n1_11, bI_z, bI_1, bI_fo, va_rf_some, aBk_1, aBk_0, nI_add, nI_mul, hk_si, hp_si, hl_si, hk_sp, hk_sl, hk_cp, hp_cp, hB.t, hB.X.ktx, hB.X.p44, hB.X.ksa, x_size hB.X.S]
theorem x_guests (hB : XB h T w tx sa ga la qs qg) : (run (d + 1) 12 0 [.ref 64] [] h) = some (.returned (some (.int (nI (ng_ T)))), h) := by
  have hXS := hB.S
  simp only [e12_0, e12_1, e12_4, e12_7, e12_10, xk_64 hXS, ↓reduceIte, Nat.reduceAdd, Nat.reduceLeDiff, Nat.reduceLT, Nat.reduceEqDiff, not_false_eq_true, false_or, true_or, or_true, or_false, n0_e, n1_ne, n1_11, bI_z, bI_1, bI_fo, va_rf_some, aBk_1, aBk_0, nI_add, nI_mul, hk_si, hp_si, hl_si, hk_sp, hk_sl, hk_cp, hp_cp, hB.t, hB.X.ktx, hB.X.p45, hB.X.kga, x_size hB.X.G]
theorem x_isSunday (hB : XB h T w tx sa ga la qs qg) {s : Int32} : (run (d + 2) 7 0 [.ref 64, .int s] [] h) = some (.returned (some (.int (bI (isS T s)))), h) := by
  have hXS := hB.S
  simp only [e7_0, e7_1, e7_2, e7_3, e7_6, e7_7, e7_8, e7_11, xk_64 hXS, ↓reduceIte, Nat.reduceAdd, Nat.reduceLeDiff, Nat.reduceLT, Nat.reduceEqDiff, not_false_eq_true, false_or, true_or, or_true, or_false, n0_e, n1_ne, n1_11, bI_z, bI_1, bI_fo, va_rf_some, aBk_1, aBk_0, nI_add, nI_mul, hk_si, hp_si, hl_si, hk_sp, hk_sl, hk_cp, hp_cp, x_sundays hB, x_isIn, bI_01]
  rfl
theorem x_isGuest (hB : XB h T w tx sa ga la qs qg) {g : Int32} : (run (d + 2) 11 0 [.ref 64, .int g] [] h) = some (.returned (some (.int (bI (isG T g)))), h) := by
  have hXS := hB.S
  simp only [e11_0, e11_1, e11_2, e11_3, e11_6, e11_7, e11_8, e11_11, xk_64 hXS, ↓reduceIte, Nat.reduceAdd, Nat.reduceLeDiff, Nat.reduceLT, Nat.reduceEqDiff, not_false_eq_true, false_or, true_or, or_true, or_false, n0_e, n1_ne, n1_11, bI_z, bI_1, bI_fo, va_rf_some, aBk_1, aBk_0, nI_add, nI_mul, hk_si, hp_si, hl_si, hk_sp, hk_sl, hk_cp, hp_cp, x_guests hB, x_isIn, bI_01]
  rfl
theorem x_isAhead {n : Int32} : (run (d + 1) 22 0 [.int n] [] h) = some (.returned (some (.int (bI (lng_ n)))), h) := by
  simp only [e22_0, e22_1, e22_2, e22_4, e22_7, ↓reduceIte, Nat.reduceAdd, Nat.reduceLeDiff, Nat.reduceLT, Nat.reduceEqDiff, not_false_eq_true, false_or, true_or, or_true, or_false, n0_e, n1_ne, n1_11, bI_z, bI_1, bI_fo, va_rf_some, aBk_1, aBk_0, nI_add, nI_mul, hk_si, hp_si, hl_si, hk_sp, hk_sl, hk_cp, hp_cp, x_isIn, bI_01]
  rfl
theorem x_isKept (hB : XB h T w tx sa ga la qs qg) {s : Int32} : (run (d + 3) 19 0 [.ref 64, .int s] [] h) = some (.returned (some (.int (bI (sale_ T w s)))), h) := by
  have hXS := hB.S
  have h4 := hB.X.ns4
  unfold sale_
  cases hq : isS T s with
  | false =>
    simp only [e19_0, e19_1, e19_2, e19_5, e19_8, e19_9, e19_12, e19_13, e19_16, e19_19, e19_20, e19_23, e19_24, xk_64 hXS, xp_7 hXS, ↓reduceIte, Nat.reduceAdd, Nat.reduceLeDiff, Nat.reduceLT, Nat.reduceEqDiff, not_false_eq_true, false_or, true_or, or_true, or_false, n0_e, n1_ne, n1_11, bI_1, bI_fo, va_rf_some, aBk_1, aBk_0, nI_add, nI_mul, hk_si, hp_si, hl_si, hk_sp, hk_sl, hk_cp, hp_cp, x_isSunday hB, hq, bI_z, n0_01, Bool.false_and]
    rfl
  | true =>
    obtain ⟨k, hk, rfl⟩ := isS_n hB.X.v hq
    rw [kk_n (by omega)]
    have hA := hB.H.s
    by_cases q : w (25 + k) = 0
    · simp only [e19_0, e19_1, e19_2, e19_5, e19_8, e19_9, e19_12, e19_13, e19_16, e19_19, e19_20, e19_23, e19_24, xk_64 hXS, xp_7 hXS, h78_k hA, ↓reduceIte, Nat.reduceAdd, Nat.reduceLeDiff, Nat.reduceLT, Nat.reduceEqDiff, not_false_eq_true, false_or, true_or, or_true, or_false, n0_e, n1_ne, n1_11, bI_1, bI_fo, va_rf_some, aBk_1, aBk_0, nI_add, nI_mul, hk_si, hp_si, hl_si, hk_sp, hk_sl, hk_cp, hp_cp, x_isSunday hB, hq, bI_z, reduceCtorEq, x_isSold ha78 hB.H (show k < 4 by omega), q, n1_01, decide_true, Bool.not_true, Bool.true_and]
      rfl
    · simp only [e19_0, e19_1, e19_2, e19_5, e19_8, e19_9, e19_12, e19_13, e19_16, e19_19, e19_20, e19_23, e19_24, xk_64 hXS, xp_7 hXS, h78_k hA, ↓reduceIte, Nat.reduceAdd, Nat.reduceLeDiff, Nat.reduceLT, Nat.reduceEqDiff, not_false_eq_true, false_or, true_or, or_true, or_false, n0_e, n1_ne, n1_11, bI_1, bI_fo, va_rf_some, aBk_1, aBk_0, nI_add, nI_mul, hk_si, hp_si, hl_si, hk_sp, hk_sl, hk_cp, hp_cp, x_isSunday hB, hq, bI_z, reduceCtorEq, x_isSold ha78 hB.H (show k < 4 by omega), q, n0_01, decide_false, Bool.not_false, Bool.true_and]
      rfl
theorem x_whoAt (hB : XB h T w tx sa ga la qs qg) {s x : Int32} : (run (d + 3) 14 0 [.ref 64, .int s, .int x, aU] [] h) = some (.returned (some (.int (who_ T w s x))), h) := by
  have hXS := hB.S
  have hA := hB.H.s
  have h7 := hB.X.ng7
  have hT := hB.X
  simp only [e14_0, e14_1, e14_3, e14_4, e14_7, e14_10, e14_11, e14_14, e14_17, e14_18, e14_19, e14_20, e14_23, e14_24, e14_27, e14_30, e14_31, e14_34, e14_37, e14_38, e14_41, e14_44, e14_45, e14_46, e14_49, e14_52, e14_54, List.mem_cons, List.not_mem_nil, ↓reduceIte, Nat.reduceAdd, Nat.reduceLeDiff, Nat.reduceLT, Nat.reduceEqDiff, not_false_eq_true, false_or, true_or, or_true, or_false, n0_e, n1_ne, n1_11, bI_z, bI_1, bI_fo, va_rf_some, aBk_1, aBk_0, nI_add, nI_mul, hk_si, hp_si, hl_si, hk_sp, hk_sl, hk_cp, hp_cp]
  refine (run_find (F := fun j => (run (d + 3) 14 2 [.ref 64, .int s, .int x, .int (nI j)] [] h)) (R := fun j => some (.returned (some (.int (nI j))), h)) (P := fun g => decide (w g = s) && th_ T g x) (n := ng_ T) (fun j hj => ?_)).trans ?_
  · have g1 : ¬ nI (ng_ T) ≤ nI j := nI_ge hj (by omega)
    have g2 : j < 7 := by omega
    refine (e14_2).trans ?_
    by_cases q : w j = s
    · cases q2 : th_ T j x with
      | true => simp only [e14_0, e14_1, e14_3, e14_4, e14_7, e14_10, e14_11, e14_14, e14_17, e14_18, e14_19, e14_20, e14_23, e14_24, e14_27, e14_30, e14_31, e14_34, e14_37, e14_38, e14_41, e14_44, e14_45, e14_46, e14_49, e14_52, e14_54, xk_64 hXS, xp_7 hXS, h78_k hA, h78_p53 hA, h78_k1 hA, List.mem_cons, List.not_mem_nil, ↓reduceIte, Nat.reduceAdd, Nat.reduceLeDiff, Nat.reduceLT, Nat.reduceEqDiff, not_false_eq_true, false_or, true_or, or_true, or_false, n0_e, n1_ne, n1_11, bI_1, bI_fo, va_rf_some, aBk_1, aBk_0, nI_add, nI_mul, hk_si, hp_si, hl_si, hk_sp, hk_sl, hk_cp, hp_cp, x_guests hB, g1, g2, x78_in hB.H g2, q, hB.t, hT.ktx, hT.p45, hT.kga, x_get hT.G hj, in18 (hT.kqg hj), hT.kqg hj, x_isThere hT hj, q2, bI_z, reduceCtorEq, decide_true, Bool.and_self]
      | false => simp only [e14_0, e14_1, e14_3, e14_4, e14_7, e14_10, e14_11, e14_14, e14_17, e14_18, e14_19, e14_20, e14_23, e14_24, e14_27, e14_30, e14_31, e14_34, e14_37, e14_38, e14_41, e14_44, e14_45, e14_46, e14_49, e14_52, e14_54, xk_64 hXS, xp_7 hXS, h78_k hA, h78_p53 hA, h78_k1 hA, List.mem_cons, List.not_mem_nil, ↓reduceIte, Nat.reduceAdd, Nat.reduceLeDiff, Nat.reduceLT, Nat.reduceEqDiff, not_false_eq_true, false_or, true_or, or_true, or_false, n0_e, n1_ne, n1_11, bI_1, bI_fo, va_rf_some, aBk_1, aBk_0, nI_add, nI_mul, hk_si, hp_si, hl_si, hk_sp, hk_sl, hk_cp, hp_cp, x_guests hB, g1, g2, x78_in hB.H g2, q, hB.t, hT.ktx, hT.p45, hT.kga, x_get hT.G hj, in18 (hT.kqg hj), hT.kqg hj, x_isThere hT hj, q2, bI_z, reduceCtorEq, decide_true, Bool.and_false]
    · simp only [e14_0, e14_1, e14_3, e14_4, e14_7, e14_10, e14_11, e14_14, e14_17, e14_18, e14_19, e14_20, e14_23, e14_24, e14_27, e14_30, e14_31, e14_34, e14_37, e14_38, e14_41, e14_44, e14_45, e14_46, e14_49, e14_52, e14_54, xk_64 hXS, xp_7 hXS, h78_k hA, h78_p53 hA, h78_k1 hA, List.mem_cons, List.not_mem_nil, ↓reduceIte, Nat.reduceAdd, Nat.reduceLeDiff, Nat.reduceLT, Nat.reduceEqDiff, not_false_eq_true, false_or, true_or, or_true, or_false, n0_e, n1_ne, n1_11, bI_z, bI_1, bI_fo, va_rf_some, aBk_1, aBk_0, nI_add, nI_mul, hk_si, hp_si, hl_si, hk_sp, hk_sl, hk_cp, hp_cp, x_guests hB, g1, g2, x78_in hB.H g2, q, decide_false, Bool.false_and, reduceCtorEq]
  · unfold who_
    cases fnd (fun g => decide (w g = s) && th_ T g x) (ng_ T) 0 with
    | some g => rfl
    | none =>
      dsimp only
      refine (e14_2).trans ?_
      simp only [e14_0, e14_1, e14_3, e14_4, e14_7, e14_10, e14_11, e14_14, e14_17, e14_18, e14_19, e14_20, e14_23, e14_24, e14_27, e14_30, e14_31, e14_34, e14_37, e14_38, e14_41, e14_44, e14_45, e14_46, e14_49, e14_52, e14_54, xk_64 hXS, xp_7 hXS, List.mem_cons, List.not_mem_nil, ↓reduceIte, Nat.reduceAdd, Nat.reduceLeDiff, Nat.reduceLT, Nat.reduceEqDiff, not_false_eq_true, false_or, true_or, or_true, or_false, n0_e, n1_ne, n1_11, bI_z, bI_1, bI_fo, va_rf_some, aBk_1, aBk_0, nI_add, nI_mul, hk_si, hp_si, hl_si, hk_sp, hk_sl, hk_cp, hp_cp, x_guests hB, Int32.le_refl]
theorem nIne2 {s : Nat} (hs : s < 2147483648) : nI s ≠ -2 := by
  intro e
  have := congrArg Int32.toInt e
  rw [nI_toInt (by omega)] at this
  have h2 : (-2 : Int32).toInt = -2 := by decide
  omega
theorem x_sunday (hB : XB h T w tx sa ga la qs qg) (hW : WV T w) (s what : Int32) : ∃ h', (∀ d, (run (d + 404) 6 0 [.ref 64, .int s, .int what] [] h) = some (.returned (some (.int (qSun T w s what))), h')) ∧ On QX h h' := by
  have hXS := hB.S
  have hA := hB.H.s
  have hT := hB.X
  have h4 := hT.ns4
  unfold qSun
  cases hq : isS T s with
  | false =>
    refine ⟨h, fun d => ?_, On.refl⟩
    simp only [e6_0, e6_1, e6_2, e6_5, e6_8, e6_9, e6_10, e6_11_0, e6_11_1, e6_11_2, e6_11_3, e6_11_4, e6_11_5, e6_11_6, e6_11_d, e6_52, e6_53, e6_56, e6_59, e6_60, e6_63, e6_66, e6_69, e6_70, e6_71, e6_74, e6_77, e6_78, e6_81, e6_84, e6_87, e6_88, e6_89, e6_92, e6_95, e6_96, e6_97, e6_98, e6_99, e6_102, e6_103, e6_106, e6_109, e6_110, e6_113, e6_114, e6_115, e6_116, e6_119, e6_120, e6_123, e6_124, e6_125, e6_128, e6_129, e6_132, e6_133, e6_136, e6_137, e6_138, e6_141, e6_142, e6_145, e6_146, e6_149, e6_150, e6_151, xk_64 hXS, xp_7 hXS, List.mem_cons, List.not_mem_nil, ↓reduceIte, Nat.reduceAdd, Nat.reduceLeDiff, Nat.reduceLT, Nat.reduceEqDiff, not_false_eq_true, false_or, true_or, or_true, or_false, n0_e, n1_ne, n1_11, bI_1, bI_fo, va_rf_some, aBk_1, aBk_0, nI_add, nI_mul, hk_si, hp_si, hl_si, hk_sp, hk_sl, hk_cp, hp_cp, x_isSunday hB, hq, bI_z]
    rfl
  | true =>
    obtain ⟨k, hk, rfl⟩ := isS_n hT.v hq
    rw [if_pos rfl, kk_n (by omega)]
    have k4 : k < 4 := by omega
    rcases sw_cases 6 6 rfl (by decide) what (qSunF T w k) with ⟨hd, e⟩ | ⟨c, hc, rfl⟩
    · refine ⟨h, fun d => ?_, On.refl⟩
      rw [e]
      simp only [e6_0, e6_1, e6_2, e6_5, e6_8, e6_9, e6_10, e6_11_0, e6_11_1, e6_11_2, e6_11_3, e6_11_4, e6_11_5, e6_11_6, e6_11_d, e6_52, e6_53, e6_56, e6_59, e6_60, e6_63, e6_66, e6_69, e6_70, e6_71, e6_74, e6_77, e6_78, e6_81, e6_84, e6_87, e6_88, e6_89, e6_92, e6_95, e6_96, e6_97, e6_98, e6_99, e6_102, e6_103, e6_106, e6_109, e6_110, e6_113, e6_114, e6_115, e6_116, e6_119, e6_120, e6_123, e6_124, e6_125, e6_128, e6_129, e6_132, e6_133, e6_136, e6_137, e6_138, e6_141, e6_142, e6_145, e6_146, e6_149, e6_150, e6_151, xk_64 hXS, xp_7 hXS, List.mem_cons, List.not_mem_nil, ↓reduceIte, Nat.reduceAdd, Nat.reduceLeDiff, Nat.reduceLT, Nat.reduceEqDiff, not_false_eq_true, false_or, true_or, or_true, or_false, n0_e, n1_ne, n1_11, bI_1, bI_fo, va_rf_some, aBk_1, aBk_0, nI_add, nI_mul, hk_si, hp_si, hl_si, hk_sp, hk_sl, hk_cp, hp_cp, x_isSunday hB, hq, bI_z, reduceCtorEq, hd]
    · rw [swf_n hc (by decide)]
      match c, hc with
      | 0, _ => refine ⟨h, fun d => ?_, On.refl⟩; (simp only [e6_0, e6_1, e6_2, e6_5, e6_8, e6_9, e6_10, e6_11_0, e6_11_1, e6_11_2, e6_11_3, e6_11_4, e6_11_5, e6_11_6, e6_11_d, e6_52, e6_53, e6_56, e6_59, e6_60, e6_63, e6_66, e6_69, e6_70, e6_71, e6_74, e6_77, e6_78, e6_81, e6_84, e6_87, e6_88, e6_89, e6_92, e6_95, e6_96, e6_97, e6_98, e6_99, e6_102, e6_103, e6_106, e6_109, e6_110, e6_113, e6_114, e6_115, e6_116, e6_119, e6_120, e6_123, e6_124, e6_125, e6_128, e6_129, e6_132, e6_133, e6_136, e6_137, e6_138, e6_141, e6_142, e6_145, e6_146, e6_149, e6_150, e6_151, xk_64 hXS, xp_7 hXS, List.mem_cons, List.not_mem_nil, ↓reduceIte, Nat.reduceAdd, Nat.reduceLeDiff, Nat.reduceLT, Nat.reduceEqDiff, not_false_eq_true, false_or, true_or, or_true, or_false, n0_e, n1_ne, n1_11, bI_1, bI_fo, va_rf_some, aBk_1, aBk_0, nI_add, nI_mul, hk_si, hp_si, hl_si, hk_sp, hk_sl, hk_cp, hp_cp, x_isSunday hB, hq, bI_z, reduceCtorEq, hB.t, hT.ktx, hT.p44, hT.ksa, x_get hT.S hk, in16 (hT.kqs hk), hT.kqs hk, hT.lo hk]); rfl
      | 1, _ => refine ⟨h, fun d => ?_, On.refl⟩; (simp only [e6_0, e6_1, e6_2, e6_5, e6_8, e6_9, e6_10, e6_11_0, e6_11_1, e6_11_2, e6_11_3, e6_11_4, e6_11_5, e6_11_6, e6_11_d, e6_52, e6_53, e6_56, e6_59, e6_60, e6_63, e6_66, e6_69, e6_70, e6_71, e6_74, e6_77, e6_78, e6_81, e6_84, e6_87, e6_88, e6_89, e6_92, e6_95, e6_96, e6_97, e6_98, e6_99, e6_102, e6_103, e6_106, e6_109, e6_110, e6_113, e6_114, e6_115, e6_116, e6_119, e6_120, e6_123, e6_124, e6_125, e6_128, e6_129, e6_132, e6_133, e6_136, e6_137, e6_138, e6_141, e6_142, e6_145, e6_146, e6_149, e6_150, e6_151, xk_64 hXS, xp_7 hXS, List.mem_cons, List.not_mem_nil, ↓reduceIte, Nat.reduceAdd, Nat.reduceLeDiff, Nat.reduceLT, Nat.reduceEqDiff, not_false_eq_true, false_or, true_or, or_true, or_false, n0_e, n1_ne, n1_11, bI_1, bI_fo, va_rf_some, aBk_1, aBk_0, nI_add, nI_mul, hk_si, hp_si, hl_si, hk_sp, hk_sl, hk_cp, hp_cp, x_isSunday hB, hq, bI_z, reduceCtorEq, hB.t, hT.ktx, hT.p44, hT.ksa, x_get hT.S hk, in16 (hT.kqs hk), hT.kqs hk, hT.wo hk]); rfl
      | 2, _ => refine ⟨h, fun d => ?_, On.refl⟩; (simp only [e6_0, e6_1, e6_2, e6_5, e6_8, e6_9, e6_10, e6_11_0, e6_11_1, e6_11_2, e6_11_3, e6_11_4, e6_11_5, e6_11_6, e6_11_d, e6_52, e6_53, e6_56, e6_59, e6_60, e6_63, e6_66, e6_69, e6_70, e6_71, e6_74, e6_77, e6_78, e6_81, e6_84, e6_87, e6_88, e6_89, e6_92, e6_95, e6_96, e6_97, e6_98, e6_99, e6_102, e6_103, e6_106, e6_109, e6_110, e6_113, e6_114, e6_115, e6_116, e6_119, e6_120, e6_123, e6_124, e6_125, e6_128, e6_129, e6_132, e6_133, e6_136, e6_137, e6_138, e6_141, e6_142, e6_145, e6_146, e6_149, e6_150, e6_151, xk_64 hXS, xp_7 hXS, h78_k hA, h78_p55 hA, h78_k3 hA, List.mem_cons, List.not_mem_nil, ↓reduceIte, Nat.reduceAdd, Nat.reduceLeDiff, Nat.reduceLT, Nat.reduceEqDiff, not_false_eq_true, false_or, true_or, or_true, or_false, n0_e, n1_ne, n1_11, bI_1, bI_fo, va_rf_some, aBk_1, aBk_0, nI_add, nI_mul, hk_si, hp_si, hl_si, hk_sp, hk_sl, hk_cp, hp_cp, x_isSunday hB, hq, bI_z, reduceCtorEq, k4, x78_wo hB.H k4]); rfl
      | 3, _ =>
        refine ⟨h, fun d => ?_, On.refl⟩
        rcases hW.2.2.2.2.1 k k4 with q | q
        · simp only [e6_0, e6_1, e6_2, e6_5, e6_8, e6_9, e6_10, e6_11_0, e6_11_1, e6_11_2, e6_11_3, e6_11_4, e6_11_5, e6_11_6, e6_11_d, e6_52, e6_53, e6_56, e6_59, e6_60, e6_63, e6_66, e6_69, e6_70, e6_71, e6_74, e6_77, e6_78, e6_81, e6_84, e6_87, e6_88, e6_89, e6_92, e6_95, e6_96, e6_97, e6_98, e6_99, e6_102, e6_103, e6_106, e6_109, e6_110, e6_113, e6_114, e6_115, e6_116, e6_119, e6_120, e6_123, e6_124, e6_125, e6_128, e6_129, e6_132, e6_133, e6_136, e6_137, e6_138, e6_141, e6_142, e6_145, e6_146, e6_149, e6_150, e6_151, xk_64 hXS, xp_7 hXS, h78_k hA, h78_p55 hA, h78_k3 hA, List.mem_cons, List.not_mem_nil, ↓reduceIte, Nat.reduceAdd, Nat.reduceLeDiff, Nat.reduceLT, Nat.reduceEqDiff, not_false_eq_true, false_or, true_or, or_true, or_false, n0_e, n1_ne, n1_11, bI_1, bI_fo, va_rf_some, aBk_1, aBk_0, nI_add, nI_mul, hk_si, hp_si, hl_si, hk_sp, hk_sl, hk_cp, hp_cp, x_isSunday hB, hq, bI_z, reduceCtorEq, x_isSold ha78 hB.H k4, q, decide_true, Bool.not_true]
          show _ = some (Outcome.returned (some (.int (w (25 + k)))), h)
          rw [q]; rfl
        · simp only [e6_0, e6_1, e6_2, e6_5, e6_8, e6_9, e6_10, e6_11_0, e6_11_1, e6_11_2, e6_11_3, e6_11_4, e6_11_5, e6_11_6, e6_11_d, e6_52, e6_53, e6_56, e6_59, e6_60, e6_63, e6_66, e6_69, e6_70, e6_71, e6_74, e6_77, e6_78, e6_81, e6_84, e6_87, e6_88, e6_89, e6_92, e6_95, e6_96, e6_97, e6_98, e6_99, e6_102, e6_103, e6_106, e6_109, e6_110, e6_113, e6_114, e6_115, e6_116, e6_119, e6_120, e6_123, e6_124, e6_125, e6_128, e6_129, e6_132, e6_133, e6_136, e6_137, e6_138, e6_141, e6_142, e6_145, e6_146, e6_149, e6_150, e6_151, xk_64 hXS, xp_7 hXS, h78_k hA, h78_p55 hA, h78_k3 hA, List.mem_cons, List.not_mem_nil, ↓reduceIte, Nat.reduceAdd, Nat.reduceLeDiff, Nat.reduceLT, Nat.reduceEqDiff, not_false_eq_true, false_or, true_or, or_true, or_false, n0_e, n1_11, bI_1, bI_fo, va_rf_some, aBk_1, aBk_0, nI_add, nI_mul, hk_si, hp_si, hl_si, hk_sp, hk_sl, hk_cp, hp_cp, x_isSunday hB, hq, bI_z, reduceCtorEq, x_isSold ha78 hB.H k4, q, n1_ne, decide_false, Bool.not_false]
          show _ = some (Outcome.returned (some (.int (w (25 + k)))), h)
          rw [q]
      | 4, _ => refine ⟨h, fun d => ?_, On.refl⟩; (simp only [e6_0, e6_1, e6_2, e6_5, e6_8, e6_9, e6_10, e6_11_0, e6_11_1, e6_11_2, e6_11_3, e6_11_4, e6_11_5, e6_11_6, e6_11_d, e6_52, e6_53, e6_56, e6_59, e6_60, e6_63, e6_66, e6_69, e6_70, e6_71, e6_74, e6_77, e6_78, e6_81, e6_84, e6_87, e6_88, e6_89, e6_92, e6_95, e6_96, e6_97, e6_98, e6_99, e6_102, e6_103, e6_106, e6_109, e6_110, e6_113, e6_114, e6_115, e6_116, e6_119, e6_120, e6_123, e6_124, e6_125, e6_128, e6_129, e6_132, e6_133, e6_136, e6_137, e6_138, e6_141, e6_142, e6_145, e6_146, e6_149, e6_150, e6_151, xk_64 hXS, xp_7 hXS, h78_k hA, h78_p55 hA, h78_k3 hA, List.mem_cons, List.not_mem_nil, ↓reduceIte, Nat.reduceAdd, Nat.reduceLeDiff, Nat.reduceLT, Nat.reduceEqDiff, not_false_eq_true, false_or, true_or, or_true, or_false, n0_e, n1_ne, n1_11, bI_1, bI_fo, va_rf_some, aBk_1, aBk_0, nI_add, nI_mul, hk_si, hp_si, hl_si, hk_sp, hk_sl, hk_cp, hp_cp, x_isSunday hB, hq, bI_z, reduceCtorEq, x_hguests ha78 hB.H, gB7 hT.v hW (nIne2 (show k < 2147483648 by omega))]); rfl
      | 5, _ =>
        obtain ⟨h2, e2, o2⟩ := x_hwears ha78 hT hW hB.H hk
        refine ⟨h2, fun d => ?_, o2.mono (fun _ _ q => q.Q)⟩; (simp only [e6_0, e6_1, e6_2, e6_5, e6_8, e6_9, e6_10, e6_11_0, e6_11_1, e6_11_2, e6_11_3, e6_11_4, e6_11_5, e6_11_6, e6_11_d, e6_52, e6_53, e6_56, e6_59, e6_60, e6_63, e6_66, e6_69, e6_70, e6_71, e6_74, e6_77, e6_78, e6_81, e6_84, e6_87, e6_88, e6_89, e6_92, e6_95, e6_96, e6_97, e6_98, e6_99, e6_102, e6_103, e6_106, e6_109, e6_110, e6_113, e6_114, e6_115, e6_116, e6_119, e6_120, e6_123, e6_124, e6_125, e6_128, e6_129, e6_132, e6_133, e6_136, e6_137, e6_138, e6_141, e6_142, e6_145, e6_146, e6_149, e6_150, e6_151, xk_64 hXS, xp_7 hXS, h78_k hA, h78_p55 hA, h78_k3 hA, List.mem_cons, List.not_mem_nil, ↓reduceIte, Nat.reduceAdd, Nat.reduceLeDiff, Nat.reduceLT, Nat.reduceEqDiff, not_false_eq_true, false_or, true_or, or_true, or_false, n0_e, n1_ne, n1_11, bI_1, bI_fo, va_rf_some, aBk_1, aBk_0, nI_add, nI_mul, hk_si, hp_si, hl_si, hk_sp, hk_sl, hk_cp, hp_cp, x_isSunday hB, hq, bI_z, reduceCtorEq, hB.t, e2]); rfl
      | 6, _ =>
        obtain ⟨h2, e2, o2⟩ := x_hsells ha78 hT hW hB.H hk
        refine ⟨h2, fun d => ?_, o2.mono (fun _ _ q => q.Q)⟩; (simp only [e6_0, e6_1, e6_2, e6_5, e6_8, e6_9, e6_10, e6_11_0, e6_11_1, e6_11_2, e6_11_3, e6_11_4, e6_11_5, e6_11_6, e6_11_d, e6_52, e6_53, e6_56, e6_59, e6_60, e6_63, e6_66, e6_69, e6_70, e6_71, e6_74, e6_77, e6_78, e6_81, e6_84, e6_87, e6_88, e6_89, e6_92, e6_95, e6_96, e6_97, e6_98, e6_99, e6_102, e6_103, e6_106, e6_109, e6_110, e6_113, e6_114, e6_115, e6_116, e6_119, e6_120, e6_123, e6_124, e6_125, e6_128, e6_129, e6_132, e6_133, e6_136, e6_137, e6_138, e6_141, e6_142, e6_145, e6_146, e6_149, e6_150, e6_151, xk_64 hXS, xp_7 hXS, h78_k hA, h78_p55 hA, h78_k3 hA, List.mem_cons, List.not_mem_nil, ↓reduceIte, Nat.reduceAdd, Nat.reduceLeDiff, Nat.reduceLT, Nat.reduceEqDiff, not_false_eq_true, false_or, true_or, or_true, or_false, n0_e, n1_ne, n1_11, bI_1, bI_fo, va_rf_some, aBk_1, aBk_0, nI_add, nI_mul, hk_si, hp_si, hl_si, hk_sp, hk_sl, hk_cp, hp_cp, x_isSunday hB, hq, bI_z, reduceCtorEq, hB.t, e2]); rfl
theorem x_guest (hB : XB h T w tx sa ga la qs qg) (hW : WV T w) (g what : Int32) : ∃ h', (∀ d, (run (d + 405) 10 0 [.ref 64, .int g, .int what, aU] [] h) = some (.returned (some (.int (qGue T w g what))), h')) ∧ On QX h h' := by
  have hXS := hB.S
  have hA := hB.H.s
  have hT := hB.X
  have h7 := hT.ng7
  unfold qGue
  cases hq : isG T g with
  | false =>
    refine ⟨h, fun d => ?_, On.refl⟩
    simp only [e10_0, e10_1, e10_2, e10_5, e10_8, e10_9, e10_10, e10_11, e10_14, e10_17, e10_18, e10_21, e10_24, e10_25, e10_26_0, e10_26_1, e10_26_2, e10_26_3, e10_26_4, e10_26_5, e10_26_6, e10_26_7, e10_26_d, e10_72, e10_73, e10_76, e10_77, e10_78, e10_81, e10_82, e10_83, e10_86, e10_87, e10_88, e10_91, e10_94, e10_95, e10_96, e10_97, e10_98, e10_101, e10_104, e10_105, e10_106, e10_107, e10_108, e10_111, e10_112, e10_115, e10_118, e10_119, e10_122, e10_123, e10_124, e10_125, e10_128, e10_129, e10_132, e10_133, e10_136, e10_137, e10_138, e10_141, e10_142, e10_145, e10_146, e10_149, e10_150, e10_151, xk_64 hXS, xp_7 hXS, List.mem_cons, List.not_mem_nil, ↓reduceIte, Nat.reduceAdd, Nat.reduceLeDiff, Nat.reduceLT, Nat.reduceEqDiff, not_false_eq_true, false_or, true_or, or_true, or_false, n0_e, n1_ne, n1_11, bI_1, bI_fo, va_rf_some, aBk_1, aBk_0, nI_add, nI_mul, hk_si, hp_si, hl_si, hk_sp, hk_sl, hk_cp, hp_cp, x_isGuest hB, hq, bI_z]
    rfl
  | true =>
    obtain ⟨k, hk, rfl⟩ := isG_n hT.v hq
    rw [if_pos rfl, kk_n (by omega)]
    have k7 : k < 7 := by omega
    rcases sw_cases 7 7 rfl (by decide) what (qGueF T w k) with ⟨hd, e⟩ | ⟨c, hc, rfl⟩
    · refine ⟨h, fun d => ?_, On.refl⟩
      rw [e]
      simp only [e10_0, e10_1, e10_2, e10_5, e10_8, e10_9, e10_10, e10_11, e10_14, e10_17, e10_18, e10_21, e10_24, e10_25, e10_26_0, e10_26_1, e10_26_2, e10_26_3, e10_26_4, e10_26_5, e10_26_6, e10_26_7, e10_26_d, e10_72, e10_73, e10_76, e10_77, e10_78, e10_81, e10_82, e10_83, e10_86, e10_87, e10_88, e10_91, e10_94, e10_95, e10_96, e10_97, e10_98, e10_101, e10_104, e10_105, e10_106, e10_107, e10_108, e10_111, e10_112, e10_115, e10_118, e10_119, e10_122, e10_123, e10_124, e10_125, e10_128, e10_129, e10_132, e10_133, e10_136, e10_137, e10_138, e10_141, e10_142, e10_145, e10_146, e10_149, e10_150, e10_151, xk_64 hXS, xp_7 hXS, List.mem_cons, List.not_mem_nil, ↓reduceIte, Nat.reduceAdd, Nat.reduceLeDiff, Nat.reduceLT, Nat.reduceEqDiff, not_false_eq_true, false_or, true_or, or_true, or_false, n0_e, n1_ne, n1_11, bI_1, bI_fo, va_rf_some, aBk_1, aBk_0, nI_add, nI_mul, hk_si, hp_si, hl_si, hk_sp, hk_sl, hk_cp, hp_cp, x_isGuest hB, hq, bI_z, reduceCtorEq, hB.t, hT.ktx, hT.p45, hT.kga, x_get hT.G hk, in18 (hT.kqg hk), hd]
    · rw [swf_n hc (by decide)]
      match c, hc with
      | 0, _ => refine ⟨h, fun d => ?_, On.refl⟩; (simp only [e10_0, e10_1, e10_2, e10_5, e10_8, e10_9, e10_10, e10_11, e10_14, e10_17, e10_18, e10_21, e10_24, e10_25, e10_26_0, e10_26_1, e10_26_2, e10_26_3, e10_26_4, e10_26_5, e10_26_6, e10_26_7, e10_26_d, e10_72, e10_73, e10_76, e10_77, e10_78, e10_81, e10_82, e10_83, e10_86, e10_87, e10_88, e10_91, e10_94, e10_95, e10_96, e10_97, e10_98, e10_101, e10_104, e10_105, e10_106, e10_107, e10_108, e10_111, e10_112, e10_115, e10_118, e10_119, e10_122, e10_123, e10_124, e10_125, e10_128, e10_129, e10_132, e10_133, e10_136, e10_137, e10_138, e10_141, e10_142, e10_145, e10_146, e10_149, e10_150, e10_151, xk_64 hXS, xp_7 hXS, List.mem_cons, List.not_mem_nil, ↓reduceIte, Nat.reduceAdd, Nat.reduceLeDiff, Nat.reduceLT, Nat.reduceEqDiff, not_false_eq_true, false_or, true_or, or_true, or_false, n0_e, n1_ne, n1_11, bI_1, bI_fo, va_rf_some, aBk_1, aBk_0, nI_add, nI_mul, hk_si, hp_si, hl_si, hk_sp, hk_sl, hk_cp, hp_cp, x_isGuest hB, hq, bI_z, reduceCtorEq, hB.t, hT.ktx, hT.p45, hT.kga, x_get hT.G hk, in18 (hT.kqg hk), hT.kqg hk, hT.hr hk]); rfl
      | 1, _ => refine ⟨h, fun d => ?_, On.refl⟩; (simp only [e10_0, e10_1, e10_2, e10_5, e10_8, e10_9, e10_10, e10_11, e10_14, e10_17, e10_18, e10_21, e10_24, e10_25, e10_26_0, e10_26_1, e10_26_2, e10_26_3, e10_26_4, e10_26_5, e10_26_6, e10_26_7, e10_26_d, e10_72, e10_73, e10_76, e10_77, e10_78, e10_81, e10_82, e10_83, e10_86, e10_87, e10_88, e10_91, e10_94, e10_95, e10_96, e10_97, e10_98, e10_101, e10_104, e10_105, e10_106, e10_107, e10_108, e10_111, e10_112, e10_115, e10_118, e10_119, e10_122, e10_123, e10_124, e10_125, e10_128, e10_129, e10_132, e10_133, e10_136, e10_137, e10_138, e10_141, e10_142, e10_145, e10_146, e10_149, e10_150, e10_151, xk_64 hXS, xp_7 hXS, List.mem_cons, List.not_mem_nil, ↓reduceIte, Nat.reduceAdd, Nat.reduceLeDiff, Nat.reduceLT, Nat.reduceEqDiff, not_false_eq_true, false_or, true_or, or_true, or_false, n0_e, n1_ne, n1_11, bI_1, bI_fo, va_rf_some, aBk_1, aBk_0, nI_add, nI_mul, hk_si, hp_si, hl_si, hk_sp, hk_sl, hk_cp, hp_cp, x_isGuest hB, hq, bI_z, reduceCtorEq, hB.t, hT.ktx, hT.p45, hT.kga, x_get hT.G hk, in18 (hT.kqg hk), hT.kqg hk, hT.hs hk]); rfl
      | 2, _ => refine ⟨h, fun d => ?_, On.refl⟩; (simp only [e10_0, e10_1, e10_2, e10_5, e10_8, e10_9, e10_10, e10_11, e10_14, e10_17, e10_18, e10_21, e10_24, e10_25, e10_26_0, e10_26_1, e10_26_2, e10_26_3, e10_26_4, e10_26_5, e10_26_6, e10_26_7, e10_26_d, e10_72, e10_73, e10_76, e10_77, e10_78, e10_81, e10_82, e10_83, e10_86, e10_87, e10_88, e10_91, e10_94, e10_95, e10_96, e10_97, e10_98, e10_101, e10_104, e10_105, e10_106, e10_107, e10_108, e10_111, e10_112, e10_115, e10_118, e10_119, e10_122, e10_123, e10_124, e10_125, e10_128, e10_129, e10_132, e10_133, e10_136, e10_137, e10_138, e10_141, e10_142, e10_145, e10_146, e10_149, e10_150, e10_151, xk_64 hXS, xp_7 hXS, List.mem_cons, List.not_mem_nil, ↓reduceIte, Nat.reduceAdd, Nat.reduceLeDiff, Nat.reduceLT, Nat.reduceEqDiff, not_false_eq_true, false_or, true_or, or_true, or_false, n0_e, n1_ne, n1_11, bI_1, bI_fo, va_rf_some, aBk_1, aBk_0, nI_add, nI_mul, hk_si, hp_si, hl_si, hk_sp, hk_sl, hk_cp, hp_cp, x_isGuest hB, hq, bI_z, reduceCtorEq, hB.t, hT.ktx, hT.p45, hT.kga, x_get hT.G hk, in18 (hT.kqg hk), hT.kqg hk, hT.fe hk]); rfl
      | 3, _ => refine ⟨h, fun d => ?_, On.refl⟩; (simp only [e10_0, e10_1, e10_2, e10_5, e10_8, e10_9, e10_10, e10_11, e10_14, e10_17, e10_18, e10_21, e10_24, e10_25, e10_26_0, e10_26_1, e10_26_2, e10_26_3, e10_26_4, e10_26_5, e10_26_6, e10_26_7, e10_26_d, e10_72, e10_73, e10_76, e10_77, e10_78, e10_81, e10_82, e10_83, e10_86, e10_87, e10_88, e10_91, e10_94, e10_95, e10_96, e10_97, e10_98, e10_101, e10_104, e10_105, e10_106, e10_107, e10_108, e10_111, e10_112, e10_115, e10_118, e10_119, e10_122, e10_123, e10_124, e10_125, e10_128, e10_129, e10_132, e10_133, e10_136, e10_137, e10_138, e10_141, e10_142, e10_145, e10_146, e10_149, e10_150, e10_151, xk_64 hXS, xp_7 hXS, h78_k hA, h78_p53 hA, h78_k1 hA, h78_p54 hA, h78_k2 hA, List.mem_cons, List.not_mem_nil, ↓reduceIte, Nat.reduceAdd, Nat.reduceLeDiff, Nat.reduceLT, Nat.reduceEqDiff, not_false_eq_true, false_or, true_or, or_true, or_false, n0_e, n1_ne, n1_11, bI_1, bI_fo, va_rf_some, aBk_1, aBk_0, nI_add, nI_mul, hk_si, hp_si, hl_si, hk_sp, hk_sl, hk_cp, hp_cp, x_isGuest hB, hq, bI_z, reduceCtorEq, hB.t, hT.ktx, hT.p45, hT.kga, x_get hT.G hk, in18 (hT.kqg hk), k7, x78_in hB.H k7]); rfl
      | 4, _ => refine ⟨h, fun d => ?_, On.refl⟩; (simp only [e10_0, e10_1, e10_2, e10_5, e10_8, e10_9, e10_10, e10_11, e10_14, e10_17, e10_18, e10_21, e10_24, e10_25, e10_26_0, e10_26_1, e10_26_2, e10_26_3, e10_26_4, e10_26_5, e10_26_6, e10_26_7, e10_26_d, e10_72, e10_73, e10_76, e10_77, e10_78, e10_81, e10_82, e10_83, e10_86, e10_87, e10_88, e10_91, e10_94, e10_95, e10_96, e10_97, e10_98, e10_101, e10_104, e10_105, e10_106, e10_107, e10_108, e10_111, e10_112, e10_115, e10_118, e10_119, e10_122, e10_123, e10_124, e10_125, e10_128, e10_129, e10_132, e10_133, e10_136, e10_137, e10_138, e10_141, e10_142, e10_145, e10_146, e10_149, e10_150, e10_151, xk_64 hXS, xp_7 hXS, h78_k hA, h78_p53 hA, h78_k1 hA, h78_p54 hA, h78_k2 hA, List.mem_cons, List.not_mem_nil, ↓reduceIte, Nat.reduceAdd, Nat.reduceLeDiff, Nat.reduceLT, Nat.reduceEqDiff, not_false_eq_true, false_or, true_or, or_true, or_false, n0_e, n1_ne, n1_11, bI_1, bI_fo, va_rf_some, aBk_1, aBk_0, nI_add, nI_mul, hk_si, hp_si, hl_si, hk_sp, hk_sl, hk_cp, hp_cp, x_isGuest hB, hq, bI_z, reduceCtorEq, hB.t, hT.ktx, hT.p45, hT.kga, x_get hT.G hk, in18 (hT.kqg hk), k7, x78_re hB.H k7]); rfl
      | 5, _ =>
        refine ⟨h, fun d => ?_, On.refl⟩
        rcases hW.2.2.1 k k7 with q | q
        · simp only [e10_0, e10_1, e10_2, e10_5, e10_8, e10_9, e10_10, e10_11, e10_14, e10_17, e10_18, e10_21, e10_24, e10_25, e10_26_0, e10_26_1, e10_26_2, e10_26_3, e10_26_4, e10_26_5, e10_26_6, e10_26_7, e10_26_d, e10_72, e10_73, e10_76, e10_77, e10_78, e10_81, e10_82, e10_83, e10_86, e10_87, e10_88, e10_91, e10_94, e10_95, e10_96, e10_97, e10_98, e10_101, e10_104, e10_105, e10_106, e10_107, e10_108, e10_111, e10_112, e10_115, e10_118, e10_119, e10_122, e10_123, e10_124, e10_125, e10_128, e10_129, e10_132, e10_133, e10_136, e10_137, e10_138, e10_141, e10_142, e10_145, e10_146, e10_149, e10_150, e10_151, xk_64 hXS, xp_7 hXS, h78_k hA, h78_p53 hA, h78_k1 hA, h78_p54 hA, h78_k2 hA, List.mem_cons, List.not_mem_nil, ↓reduceIte, Nat.reduceAdd, Nat.reduceLeDiff, Nat.reduceLT, Nat.reduceEqDiff, not_false_eq_true, false_or, true_or, or_true, or_false, n0_e, n1_ne, n1_11, bI_1, bI_fo, va_rf_some, aBk_1, aBk_0, nI_add, nI_mul, hk_si, hp_si, hl_si, hk_sp, hk_sl, hk_cp, hp_cp, x_isGuest hB, hq, bI_z, reduceCtorEq, hB.t, hT.ktx, hT.p45, hT.kga, x_get hT.G hk, in18 (hT.kqg hk), x_isDead ha78 hB.H k7, q, decide_true, Bool.not_true]
          show _ = some (Outcome.returned (some (.int (w (14 + k)))), h)
          rw [q]; rfl
        · simp only [e10_0, e10_1, e10_2, e10_5, e10_8, e10_9, e10_10, e10_11, e10_14, e10_17, e10_18, e10_21, e10_24, e10_25, e10_26_0, e10_26_1, e10_26_2, e10_26_3, e10_26_4, e10_26_5, e10_26_6, e10_26_7, e10_26_d, e10_72, e10_73, e10_76, e10_77, e10_78, e10_81, e10_82, e10_83, e10_86, e10_87, e10_88, e10_91, e10_94, e10_95, e10_96, e10_97, e10_98, e10_101, e10_104, e10_105, e10_106, e10_107, e10_108, e10_111, e10_112, e10_115, e10_118, e10_119, e10_122, e10_123, e10_124, e10_125, e10_128, e10_129, e10_132, e10_133, e10_136, e10_137, e10_138, e10_141, e10_142, e10_145, e10_146, e10_149, e10_150, e10_151, xk_64 hXS, xp_7 hXS, h78_k hA, h78_p53 hA, h78_k1 hA, h78_p54 hA, h78_k2 hA, List.mem_cons, List.not_mem_nil, ↓reduceIte, Nat.reduceAdd, Nat.reduceLeDiff, Nat.reduceLT, Nat.reduceEqDiff, not_false_eq_true, false_or, true_or, or_true, or_false, n0_e, n1_11, bI_1, bI_fo, va_rf_some, aBk_1, aBk_0, nI_add, nI_mul, hk_si, hp_si, hl_si, hk_sp, hk_sl, hk_cp, hp_cp, x_isGuest hB, hq, bI_z, reduceCtorEq, hB.t, hT.ktx, hT.p45, hT.kga, x_get hT.G hk, in18 (hT.kqg hk), x_isDead ha78 hB.H k7, q, n1_ne, decide_false, Bool.not_false]
          show _ = some (Outcome.returned (some (.int (w (14 + k)))), h)
          rw [q]
      | 6, _ =>
        obtain ⟨h2, e2, o2⟩ := x_hpays ha78 hT hW hB.H hk
        refine ⟨h2, fun d => ?_, o2.mono (fun _ _ q => q.Q)⟩; (simp only [e10_0, e10_1, e10_2, e10_5, e10_8, e10_9, e10_10, e10_11, e10_14, e10_17, e10_18, e10_21, e10_24, e10_25, e10_26_0, e10_26_1, e10_26_2, e10_26_3, e10_26_4, e10_26_5, e10_26_6, e10_26_7, e10_26_d, e10_72, e10_73, e10_76, e10_77, e10_78, e10_81, e10_82, e10_83, e10_86, e10_87, e10_88, e10_91, e10_94, e10_95, e10_96, e10_97, e10_98, e10_101, e10_104, e10_105, e10_106, e10_107, e10_108, e10_111, e10_112, e10_115, e10_118, e10_119, e10_122, e10_123, e10_124, e10_125, e10_128, e10_129, e10_132, e10_133, e10_136, e10_137, e10_138, e10_141, e10_142, e10_145, e10_146, e10_149, e10_150, e10_151, xk_64 hXS, xp_7 hXS, h78_k hA, h78_p53 hA, h78_k1 hA, h78_p54 hA, h78_k2 hA, List.mem_cons, List.not_mem_nil, ↓reduceIte, Nat.reduceAdd, Nat.reduceLeDiff, Nat.reduceLT, Nat.reduceEqDiff, not_false_eq_true, false_or, true_or, or_true, or_false, n0_e, n1_ne, n1_11, bI_1, bI_fo, va_rf_some, aBk_1, aBk_0, nI_add, nI_mul, hk_si, hp_si, hl_si, hk_sp, hk_sl, hk_cp, hp_cp, x_isGuest hB, hq, bI_z, reduceCtorEq, hB.t, hT.ktx, hT.p45, hT.kga, x_get hT.G hk, in18 (hT.kqg hk), e2]); rfl
      | 7, _ =>
        obtain ⟨h2, e2, o2⟩ := x_hrests ha78 hT hW hB.H hk
        refine ⟨h2, fun d => ?_, o2.mono (fun _ _ q => q.Q)⟩; (simp only [e10_0, e10_1, e10_2, e10_5, e10_8, e10_9, e10_10, e10_11, e10_14, e10_17, e10_18, e10_21, e10_24, e10_25, e10_26_0, e10_26_1, e10_26_2, e10_26_3, e10_26_4, e10_26_5, e10_26_6, e10_26_7, e10_26_d, e10_72, e10_73, e10_76, e10_77, e10_78, e10_81, e10_82, e10_83, e10_86, e10_87, e10_88, e10_91, e10_94, e10_95, e10_96, e10_97, e10_98, e10_101, e10_104, e10_105, e10_106, e10_107, e10_108, e10_111, e10_112, e10_115, e10_118, e10_119, e10_122, e10_123, e10_124, e10_125, e10_128, e10_129, e10_132, e10_133, e10_136, e10_137, e10_138, e10_141, e10_142, e10_145, e10_146, e10_149, e10_150, e10_151, xk_64 hXS, xp_7 hXS, h78_k hA, h78_p53 hA, h78_k1 hA, h78_p54 hA, h78_k2 hA, List.mem_cons, List.not_mem_nil, ↓reduceIte, Nat.reduceAdd, Nat.reduceLeDiff, Nat.reduceLT, Nat.reduceEqDiff, not_false_eq_true, false_or, true_or, or_true, or_false, n0_e, n1_ne, n1_11, bI_1, bI_fo, va_rf_some, aBk_1, aBk_0, nI_add, nI_mul, hk_si, hp_si, hl_si, hk_sp, hk_sl, hk_cp, hp_cp, x_isGuest hB, hq, bI_z, reduceCtorEq, hB.t, hT.ktx, hT.p45, hT.kga, x_get hT.G hk, in18 (hT.kqg hk), e2]); rfl
theorem x_at (hB : XB h T w tx sa ga la qs qg) (s x : Int32) : (run (d + 4) 13 0 [.ref 64, .int s, .int x] [] h) = some (.returned (some (.int (qAt T w s x))), h) := by
  have hXS := hB.S
  have hT := hB.X
  have h4 := hT.ns4
  unfold qAt
  cases hq : isS T s with
  | false => simp only [e13_0, e13_1, e13_2, e13_5, e13_8, e13_9, e13_10, e13_11, e13_14, e13_17, e13_18, e13_21, e13_24, e13_27, e13_28, e13_29, e13_32, e13_35, e13_36, e13_37, e13_38, e13_41, e13_44, e13_45, xk_64 hXS, List.mem_cons, List.not_mem_nil, ↓reduceIte, Nat.reduceAdd, Nat.reduceLeDiff, Nat.reduceLT, Nat.reduceEqDiff, not_false_eq_true, false_or, true_or, or_true, or_false, n0_e, n1_ne, n1_11, bI_1, bI_fo, va_rf_some, aBk_1, aBk_0, nI_add, nI_mul, hk_si, hp_si, hl_si, hk_sp, hk_sl, hk_cp, hp_cp, x_isSunday hB, hq, bI_z, reduceCtorEq, false_and]
  | true =>
    obtain ⟨k, hk, rfl⟩ := isS_n hT.v hq
    rw [kk_n (by omega)]
    cases hq2 : in_ x (nI 0) (lo_ T k - nI 1) with
    | false => simp only [e13_0, e13_1, e13_2, e13_5, e13_8, e13_9, e13_10, e13_11, e13_14, e13_17, e13_18, e13_21, e13_24, e13_27, e13_28, e13_29, e13_32, e13_35, e13_36, e13_37, e13_38, e13_41, e13_44, e13_45, xk_64 hXS, List.mem_cons, List.not_mem_nil, ↓reduceIte, Nat.reduceAdd, Nat.reduceLeDiff, Nat.reduceLT, Nat.reduceEqDiff, not_false_eq_true, false_or, true_or, or_true, or_false, n0_e, n1_ne, n1_11, bI_1, bI_fo, va_rf_some, aBk_1, aBk_0, nI_add, nI_mul, hk_si, hp_si, hl_si, hk_sp, hk_sl, hk_cp, hp_cp, x_isSunday hB, hq, bI_z, reduceCtorEq, and_false, hB.t, hT.ktx, hT.p44, hT.ksa, x_get hT.S hk, in16 (hT.kqs hk), hT.kqs hk, hT.lo hk, x_isIn, hq2]
    | true => simp only [e13_0, e13_1, e13_2, e13_5, e13_8, e13_9, e13_10, e13_11, e13_14, e13_17, e13_18, e13_21, e13_24, e13_27, e13_28, e13_29, e13_32, e13_35, e13_36, e13_37, e13_38, e13_41, e13_44, e13_45, xk_64 hXS, List.mem_cons, List.not_mem_nil, ↓reduceIte, Nat.reduceAdd, Nat.reduceLeDiff, Nat.reduceLT, Nat.reduceEqDiff, not_false_eq_true, false_or, true_or, or_true, or_false, n0_e, n1_ne, n1_11, bI_1, bI_fo, va_rf_some, aBk_1, aBk_0, nI_add, nI_mul, hk_si, hp_si, hl_si, hk_sp, hk_sl, hk_cp, hp_cp, x_isSunday hB, hq, bI_z, reduceCtorEq, and_self, hB.t, hT.ktx, hT.p44, hT.ksa, x_get hT.S hk, in16 (hT.kqs hk), hT.kqs hk, hT.lo hk, x_isIn, hq2, x_whoAt hB]
end X6
