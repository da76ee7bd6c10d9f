set_option maxRecDepth 100000
/-! X: reading (3): numbers; new sums -/
def sb (b : Nat) : Int32 := if b < 128 then nI b else nI b - nI 256
/-- bytes and ends of tokens in X -/
def XV (h : aH) (β : Nat → Nat) (n N : Nat) : Prop := hi_ h 66 31 = nI n ∧ (∀ i, i < n → hi_ h 68 i = sb (β i)) ∧ ∀ j, j ≤ N → kdz β n (pz β j) = 1 ∨ kdz β n (pz β j) = 2 → hi_ h 71 j = nI (pz β j + tlz β (pz β j))
section XN
variable {d n N : Nat} {h h' : aH} {β : Nat → Nat} {c s : Nat} {S P : Nat → Nat → Prop}
theorem kd2 {i : Nat} (hk : kdz β n i = 2) : i < n ∧ isL (β i) = false ∧ isD (β i) = true ∧ rl isD β i ≤ 4 ∧ tlz β i = rl isD β i ∧ tvz β i = vlN β i (rl isD β i) := by
  unfold kdz at hk
  by_cases q : n ≤ i
  · rw [if_pos q] at hk; exact absurd hk (by decide)
  · rw [if_neg q] at hk
    unfold tlz tvz
    cases hL : isL (β i) with
    | true =>
      rw [hL] at hk
      have hk : (if 8 < rl isL β i then 3 else kyz (nmN β i (rl isL β i))) = 2 := hk
      split at hk
      · omega
      · have := kyz_b (nmN β i (rl isL β i)); omega
    | false =>
      rw [hL] at hk
      cases hD : isD (β i) with
      | true =>
        rw [hD] at hk
        have hk : (if 4 < rl isD β i then 3 else 2) = 2 := hk
        split at hk
        · omega
        · exact ⟨by omega, rfl, rfl, by omega, rfl, by show vlN β i (min (rl isD β i) 4) = _; rw [Nat.min_eq_left (by omega)]⟩
      | false =>
        rw [hD] at hk
        have hk : sgz (β i) = 2 := hk
        have := sgz_b (β i); omega
theorem kd1 {i : Nat} (hk : kdz β n i = 1) : i < n ∧ isL (β i) = true ∧ rl isL β i ≤ 8 ∧ tlz β i = rl isL β i ∧ tnz β i = nmN β i (rl isL β i) := by
  unfold kdz at hk
  by_cases q : n ≤ i
  · rw [if_pos q] at hk; exact absurd hk (by decide)
  · rw [if_neg q] at hk
    unfold tlz tnz
    cases hL : isL (β i) with
    | true =>
      rw [hL] at hk
      have hk : (if 8 < rl isL β i then 3 else kyz (nmN β i (rl isL β i))) = 1 := hk
      split at hk
      · omega
      · exact ⟨by omega, rfl, by omega, rfl, by show nmN β i (min (rl isL β i) 8) = _; rw [Nat.min_eq_left (by omega)]⟩
    | false =>
      rw [hL] at hk
      cases hD : isD (β i) with
      | true =>
        rw [hD] at hk
        have hk : (if 4 < rl isD β i then 3 else 2) = 1 := hk
        split at hk <;> omega
      | false =>
        rw [hD] at hk
        have hk : sgz (β i) = 1 := hk
        have := sgz_b (β i); omega
theorem sb_d {b : Nat} (h : b < 128) : sb b = nI b := if_pos h
theorem k_number (hX : XS h) (hV : BV β n) (hW : XV h β n N) (hK : XK h (tz β n) N) {j : Nat} (hj : j ≤ N) (h4 : N ≤ 400) (hk : kdz β n (pz β j) = 2) : (run (d) 81 0 [.ref 66, .int (nI j), aU, aU] [] h) = some (.returned (some (.int (nI (tvz β (pz β j))))), h) := by
  obtain ⟨w1, w2, w3⟩ := hW
  obtain ⟨p1, p2, p3, p4, p5, p6⟩ := kd2 hk
  have e1 : hi_ h 70 j = nI (pz β j) := (hK j hj).2.2.1
  have e2 := w3 j hj (Or.inr hk)
  rw [p5] at e2
  obtain ⟨a1, a2, a3⟩ := rl_at (p := isD) hV isD0 (i := pz β j) (by omega)
  have hn := hV.1
  have g1 : j < 2001 := by omega
  rw [p6]
  have L : ∀ m, m ≤ rl isD β (pz β j) → (run (d) 81 9 [.ref 66, .int (nI j), .int (nI 0), .int (nI (pz β j))] [] h) = (run (d) 81 9 [.ref 66, .int (nI j), .int (nI (vlN β (pz β j) m)), .int (nI (pz β j + m))] [] h) := by
    intro m
    induction m with
    | zero => intro _; rfl
    | succ m ih =>
      intro hm
      refine (ih (by omega)).trans ?_
      have hd := of_decide_eq_true (a2 m (by omega))
      have g2 : ¬ nI (pz β j + rl isD β (pz β j)) ≤ nI (pz β j + m) := nI_ge (by omega) (by omega)
      have g3 : pz β j + m < 2000 := by omega
      have e3 : hi_ h 68 (pz β j + m) = nI (β (pz β j + m)) := (w2 _ (by omega)).trans (sb_d (by omega))
      have e4 : nI (10 * vlN β (pz β j) m + β (pz β j + m)) - nI 48 = nI (vlN β (pz β j) (m + 1)) := by
        rw [nI_sub (by omega)]
        congr 1
        show _ = 10 * vlN β (pz β j) m + (β (pz β j + m) - 48)
        omega
      refine (e81_9).trans ?_
      simp only [e81_0, e81_1, e81_2, e81_3, e81_6, e81_7, e81_8, e81_10, e81_11, e81_14, e81_15, e81_16, e81_19, e81_21, e81_22, e81_23, e81_24, e81_27, e81_28, e81_29, e81_30, e81_32, e81_33, e81_34, e81_37, e81_40, e81_41, xk_64 hX, xk_66 hX, xp_30 hX, xk_68 hX, xp_33 hX, xk_70 hX, xp_34 hX, xk_71 hX, ↓reduceIte, Nat.reduceAdd, Nat.reduceLeDiff, Nat.reduceLT, Nat.reduceEqDiff, not_false_eq_true, false_or, true_or, or_true, or_false, n0_e, n1_ne, n1_11, bI_z, bI_1, bI_fo, va_rf_some, aBk_1, aBk_0, nI_add, nI_mul, hk_si, hp_si, hl_si, hk_sp, hk_sl, hk_cp, hp_cp, g1, e2, g2, g3, e3, e4, Nat.add_assoc]
  have L' := L _ (Nat.le_refl _)
  simp only [e81_0, e81_1, e81_2, e81_3, e81_6, e81_7, e81_8, e81_10, e81_11, e81_14, e81_15, e81_16, e81_19, e81_21, e81_22, e81_23, e81_24, e81_27, e81_28, e81_29, e81_30, e81_32, e81_33, e81_34, e81_37, e81_40, e81_41, xk_64 hX, xk_66 hX, xp_30 hX, xk_68 hX, xp_33 hX, xk_70 hX, xp_34 hX, xk_71 hX, ↓reduceIte, Nat.reduceAdd, Nat.reduceLeDiff, Nat.reduceLT, Nat.reduceEqDiff, not_false_eq_true, false_or, true_or, or_true, or_false, n0_e, n1_ne, n1_11, bI_z, bI_1, bI_fo, va_rf_some, aBk_1, aBk_0, nI_add, nI_mul, hk_si, hp_si, hl_si, hk_sp, hk_sl, hk_cp, hp_cp, g1, e1]
  refine L'.trans ?_
  have g2 : nI (pz β j + rl isD β (pz β j)) ≤ nI (pz β j + rl isD β (pz β j)) := Int32.le_refl _
  refine (e81_9).trans ?_
  simp only [e81_0, e81_1, e81_2, e81_3, e81_6, e81_7, e81_8, e81_10, e81_11, e81_14, e81_15, e81_16, e81_19, e81_21, e81_22, e81_23, e81_24, e81_27, e81_28, e81_29, e81_30, e81_32, e81_33, e81_34, e81_37, e81_40, e81_41, xk_64 hX, xk_66 hX, xp_30 hX, xk_68 hX, xp_33 hX, xk_70 hX, xp_34 hX, xk_71 hX, ↓reduceIte, Nat.reduceAdd, Nat.reduceLeDiff, Nat.reduceLT, Nat.reduceEqDiff, not_false_eq_true, false_or, true_or, or_true, or_false, n0_e, n1_ne, n1_11, bI_z, bI_1, bI_fo, va_rf_some, aBk_1, aBk_0, nI_add, nI_mul, hk_si, hp_si, hl_si, hk_sp, hk_sl, hk_cp, hp_cp, g1, e2, g2]
theorem n_init {a : Nat} {v : Int32} (hk : hk_ h a = (13, 0)) (h6 : 64 ≤ a) : (run (d + 1) 306 0 [.ref a, .int v] [] h) = some (.returned none, si_ h a 141 v) := by
  have h98 : (13 : Nat) < 98 := by decide
  have s1 : ∀ d, (run (d) 305 0 [.ref a] [] h) = some (.returned none, h) := fun d => by
    simp only [e305_0, e305_1, e305_4, ↓reduceIte, Nat.reduceAdd, Nat.reduceLeDiff, Nat.reduceLT, Nat.reduceEqDiff, not_false_eq_true, false_or, true_or, or_true, or_false, n0_e, n1_ne, n1_11, bI_z, bI_1, bI_fo, va_rf_some, aBk_1, aBk_0, nI_add, nI_mul, hk_si, hp_si, hl_si, hk_sp, hk_sl, hk_cp, hp_cp, hk, h98]
  simp only [e306_0, e306_1, e306_4, e306_5, e306_6, e306_9, ↓reduceIte, Nat.reduceAdd, Nat.reduceLeDiff, Nat.reduceLT, Nat.reduceEqDiff, not_false_eq_true, false_or, true_or, or_true, or_false, n0_e, n1_ne, n1_11, bI_z, bI_1, bI_fo, va_rf_some, aBk_1, aBk_0, nI_add, nI_mul, hk_si, hp_si, hl_si, hk_sp, hk_sl, hk_cp, hp_cp, hk, h6, h98, s1]
theorem v_init {a : Nat} {v : Int32} (hk : hk_ h a = (14, 0)) (h6 : 64 ≤ a) : (run (d + 1) 308 0 [.ref a, .int v] [] h) = some (.returned none, si_ h a 142 v) := by
  have h98 : (14 : Nat) < 98 := by decide
  have s1 : ∀ d, (run (d) 305 0 [.ref a] [] h) = some (.returned none, h) := fun d => by
    simp only [e305_0, e305_1, e305_4, ↓reduceIte, Nat.reduceAdd, Nat.reduceLeDiff, Nat.reduceLT, Nat.reduceEqDiff, not_false_eq_true, false_or, true_or, or_true, or_false, n0_e, n1_ne, n1_11, bI_z, bI_1, bI_fo, va_rf_some, aBk_1, aBk_0, nI_add, nI_mul, hk_si, hp_si, hl_si, hk_sp, hk_sl, hk_cp, hp_cp, hk, h98]
  simp only [e308_0, e308_1, e308_4, e308_5, e308_6, e308_9, ↓reduceIte, Nat.reduceAdd, Nat.reduceLeDiff, Nat.reduceLT, Nat.reduceEqDiff, not_false_eq_true, false_or, true_or, or_true, or_false, n0_e, n1_ne, n1_11, bI_z, bI_1, bI_fo, va_rf_some, aBk_1, aBk_0, nI_add, nI_mul, hk_si, hp_si, hl_si, hk_sp, hk_sl, hk_cp, hp_cp, hk, h6, h98, s1]
theorem o_init {a x y : Nat} {v : Int32} (hk : hk_ h a = (15, 0)) (h6 : 64 ≤ a) : (run (d + 1) 310 0 [.ref a, .int v, .ref x, .ref y] [] h) = some (.returned none, sp_ (sp_ (si_ h a 143 v) a 144 (some x)) a 145 (some y)) := by
  have h98 : (15 : Nat) < 98 := by decide
  have s1 : ∀ d, (run (d) 305 0 [.ref a] [] h) = some (.returned none, h) := fun d => by
    simp only [e305_0, e305_1, e305_4, ↓reduceIte, Nat.reduceAdd, Nat.reduceLeDiff, Nat.reduceLT, Nat.reduceEqDiff, not_false_eq_true, false_or, true_or, or_true, or_false, n0_e, n1_ne, n1_11, bI_z, bI_1, bI_fo, va_rf_some, aBk_1, aBk_0, nI_add, nI_mul, hk_si, hp_si, hl_si, hk_sp, hk_sl, hk_cp, hp_cp, hk, h98]
  simp only [e310_0, e310_1, e310_4, e310_5, e310_6, e310_9, e310_10, e310_11, e310_11n, e310_14, e310_15, e310_16, e310_16n, e310_19, ↓reduceIte, Nat.reduceAdd, Nat.reduceLeDiff, Nat.reduceLT, Nat.reduceEqDiff, not_false_eq_true, false_or, true_or, or_true, or_false, n0_e, n1_ne, n1_11, bI_z, bI_1, bI_fo, va_rf_some, aBk_1, aBk_0, nI_add, nI_mul, hk_si, hp_si, hl_si, hk_sp, hk_sl, hk_cp, hp_cp, hk, h6, h98, s1]
theorem XK.oa {τ : aTok} (hK : XK h τ N) (o : OA c s S P h h') (hz : 504 ≤ hz_ h) (hs : ∀ a f, S a f → a < 69 ∨ 72 < a) : XK h' τ N := fun j hj => by
  obtain ⟨h0, h1, h2, h3, h4⟩ := hK j hj
  exact ⟨h0, (o.i (by omega) (fun q => by have := hs _ _ q; omega)).trans h1, (o.i (by omega) (fun q => by have := hs _ _ q; omega)).trans h2, fun q => (o.i (by omega) (fun q => by have := hs _ _ q; omega)).trans (h3 q), fun q => (o.i (by omega) (fun q => by have := hs _ _ q; omega)).trans (h4 q)⟩
theorem XV.oa (hV : XV h β n N) (o : OA c s S P h h') (hz : 504 ≤ hz_ h) (hs : ∀ a f, S a f → a ≠ 66 ∧ a ≠ 68 ∧ a ≠ 71) : XV h' β n N := ⟨(o.i (by omega) (fun q => by have := hs _ _ q; omega)).trans hV.1, fun i hi => (o.i (by omega) (fun q => by have := hs _ _ q; omega)).trans (hV.2.1 i hi), fun j hj hk => (o.i (by omega) (fun q => by have := hs _ _ q; omega)).trans (hV.2.2 j hj hk)⟩
/-- new cells alone -/
theorem XR.oa {τ : aTok} {σ : aPs} (hR : XR h τ N σ) (o : OA c s S P h h') (hz : 504 ≤ hz_ h) (hs : ∀ a f, S a f → (a < 69 ∨ 73 < a)) (hP : PTx P) : XR h' τ N σ := by
  obtain ⟨hX, hT, hK, h1, h2, h3, h5, h6, h7⟩ := hR
  have e : ∀ f, hi_ h' 73 f = hi_ h 73 f := fun f => o.i (by omega) (fun q => by have := hs _ _ q; omega)
  exact ⟨hX.oa o hz hP, hT, hK.oa o hz (fun a f q => by have := hs _ _ q; omega), h1, (e _).trans h2, (e _).trans h3, h5, (e _).trans h6, fun q => ⟨(h7 q).1, (e _).trans (h7 q).2⟩⟩
end XN
