set_option maxRecDepth 100000
/-! X: what is done (3) -/
section XG
variable {d : Nat} {h h' : aH} {r : Nat → Int32} {ua tx sa ga la : Nat} {qs qg : Nat → Nat} {Ω : aSg}
theorem x_undo (hI : XI h Ω tx sa ga la qs qg) : ∃ h', (∀ d, (run (d + 2) 26 0 [.ref 64] [] h) = some (.returned (some (.int ((aUnd Ω).2))), h')) ∧ On XP h h' ∧ XI h' (aUnd Ω).1 tx sa ga la qs qg := by
  have hB := hI.B
  have hXS := hB.S
  obtain ⟨ua, u1, u2, u3, u4, u5⟩ := hI.U
  unfold aUnd
  by_cases q : gu Ω = 0
  · rw [if_pos q]
    have eu : hi_ h 64 5 = nI 0 := by rw [u4, q]
    refine ⟨h, fun d => ?_, On.refl, hI⟩
    simp only [e26_0, e26_1, e26_4, e26_7, e26_8, e26_9, e26_10, e26_11, e26_14, e26_15, e26_16, e26_19, e26_20, e26_21, e26_24, e26_26, e26_27, e26_28, e26_29, e26_31, e26_32, e26_35, e26_36, e26_39, e26_40, e26_43, e26_44, e26_47, e26_48, e26_51, e26_52, xk_64 hXS, xp_7 hXS, xp_9 hXS, xk_94 hXS, ↓reduceIte, Nat.reduceAdd, Nat.reduceLeDiff, Nat.reduceLT, Nat.reduceEqDiff, not_false_eq_true, false_or, true_or, or_true, or_false, n0_e, n1_ne, n1_11, bI_z, bI_1, bI_fo, va_rf_some, aBk_1, aBk_0, nI_add, nI_mul, hk_si, hp_si, hl_si, hk_sp, hk_sl, hk_cp, hp_cp, eu]
  · rw [if_neg q]
    obtain ⟨v, hv⟩ : ∃ v, gu Ω = v + 1 := ⟨gu Ω - 1, by omega⟩
    have hv1 : gu Ω - 1 = v := by omega
    have eu : hi_ h 64 5 = nI (v + 1) := by rw [u4, hv]
    rw [hv1]
    have hz : (nI (v + 1) = 0) = False := by rw [nI_z (by omega)]; exact eq_false (by omega)
    have ok : On (AA 64) h (si_ (si_ h 64 5 (nI v)) 64 6 (nI ((ua + 39) % 40))) := On.sa.trans On.sa
    have hXS1 : XS (si_ h 64 5 (nI v)) := hXS.on (On.sa (a := 64))
    have hXS2 := hXS.on ok
    have hs : (ua + 40 - gu Ω + v) % 40 = (ua + 39) % 40 := by omega
    have m40 : (ua + 39) % 40 < 40 := Nat.mod_lt _ (by decide)
    have hx0 := u5 v (by omega)
    rw [hs] at hx0
    have hx : XH (si_ (si_ h 64 5 (nI v)) 64 6 (nI ((ua + 39) % 40))) (138 + 8 * ((ua + 39) % 40)) (gh Ω v) (se_ (gT Ω)) := hx0.off ok (fun x f z => by have z : x = 64 := z; omega)
    have hH1 : HS (si_ (si_ h 64 5 (nI v)) 64 6 (nI ((ua + 39) % 40))) 78 := hB.H.s.on ok
    obtain ⟨h2, e2, o2, x2⟩ := x_takes ha78 (show 78 ≤ 138 + 8 * ((ua + 39) % 40) ∧ 138 + 8 * ((ua + 39) % 40) + 7 < 458 by omega) (by omega) hx hH1
    have oo : On (fun x f => (78 ≤ x ∧ x ≤ 85) ∨ (x = 64 ∧ (f = 5 ∨ f = 6))) h h2 := ((On.si (Or.inr ⟨rfl, Or.inl rfl⟩)).trans (On.si (Or.inr ⟨rfl, Or.inr rfl⟩))).trans (o2.mono (fun x f z => Or.inl z))
    refine ⟨h2, fun d => ?_, oo.mono (fun x f z => by unfold XP; omega), ⟨hB.S.on oo, (oo.p _ _).trans hB.t, hB.X.on oo (fun x f z => by unfold xa; omega), x2⟩, ⟨(ua + 39) % 40, m40, ?_, ?_, ?_, fun i hi => ?_⟩, hI.ks oo (fun x f z => by omega), hI.km oo (fun x f z => by omega), hI.kn oo (fun x f z => by omega), hI.kp oo (fun z => by omega)⟩
    · have kh := hs_k hH1
      have u2' : hi_ (si_ h 64 5 (nI v)) 64 6 = nI ua := (hi_ne (by omega)).trans u2
      have m41 : (ua + 40 - 1) % 40 < 40 := m40
      simp only [e26_0, e26_1, e26_4, e26_7, e26_8, e26_9, e26_10, e26_11, e26_14, e26_15, e26_16, e26_19, e26_20, e26_21, e26_24, e26_26, e26_27, e26_28, e26_29, e26_31, e26_32, e26_35, e26_36, e26_39, e26_40, e26_43, e26_44, e26_47, e26_48, e26_51, e26_52, xk_64 hXS, xp_7 hXS, xp_9 hXS, xk_94 hXS, xk_64 hXS1, xp_7 hXS1, xp_9 hXS1, xk_94 hXS1, xk_64 hXS2, xp_7 hXS2, xp_9 hXS2, xk_94 hXS2, ↓reduceIte, Nat.reduceAdd, Nat.reduceLeDiff, Nat.reduceLT, not_false_eq_true, false_or, true_or, or_true, or_false, n0_e, n1_ne, n1_11, bI_z, bI_1, bI_fo, va_rf_some, aBk_1, aBk_0, nI_add, nI_mul, hk_si, hp_si, hl_si, hk_sp, hk_sl, hk_cp, hp_cp, eu, hz, nI_s1, u2', nI_sub (show 1 ≤ ua + 40 by omega), n40_ne, nI_rem (show ua + 40 - 1 < 2147483648 by omega) (show 40 < 2147483648 by decide) (by decide), nI_rem (show ua + 39 < 2147483648 by omega) (show 40 < 2147483648 by decide) (by decide), Nat.reduceSub, Nat.add_one_sub_one, kh, m40, m41, xp_past hXS2 m40, e2, hi_si, Nat.reduceEqDiff, false_and, true_and, and_false, and_true]
    · show _ = nI ((ua + 39) % 40)
      rw [o2.i (fun z => by unfold HA at z; omega)]; exact hi_same
    · show v ≤ 40; omega
    · show _ = nI v
      rw [o2.i (fun z => by unfold HA at z; omega), hi_ne (by omega)]; exact hi_same
    · have hi : i < v := hi
      show XH h2 (138 + 8 * (((ua + 39) % 40 + 40 - v + i) % 40)) (gh Ω i) (se_ (gT Ω))
      rw [show ((ua + 39) % 40 + 40 - v + i) % 40 = (ua + 40 - gu Ω + i) % 40 by omega]
      exact (u5 i (by omega)).off oo (fun x f z => by omega)
theorem x_hold (hI : XI h Ω tx sa ga la qs qg) (s : Int32) : ∃ h', (∀ d, (run (d + 2) 63 0 [.ref 64, .int s] [] h) = some (.returned (some (.int ((aHld Ω s).2))), h')) ∧ On XP h h' ∧ XI h' (aHld Ω s).1 tx sa ga la qs qg := by
  have hB := hI.B
  have hXS := hB.S
  unfold aHld
  cases hq : in_ s (nI 0) (nI 2) with
  | false =>
    refine ⟨h, fun d => ?_, On.refl, by simpa using hI⟩
    simp only [e63_0, e63_1, e63_2, e63_3, e63_6, e63_9, e63_10, e63_11, e63_12, e63_15, e63_16, e63_17, e63_18, e63_21, e63_24, e63_25, e63_28, e63_29, e63_30, e63_30z, e63_31, e63_32, xk_64 hXS, xp_7 hXS, xp_10 hXS, xk_95 hXS, xp_13 hXS, xk_122 hXS, ↓reduceIte, Nat.reduceAdd, Nat.reduceLeDiff, Nat.reduceLT, Nat.reduceEqDiff, not_false_eq_true, false_or, true_or, or_true, or_false, n0_e, n1_ne, n1_11, bI_z, bI_1, bI_fo, va_rf_some, aBk_1, aBk_0, nI_add, nI_mul, hk_si, hp_si, hl_si, hk_sp, hk_sl, hk_cp, hp_cp, x_isIn, hq, reduceCtorEq]
  | true =>
    rw [if_pos rfl]
    obtain ⟨k, hk, rfl⟩ := in_n (by decide) hq
    rw [kk_n (by omega)]
    have h3 : k < 3 := by omega
    have kh := hs_k (xs_slot hXS h3)
    obtain ⟨h1, e1, o1, x1⟩ := x_takes (show 78 ≤ 96 + 8 * k ∧ 96 + 8 * k + 7 < 458 by omega) ha78 (by omega) hB.H (xs_slot hXS h3)
    have hXS1 := hXS.on o1
    have oo : On (fun x f => HA (96 + 8 * k) x f ∨ (x = 122 ∧ f = k)) h (si_ h1 122 k (nI 1)) := (o1.mono (fun x f z => Or.inl z)).trans (On.si (Or.inr ⟨rfl, rfl⟩))
    have ok : On (AA 122) h1 (si_ h1 122 k (nI 1)) := On.sa
    obtain ⟨ua, hU⟩ := hI.U
    refine ⟨si_ h1 122 k (nI 1), fun d => ?_, oo.mono (fun x f z => by unfold HA at z; unfold XP; omega), hB.onS oo (fun x f z => by unfold HA at z; unfold XP; omega), ⟨ua, hU.on oo (fun x f z => by unfold HA at z; omega)⟩, fun i hi => ?_, hI.km oo (fun x f z => by unfold HA at z; omega), hI.kn oo (fun x f z => by unfold HA at z; omega), hI.kp oo (fun z => by unfold HA at z; omega)⟩
    · simp only [e63_0, e63_1, e63_2, e63_3, e63_6, e63_9, e63_10, e63_11, e63_12, e63_15, e63_16, e63_17, e63_18, e63_21, e63_24, e63_25, e63_28, e63_29, e63_30, e63_30z, e63_31, e63_32, xk_64 hXS, xp_7 hXS, xp_10 hXS, xk_95 hXS, xp_13 hXS, xk_122 hXS, xk_64 hXS1, xp_7 hXS1, xp_10 hXS1, xk_95 hXS1, xp_13 hXS1, xk_122 hXS1, ↓reduceIte, Nat.reduceAdd, Nat.reduceLeDiff, Nat.reduceLT, Nat.reduceEqDiff, not_false_eq_true, false_or, true_or, or_true, or_false, n0_e, n1_ne, n1_11, bI_z, bI_1, bI_fo, va_rf_some, aBk_1, aBk_0, nI_add, nI_mul, hk_si, hp_si, hl_si, hk_sp, hk_sl, hk_cp, hp_cp, x_isIn, hq, reduceCtorEq, h3, xp_slot hXS h3, kh, e1]
    · show hi_ (si_ h1 122 k (nI 1)) 122 i = bI (if i = k then true else gb Ω i) ∧ ((if i = k then true else gb Ω i) = true → XH (si_ h1 122 k (nI 1)) (96 + 8 * i) (if i = k then gw Ω else gr Ω i) (se_ (gT Ω)))
      by_cases q : i = k
      · rw [if_pos q, if_pos q, q]
        refine ⟨hi_same.trans (by decide), fun _ => x1.off ok (fun x f z => ?_)⟩
        have z : x = 122 := z
        omega
      · rw [if_neg q, if_neg q]
        refine ⟨(oo.i (fun z => by unfold HA at z; omega)).trans (hI.sl i hi).1, fun hb => ((hI.sl i hi).2 hb).off oo (fun x f z => by unfold HA at z; omega)⟩
theorem x_restore (hI : XI h Ω tx sa ga la qs qg) (s : Int32) : ∃ h', (∀ d, (run (d + 2) 64 0 [.ref 64, .int s] [] h) = some (.returned (some (.int ((aRsr Ω s).2))), h')) ∧ On XP h h' ∧ XI h' (aRsr Ω s).1 tx sa ga la qs qg := by
  have hB := hI.B
  have hXS := hB.S
  unfold aRsr
  cases hq : in_ s (nI 0) (nI 2) with
  | false =>
    refine ⟨h, fun d => ?_, On.refl, by simpa using hI⟩
    simp only [e64_0, e64_1, e64_2, e64_3, e64_6, e64_9, e64_10, e64_13, e64_14, e64_15, e64_18, e64_19, e64_20, e64_21, e64_24, e64_25, e64_28, e64_29, e64_30, e64_33, e64_34, e64_35, e64_38, e64_39, xk_64 hXS, xp_7 hXS, xp_10 hXS, xk_95 hXS, xp_13 hXS, xk_122 hXS, ↓reduceIte, Nat.reduceAdd, Nat.reduceLeDiff, Nat.reduceLT, Nat.reduceEqDiff, not_false_eq_true, false_or, true_or, or_true, or_false, n0_e, n1_ne, n1_11, bI_z, bI_1, bI_fo, va_rf_some, aBk_1, aBk_0, nI_add, nI_mul, hk_si, hp_si, hl_si, hk_sp, hk_sl, hk_cp, hp_cp, x_isIn, hq, reduceCtorEq, false_and]
  | true =>
    obtain ⟨k, hk, rfl⟩ := in_n (by decide) hq
    rw [kk_n (by omega)]
    have h3 : k < 3 := by omega
    have eb := (hI.sl k h3).1
    cases hb : gb Ω k with
    | false =>
      rw [hb] at eb
      refine ⟨h, fun d => ?_, On.refl, by simpa using hI⟩
      simp only [e64_0, e64_1, e64_2, e64_3, e64_6, e64_9, e64_10, e64_13, e64_14, e64_15, e64_18, e64_19, e64_20, e64_21, e64_24, e64_25, e64_28, e64_29, e64_30, e64_33, e64_34, e64_35, e64_38, e64_39, xk_64 hXS, xp_7 hXS, xp_10 hXS, xk_95 hXS, xp_13 hXS, xk_122 hXS, ↓reduceIte, Nat.reduceAdd, Nat.reduceLeDiff, Nat.reduceLT, Nat.reduceEqDiff, not_false_eq_true, false_or, true_or, or_true, or_false, n0_e, n1_ne, n1_11, bI_z, bI_1, bI_fo, va_rf_some, aBk_1, aBk_0, nI_add, nI_mul, hk_si, hp_si, hl_si, hk_sp, hk_sl, hk_cp, hp_cp, x_isIn, hq, reduceCtorEq, h3, eb, and_false]
    | true =>
      rw [hb] at eb
      rw [if_pos ⟨rfl, rfl⟩]
      have hx := (hI.sl k h3).2 hb
      have hA := hB.H.s
      obtain ⟨h1, e1, o1, x1⟩ := x_takes ha78 (show 78 ≤ 96 + 8 * k ∧ 96 + 8 * k + 7 < 458 by omega) (by omega) hx hA
      have hXS1 := hXS.on o1
      have oo : On (fun x f => HA 78 x f ∨ (x = 64 ∧ f = 5)) h (si_ h1 64 5 (nI 0)) := (o1.mono (fun x f z => Or.inl z)).trans (On.si (Or.inr ⟨rfl, rfl⟩))
      have ok : On (AA 64) h1 (si_ h1 64 5 (nI 0)) := On.sa
      obtain ⟨ua, hU⟩ := hI.U
      refine ⟨si_ h1 64 5 (nI 0), fun d => ?_, oo.mono (fun x f z => by unfold HA at z; unfold XP; omega), ⟨hXS.on oo, (oo.p _ _).trans hB.t, hB.X.on oo (fun x f z => by unfold HA at z; unfold xa; omega), x1.off ok (fun x f z => by have z : x = 64 := z; omega)⟩, ⟨ua, hU.1, (oo.i (fun z => by unfold HA at z; omega)).trans hU.2.1, Nat.zero_le _, hi_same, fun i hi => absurd hi (Nat.not_lt_zero i)⟩, hI.ks oo (fun x f z => by unfold HA at z; omega), hI.km oo (fun x f z => by unfold HA at z; omega), hI.kn oo (fun x f z => by unfold HA at z; omega), hI.kp oo (fun z => by unfold HA at z; omega)⟩
      simp only [e64_0, e64_1, e64_2, e64_3, e64_6, e64_9, e64_10, e64_13, e64_14, e64_15, e64_18, e64_19, e64_20, e64_21, e64_24, e64_25, e64_28, e64_29, e64_30, e64_33, e64_34, e64_35, e64_38, e64_39, xk_64 hXS, xp_7 hXS, xp_10 hXS, xk_95 hXS, xp_13 hXS, xk_122 hXS, h78_k hA, xk_64 hXS1, xp_7 hXS1, xp_10 hXS1, xk_95 hXS1, xp_13 hXS1, xk_122 hXS1, ↓reduceIte, Nat.reduceAdd, Nat.reduceLeDiff, Nat.reduceLT, Nat.reduceEqDiff, not_false_eq_true, false_or, true_or, or_true, or_false, n0_e, n1_ne, n1_11, bI_z, bI_1, bI_fo, va_rf_some, aBk_1, aBk_0, nI_add, nI_mul, hk_si, hp_si, hl_si, hk_sp, hk_sl, hk_cp, hp_cp, x_isIn, hq, reduceCtorEq, h3, eb, xp_slot hXS h3, e1]
theorem x_tell (hI : XI h Ω tx sa ga la qs qg) (x : Int32) (b : Bool) : ∃ h', (∀ d, (run (d + 1) 58 0 [.ref 64, .int x, .int (bI b)] [] h) = some (.returned (some (.int ((aTel Ω x b).2))), h')) ∧ On XP h h' ∧ XI h' (aTel Ω x b).1 tx sa ga la qs qg := by
  have hB := hI.B
  have hXS := hB.S
  have h20 := hI.m20
  unfold aTel
  have e20 : (nI (gm Ω) = nI 20) = (gm Ω = 20) := nI_eqL (by omega) (by decide)
  cases hq : in_ x (nI 0) (nI 23) with
  | false =>
    refine ⟨h, fun d => ?_, On.refl, by simpa using hI⟩
    simp only [e58_0, e58_1, e58_2, e58_4, e58_7, e58_10, e58_11, e58_14, e58_16, e58_19, e58_20, e58_21, e58_22, e58_25, e58_26, e58_29, e58_30, e58_31, e58_32, e58_35, e58_36, e58_39, e58_40, e58_40z, e58_41, e58_42, e58_43, e58_46, e58_47, e58_48, e58_51, e58_52, e58_55, e58_56, e58_57, xk_64 hXS, xp_19 hXS, xk_136 hXS, xp_20 hXS, xk_137 hXS, ↓reduceIte, Nat.reduceAdd, Nat.reduceLeDiff, Nat.reduceLT, Nat.reduceEqDiff, not_false_eq_true, false_or, true_or, or_true, or_false, n0_e, n1_ne, n1_11, bI_z, bI_1, bI_fo, va_rf_some, aBk_1, aBk_0, nI_add, nI_mul, hk_si, hp_si, hl_si, hk_sp, hk_sl, hk_cp, hp_cp, x_isIn, hq, reduceCtorEq, false_and]
  | true =>
    by_cases q : gm Ω = 20
    · rw [if_neg (fun z => z.2 q)]
      refine ⟨h, fun d => ?_, On.refl, hI⟩
      simp only [e58_0, e58_1, e58_2, e58_4, e58_7, e58_10, e58_11, e58_14, e58_16, e58_19, e58_20, e58_21, e58_22, e58_25, e58_26, e58_29, e58_30, e58_31, e58_32, e58_35, e58_36, e58_39, e58_40, e58_40z, e58_41, e58_42, e58_43, e58_46, e58_47, e58_48, e58_51, e58_52, e58_55, e58_56, e58_57, xk_64 hXS, xp_19 hXS, xk_136 hXS, xp_20 hXS, xk_137 hXS, ↓reduceIte, Nat.reduceAdd, Nat.reduceLeDiff, Nat.reduceLT, Nat.reduceEqDiff, not_false_eq_true, false_or, true_or, or_true, or_false, n0_e, n1_ne, n1_11, bI_z, bI_1, bI_fo, va_rf_some, aBk_1, aBk_0, nI_add, nI_mul, hk_si, hp_si, hl_si, hk_sp, hk_sl, hk_cp, hp_cp, x_isIn, hq, reduceCtorEq, hI.mm, e20, q]
    · rw [if_pos ⟨rfl, q⟩]
      have h2 : gm Ω < 20 := by omega
      have oo : On (fun y f => y = 136 ∨ y = 137 ∨ (y = 64 ∧ f = 18)) h (si_ (si_ (si_ h 136 (gm Ω) x) 137 (gm Ω) (bI b)) 64 18 (nI (gm Ω + 1))) := ((On.si (Or.inl rfl)).trans (On.si (Or.inr (Or.inl rfl)))).trans (On.si (Or.inr (Or.inr ⟨rfl, rfl⟩)))
      obtain ⟨ua, hU⟩ := hI.U
      refine ⟨si_ (si_ (si_ h 136 (gm Ω) x) 137 (gm Ω) (bI b)) 64 18 (nI (gm Ω + 1)), fun d => ?_, oo.mono (fun x f z => by unfold XP; omega), hB.onS oo (fun x f z => by unfold XP; omega), ⟨ua, hU.on oo (fun x f z => by omega)⟩, hI.ks oo (fun x f z => by omega), ⟨?_, hi_same, fun i hi => ?_⟩, hI.kn oo (fun x f z => by omega), hI.kp oo (fun z => by omega)⟩
      · simp only [e58_0, e58_1, e58_2, e58_4, e58_7, e58_10, e58_11, e58_14, e58_16, e58_19, e58_20, e58_21, e58_22, e58_25, e58_26, e58_29, e58_30, e58_31, e58_32, e58_35, e58_36, e58_39, e58_40, e58_40z, e58_41, e58_42, e58_43, e58_46, e58_47, e58_48, e58_51, e58_52, e58_55, e58_56, e58_57, xk_64 hXS, xp_19 hXS, xk_136 hXS, xp_20 hXS, xk_137 hXS, ↓reduceIte, Nat.reduceAdd, Nat.reduceLeDiff, Nat.reduceLT, not_false_eq_true, false_or, true_or, or_true, or_false, n0_e, n1_ne, n1_11, bI_z, bI_1, bI_fo, va_rf_some, aBk_1, aBk_0, nI_add, nI_mul, hk_si, hp_si, hl_si, hk_sp, hk_sl, hk_cp, hp_cp, x_isIn, hq, reduceCtorEq, hI.mm, e20, q, h2, nI_s1, hi_si, Nat.reduceEqDiff, false_and, true_and, and_false, and_true]
      · show gm Ω + 1 ≤ 20; omega
      · have hi : i < gm Ω + 1 := hi
        refine ⟨?_, ?_⟩
        · show hi_ (si_ (si_ (si_ h 136 (gm Ω) x) 137 (gm Ω) (bI b)) 64 18 (nI (gm Ω + 1))) 136 i = (if i = gm Ω then x else gth Ω i)
          rw [hi_ne (by omega), hi_ne (by omega), hi_si]
          by_cases q2 : i = gm Ω
          · rw [if_pos ⟨rfl, q2⟩, if_pos q2]
          · rw [if_neg (fun z => q2 z.2), if_neg q2]; exact (hI.tl i (by omega)).1
        · show hi_ (si_ (si_ (si_ h 136 (gm Ω) x) 137 (gm Ω) (bI b)) 64 18 (nI (gm Ω + 1))) 137 i = bI (if i = gm Ω then b else gts Ω i)
          rw [hi_ne (by omega), hi_si]
          by_cases q2 : i = gm Ω
          · rw [if_pos ⟨rfl, q2⟩, if_pos q2]
          · rw [if_neg (fun z => q2 z.2), if_neg q2, hi_ne (by omega)]; exact (hI.tl i (by omega)).2
theorem x_forget (hI : XI h Ω tx sa ga la qs qg) : ∃ h', (∀ d, (run (d) 59 0 [.ref 64, aU] [] h) = some (.returned (some (.int ((aFgt Ω).2))), h')) ∧ On XP h h' ∧ XI h' (aFgt Ω).1 tx sa ga la qs qg := by
  have hB := hI.B
  have hXS := hB.S
  have oo : On (fun y f => y = 64 ∧ f = 18) h (si_ h 64 18 (nI 0)) := On.si ⟨rfl, rfl⟩
  obtain ⟨ua, hU⟩ := hI.U
  refine ⟨si_ h 64 18 (nI 0), fun d => ?_, oo.mono (fun x f z => by unfold XP; omega), hB.onS oo (fun x f z => by unfold XP; omega), ⟨ua, hU.on oo (fun x f z => by omega)⟩, hI.ks oo (fun x f z => by omega), ⟨Nat.zero_le _, hi_same, fun i hi => absurd hi (Nat.not_lt_zero i)⟩, hI.kn oo (fun x f z => by omega), hI.kp oo (fun z => by omega)⟩
  simp only [e59_0, e59_1, e59_4, e59_5, e59_6, e59_7, e59_10, e59_11, xk_64 hXS, ↓reduceIte, Nat.reduceAdd, Nat.reduceLeDiff, Nat.reduceLT, Nat.reduceEqDiff, not_false_eq_true, false_or, true_or, or_true, or_false, n0_e, n1_ne, n1_11, bI_z, bI_1, bI_fo, va_rf_some, aBk_1, aBk_0, nI_add, nI_mul, hk_si, hp_si, hl_si, hk_sp, hk_sl, hk_cp, hp_cp, hI.mm]
  rfl
/-- the tape -/
def TX (a f : Nat) : Prop := (a = 66 ∧ f = 31) ∨ a = 68
theorem x_typed (hXS : XS h) {n : Nat} {tp : Nat → Int32} {x : Int32} (hn : n + 4 ≤ 2000) (e : hi_ h 66 31 = nI n) (ht : ∀ i, i < n → hi_ h 68 i = tp i) :
    ∃ h', (∀ d, (run (d) 2 0 [.ref 64, .int x, aU] [] h) = some (.returned none, h')) ∧ On TX h h' ∧ hi_ h' 66 31 = nI (n + 4) ∧ ∀ i, i < n + 4 → hi_ h' 68 i = ext tp n x i := by
  obtain ⟨k1, k2, k3, k4, k5, k6, k7, k8, k9⟩ := k24
  have l0 : n < 2000 := by omega
  have l1 : n + 1 < 2000 := by omega
  have l2 : n + 1 + 1 < 2000 := by omega
  have l3 : n + 1 + 1 + 1 < 2000 := by omega
  refine ⟨si_ (si_ (si_ (si_ (si_ (si_ (si_ (si_ h 68 n (byt x 0)) 66 31 (nI (n + 1))) 68 (n + 1) (byt x 1)) 66 31 (nI (n + 1 + 1))) 68 (n + 1 + 1) (byt x 2)) 66 31 (nI (n + 1 + 1 + 1))) 68 (n + 1 + 1 + 1) (byt x 3)) 66 31 (nI (n + 1 + 1 + 1 + 1)), fun d => ?_, ?_, ?_, ?_⟩
  · simp only [e2_0, e2_2, e2_3, e2_4, e2_7, e2_8, e2_11, e2_14, e2_15, e2_18, e2_21, e2_22, e2_23, e2_24, e2_25, e2_25z, e2_26, e2_27, e2_30, e2_31, e2_34, e2_35, e2_36, e2_39, e2_42, e2_45, xk_64 hXS, xp_1 hXS, xk_66 hXS, xp_30 hXS, xk_68 hXS, ↓reduceIte, Nat.reduceAdd, Nat.reduceLeDiff, Nat.reduceLT, not_false_eq_true, false_or, true_or, or_true, or_false, n0_e, n1_ne, n1_11, bI_z, bI_1, bI_fo, va_rf_some, aBk_1, aBk_0, nI_add, nI_mul, hk_si, hp_si, hl_si, hk_sp, hk_sl, hk_cp, hp_cp, e, k1, k2, k3, k4, k5, k6, k7, k8, k9, l0, l1, l2, l3, i8_8, hi_si, Nat.reduceEqDiff, false_and, true_and, and_false, and_true]
    rfl
  · exact (((((((On.si (Or.inr rfl)).trans (On.si (Or.inl ⟨rfl, rfl⟩))).trans (On.si (Or.inr rfl))).trans (On.si (Or.inl ⟨rfl, rfl⟩))).trans (On.si (Or.inr rfl))).trans (On.si (Or.inl ⟨rfl, rfl⟩))).trans (On.si (Or.inr rfl))).trans (On.si (Or.inl ⟨rfl, rfl⟩))
  · exact hi_same
  · intro i hi
    unfold ext
    rw [hi_si, if_neg (by omega), hi_si]
    by_cases q3 : i = n + 1 + 1 + 1
    · rw [if_pos ⟨rfl, q3⟩, if_neg (by omega), q3]; congr 1; omega
    · rw [if_neg (fun z => q3 z.2), hi_si, if_neg (by omega), hi_si]
      by_cases q2 : i = n + 1 + 1
      · rw [if_pos ⟨rfl, q2⟩, if_neg (by omega), q2]; congr 1; omega
      · rw [if_neg (fun z => q2 z.2), hi_si, if_neg (by omega), hi_si]
        by_cases q1 : i = n + 1
        · rw [if_pos ⟨rfl, q1⟩, if_neg (by omega), q1]; congr 1; omega
        · rw [if_neg (fun z => q1 z.2), hi_si, if_neg (by omega), hi_si]
          by_cases q0 : i = n
          · rw [if_pos ⟨rfl, q0⟩, if_neg (by omega), q0]; congr 1; omega
          · rw [if_neg (fun z => q0 z.2), if_pos (by omega)]
            exact ht i (by omega)
theorem XI.tape (hI : XI h Ω tx sa ga la qs qg) (o : On TX h h') {n : Nat} {tp : Nat → Int32} (hn : n ≤ 2000) (e : hi_ h' 66 31 = nI n) (ht : ∀ i, i < n → hi_ h' 68 i = tp i) : XI h' (gTape Ω n tp) tx sa ga la qs qg := by
  obtain ⟨ua, hU⟩ := hI.U
  exact ⟨hI.B.onS o (fun x f z => by unfold TX at z; unfold XP; omega), ⟨ua, hU.on o (fun x f z => by unfold TX at z; omega)⟩, hI.ks o (fun x f z => by unfold TX at z; omega), hI.km o (fun x f z => by unfold TX at z; omega), ⟨hn, e, ht⟩, hI.kp o (fun z => by unfold TX at z; omega)⟩
theorem TX.P {x f : Nat} (q : TX x f) : XP x f := by unfold TX at q; unfold XP; omega
theorem x_feed (hI : XI h Ω tx sa ga la qs qg) (a b c x y : Int32) : ∃ h', (∀ d, (run (d + 1) 1 0 [.ref 64, .int a, .int b, .int c, .int x, .int y] [] h) = some (.returned (some (.int ((aFeed Ω a b c x y).2))), h')) ∧ On XP h h' ∧ XI h' (aFeed Ω a b c x y).1 tx sa ga la qs qg := by
  have hB := hI.B
  have hXS := hB.S
  have hn2 := hI.n2
  unfold aFeed
  by_cases q : gn Ω + 20 ≤ 2000
  · rw [if_pos q]
    obtain ⟨h1, e1, o1, n1, t1⟩ := x_typed hXS (x := a) (n := gn Ω) (by omega) hI.nn hI.tp
    have hXS1 := hXS.on o1
    obtain ⟨h2, e2, o2, n2, t2⟩ := x_typed hXS1 (x := b) (n := gn Ω + 4) (by omega) n1 t1
    have hXS2 := hXS1.on o2
    obtain ⟨h3, e3, o3, n3, t3⟩ := x_typed hXS2 (x := c) (n := gn Ω + 8) (by omega) n2 t2
    have hXS3 := hXS2.on o3
    obtain ⟨h4, e4, o4, n4, t4⟩ := x_typed hXS3 (x := x) (n := gn Ω + 12) (by omega) n3 t3
    have hXS4 := hXS3.on o4
    obtain ⟨h5, e5, o5, n5, t5⟩ := x_typed hXS4 (x := y) (n := gn Ω + 16) (by omega) n4 t4
    have hXS5 := hXS4.on o5
    have n5 : hi_ h5 66 31 = nI (gn Ω + 20) := n5
    have oo : On TX h h5 := (((o1.trans o2).trans o3).trans o4).trans o5
    have hle : nI (gn Ω + 20) ≤ nI 2000 := nI_le q (by decide)
    refine ⟨h5, fun d => ?_, oo.mono (fun _ _ q => q.P), hI.tape oo q n5 t5⟩
    simp only [e1_0, e1_1, e1_4, e1_7, e1_9, e1_10, e1_13, e1_16, e1_17, e1_18, e1_19, e1_20, e1_23, e1_24, e1_25, e1_28, e1_29, e1_30, e1_33, e1_34, e1_36, e1_39, e1_40, e1_42, e1_45, e1_46, e1_49, e1_52, xk_64 hXS, xp_1 hXS, xk_66 hXS, xk_64 hXS1, xp_1 hXS1, xk_66 hXS1, xk_64 hXS2, xp_1 hXS2, xk_66 hXS2, xk_64 hXS3, xp_1 hXS3, xk_66 hXS3, xk_64 hXS4, xp_1 hXS4, xk_66 hXS4, xk_64 hXS5, xp_1 hXS5, xk_66 hXS5, ↓reduceIte, Nat.reduceAdd, Nat.reduceLeDiff, Nat.reduceLT, Nat.reduceEqDiff, not_false_eq_true, false_or, true_or, or_true, or_false, n0_e, n1_ne, n1_11, bI_z, bI_1, bI_fo, va_rf_some, aBk_1, aBk_0, nI_add, nI_mul, hk_si, hp_si, hl_si, hk_sp, hk_sl, hk_cp, hp_cp, hI.nn, hle, e1, e2, e3, e4, e5, n5]
  · rw [if_neg q]
    have hle : ¬ nI (gn Ω + 20) ≤ nI 2000 := by rw [nI_leL (by omega) (by decide)]; exact q
    refine ⟨h, fun d => ?_, On.refl, hI⟩
    simp only [e1_0, e1_1, e1_4, e1_7, e1_9, e1_10, e1_13, e1_16, e1_17, e1_18, e1_19, e1_20, e1_23, e1_24, e1_25, e1_28, e1_29, e1_30, e1_33, e1_34, e1_36, e1_39, e1_40, e1_42, e1_45, e1_46, e1_49, e1_52, xk_64 hXS, xp_1 hXS, xk_66 hXS, ↓reduceIte, Nat.reduceAdd, Nat.reduceLeDiff, Nat.reduceLT, Nat.reduceEqDiff, not_false_eq_true, false_or, true_or, or_true, or_false, n0_e, n1_ne, n1_11, bI_z, bI_1, bI_fo, va_rf_some, aBk_1, aBk_0, nI_add, nI_mul, hk_si, hp_si, hl_si, hk_sp, hk_sl, hk_cp, hp_cp, hI.nn, hle]
theorem x_back (hI : XI h Ω tx sa ga la qs qg) (x : Int32) : ∃ h', (∀ d, (run (d) 3 0 [.ref 64, .int x] [] h) = some (.returned (some (.int ((aBack Ω x).2))), h')) ∧ On XP h h' ∧ XI h' (aBack Ω x).1 tx sa ga la qs qg := by
  have hB := hI.B
  have hXS := hB.S
  have hn2 := hI.n2
  unfold aBack
  cases hq : in_ x (nI 0) (nI (gn Ω)) with
  | true =>
    obtain ⟨k, hk, rfl⟩ := in_n (by omega) hq
    rw [if_pos rfl, kk_n (by omega)]
    have o : On TX h (si_ h 66 31 (nI (gn Ω - k))) := On.si (Or.inl ⟨rfl, rfl⟩)
    have hXS1 := hXS.on o
    have h1 : (nI k < 0) = False := nI_lt0 (by omega)
    have h2 : nI k ≤ nI (gn Ω) := nI_le hk (by omega)
    refine ⟨si_ h 66 31 (nI (gn Ω - k)), fun d => ?_, o.mono (fun _ _ q => q.P), hI.tape o (by omega) hi_same (fun i hi => (hi_ne (by omega)).trans (hI.tp i (by omega)))⟩
    simp only [e3_0, e3_1, e3_4, e3_5, e3_6, e3_9, e3_12, e3_15, e3_16, e3_17, e3_18, e3_21, e3_22, e3_25, e3_26, e3_27, e3_30, e3_31, e3_34, e3_37, xk_64 hXS, xp_1 hXS, xk_66 hXS, xk_64 hXS1, xp_1 hXS1, xk_66 hXS1, ↓reduceIte, Nat.reduceAdd, Nat.reduceLeDiff, Nat.reduceLT, not_false_eq_true, false_or, true_or, or_true, or_false, n0_e, n1_ne, n1_11, bI_z, bI_1, bI_fo, va_rf_some, aBk_1, aBk_0, nI_add, nI_mul, hk_si, hp_si, hl_si, hk_sp, hk_sl, hk_cp, hp_cp, h1, h2, hI.nn, nI_sub hk, hi_si, Nat.reduceEqDiff, false_and, true_and, and_false, and_true]
  | false =>
    refine ⟨h, fun d => ?_, On.refl, by simpa using hI⟩
    rw [if_neg (by decide)]
    unfold in_ at hq
    by_cases q1 : x < 0
    · simp only [e3_0, e3_1, e3_4, e3_5, e3_6, e3_9, e3_12, e3_15, e3_16, e3_17, e3_18, e3_21, e3_22, e3_25, e3_26, e3_27, e3_30, e3_31, e3_34, e3_37, xk_64 hXS, xp_1 hXS, xk_66 hXS, ↓reduceIte, Nat.reduceAdd, Nat.reduceLeDiff, Nat.reduceLT, Nat.reduceEqDiff, not_false_eq_true, false_or, true_or, or_true, or_false, n0_e, n1_ne, n1_11, bI_z, bI_1, bI_fo, va_rf_some, aBk_1, aBk_0, nI_add, nI_mul, hk_si, hp_si, hl_si, hk_sp, hk_sl, hk_cp, hp_cp, q1]
    · have q0 : nI 0 ≤ x := by rw [nI_0]; exact Int32.not_lt.mp q1
      rw [decide_eq_true q0, Bool.true_and, decide_eq_false_iff_not] at hq
      simp only [e3_0, e3_1, e3_4, e3_5, e3_6, e3_9, e3_12, e3_15, e3_16, e3_17, e3_18, e3_21, e3_22, e3_25, e3_26, e3_27, e3_30, e3_31, e3_34, e3_37, xk_64 hXS, xp_1 hXS, xk_66 hXS, ↓reduceIte, Nat.reduceAdd, Nat.reduceLeDiff, Nat.reduceLT, Nat.reduceEqDiff, not_false_eq_true, false_or, true_or, or_true, or_false, n0_e, n1_ne, n1_11, bI_z, bI_1, bI_fo, va_rf_some, aBk_1, aBk_0, nI_add, nI_mul, hk_si, hp_si, hl_si, hk_sp, hk_sl, hk_cp, hp_cp, q1, hI.nn, hq]
theorem x_place (hI : XI h Ω tx sa ga la qs qg) : (run (d) 5 0 [.ref 64] [] h) = some (.returned (some (.int (gp Ω))), h) := by
  have hXS := hI.B.S
  simp only [e5_0, e5_1, e5_4, xk_64 hXS, ↓reduceIte, Nat.reduceAdd, Nat.reduceLeDiff, Nat.reduceLT, Nat.reduceEqDiff, not_false_eq_true, false_or, true_or, or_true, or_false, n0_e, n1_ne, n1_11, bI_z, bI_1, bI_fo, va_rf_some, aBk_1, aBk_0, nI_add, nI_mul, hk_si, hp_si, hl_si, hk_sp, hk_sl, hk_cp, hp_cp, hI.p]
end XG
