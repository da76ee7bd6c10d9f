set_option maxRecDepth 100000
/-! M: reading (2) -/
section M13
variable {d N c p : Nat} {h h' : aH} {τ : aTok} {σ : aPs}
theorem MR.nx (hR : MR h τ N σ) (h0 : tk_ τ σ.1 ≠ 0) (h3 : tk_ τ σ.1 ≠ 3) : N < 400 → σ.1 < N := by
  intro hN
  have := hR.2.2.2.1
  by_cases q : σ.1 = N
  · rcases hR.2.1.2.2.2 hN with e | e
    · rw [← q] at e; exact absurd e h0
    · rw [← q] at e; exact absurd e h3
  · omega
theorem m_must (hR : MR h τ N σ) {k : Nat} (hk : k < 64) (h0 : k ≠ 0) (h3 : k ≠ 3) : ∃ h', (∀ d, (run (d + 2) 168 0 [.ref 458, .int (nI k)] [] h) = some (.returned none, h')) ∧ On FP h h' ∧ MO h' τ N (mustX τ σ k) := by
  have hM := hR.1
  unfold mustX
  by_cases q : tk_ τ σ.1 = k
  · rw [if_pos q]
    obtain ⟨h', e, o, f⟩ := m_goesOn hR (hR.nx (by rw [q]; exact h0) (by rw [q]; exact h3))
    refine ⟨h', fun d => ?_, o, f⟩
    simp only [e168_0, e168_1, e168_2, e168_5, e168_8, e168_9, e168_12, e168_15, e168_16, e168_17, e168_20, mk_458 hM, ↓reduceIte, Nat.reduceAdd, Nat.reduceLeDiff, Nat.reduceLT, Nat.reduceEqDiff, not_false_eq_true, false_or, true_or, or_true, or_false, n0_e, n1_ne, n1_11, bI_z, bI_1, bI_fo, va_rf_some, aBk_1, aBk_0, nI_add, nI_mul, hk_si, hp_si, hl_si, hk_sp, hk_sl, hk_cp, hp_cp, m_is hR hk, decide_eq_true q, reduceCtorEq, e]
  · rw [if_neg q]
    obtain ⟨h', e, o, f⟩ := m_fail hR (c := 1) (by decide)
    refine ⟨h', fun d => ?_, o, f⟩
    simp only [e168_0, e168_1, e168_2, e168_5, e168_8, e168_9, e168_12, e168_15, e168_16, e168_17, e168_20, mk_458 hM, ↓reduceIte, Nat.reduceAdd, Nat.reduceLeDiff, Nat.reduceLT, Nat.reduceEqDiff, not_false_eq_true, false_or, true_or, or_true, or_false, n0_e, n1_ne, n1_11, bI_z, bI_1, bI_fo, va_rf_some, aBk_1, aBk_0, nI_add, nI_mul, hk_si, hp_si, hl_si, hk_sp, hk_sl, hk_cp, hp_cp, m_is hR hk, decide_eq_false q, e]
theorem m_mustF (hF : MF h c p) {k : Int32} : (run (d + 2) 168 0 [.ref 458, .int k] [] h) = some (.returned none, h) := by
  have hM := hF.1
  simp only [e168_0, e168_1, e168_2, e168_5, e168_8, e168_9, e168_12, e168_15, e168_16, e168_17, e168_20, mk_458 hM, ↓reduceIte, Nat.reduceAdd, Nat.reduceLeDiff, Nat.reduceLT, Nat.reduceEqDiff, not_false_eq_true, false_or, true_or, or_true, or_false, n0_e, n1_ne, n1_11, bI_z, bI_1, bI_fo, va_rf_some, aBk_1, aBk_0, nI_add, nI_mul, hk_si, hp_si, hl_si, hk_sp, hk_sl, hk_cp, hp_cp, m_isF hF, m_failF hF]
theorem m_goesOnF (hF : MF h c p) : ∃ h', (∀ d, (run (d + 1) 166 0 [.ref 458] [] h) = some (.returned none, h')) ∧ On FP h h' ∧ MF h' c p := by
  obtain ⟨hM, ⟨t, ht, et⟩, h1, h2, h3, h4⟩ := id hF
  have e4 : (nI t = nI 400) = (t = 400) := nI_eqL (by omega) (by decide)
  by_cases q : t = 400
  · refine ⟨h, fun d => ?_, On.refl, hF⟩
    simp only [e166_0, e166_1, e166_4, e166_7, e166_10, e166_11, e166_12, e166_15, e166_18, e166_19, e166_20, e166_23, e166_24, e166_25, e166_28, mk_458 hM, ↓reduceIte, Nat.reduceAdd, Nat.reduceLeDiff, Nat.reduceLT, Nat.reduceEqDiff, not_false_eq_true, false_or, true_or, or_true, or_false, n0_e, n1_ne, n1_11, bI_z, bI_1, bI_fo, va_rf_some, aBk_1, aBk_0, nI_add, nI_mul, hk_si, hp_si, hl_si, hk_sp, hk_sl, hk_cp, hp_cp, et, e4, q, m_failF hF]
  · have o : On FP h (si_ h 458 77 (nI (t + 1))) := On.si ⟨rfl, by decide, by decide⟩
    refine ⟨si_ h 458 77 (nI (t + 1)), fun d => ?_, o, hM.on o, ⟨t + 1, by omega, hi_same⟩, h1, h2, ?_, ?_⟩
    · simp only [e166_0, e166_1, e166_4, e166_7, e166_10, e166_11, e166_12, e166_15, e166_18, e166_19, e166_20, e166_23, e166_24, e166_25, e166_28, mk_458 hM, ↓reduceIte, Nat.reduceAdd, Nat.reduceLeDiff, Nat.reduceLT, Nat.reduceEqDiff, not_false_eq_true, false_or, true_or, or_true, or_false, n0_e, n1_ne, n1_11, bI_z, bI_1, bI_fo, va_rf_some, aBk_1, aBk_0, nI_add, nI_mul, hk_si, hp_si, hl_si, hk_sp, hk_sl, hk_cp, hp_cp, et, e4, q]
    · rw [hi_ne (by omega)]; exact h3
    · rw [hi_ne (by omega)]; exact h4
theorem tp_lt (hT : TK τ N) {i j : Nat} (hi : i ≤ N) (hj : j ≤ N) : tp_ τ i < tp_ τ j ↔ i < j := by
  constructor
  · intro h
    by_cases q : i < j
    · exact q
    · exfalso
      by_cases q2 : i = j
      · rw [q2] at h; omega
      · have := hT.2.2.1 j i (by omega) hi; omega
  · intro h; exact hT.2.2.1 i j h hj
theorem tp_eq (hT : TK τ N) {i j : Nat} (hi : i ≤ N) (hj : j ≤ N) : tp_ τ i = tp_ τ j ↔ i = j := by
  constructor
  · intro h
    by_cases q : i < j
    · have := (tp_lt hT hi hj).mpr q; omega
    · by_cases q2 : j < i
      · have := (tp_lt hT hj hi).mpr q2; omega
      · omega
  · intro h; rw [h]
theorem m_wrong (hR : MR h τ N σ) {c j : Nat} (hc : 0 < c ∧ c < 10) (hj : j ≤ N) : ∃ h', (∀ d, (run (d) 169 0 [.ref 458, .int (nI c), .int (nI j), aU] [] h) = some (.returned none, h')) ∧ On FP h h' ∧ MR h' τ N (wrongX σ c j) := by
  obtain ⟨hM, hT, hK, h1, h2, h3, h4, h5, h6, h7⟩ := id hR
  have h40 := hT.1
  have g1 : j < 403 := by omega
  have ej := (hK j hj).2.1
  have pj := (hT.2.1 j hj).2.1
  have hgt : ¬ 0 < nI 0 := by decide
  have o : On FP h (si_ (si_ h 458 81 (nI c)) 458 82 (nI (tp_ τ j))) := (On.si ⟨rfl, by decide, by decide⟩).trans (On.si ⟨rfl, by decide, by decide⟩)
  have fin : MR (si_ (si_ h 458 81 (nI c)) 458 82 (nI (tp_ τ j))) τ N (σ.1, σ.2.1, c, j) := by
    refine ⟨hM.on o, hT, hK.on o, h1, ?_, ?_, ?_, hc.2, ?_, fun _ => ⟨hj, hi_same⟩⟩
    · rw [hi_ne (by omega), hi_ne (by omega)]; exact h2
    · rw [hi_ne (by omega), hi_ne (by omega)]; exact h3
    · rw [hi_ne (by omega), hi_ne (by omega)]; exact h4
    · rw [hi_ne (by omega)]; exact hi_same
  unfold wrongX
  by_cases q0 : σ.2.2.1 = 0
  · rw [if_neg (fun z => z.1 q0)]
    have e0 : (nI σ.2.2.1 = 0) = True := by rw [nI_z (by omega)]; exact eq_true q0
    refine ⟨_, fun d => ?_, o, fin⟩
    simp only [e169_0, e169_1, e169_4, e169_5, e169_6, e169_7, e169_8, e169_11, e169_14, e169_15, e169_18, e169_21, e169_22, e169_23, e169_26, e169_29, e169_30, e169_31, e169_34, e169_37, e169_38, e169_39, e169_42, e169_45, e169_46, e169_47, e169_48, e169_51, e169_52, e169_53, e169_56, mk_458 hM, mp_72 hM, mk_462 hM, ↓reduceIte, Nat.reduceAdd, Nat.reduceLeDiff, Nat.reduceLT, not_false_eq_true, false_or, true_or, or_true, or_false, n0_e, n1_ne, n1_11, bI_z, bI_1, bI_fo, va_rf_some, aBk_1, aBk_0, nI_add, nI_mul, hk_si, hp_si, hl_si, hk_sp, hk_sl, hk_cp, hp_cp, g1, ej, h4, hgt, h6, e0, hi_si, Nat.reduceEqDiff, false_and, true_and, and_false, and_true]
  · obtain ⟨a1, a2⟩ := h7 q0
    have pw := (hT.2.1 _ a1).2.1
    have e0 : (nI σ.2.2.1 = 0) = False := by rw [nI_z (by omega)]; exact eq_false q0
    have elt : (nI (tp_ τ σ.2.2.2) < nI (tp_ τ j)) = (σ.2.2.2 < j) := by rw [nI_ltL (by omega) (by omega)]; exact propext (tp_lt hT a1 hj)
    have eeq : (nI (tp_ τ j) = nI (tp_ τ σ.2.2.2)) = (j = σ.2.2.2) := by rw [nI_eqL (by omega) (by omega)]; exact propext (tp_eq hT hj a1)
    have ecl : (nI c < nI σ.2.2.1) = (c < σ.2.2.1) := nI_ltL (by omega) (by omega)
    by_cases q1 : σ.2.2.2 < j
    · rw [if_pos ⟨q0, Or.inl q1⟩]
      refine ⟨h, fun d => ?_, On.refl, hR⟩
      simp only [e169_0, e169_1, e169_4, e169_5, e169_6, e169_7, e169_8, e169_11, e169_14, e169_15, e169_18, e169_21, e169_22, e169_23, e169_26, e169_29, e169_30, e169_31, e169_34, e169_37, e169_38, e169_39, e169_42, e169_45, e169_46, e169_47, e169_48, e169_51, e169_52, e169_53, e169_56, mk_458 hM, mp_72 hM, mk_462 hM, ↓reduceIte, Nat.reduceAdd, Nat.reduceLeDiff, Nat.reduceLT, Nat.reduceEqDiff, not_false_eq_true, false_or, true_or, or_true, or_false, n0_e, n1_ne, n1_11, bI_z, bI_1, bI_fo, va_rf_some, aBk_1, aBk_0, nI_add, nI_mul, hk_si, hp_si, hl_si, hk_sp, hk_sl, hk_cp, hp_cp, g1, ej, h4, hgt, h6, e0, a2, elt, q1]
    · by_cases q2 : j = σ.2.2.2
      · have eeq' : (nI (tp_ τ j) = nI (tp_ τ σ.2.2.2)) = True := by rw [eeq]; exact eq_true q2
        by_cases q3 : c < σ.2.2.1
        · rw [if_neg (fun z => z.2.elim q1 (fun y => by omega))]
          refine ⟨_, fun d => ?_, o, fin⟩
          simp only [e169_0, e169_1, e169_4, e169_5, e169_6, e169_7, e169_8, e169_11, e169_14, e169_15, e169_18, e169_21, e169_22, e169_23, e169_26, e169_29, e169_30, e169_31, e169_34, e169_37, e169_38, e169_39, e169_42, e169_45, e169_46, e169_47, e169_48, e169_51, e169_52, e169_53, e169_56, mk_458 hM, mp_72 hM, mk_462 hM, ↓reduceIte, Nat.reduceAdd, Nat.reduceLeDiff, Nat.reduceLT, not_false_eq_true, false_or, true_or, or_true, or_false, n0_e, n1_ne, n1_11, bI_z, bI_1, bI_fo, va_rf_some, aBk_1, aBk_0, nI_add, nI_mul, hk_si, hp_si, hl_si, hk_sp, hk_sl, hk_cp, hp_cp, g1, ej, h4, hgt, h6, e0, a2, elt, q1, eeq', ecl, q3, hi_si, Nat.reduceEqDiff, false_and, true_and, and_false, and_true]
        · rw [if_pos ⟨q0, Or.inr ⟨q2, by omega⟩⟩]
          refine ⟨h, fun d => ?_, On.refl, hR⟩
          simp only [e169_0, e169_1, e169_4, e169_5, e169_6, e169_7, e169_8, e169_11, e169_14, e169_15, e169_18, e169_21, e169_22, e169_23, e169_26, e169_29, e169_30, e169_31, e169_34, e169_37, e169_38, e169_39, e169_42, e169_45, e169_46, e169_47, e169_48, e169_51, e169_52, e169_53, e169_56, mk_458 hM, mp_72 hM, mk_462 hM, ↓reduceIte, Nat.reduceAdd, Nat.reduceLeDiff, Nat.reduceLT, Nat.reduceEqDiff, not_false_eq_true, false_or, true_or, or_true, or_false, n0_e, n1_ne, n1_11, bI_z, bI_1, bI_fo, va_rf_some, aBk_1, aBk_0, nI_add, nI_mul, hk_si, hp_si, hl_si, hk_sp, hk_sl, hk_cp, hp_cp, g1, ej, h4, hgt, h6, e0, a2, elt, q1, eeq', ecl, q3]
      · rw [if_neg (fun z => z.2.elim q1 (fun y => q2 y.1))]
        refine ⟨_, fun d => ?_, o, fin⟩
        simp only [e169_0, e169_1, e169_4, e169_5, e169_6, e169_7, e169_8, e169_11, e169_14, e169_15, e169_18, e169_21, e169_22, e169_23, e169_26, e169_29, e169_30, e169_31, e169_34, e169_37, e169_38, e169_39, e169_42, e169_45, e169_46, e169_47, e169_48, e169_51, e169_52, e169_53, e169_56, mk_458 hM, mp_72 hM, mk_462 hM, ↓reduceIte, Nat.reduceAdd, Nat.reduceLeDiff, Nat.reduceLT, not_false_eq_true, false_or, true_or, or_true, or_false, n0_e, n1_ne, n1_11, bI_z, bI_1, bI_fo, va_rf_some, aBk_1, aBk_0, nI_add, nI_mul, hk_si, hp_si, hl_si, hk_sp, hk_sl, hk_cp, hp_cp, g1, ej, h4, hgt, h6, e0, a2, elt, q1, eeq, q2, hi_si, Nat.reduceEqDiff, false_and, true_and, and_false, and_true]
theorem m_wrongF (hF : MF h c p) {k : Int32} {j : Nat} (hj : j < 403) : (run (d) 169 0 [.ref 458, .int k, .int (nI j), aU] [] h) = some (.returned none, h) := by
  obtain ⟨hM, -, h1, h2, h3, -⟩ := hF
  have hz : 0 < nI c := by rw [← nI_0]; exact nI_lt h1 (by omega)
  simp only [e169_0, e169_1, e169_4, e169_5, e169_6, e169_7, e169_8, e169_11, e169_14, e169_15, e169_18, e169_21, e169_22, e169_23, e169_26, e169_29, e169_30, e169_31, e169_34, e169_37, e169_38, e169_39, e169_42, e169_45, e169_46, e169_47, e169_48, e169_51, e169_52, e169_53, e169_56, mk_458 hM, mp_72 hM, mk_462 hM, ↓reduceIte, Nat.reduceAdd, Nat.reduceLeDiff, Nat.reduceLT, Nat.reduceEqDiff, not_false_eq_true, false_or, true_or, or_true, or_false, n0_e, n1_ne, n1_11, bI_z, bI_1, bI_fo, va_rf_some, aBk_1, aBk_0, nI_add, nI_mul, hk_si, hp_si, hl_si, hk_sp, hk_sl, hk_cp, hp_cp, hj, h3, hz]
/-- a number between lo and hi -/
def bndX (τ : aTok) (σ : aPs) (lo hi : Nat) : aEr aPs := if tk_ τ σ.1 = 2 then goX τ (if tv_ τ σ.1 < lo ∨ hi < tv_ τ σ.1 then wrongX σ 5 σ.1 else σ) else failX τ σ 1
theorem wrong_t {c j : Nat} : (wrongX σ c j).1 = σ.1 := by unfold wrongX; split <;> rfl
theorem m_bounded (hR : MR h τ N σ) {lo hi : Nat} (hlo : lo ≤ 9999) (hhi : hi ≤ 9999) : ∃ h' r, (∀ d, (run (d + 2) 170 0 [.ref 458, .int (nI lo), .int (nI hi), aU] [] h) = some (.returned (some (.int (r))), h')) ∧ On FP h h' ∧ MO h' τ N (bndX τ σ lo hi) ∧ (tk_ τ σ.1 = 2 → r = nI (tv_ τ σ.1)) := by
  obtain ⟨hM, hT, hK, h1, h2, h3, h4, h5, h6, h7⟩ := id hR
  have h40 := hT.1
  have g1 : σ.1 < 403 := by omega
  have ev := (hK σ.1 h1).2.2.1
  have pv := (hT.2.1 σ.1 h1).2.2
  have hgt : ¬ 0 < nI 0 := by decide
  unfold bndX
  by_cases q : tk_ τ σ.1 = 2
  · rw [if_pos q]
    have ei := fun d => m_is (d := d) hR (k := 2) (by decide)
    rw [decide_eq_true q] at ei
    have el : (nI (tv_ τ σ.1) < nI lo) = (tv_ τ σ.1 < lo) := nI_ltL (by omega) (by omega)
    have eh : (nI (tv_ τ σ.1) ≤ nI hi) = (tv_ τ σ.1 ≤ hi) := nI_leL (by omega) (by omega)
    by_cases q2 : tv_ τ σ.1 < lo ∨ hi < tv_ τ σ.1
    · rw [if_pos q2]
      obtain ⟨x, ex, ox, rx⟩ := m_wrong hR (c := 5) (by decide) h1
      obtain ⟨y, ey, oy, ry⟩ := m_goesOn rx (by rw [wrong_t]; exact hR.nx (by omega) (by omega))
      have hMx := rx.1
      refine ⟨y, nI (tv_ τ σ.1), fun d => ?_, ox.trans oy, ry, fun _ => rfl⟩
      rcases q2 with q2 | q2
      · simp only [e170_0, e170_1, e170_4, e170_7, e170_8, e170_9, e170_12, e170_15, e170_16, e170_17, e170_20, e170_21, e170_22, e170_23, e170_26, e170_27, e170_30, e170_31, e170_32, e170_33, e170_34, e170_37, e170_38, e170_39, e170_42, e170_43, e170_44, e170_45, e170_48, e170_51, e170_52, e170_55, e170_56, mk_458 hM, mp_73 hM, mk_463 hM, mk_458 hMx, mp_73 hMx, mk_463 hMx, ↓reduceIte, Nat.reduceAdd, Nat.reduceLeDiff, Nat.reduceLT, Nat.reduceEqDiff, not_false_eq_true, false_or, true_or, or_true, or_false, n0_e, n1_ne, n1_11, bI_z, bI_1, bI_fo, va_rf_some, aBk_1, aBk_0, nI_add, nI_mul, hk_si, hp_si, hl_si, hk_sp, hk_sl, hk_cp, hp_cp, h4, hgt, ei, reduceCtorEq, h2, g1, ev, el, q2, ex, ey]
      · have q3 : ¬ tv_ τ σ.1 ≤ hi := by omega
        by_cases q4 : tv_ τ σ.1 < lo
        · simp only [e170_0, e170_1, e170_4, e170_7, e170_8, e170_9, e170_12, e170_15, e170_16, e170_17, e170_20, e170_21, e170_22, e170_23, e170_26, e170_27, e170_30, e170_31, e170_32, e170_33, e170_34, e170_37, e170_38, e170_39, e170_42, e170_43, e170_44, e170_45, e170_48, e170_51, e170_52, e170_55, e170_56, mk_458 hM, mp_73 hM, mk_463 hM, mk_458 hMx, mp_73 hMx, mk_463 hMx, ↓reduceIte, Nat.reduceAdd, Nat.reduceLeDiff, Nat.reduceLT, Nat.reduceEqDiff, not_false_eq_true, false_or, true_or, or_true, or_false, n0_e, n1_ne, n1_11, bI_z, bI_1, bI_fo, va_rf_some, aBk_1, aBk_0, nI_add, nI_mul, hk_si, hp_si, hl_si, hk_sp, hk_sl, hk_cp, hp_cp, h4, hgt, ei, reduceCtorEq, h2, g1, ev, el, q4, ex, ey]
        · simp only [e170_0, e170_1, e170_4, e170_7, e170_8, e170_9, e170_12, e170_15, e170_16, e170_17, e170_20, e170_21, e170_22, e170_23, e170_26, e170_27, e170_30, e170_31, e170_32, e170_33, e170_34, e170_37, e170_38, e170_39, e170_42, e170_43, e170_44, e170_45, e170_48, e170_51, e170_52, e170_55, e170_56, mk_458 hM, mp_73 hM, mk_463 hM, mk_458 hMx, mp_73 hMx, mk_463 hMx, ↓reduceIte, Nat.reduceAdd, Nat.reduceLeDiff, Nat.reduceLT, Nat.reduceEqDiff, not_false_eq_true, false_or, true_or, or_true, or_false, n0_e, n1_ne, n1_11, bI_z, bI_1, bI_fo, va_rf_some, aBk_1, aBk_0, nI_add, nI_mul, hk_si, hp_si, hl_si, hk_sp, hk_sl, hk_cp, hp_cp, h4, hgt, ei, reduceCtorEq, h2, g1, ev, el, q4, eh, q3, ex, ey]
    · rw [if_neg q2]
      have q3 : ¬ tv_ τ σ.1 < lo := by omega
      have q4 : tv_ τ σ.1 ≤ hi := by omega
      obtain ⟨y, ey, oy, ry⟩ := m_goesOn hR (hR.nx (by omega) (by omega))
      refine ⟨y, nI (tv_ τ σ.1), fun d => ?_, oy, ry, fun _ => rfl⟩
      simp only [e170_0, e170_1, e170_4, e170_7, e170_8, e170_9, e170_12, e170_15, e170_16, e170_17, e170_20, e170_21, e170_22, e170_23, e170_26, e170_27, e170_30, e170_31, e170_32, e170_33, e170_34, e170_37, e170_38, e170_39, e170_42, e170_43, e170_44, e170_45, e170_48, e170_51, e170_52, e170_55, e170_56, mk_458 hM, mp_73 hM, mk_463 hM, ↓reduceIte, Nat.reduceAdd, Nat.reduceLeDiff, Nat.reduceLT, Nat.reduceEqDiff, not_false_eq_true, false_or, true_or, or_true, or_false, n0_e, n1_ne, n1_11, bI_z, bI_1, bI_fo, va_rf_some, aBk_1, aBk_0, nI_add, nI_mul, hk_si, hp_si, hl_si, hk_sp, hk_sl, hk_cp, hp_cp, h4, hgt, ei, reduceCtorEq, h2, g1, ev, el, q3, eh, q4, ey]
  · rw [if_neg q]
    have ei := fun d => m_is (d := d) hR (k := 2) (by decide)
    rw [decide_eq_false q] at ei
    obtain ⟨y, ey, oy, ry⟩ := m_fail hR (c := 1) (by decide)
    refine ⟨y, nI lo, fun d => ?_, oy, ry, fun z => absurd z q⟩
    simp only [e170_0, e170_1, e170_4, e170_7, e170_8, e170_9, e170_12, e170_15, e170_16, e170_17, e170_20, e170_21, e170_22, e170_23, e170_26, e170_27, e170_30, e170_31, e170_32, e170_33, e170_34, e170_37, e170_38, e170_39, e170_42, e170_43, e170_44, e170_45, e170_48, e170_51, e170_52, e170_55, e170_56, mk_458 hM, mp_73 hM, mk_463 hM, ↓reduceIte, Nat.reduceAdd, Nat.reduceLeDiff, Nat.reduceLT, Nat.reduceEqDiff, not_false_eq_true, false_or, true_or, or_true, or_false, n0_e, n1_ne, n1_11, bI_z, bI_1, bI_fo, va_rf_some, aBk_1, aBk_0, nI_add, nI_mul, hk_si, hp_si, hl_si, hk_sp, hk_sl, hk_cp, hp_cp, h4, hgt, ei, ey]
theorem m_boundedF (hF : MF h c p) {lo hi : Int32} : (run (d + 2) 170 0 [.ref 458, .int lo, .int hi, aU] [] h) = some (.returned (some (.int lo)), h) := by
  obtain ⟨hM, -, h1, h2, h3, -⟩ := id hF
  have hz : 0 < nI c := by rw [← nI_0]; exact nI_lt h1 (by omega)
  simp only [e170_0, e170_1, e170_4, e170_7, e170_8, e170_9, e170_12, e170_15, e170_16, e170_17, e170_20, e170_21, e170_22, e170_23, e170_26, e170_27, e170_30, e170_31, e170_32, e170_33, e170_34, e170_37, e170_38, e170_39, e170_42, e170_43, e170_44, e170_45, e170_48, e170_51, e170_52, e170_55, e170_56, mk_458 hM, mp_73 hM, mk_463 hM, ↓reduceIte, Nat.reduceAdd, Nat.reduceLeDiff, Nat.reduceLT, Nat.reduceEqDiff, not_false_eq_true, false_or, true_or, or_true, or_false, n0_e, n1_ne, n1_11, bI_z, bI_1, bI_fo, va_rf_some, aBk_1, aBk_0, nI_add, nI_mul, hk_si, hp_si, hl_si, hk_sp, hk_sl, hk_cp, hp_cp, h3, hz, m_failF hF]
end M13
