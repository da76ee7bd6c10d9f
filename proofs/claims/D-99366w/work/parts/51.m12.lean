set_option maxRecDepth 100000
/-! M: reading (1): the parser's state; fault or none -/
/-- tokens: kind, place, value, name -/
abbrev aTok : Type := (Nat → Nat) × (Nat → Nat) × (Nat → Nat) × (Nat → Int64)
def tk_ (τ : aTok) (j : Nat) : Nat := τ.1 j
def tp_ (τ : aTok) (j : Nat) : Nat := τ.2.1 j
def tv_ (τ : aTok) (j : Nat) : Nat := τ.2.2.1 j
def tn_ (τ : aTok) (j : Nat) : Int64 := τ.2.2.2 j
/-- tokens as they may be: places rise -/
def TK (τ : aTok) (N : Nat) : Prop := N ≤ 400 ∧ (∀ j, j ≤ N → tk_ τ j < 64 ∧ tp_ τ j ≤ 2000 ∧ tv_ τ j ≤ 9999) ∧ (∀ i j, i < j → j ≤ N → tp_ τ i < tp_ τ j) ∧ (N < 400 → tk_ τ N = 0 ∨ tk_ τ N = 3)
/-- they lie in M -/
def MK (h : aH) (τ : aTok) (N : Nat) : Prop := ∀ j, j ≤ N → hi_ h 461 j = nI (tk_ τ j) ∧ hi_ h 462 j = nI (tp_ τ j) ∧ hi_ h 463 j = nI (tv_ τ j) ∧ hl_ h 464 j = tn_ τ j
/-- where the parser is: token, open brackets, the worst so far (number, token) -/
abbrev aPs : Type := Nat × Nat × Nat × Nat
/-- M reads on -/
def MR (h : aH) (τ : aTok) (N : Nat) (σ : aPs) : Prop := MS h ∧ TK τ N ∧ MK h τ N ∧ σ.1 ≤ N ∧ hi_ h 458 77 = nI σ.1 ∧ hi_ h 458 78 = nI σ.2.1 ∧ hi_ h 458 79 = nI 0 ∧ σ.2.2.1 < 10 ∧ hi_ h 458 81 = nI σ.2.2.1 ∧ (σ.2.2.1 ≠ 0 → σ.2.2.2 ≤ N ∧ hi_ h 458 82 = nI (tp_ τ σ.2.2.2))
/-- M has stopped: fault c at place p -/
def MF (h : aH) (c p : Nat) : Prop := MS h ∧ (∃ t, t ≤ 400 ∧ hi_ h 458 77 = nI t) ∧ 0 < c ∧ c < 10 ∧ hi_ h 458 79 = nI c ∧ hi_ h 458 80 = nI p
/-- what steps of the parser write -/
def FP (a f : Nat) : Prop := a = 458 ∧ 77 ≤ f ∧ f ≤ 82
/-- what comes of a step: a fault (number, place), or a state -/
abbrev aEr (α : Type) : Type := (Nat × Nat) ⊕ α
def MO (h : aH) (τ : aTok) (N : Nat) (x : aEr aPs) : Prop := match x with
  | .inl e => MF h e.1 e.2
  | .inr σ => MR h τ N σ
def failX (τ : aTok) (σ : aPs) (c : Nat) : aEr aPs := .inl (c, tp_ τ σ.1)
def goX (τ : aTok) (σ : aPs) : aEr aPs := if σ.1 = 400 then failX τ σ 2 else .inr (σ.1 + 1, σ.2)
def mustX (τ : aTok) (σ : aPs) (k : Nat) : aEr aPs := if tk_ τ σ.1 = k then goX τ σ else failX τ σ 1
/-- something is wrong at token j -/
def wrongX (σ : aPs) (c j : Nat) : aPs := if σ.2.2.1 ≠ 0 ∧ (σ.2.2.2 < j ∨ (j = σ.2.2.2 ∧ σ.2.2.1 ≤ c)) then σ else (σ.1, σ.2.1, c, j)
section M12
variable {d N : Nat} {h h' : aH} {τ : aTok} {σ : aPs}
theorem FP.ne {a f : Nat} (h : a ≠ 458) : ¬ FP a f := fun q => h q.1
theorem MK.on (hK : MK h τ N) (o : On FP h h') : MK h' τ N := fun j hj => by
  obtain ⟨h1, h2, h3, h4⟩ := hK j hj
  exact ⟨(o.i (FP.ne (by decide))).trans h1, (o.i (FP.ne (by decide))).trans h2, (o.i (FP.ne (by decide))).trans h3, (o.l _ _).trans h4⟩
theorem m_is (hR : MR h τ N σ) {k : Nat} (hk : k < 64) : (run (d) 162 0 [.ref 458, .int (nI k)] [] h) = some (.returned (some (.int (bI (decide (tk_ τ σ.1 = k))))), h) := by
  obtain ⟨hM, hT, hK, h1, h2, h3, h4, h5, h6, h7⟩ := hR
  have h40 := hT.1
  have g1 : σ.1 < 403 := by omega
  have kt := (hT.2.1 σ.1 h1).1
  have e := (hK σ.1 h1).1
  by_cases q : tk_ τ σ.1 = k
  · have q' : (nI (tk_ τ σ.1) = nI k) = True := by rw [nI_eqL (by omega) (by omega)]; exact eq_true q
    simp only [e162_0, e162_1, e162_4, e162_7, e162_8, e162_11, e162_12, e162_15, e162_16, e162_17, e162_20, e162_21, e162_24, e162_25, mk_458 hM, mp_71 hM, mk_461 hM, ↓reduceIte, Nat.reduceAdd, Nat.reduceLeDiff, Nat.reduceLT, Nat.reduceEqDiff, not_false_eq_true, false_or, true_or, or_true, or_false, n0_e, n1_ne, n1_11, bI_z, bI_1, bI_fo, va_rf_some, aBk_1, aBk_0, nI_add, nI_mul, hk_si, hp_si, hl_si, hk_sp, hk_sl, hk_cp, hp_cp, h2, h4, g1, e, q', decide_eq_true q]
    rfl
  · have q' : (nI (tk_ τ σ.1) = nI k) = False := by rw [nI_eqL (by omega) (by omega)]; exact eq_false q
    simp only [e162_0, e162_1, e162_4, e162_7, e162_8, e162_11, e162_12, e162_15, e162_16, e162_17, e162_20, e162_21, e162_24, e162_25, mk_458 hM, mp_71 hM, mk_461 hM, ↓reduceIte, Nat.reduceAdd, Nat.reduceLeDiff, Nat.reduceLT, Nat.reduceEqDiff, not_false_eq_true, false_or, true_or, or_true, or_false, n0_e, n1_ne, n1_11, bI_z, bI_1, bI_fo, va_rf_some, aBk_1, aBk_0, nI_add, nI_mul, hk_si, hp_si, hl_si, hk_sp, hk_sl, hk_cp, hp_cp, h2, h4, g1, e, q', decide_eq_false q]
    rfl
theorem m_isF {c p : Nat} (hF : MF h c p) {k : Int32} : (run (d) 162 0 [.ref 458, .int k] [] h) = some (.returned (some (.int (bI false))), h) := by
  obtain ⟨hM, -, h1, h2, h3, -⟩ := hF
  have hz : (nI c = 0) = False := by rw [nI_z (by omega)]; exact eq_false (by omega)
  simp only [e162_0, e162_1, e162_4, e162_7, e162_8, e162_11, e162_12, e162_15, e162_16, e162_17, e162_20, e162_21, e162_24, e162_25, mk_458 hM, mp_71 hM, mk_461 hM, ↓reduceIte, Nat.reduceAdd, Nat.reduceLeDiff, Nat.reduceLT, Nat.reduceEqDiff, not_false_eq_true, false_or, true_or, or_true, or_false, n0_e, n1_ne, n1_11, bI_z, bI_1, bI_fo, va_rf_some, aBk_1, aBk_0, nI_add, nI_mul, hk_si, hp_si, hl_si, hk_sp, hk_sl, hk_cp, hp_cp, h3, hz]
  rfl
theorem m_fail (hR : MR h τ N σ) {c : Nat} (hc : 0 < c ∧ c < 10) : ∃ h', (∀ d, (run (d) 165 0 [.ref 458, .int (nI c)] [] h) = some (.returned none, h')) ∧ On FP h h' ∧ MF h' c (tp_ τ σ.1) := by
  obtain ⟨hM, hT, hK, h1, h2, h3, h4, h5, h6, h7⟩ := hR
  have h40 := hT.1
  have g1 : σ.1 < 403 := by omega
  have e := (hK σ.1 h1).2.1
  have o : On FP h (si_ (si_ h 458 79 (nI c)) 458 80 (nI (tp_ τ σ.1))) := (On.si ⟨rfl, by decide, by decide⟩).trans (On.si ⟨rfl, by decide, by decide⟩)
  have hle : nI 0 ≤ 0 := by decide
  refine ⟨si_ (si_ h 458 79 (nI c)) 458 80 (nI (tp_ τ σ.1)), fun d => ?_, o, hM.on o, ⟨σ.1, by omega, ?_⟩, hc.1, hc.2, ?_, hi_same⟩
  · simp only [e165_0, e165_1, e165_4, e165_7, e165_8, e165_9, e165_10, e165_13, e165_14, e165_15, e165_18, e165_19, e165_22, e165_23, e165_26, mk_458 hM, mp_72 hM, mk_462 hM, ↓reduceIte, Nat.reduceAdd, Nat.reduceLeDiff, Nat.reduceLT, not_false_eq_true, false_or, true_or, or_true, or_false, n0_e, n1_ne, n1_11, bI_z, bI_1, bI_fo, va_rf_some, aBk_1, aBk_0, nI_add, nI_mul, hk_si, hp_si, hl_si, hk_sp, hk_sl, hk_cp, hp_cp, h2, h4, hle, g1, e, hi_si, Nat.reduceEqDiff, false_and, true_and, and_false, and_true]
  · rw [hi_ne (by omega), hi_ne (by omega)]; exact h2
  · rw [hi_ne (by omega)]; exact hi_same
theorem m_failF {c p : Nat} (hF : MF h c p) {k : Int32} : (run (d) 165 0 [.ref 458, .int k] [] h) = some (.returned none, h) := by
  obtain ⟨hM, -, h1, h2, h3, -⟩ := hF
  have hz : ¬ nI c ≤ 0 := nI_nle h1 (by omega)
  simp only [e165_0, e165_1, e165_4, e165_7, e165_8, e165_9, e165_10, e165_13, e165_14, e165_15, e165_18, e165_19, e165_22, e165_23, e165_26, mk_458 hM, mp_72 hM, mk_462 hM, ↓reduceIte, Nat.reduceAdd, Nat.reduceLeDiff, Nat.reduceLT, Nat.reduceEqDiff, not_false_eq_true, false_or, true_or, or_true, or_false, n0_e, n1_ne, n1_11, bI_z, bI_1, bI_fo, va_rf_some, aBk_1, aBk_0, nI_add, nI_mul, hk_si, hp_si, hl_si, hk_sp, hk_sl, hk_cp, hp_cp, h3, hz]
theorem m_goesOn (hR : MR h τ N σ) (hN : N < 400 → σ.1 < N) : ∃ h', (∀ d, (run (d + 1) 166 0 [.ref 458] [] h) = some (.returned none, h')) ∧ On FP h h' ∧ MO h' τ N (goX τ σ) := by
  obtain ⟨hM, hT, hK, h1, h2, h3, h4, h5, h6, h7⟩ := id hR
  have h40 := hT.1
  have e4 : (nI σ.1 = nI 400) = (σ.1 = 400) := nI_eqL (by omega) (by decide)
  unfold goX
  by_cases q : σ.1 = 400
  · rw [if_pos q]
    obtain ⟨h', e, o, f⟩ := m_fail hR (c := 2) (by decide)
    refine ⟨h', fun d => ?_, o, f⟩
    simp only [e166_0, e166_1, e166_4, e166_7, e166_10, e166_11, e166_12, e166_15, e166_18, e166_19, e166_20, e166_23, e166_24, e166_25, e166_28, mk_458 hM, ↓reduceIte, Nat.reduceAdd, Nat.reduceLeDiff, Nat.reduceLT, Nat.reduceEqDiff, not_false_eq_true, false_or, true_or, or_true, or_false, n0_e, n1_ne, n1_11, bI_z, bI_1, bI_fo, va_rf_some, aBk_1, aBk_0, nI_add, nI_mul, hk_si, hp_si, hl_si, hk_sp, hk_sl, hk_cp, hp_cp, h2, e4, q, e]
  · rw [if_neg q]
    have o : On FP h (si_ h 458 77 (nI (σ.1 + 1))) := On.si ⟨rfl, by decide, by decide⟩
    refine ⟨si_ h 458 77 (nI (σ.1 + 1)), fun d => ?_, o, hM.on o, hT, hK.on o, ?_, hi_same, ?_, ?_, h5, ?_, fun h0 => ⟨(h7 h0).1, ?_⟩⟩
    · simp only [e166_0, e166_1, e166_4, e166_7, e166_10, e166_11, e166_12, e166_15, e166_18, e166_19, e166_20, e166_23, e166_24, e166_25, e166_28, mk_458 hM, ↓reduceIte, Nat.reduceAdd, Nat.reduceLeDiff, Nat.reduceLT, Nat.reduceEqDiff, not_false_eq_true, false_or, true_or, or_true, or_false, n0_e, n1_ne, n1_11, bI_z, bI_1, bI_fo, va_rf_some, aBk_1, aBk_0, nI_add, nI_mul, hk_si, hp_si, hl_si, hk_sp, hk_sl, hk_cp, hp_cp, h2, e4, q]
    · show σ.1 + 1 ≤ N; omega
    · rw [hi_ne (by omega)]; exact h3
    · rw [hi_ne (by omega)]; exact h4
    · rw [hi_ne (by omega)]; exact h6
    · rw [hi_ne (by omega)]; exact (h7 h0).2
end M12
