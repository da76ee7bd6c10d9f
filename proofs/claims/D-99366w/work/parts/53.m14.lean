set_option maxRecDepth 100000
/-! M: reading (3): fault or not in one -/
def eB {α β : Type} (x : aEr α) (f : α → aEr β) : aEr β := match x with
  | .inl e => .inl e
  | .inr a => f a
def isX (τ : aTok) (x : aEr aPs) (k : Nat) : Bool := match x with
  | .inl _ => false
  | .inr σ => decide (tk_ τ σ.1 = k)
/-- number of the fault, or 0 -/
def ftX (x : aEr aPs) : Nat := match x with
  | .inl e => e.1
  | .inr _ => 0
section M14
variable {d N : Nat} {h h' : aH} {τ : aTok} {x : aEr aPs} {σ : aPs}
theorem MO.S (hO : MO h τ N x) : MS h := by
  cases x with
  | inl e => exact hO.1
  | inr σ => exact hO.1
theorem MO.ft (hO : MO h τ N x) : hi_ h 458 79 = nI (ftX x) ∧ ftX x < 10 := by
  cases x with
  | inl e => exact ⟨hO.2.2.2.2.1, hO.2.2.2.1⟩
  | inr σ => exact ⟨hO.2.2.2.2.2.2.1, by show (0 : Nat) < 10; omega⟩
theorem mo_is (hO : MO h τ N x) {k : Nat} (hk : k < 64) : (run (d) 162 0 [.ref 458, .int (nI k)] [] h) = some (.returned (some (.int (bI (isX τ x k)))), h) := by
  cases x with
  | inl e => exact m_isF hO
  | inr σ => exact m_is hO hk
theorem mo_fail (hO : MO h τ N x) {c : Nat} (hc : 0 < c ∧ c < 10) : ∃ h', (∀ d, (run (d) 165 0 [.ref 458, .int (nI c)] [] h) = some (.returned none, h')) ∧ On FP h h' ∧ MO h' τ N (eB x (failX τ · c)) := by
  cases x with
  | inl e => exact ⟨h, fun d => m_failF hO, On.refl, hO⟩
  | inr σ => exact m_fail hO hc
theorem mo_goesOn (hO : MO h τ N x) (hN : ∀ σ, x = .inr σ → tk_ τ σ.1 ≠ 0 ∧ tk_ τ σ.1 ≠ 3) : ∃ h', (∀ d, (run (d + 1) 166 0 [.ref 458] [] h) = some (.returned none, h')) ∧ On FP h h' ∧ MO h' τ N (eB x (goX τ)) := by
  cases x with
  | inl e => exact m_goesOnF hO
  | inr σ => exact m_goesOn hO (MR.nx hO (hN σ rfl).1 (hN σ rfl).2)
theorem mo_must (hO : MO h τ N x) {k : Nat} (hk : k < 64) (h0 : k ≠ 0) (h3 : k ≠ 3) : ∃ h', (∀ d, (run (d + 2) 168 0 [.ref 458, .int (nI k)] [] h) = some (.returned none, h')) ∧ On FP h h' ∧ MO h' τ N (eB x (mustX τ · k)) := by
  cases x with
  | inl e => exact ⟨h, fun d => m_mustF hO, On.refl, hO⟩
  | inr σ => exact m_must hO hk h0 h3
theorem mo_bounded (hO : MO h τ N x) {lo hi : Nat} (hlo : lo ≤ 9999) (hhi : hi ≤ 9999) : ∃ h' r, (∀ d, (run (d + 2) 170 0 [.ref 458, .int (nI lo), .int (nI hi), aU] [] h) = some (.returned (some (.int (r))), h')) ∧ On FP h h' ∧ MO h' τ N (eB x (bndX τ · lo hi)) ∧ (∀ σ, x = .inr σ → tk_ τ σ.1 = 2 → r = nI (tv_ τ σ.1)) := by
  cases x with
  | inl e => exact ⟨h, nI lo, fun d => m_boundedF hO, On.refl, hO, fun σ q => by cases q⟩
  | inr σ =>
    obtain ⟨h', r, e, o, f, g⟩ := m_bounded hO hlo hhi
    exact ⟨h', r, e, o, f, fun σ' q => by cases q; exact g⟩
theorem mo_wrong (hO : MO h τ N x) {c j : Nat} (hc : 0 < c ∧ c < 10) (hN : N ≤ 400) (hj : j ≤ N) : ∃ h', (∀ d, (run (d) 169 0 [.ref 458, .int (nI c), .int (nI j), aU] [] h) = some (.returned none, h')) ∧ On FP h h' ∧ MO h' τ N (eB x (fun σ => .inr (wrongX σ c j))) := by
  cases x with
  | inl e => exact ⟨h, fun d => m_wrongF hO (by omega), On.refl, hO⟩
  | inr σ => exact m_wrong hO hc hj
/-- begins a line: how many there are, how many may be -/
def roomX (τ : aTok) (has most : Nat) (σ : aPs) : aEr aPs := if has = most then failX τ σ 2 else goX τ σ
theorem m_roomFor (hR : MR h τ N σ) (h0 : tk_ τ σ.1 ≠ 0) (h3 : tk_ τ σ.1 ≠ 3) {has most : Nat} (hh : has < 64) (hm : most < 64) : ∃ h', (∀ d, (run (d + 2) 164 0 [.ref 458, .int (nI has), .int (nI most)] [] h) = some (.returned none, h')) ∧ On FP h h' ∧ MO h' τ N (roomX τ has most σ) := by
  have hM := hR.1
  have e4 := hR.2.2.2.2.2.2.1
  have em : (nI has = nI most) = (has = most) := nI_eqL (by omega) (by omega)
  unfold roomX
  by_cases q : has = most
  · rw [if_pos q]
    obtain ⟨x, e, o, f⟩ := m_fail hR (c := 2) (by decide)
    have hM' := f.1
    have f3 := f.2.2.2.2.1
    refine ⟨x, fun d => ?_, o, f⟩
    have n2 : ¬ nI 2 = 0 := by decide
    have q' : (nI has = nI most) = True := by rw [em]; exact eq_true q
    simp only [e164_0, e164_1, e164_2, e164_5, e164_6, e164_7, e164_10, e164_11, e164_14, e164_17, e164_18, e164_21, mk_458 hM, mk_458 hM', ↓reduceIte, Nat.reduceAdd, Nat.reduceLeDiff, Nat.reduceLT, Nat.reduceEqDiff, not_false_eq_true, false_or, true_or, or_true, or_false, n0_e, n1_ne, n1_11, bI_z, bI_1, bI_fo, va_rf_some, aBk_1, aBk_0, nI_add, nI_mul, hk_si, hp_si, hl_si, hk_sp, hk_sl, hk_cp, hp_cp, q', e, f3, n2]
  · rw [if_neg q]
    obtain ⟨x, e, o, f⟩ := m_goesOn hR (hR.nx h0 h3)
    refine ⟨x, fun d => ?_, o, f⟩
    simp only [e164_0, e164_1, e164_2, e164_5, e164_6, e164_7, e164_10, e164_11, e164_14, e164_17, e164_18, e164_21, mk_458 hM, ↓reduceIte, Nat.reduceAdd, Nat.reduceLeDiff, Nat.reduceLT, Nat.reduceEqDiff, not_false_eq_true, false_or, true_or, or_true, or_false, n0_e, n1_ne, n1_11, bI_z, bI_1, bI_fo, va_rf_some, aBk_1, aBk_0, nI_add, nI_mul, hk_si, hp_si, hl_si, hk_sp, hk_sl, hk_cp, hp_cp, em, q, e4, e]
/-- a line of one number -/
theorem m_toldInt (hR : MR h τ N σ) (h0 : tk_ τ σ.1 ≠ 0) (h3 : tk_ τ σ.1 ≠ 3) {lo hi : Nat} (hlo : lo ≤ 9999) (hhi : hi ≤ 9999) : ∃ h' r, (∀ d, (run (d + 3) 174 0 [.ref 458, .int (nI lo), .int (nI hi), aU] [] h) = some (.returned (some (.int (r))), h')) ∧ On FP h h' ∧ MO h' τ N (eB (eB (goX τ σ) (bndX τ · lo hi)) (mustX τ · 4)) ∧ (∀ σ', goX τ σ = .inr σ' → tk_ τ σ'.1 = 2 → r = nI (tv_ τ σ'.1)) := by
  have hM := hR.1
  obtain ⟨x, ex, ox, fx⟩ := m_goesOn hR (hR.nx h0 h3)
  obtain ⟨y, r, ey, oy, fy, gy⟩ := mo_bounded fx hlo hhi
  obtain ⟨z, ez, oz, fz⟩ := mo_must fy (k := 4) (by decide) (by decide) (by decide)
  refine ⟨z, r, fun d => ?_, (ox.trans oy).trans oz, fz, gy⟩
  have hMx := fx.S
  have hMy := fy.S
  simp only [e174_0, e174_1, e174_4, e174_5, e174_6, e174_7, e174_10, e174_11, e174_12, e174_13, e174_16, e174_17, mk_458 hM, mk_458 hMx, mk_458 hMy, ↓reduceIte, Nat.reduceAdd, Nat.reduceLeDiff, Nat.reduceLT, Nat.reduceEqDiff, not_false_eq_true, false_or, true_or, or_true, or_false, n0_e, n1_ne, n1_11, bI_z, bI_1, bI_fo, va_rf_some, aBk_1, aBk_0, nI_add, nI_mul, hk_si, hp_si, hl_si, hk_sp, hk_sl, hk_cp, hp_cp, ex, ey, ez]
end M14
