set_option maxRecDepth 100000
/-! M: reading (4): names -/
/-- names told so far: the name, its number (a guest's and 10), how many -/
abbrev aNs : Type := (Nat → Int64) × (Nat → Nat) × Nat
def MN (h : aH) (ν : aNs) : Prop := ν.2.2 ≤ 11 ∧ hi_ h 458 86 = nI ν.2.2 ∧ ∀ k, k < ν.2.2 → hl_ h 466 k = ν.1 k ∧ hi_ h 467 k = nI (ν.2.1 k) ∧ ν.2.1 k < 20
def hasN (ν : aNs) (v : Int64) : Nat → Bool
  | 0 => false
  | k + 1 => hasN ν v k || decide (ν.1 k = v)
def dupX (b : Bool) (σ : aPs) (j : Nat) : aPs := bif b then wrongX σ 3 j else σ
theorem lg_z {x y : Int64} : (lg_cmp x y = 0) = (x = y) := by
  unfold lg_cmp
  apply propext
  constructor
  · intro h
    split at h
    · exact absurd h (by decide)
    · split at h
      · assumption
      · exact absurd h (by decide)
  · intro h
    rw [if_neg (by rw [h]; exact Int64.lt_irrefl), if_pos h]
theorem wrong_wrong {σ : aPs} {c j : Nat} (hc : 0 < c) : wrongX (wrongX σ c j) c j = wrongX σ c j := by
  by_cases q : σ.2.2.1 ≠ 0 ∧ (σ.2.2.2 < j ∨ (j = σ.2.2.2 ∧ σ.2.2.1 ≤ c))
  · have e : wrongX σ c j = σ := if_pos q
    rw [e, e]
  · have e : wrongX σ c j = (σ.1, σ.2.1, c, j) := if_neg q
    rw [e]
    exact if_pos ⟨by show c ≠ 0; omega, Or.inr ⟨rfl, Nat.le_refl _⟩⟩
section M15
variable {d N : Nat} {h h' : aH} {τ : aTok} {σ : aPs} {ν : aNs}
theorem MN.on (hN : MN h ν) (o : On FP h h') : MN h' ν := by
  obtain ⟨h1, h2, h3⟩ := hN
  refine ⟨h1, (o.i (fun q => by unfold FP at q; omega)).trans h2, fun k hk => ?_⟩
  obtain ⟨a, b, c⟩ := h3 k hk
  exact ⟨(o.l _ _).trans a, (o.i (FP.ne (by decide))).trans b, c⟩
/-- a new name -/
def namX (τ : aTok) (ν : aNs) (σ : aPs) : aEr aPs := eB (mustX τ σ 1) (fun σ' => .inr (dupX (hasN ν (tn_ τ σ.1) ν.2.2) σ' σ.1))
theorem m_named (hR : MR h τ N σ) (hN : MN h ν) : ∃ h', (∀ d, (run (d + 3) 167 0 [.ref 458, aU, aU] [] h) = some (.returned (some (.int (nI σ.1))), h')) ∧ On FP h h' ∧ MO h' τ N (namX τ ν σ) := by
  have hM := hR.1
  have et := hR.2.2.2.2.1
  have ht := hR.2.2.2.1
  have h40 := hR.2.1.1
  obtain ⟨x, ex, ox, fx⟩ := m_must hR (k := 1) (by decide) (by decide) (by decide)
  have hNx := hN.on ox
  have hMx := fx.S
  unfold namX
  cases hx : mustX τ σ 1 with
  | inl e =>
    rw [hx] at fx
    refine ⟨x, fun d => ?_, ox, fx⟩
    have f3 : hi_ x 458 79 = nI e.1 := fx.2.2.2.2.1
    have fz : (nI e.1 = 0) = False := by have := fx.2.2.1; have := fx.2.2.2.1; rw [nI_z (by omega)]; exact eq_false (by omega)
    by_cases q : nI ν.2.2 ≤ nI 0
    · simp only [e167_0, e167_1, e167_4, e167_5, e167_6, e167_7, e167_10, e167_11, e167_12, e167_13, e167_14, e167_17, e167_20, e167_21, e167_24, e167_27, e167_28, e167_31, e167_32, e167_33, e167_34, e167_37, e167_38, e167_39, e167_40, e167_43, e167_44, e167_45, e167_46, e167_49, e167_52, e167_55, e167_56, mk_458 hM, mp_74 hM, mk_464 hM, mp_87 hM, mk_466 hM, mk_458 hMx, mp_74 hMx, mk_464 hMx, mp_87 hMx, mk_466 hMx, ↓reduceIte, Nat.reduceAdd, Nat.reduceLeDiff, Nat.reduceLT, Nat.reduceEqDiff, not_false_eq_true, false_or, true_or, or_true, or_false, n0_e, n1_ne, n1_11, bI_z, bI_1, bI_fo, va_rf_some, aBk_1, aBk_0, nI_add, nI_mul, hk_si, hp_si, hl_si, hk_sp, hk_sl, hk_cp, hp_cp, et, ex, hNx.2.1, q]
    · simp only [e167_0, e167_1, e167_4, e167_5, e167_6, e167_7, e167_10, e167_11, e167_12, e167_13, e167_14, e167_17, e167_20, e167_21, e167_24, e167_27, e167_28, e167_31, e167_32, e167_33, e167_34, e167_37, e167_38, e167_39, e167_40, e167_43, e167_44, e167_45, e167_46, e167_49, e167_52, e167_55, e167_56, mk_458 hM, mp_74 hM, mk_464 hM, mp_87 hM, mk_466 hM, mk_458 hMx, mp_74 hMx, mk_464 hMx, mp_87 hMx, mk_466 hMx, ↓reduceIte, Nat.reduceAdd, Nat.reduceLeDiff, Nat.reduceLT, Nat.reduceEqDiff, not_false_eq_true, false_or, true_or, or_true, or_false, n0_e, n1_ne, n1_11, bI_z, bI_1, bI_fo, va_rf_some, aBk_1, aBk_0, nI_add, nI_mul, hk_si, hp_si, hl_si, hk_sp, hk_sl, hk_cp, hp_cp, et, ex, hNx.2.1, q, f3, fz]
  | inr σ' =>
    rw [hx] at fx
    have fx : MR x τ N σ' := fx
    obtain ⟨y, e, oy, ry⟩ := run_invd (F := fun d j x => (run (d + 3) 167 12 [.ref 458, .int (nI σ.1), .int (nI j)] [] x)) (I := fun j y => On FP x y ∧ MR y τ N (dupX (hasN ν (tn_ τ σ.1) j) σ' σ.1)) (n := ν.2.2) (x := x) ⟨On.refl, fx⟩ (fun j y hj hI => by
      obtain ⟨oy, ry⟩ := hI
      have hMy := ry.1
      have hNy := hNx.on oy
      have n11 := hNy.1
      have e4 := ry.2.2.2.2.2.2.1
      have g1 : ¬ nI ν.2.2 ≤ nI j := nI_ge hj (by omega)
      have g2 : j < 11 := by omega
      have g3 : σ.1 < 403 := by omega
      have k1 := (hNy.2.2 j hj).1
      have k2 := (ry.2.2.1 σ.1 ht).2.2.2
      by_cases q : ν.1 j = tn_ τ σ.1
      · obtain ⟨z, ez, oz, rz⟩ := m_wrong ry (c := 3) (j := σ.1) (by decide) ht
        have hMz := rz.1
        refine ⟨z, fun d => ?_, oy.trans oz, ?_⟩
        · refine (e167_12).trans ?_
          have q' : (ν.1 j = tn_ τ σ.1) = True := eq_true q
          simp only [e167_0, e167_1, e167_4, e167_5, e167_6, e167_7, e167_10, e167_11, e167_13, e167_14, e167_17, e167_20, e167_21, e167_24, e167_27, e167_28, e167_31, e167_32, e167_33, e167_34, e167_37, e167_38, e167_39, e167_40, e167_43, e167_44, e167_45, e167_46, e167_49, e167_52, e167_55, e167_56, mk_458 hMy, mp_74 hMy, mk_464 hMy, mp_87 hMy, mk_466 hMy, mk_458 hMz, mp_74 hMz, mk_464 hMz, mp_87 hMz, mk_466 hMz, ↓reduceIte, Nat.reduceAdd, Nat.reduceLeDiff, Nat.reduceLT, Nat.reduceEqDiff, not_false_eq_true, false_or, true_or, or_true, or_false, n0_e, n1_ne, n1_11, bI_z, bI_1, bI_fo, va_rf_some, aBk_1, aBk_0, nI_add, nI_mul, hk_si, hp_si, hl_si, hk_sp, hk_sl, hk_cp, hp_cp, hNy.2.1, g1, g2, g3, k1, k2, e4, lg_z, q', ez]
        · have e1 : hasN ν (tn_ τ σ.1) (j + 1) = true := by show (_ || decide _) = true; rw [decide_eq_true q, Bool.or_true]
          rw [e1]
          have e2 : dupX true σ' σ.1 = wrongX (dupX (hasN ν (tn_ τ σ.1) j) σ' σ.1) 3 σ.1 := by
            cases hasN ν (tn_ τ σ.1) j with
            | true => exact (wrong_wrong (by decide)).symm
            | false => rfl
          rw [e2]; exact rz
      · refine ⟨y, fun d => ?_, oy, ?_⟩
        · refine (e167_12).trans ?_
          simp only [e167_0, e167_1, e167_4, e167_5, e167_6, e167_7, e167_10, e167_11, e167_13, e167_14, e167_17, e167_20, e167_21, e167_24, e167_27, e167_28, e167_31, e167_32, e167_33, e167_34, e167_37, e167_38, e167_39, e167_40, e167_43, e167_44, e167_45, e167_46, e167_49, e167_52, e167_55, e167_56, mk_458 hMy, mp_74 hMy, mk_464 hMy, mp_87 hMy, mk_466 hMy, ↓reduceIte, Nat.reduceAdd, Nat.reduceLeDiff, Nat.reduceLT, Nat.reduceEqDiff, not_false_eq_true, false_or, true_or, or_true, or_false, n0_e, n1_ne, n1_11, bI_z, bI_1, bI_fo, va_rf_some, aBk_1, aBk_0, nI_add, nI_mul, hk_si, hp_si, hl_si, hk_sp, hk_sl, hk_cp, hp_cp, hNy.2.1, g1, g2, g3, k1, k2, e4, lg_z, q]
        · have e1 : hasN ν (tn_ τ σ.1) (j + 1) = hasN ν (tn_ τ σ.1) j := by show (_ || decide _) = _; rw [decide_eq_false q, Bool.or_false]
          rw [e1]; exact ry)
    have hMy := ry.1
    have hNy := hNx.on oy
    refine ⟨y, fun d => ?_, ox.trans oy, ry⟩
    have e' := e d
    simp only [e167_0, e167_1, e167_4, e167_5, e167_6, e167_7, e167_10, e167_11, e167_13, e167_14, e167_17, e167_20, e167_21, e167_24, e167_27, e167_28, e167_31, e167_32, e167_33, e167_34, e167_37, e167_38, e167_39, e167_40, e167_43, e167_44, e167_45, e167_46, e167_49, e167_52, e167_55, e167_56, mk_458 hM, mp_74 hM, mk_464 hM, mp_87 hM, mk_466 hM, ↓reduceIte, Nat.reduceAdd, Nat.reduceLeDiff, Nat.reduceLT, Nat.reduceEqDiff, not_false_eq_true, false_or, true_or, or_true, or_false, n0_e, n1_ne, n1_11, bI_z, bI_1, bI_fo, va_rf_some, aBk_1, aBk_0, nI_add, nI_mul, hk_si, hp_si, hl_si, hk_sp, hk_sl, hk_cp, hp_cp, et, ex, e']
    have gz : nI ν.2.2 ≤ nI ν.2.2 := Int32.le_refl _
    simp only [e167_0, e167_1, e167_4, e167_5, e167_6, e167_7, e167_10, e167_11, e167_12, e167_13, e167_14, e167_17, e167_20, e167_21, e167_24, e167_27, e167_28, e167_31, e167_32, e167_33, e167_34, e167_37, e167_38, e167_39, e167_40, e167_43, e167_44, e167_45, e167_46, e167_49, e167_52, e167_55, e167_56, mk_458 hMy, mp_74 hMy, mk_464 hMy, mp_87 hMy, mk_466 hMy, ↓reduceIte, Nat.reduceAdd, Nat.reduceLeDiff, Nat.reduceLT, Nat.reduceEqDiff, not_false_eq_true, false_or, true_or, or_true, or_false, n0_e, n1_ne, n1_11, bI_z, bI_1, bI_fo, va_rf_some, aBk_1, aBk_0, nI_add, nI_mul, hk_si, hp_si, hl_si, hk_sp, hk_sl, hk_cp, hp_cp, hNy.2.1, gz]
end M15
