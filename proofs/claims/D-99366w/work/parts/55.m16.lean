set_option maxRecDepth 100000
/-! M: reading (5): known -/
def gueP (ν : aNs) (v : Int64) (k : Nat) : Bool := decide (ν.1 k = v) && decide (10 ≤ ν.2.1 k)
def gueN (ν : aNs) (v : Int64) : Option Nat := match fnd (gueP ν v) ν.2.2 0 with
  | some k => some (ν.2.1 k - 10)
  | none => none
def knX (τ : aTok) (ν : aNs) (σ : aPs) : aEr aPs := eB (mustX τ σ 1) (fun σ' => .inr (match gueN ν (tn_ τ σ.1) with
  | some _ => σ'
  | none => wrongX σ' 4 σ.1))
def opI (o : Option Nat) : Int32 := match o with
  | some k => nI k
  | none => -1
def knR (τ : aTok) (ν : aNs) (σ : aPs) : Int32 := match mustX τ σ 1 with
  | .inl _ => -1
  | .inr _ => opI (gueN ν (tn_ τ σ.1))
section M16
variable {d N : Nat} {h h' : aH} {τ : aTok} {σ : aPs} {ν : aNs}
theorem m_known (hR : MR h τ N σ) (hN : MN h ν) : ∃ h', (∀ d, (run (d + 3) 173 0 [.ref 458, aU, aU] [] h) = some (.returned (some (.int (knR τ ν σ))), h')) ∧ On FP h h' ∧ MO h' τ N (knX τ ν σ) := by
  have hM := hR.1
  have et := hR.2.2.2.2.1
  have ht := hR.2.2.2.1
  have h40 := hR.2.1.1
  obtain ⟨x, ex, ox, fx⟩ := m_must hR (k := 1) (by decide) (by decide) (by decide)
  have hNx := hN.on ox
  have hMx := fx.S
  unfold knX knR
  cases hx : mustX τ σ 1 with
  | inl e =>
    rw [hx] at fx
    refine ⟨x, fun d => ?_, ox, fx⟩
    have f3 : hi_ x 458 79 = nI e.1 := fx.2.2.2.2.1
    have fz : ¬ nI e.1 ≤ 0 := nI_nle fx.2.2.1 (by have := fx.2.2.2.1; omega)
    simp only [e173_0, e173_1, e173_4, e173_5, e173_6, e173_7, e173_10, e173_11, e173_14, e173_17, e173_18, e173_19, e173_20, e173_21, e173_22, e173_23, e173_26, e173_29, e173_30, e173_33, e173_34, e173_35, e173_36, e173_39, e173_40, e173_41, e173_42, e173_45, e173_46, e173_49, e173_50, e173_51, e173_53, e173_56, e173_57, e173_60, e173_61, e173_62, e173_64, e173_65, e173_66, e173_69, e173_72, e173_73, e173_74, e173_75, e173_78, e173_79, mk_458 hM, mp_74 hM, mk_464 hM, mp_87 hM, mk_466 hM, mp_88 hM, mk_467 hM, mk_458 hMx, mp_74 hMx, mk_464 hMx, mp_87 hMx, mk_466 hMx, mp_88 hMx, mk_467 hMx, ↓reduceIte, Nat.reduceAdd, Nat.reduceLeDiff, Nat.reduceLT, Nat.reduceEqDiff, not_false_eq_true, false_or, true_or, or_true, or_false, n0_e, n1_ne, n1_11, bI_z, bI_1, bI_fo, va_rf_some, aBk_1, aBk_0, nI_add, nI_mul, hk_si, hp_si, hl_si, hk_sp, hk_sl, hk_cp, hp_cp, et, ex, f3, fz]
  | inr σ' =>
    rw [hx] at fx
    have fx : MR x τ N σ' := fx
    have e4 := fx.2.2.2.2.2.2.1
    have n11 := hNx.1
    have g3 : σ.1 < 403 := by omega
    have k2 := (fx.2.2.1 σ.1 ht).2.2.2
    have hle : nI 0 ≤ 0 := by decide
    have key : ∀ d, (run (d + 3) 173 21 [.ref 458, .int (nI σ.1), .int (nI 0)] [] x) = _ := fun d => run_find (F := fun j => (run (d + 3) 173 21 [.ref 458, .int (nI σ.1), .int (nI j)] [] x)) (R := fun j => some (.returned (some (.int (nI (ν.2.1 j - 10)))), x)) (P := gueP ν (tn_ τ σ.1)) (n := ν.2.2) (fun j hj => by
      have g1 : ¬ nI ν.2.2 ≤ nI j := nI_ge hj (by omega)
      have g2 : j < 11 := by omega
      obtain ⟨k1, k3, k4⟩ := hNx.2.2 j hj
      refine (e173_21).trans ?_
      unfold gueP
      have g5 : (nI (ν.2.1 j) < nI 10) = (ν.2.1 j < 10) := nI_ltL (by omega) (by decide)
      by_cases q : ν.1 j = tn_ τ σ.1
      · have q' : (ν.1 j = tn_ τ σ.1) = True := eq_true q
        rw [decide_eq_true q]
        by_cases q2 : 10 ≤ ν.2.1 j
        · have q3 : ¬ ν.2.1 j < 10 := by omega
          rw [decide_eq_true q2]
          have e5 : nI (ν.2.1 j) - nI 10 = nI (ν.2.1 j - 10) := nI_sub q2
          simp only [e173_0, e173_1, e173_4, e173_5, e173_6, e173_7, e173_10, e173_11, e173_14, e173_17, e173_18, e173_19, e173_20, e173_22, e173_23, e173_26, e173_29, e173_30, e173_33, e173_34, e173_35, e173_36, e173_39, e173_40, e173_41, e173_42, e173_45, e173_46, e173_49, e173_50, e173_51, e173_53, e173_56, e173_57, e173_60, e173_61, e173_62, e173_64, e173_65, e173_66, e173_69, e173_72, e173_73, e173_74, e173_75, e173_78, e173_79, mk_458 hMx, mp_74 hMx, mk_464 hMx, mp_87 hMx, mk_466 hMx, mp_88 hMx, mk_467 hMx, ↓reduceIte, Nat.reduceAdd, Nat.reduceLeDiff, Nat.reduceLT, Nat.reduceEqDiff, not_false_eq_true, false_or, true_or, or_true, or_false, n0_e, n1_ne, n1_11, bI_z, bI_1, bI_fo, va_rf_some, aBk_1, aBk_0, nI_add, nI_mul, hk_si, hp_si, hl_si, hk_sp, hk_sl, hk_cp, hp_cp, hNx.2.1, g1, g2, g3, k1, k2, k3, lg_z, q', g5, q3, e5, Bool.true_and]
        · have q3 : ν.2.1 j < 10 := by omega
          rw [decide_eq_false q2]
          simp only [e173_0, e173_1, e173_4, e173_5, e173_6, e173_7, e173_10, e173_11, e173_14, e173_17, e173_18, e173_19, e173_20, e173_22, e173_23, e173_26, e173_29, e173_30, e173_33, e173_34, e173_35, e173_36, e173_39, e173_40, e173_41, e173_42, e173_45, e173_46, e173_49, e173_50, e173_51, e173_53, e173_56, e173_57, e173_60, e173_61, e173_62, e173_64, e173_65, e173_66, e173_69, e173_72, e173_73, e173_74, e173_75, e173_78, e173_79, mk_458 hMx, mp_74 hMx, mk_464 hMx, mp_87 hMx, mk_466 hMx, mp_88 hMx, mk_467 hMx, ↓reduceIte, Nat.reduceAdd, Nat.reduceLeDiff, Nat.reduceLT, Nat.reduceEqDiff, not_false_eq_true, false_or, true_or, or_true, or_false, n0_e, n1_ne, n1_11, bI_z, bI_1, bI_fo, va_rf_some, aBk_1, aBk_0, nI_add, nI_mul, hk_si, hp_si, hl_si, hk_sp, hk_sl, hk_cp, hp_cp, hNx.2.1, g1, g2, g3, k1, k2, k3, lg_z, q', g5, q3, Bool.true_and, reduceCtorEq]
      · rw [decide_eq_false q]
        simp only [e173_0, e173_1, e173_4, e173_5, e173_6, e173_7, e173_10, e173_11, e173_14, e173_17, e173_18, e173_19, e173_20, e173_22, e173_23, e173_26, e173_29, e173_30, e173_33, e173_34, e173_35, e173_36, e173_39, e173_40, e173_41, e173_42, e173_45, e173_46, e173_49, e173_50, e173_51, e173_53, e173_56, e173_57, e173_60, e173_61, e173_62, e173_64, e173_65, e173_66, e173_69, e173_72, e173_73, e173_74, e173_75, e173_78, e173_79, mk_458 hMx, mp_74 hMx, mk_464 hMx, mp_87 hMx, mk_466 hMx, mp_88 hMx, mk_467 hMx, ↓reduceIte, Nat.reduceAdd, Nat.reduceLeDiff, Nat.reduceLT, Nat.reduceEqDiff, not_false_eq_true, false_or, true_or, or_true, or_false, n0_e, n1_ne, n1_11, bI_z, bI_1, bI_fo, va_rf_some, aBk_1, aBk_0, nI_add, nI_mul, hk_si, hp_si, hl_si, hk_sp, hk_sl, hk_cp, hp_cp, hNx.2.1, g1, g2, g3, k1, k2, k3, lg_z, q, Bool.false_and, reduceCtorEq])
    unfold gueN
    cases hf : fnd (gueP ν (tn_ τ σ.1)) ν.2.2 0 with
    | some k =>
      refine ⟨x, fun d => ?_, ox, fx⟩
      have e' := key d
      rw [hf] at e'
      simp only [e173_0, e173_1, e173_4, e173_5, e173_6, e173_7, e173_10, e173_11, e173_14, e173_17, e173_18, e173_19, e173_20, e173_22, e173_23, e173_26, e173_29, e173_30, e173_33, e173_34, e173_35, e173_36, e173_39, e173_40, e173_41, e173_42, e173_45, e173_46, e173_49, e173_50, e173_51, e173_53, e173_56, e173_57, e173_60, e173_61, e173_62, e173_64, e173_65, e173_66, e173_69, e173_72, e173_73, e173_74, e173_75, e173_78, e173_79, mk_458 hM, mp_74 hM, mk_464 hM, mp_87 hM, mk_466 hM, mp_88 hM, mk_467 hM, mk_458 hMx, mp_74 hMx, mk_464 hMx, mp_87 hMx, mk_466 hMx, mp_88 hMx, mk_467 hMx, ↓reduceIte, Nat.reduceAdd, Nat.reduceLeDiff, Nat.reduceLT, Nat.reduceEqDiff, not_false_eq_true, false_or, true_or, or_true, or_false, n0_e, n1_ne, n1_11, bI_z, bI_1, bI_fo, va_rf_some, aBk_1, aBk_0, nI_add, nI_mul, hk_si, hp_si, hl_si, hk_sp, hk_sl, hk_cp, hp_cp, et, ex, e4, hle, e']
      rfl
    | none =>
      obtain ⟨z, ez, oz, rz⟩ := m_wrong fx (c := 4) (j := σ.1) (by decide) ht
      refine ⟨z, fun d => ?_, ox.trans oz, rz⟩
      have e' := key d
      rw [hf] at e'
      have gz : nI ν.2.2 ≤ nI ν.2.2 := Int32.le_refl _
      simp only [e173_0, e173_1, e173_4, e173_5, e173_6, e173_7, e173_10, e173_11, e173_14, e173_17, e173_18, e173_19, e173_20, e173_22, e173_23, e173_26, e173_29, e173_30, e173_33, e173_34, e173_35, e173_36, e173_39, e173_40, e173_41, e173_42, e173_45, e173_46, e173_49, e173_50, e173_51, e173_53, e173_56, e173_57, e173_60, e173_61, e173_62, e173_64, e173_65, e173_66, e173_69, e173_72, e173_73, e173_74, e173_75, e173_78, e173_79, mk_458 hM, mp_74 hM, mk_464 hM, mp_87 hM, mk_466 hM, mp_88 hM, mk_467 hM, mk_458 hMx, mp_74 hMx, mk_464 hMx, mp_87 hMx, mk_466 hMx, mp_88 hMx, mk_467 hMx, ↓reduceIte, Nat.reduceAdd, Nat.reduceLeDiff, Nat.reduceLT, Nat.reduceEqDiff, not_false_eq_true, false_or, true_or, or_true, or_false, n0_e, n1_ne, n1_11, bI_z, bI_1, bI_fo, va_rf_some, aBk_1, aBk_0, nI_add, nI_mul, hk_si, hp_si, hl_si, hk_sp, hk_sl, hk_cp, hp_cp, et, ex, e4, hle, e']
      simp only [e173_0, e173_1, e173_4, e173_5, e173_6, e173_7, e173_10, e173_11, e173_14, e173_17, e173_18, e173_19, e173_20, e173_21, e173_22, e173_23, e173_26, e173_29, e173_30, e173_33, e173_34, e173_35, e173_36, e173_39, e173_40, e173_41, e173_42, e173_45, e173_46, e173_49, e173_50, e173_51, e173_53, e173_56, e173_57, e173_60, e173_61, e173_62, e173_64, e173_65, e173_66, e173_69, e173_72, e173_73, e173_74, e173_75, e173_78, e173_79, mk_458 hMx, mp_74 hMx, mk_464 hMx, mp_87 hMx, mk_466 hMx, mp_88 hMx, mk_467 hMx, ↓reduceIte, Nat.reduceAdd, Nat.reduceLeDiff, Nat.reduceLT, Nat.reduceEqDiff, not_false_eq_true, false_or, true_or, or_true, or_false, n0_e, n1_ne, n1_11, bI_z, bI_1, bI_fo, va_rf_some, aBk_1, aBk_0, nI_add, nI_mul, hk_si, hp_si, hl_si, hk_sp, hk_sl, hk_cp, hp_cp, hNx.2.1, gz, ez]
      rfl
end M16
