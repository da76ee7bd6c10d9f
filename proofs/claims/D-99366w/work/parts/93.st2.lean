set_option maxRecDepth 100000
/-! STRINGS (2): compared; a token's name -/
def eqW (w : Nat → Nat) (m : Nat) (w' : Nat → Nat) (m' : Nat) : Bool := decide (m = m') && (fnd (fun i => decide (w i ≠ w' i)) m 0).isNone
section ST2
variable {d : Nat} {h h' : aH} {w w' : Nat → Nat} {m m' a b : Nat} {c s : Nat} {S P : Nat → Nat → Prop}
theorem eqW_iff : eqW w m w' m' = true ↔ m = m' ∧ ∀ i, i < m → w i = w' i := by
  unfold eqW
  rw [Bool.and_eq_true, decide_eq_true_iff]
  refine and_congr_right (fun _ => ?_)
  cases hf : fnd (fun i => decide (w i ≠ w' i)) m 0 with
  | none =>
    have := fnd_none _ _ hf
    refine ⟨fun _ i hi => ?_, fun _ => rfl⟩
    have := of_decide_eq_false (this i (Nat.zero_le _) (by omega))
    exact Decidable.not_not.mp this
  | some k =>
    obtain ⟨-, h1, h2, -⟩ := fnd_some _ _ _ hf
    refine ⟨fun z => (by cases z), fun z => absurd (z k (by omega)) (of_decide_eq_true h2)⟩
theorem StR.oa (hA : StR h a w m) (hF : FZ h) (o : OA c s S P h h') (hS : ∀ x f, S x f → x < 504 ∨ ((hk_ h x).1 ≠ 11 ∧ (hk_ h x).1 ≠ 101)) (hP : ∀ x f, P x f → x < 504 ∨ (hk_ h x).1 ≠ 11) : StR h' a w m := by
  obtain ⟨h1, h2, h3, h4, v, h5, h6, h7, h8⟩ := hA
  have al := hF.lt h2 (by decide)
  have vl := hF.lt h7 (by decide)
  refine ⟨h1, (o.k al).trans h2, (o.i al (fun q => ?_)).trans h3, h4, v, h5, (o.p al (fun q => ?_)).trans h6, (o.k vl).trans h7, fun i hi => ⟨(o.i vl (fun q => ?_)).trans (h8 i hi).1, (h8 i hi).2⟩⟩
  · rcases hS _ _ q with z | z
    · omega
    · exact z.1 (by rw [h2])
  · rcases hP _ _ q with z | z
    · omega
    · exact z (by rw [h2])
  · rcases hS _ _ q with z | z
    · omega
    · exact z.2 (by rw [h7])
theorem st_equals (hA : StR h a w m) (hB : StR h b w' m') : (run (d + 1) 283 0 [.ref a, .ref b, aU] [] h) = some (.returned (some (.int (bI (eqW w m w' m')))), h) := by
  obtain ⟨h1, h2, h3, h4, v, h5, h6, h7, h8⟩ := hA
  obtain ⟨g1, g2, g3, g4, u, g5, g6, g7, g8⟩ := hB
  by_cases q : a = b
  · have e : eqW w m w' m' = true := by
      subst q
      rw [h6] at g6
      cases g6
      rw [h7] at g7
      have em : m = m' := congrArg Prod.snd g7
      refine eqW_iff.mpr ⟨em, fun i hi => ?_⟩
      have e1 := (h8 i hi).1
      have e2 := (g8 i (by omega)).1
      rw [e1] at e2
      have := (h8 i hi).2
      have := (g8 i (by omega)).2
      exact (nI_eq (by omega) (by omega)).mp e2
    rw [e]
    subst q
    simp only [e283_0, e283_1, e283_2s, e283_2d, e283_5, e283_6, e283_7, e283_8, e283_11, e283_14, e283_15, e283_18, e283_19, e283_22, e283_25, e283_26, e283_29, e283_30, e283_33, e283_36, e283_37, e283_40, e283_41, e283_44, e283_47, e283_50, e283_51, e283_54, e283_55, List.mem_cons, List.not_mem_nil, ↓reduceIte, Nat.reduceAdd, Nat.reduceLeDiff, Nat.reduceLT, Nat.reduceEqDiff, not_false_eq_true, false_or, true_or, or_true, or_false, n0_e, n1_ne, n1_11, bI_z, bI_1, bI_fo, va_rf_some, aBk_1, aBk_0, nI_add, nI_mul, hk_si, hp_si, hl_si, hk_sp, hk_sl, hk_cp, hp_cp]
    rfl
  · have n101 : (100 : Nat) ≤ 101 := by decide
    have mb : m ≤ 2147483647 := by omega
    have mb' : m' ≤ 2147483647 := by omega
    have a6 : 64 ≤ a := by omega
    have em : (nI m = nI m') = (m = m') := nI_eqL (by omega) (by omega)
    have el : ∀ d, (run (d) 287 0 [.ref v, .ref u, aU] [] h) = some (.returned (some (.int (bI (eqW w m w' m')))), h) := fun d => by
      unfold eqW
      by_cases qm : m = m'
      · have em' : (nI m = nI m') = True := by rw [em]; exact eq_true qm
        have key : (run (d) 287 9 [.ref v, .ref u, .int (nI 0)] [] h) = _ := run_find (F := fun j => (run (d) 287 9 [.ref v, .ref u, .int (nI j)] [] h)) (R := fun j => some (.returned (some (.int (nI 0))), h)) (P := fun i => decide (w i ≠ w' i)) (n := m) (fun j hj => by
          have k1 : ¬ nI m ≤ nI j := nI_ge hj (by omega)
          have k2 : j < m' := by omega
          have e1 := (h8 j hj).1
          have e2 := (g8 j k2).1
          have c1 := (h8 j hj).2
          have c2 := (g8 j k2).2
          have e3 : (nI (w j) = nI (w' j)) = (w j = w' j) := nI_eqL (by omega) (by omega)
          refine (e287_9).trans ?_
          by_cases z : w j = w' j
          · have e3' : (nI (w j) = nI (w' j)) = True := by rw [e3]; exact eq_true z
            have z2 : decide (w j ≠ w' j) = false := decide_eq_false (fun y => y z)
            simp only [e287_0, e287_1, e287_2, e287_3, e287_4, e287_7, e287_8, e287_10, e287_11, e287_12, e287_15, e287_16, e287_17, e287_18, e287_19, e287_20, e287_21, e287_24, e287_25, e287_26, e287_29, e287_32, e287_33, e287_34, e287_35, ↓reduceIte, Nat.reduceAdd, Nat.reduceLeDiff, Nat.reduceLT, Nat.reduceEqDiff, not_false_eq_true, false_or, true_or, or_true, or_false, n0_e, n1_ne, n1_11, bI_z, bI_1, bI_fo, va_rf_some, aBk_1, aBk_0, nI_add, nI_mul, hk_si, hp_si, hl_si, hk_sp, hk_sl, hk_cp, hp_cp, h7, g7, n101, mb, mb', k1, hj, k2, e1, e2, e3', z2, reduceCtorEq]
          · have z2 : decide (w j ≠ w' j) = true := decide_eq_true z
            simp only [e287_0, e287_1, e287_2, e287_3, e287_4, e287_7, e287_8, e287_10, e287_11, e287_12, e287_15, e287_16, e287_17, e287_18, e287_19, e287_20, e287_21, e287_24, e287_25, e287_26, e287_29, e287_32, e287_33, e287_34, e287_35, ↓reduceIte, Nat.reduceAdd, Nat.reduceLeDiff, Nat.reduceLT, Nat.reduceEqDiff, not_false_eq_true, false_or, true_or, or_true, or_false, n0_e, n1_ne, n1_11, bI_z, bI_1, bI_fo, va_rf_some, aBk_1, aBk_0, nI_add, nI_mul, hk_si, hp_si, hl_si, hk_sp, hk_sl, hk_cp, hp_cp, h7, g7, n101, mb, mb', k1, hj, k2, e1, e2, e3, z, z2])
        rw [decide_eq_true qm, Bool.true_and]
        simp only [e287_0, e287_1, e287_2, e287_3, e287_4, e287_7, e287_8, e287_10, e287_11, e287_12, e287_15, e287_16, e287_17, e287_18, e287_19, e287_20, e287_21, e287_24, e287_25, e287_26, e287_29, e287_32, e287_33, e287_34, e287_35, ↓reduceIte, Nat.reduceAdd, Nat.reduceLeDiff, Nat.reduceLT, Nat.reduceEqDiff, not_false_eq_true, false_or, true_or, or_true, or_false, n0_e, n1_ne, n1_11, bI_z, bI_1, bI_fo, va_rf_some, aBk_1, aBk_0, nI_add, nI_mul, hk_si, hp_si, hl_si, hk_sp, hk_sl, hk_cp, hp_cp, h7, g7, n101, mb, mb', em']
        refine key.trans ?_
        cases fnd (fun i => decide (w i ≠ w' i)) m 0 with
        | some k => rfl
        | none =>
          dsimp only
          have k1 : nI m ≤ nI m := Int32.le_refl _
          refine (e287_9).trans ?_
          simp only [e287_0, e287_1, e287_2, e287_3, e287_4, e287_7, e287_8, e287_10, e287_11, e287_12, e287_15, e287_16, e287_17, e287_18, e287_19, e287_20, e287_21, e287_24, e287_25, e287_26, e287_29, e287_32, e287_33, e287_34, e287_35, ↓reduceIte, Nat.reduceAdd, Nat.reduceLeDiff, Nat.reduceLT, Nat.reduceEqDiff, not_false_eq_true, false_or, true_or, or_true, or_false, n0_e, n1_ne, n1_11, bI_z, bI_1, bI_fo, va_rf_some, aBk_1, aBk_0, nI_add, nI_mul, hk_si, hp_si, hl_si, hk_sp, hk_sl, hk_cp, hp_cp, h7, n101, mb, k1]
          rfl
      · rw [decide_eq_false qm, Bool.false_and]
        simp only [e287_0, e287_1, e287_2, e287_3, e287_4, e287_7, e287_8, e287_10, e287_11, e287_12, e287_15, e287_16, e287_17, e287_18, e287_19, e287_20, e287_21, e287_24, e287_25, e287_26, e287_29, e287_32, e287_33, e287_34, e287_35, ↓reduceIte, Nat.reduceAdd, Nat.reduceLeDiff, Nat.reduceLT, Nat.reduceEqDiff, not_false_eq_true, false_or, true_or, or_true, or_false, n0_e, n1_ne, n1_11, bI_z, bI_1, bI_fo, va_rf_some, aBk_1, aBk_0, nI_add, nI_mul, hk_si, hp_si, hl_si, hk_sp, hk_sl, hk_cp, hp_cp, h7, g7, n101, mb, mb', em, qm]
        rfl
    cases he : eqW w m w' m' with
    | true =>
      rw [he] at el
      simp only [e283_0, e283_1, e283_2s, e283_2d, e283_5, e283_6, e283_7, e283_8, e283_11, e283_14, e283_15, e283_18, e283_19, e283_22, e283_25, e283_26, e283_29, e283_30, e283_33, e283_36, e283_37, e283_40, e283_41, e283_44, e283_47, e283_50, e283_51, e283_54, e283_55, List.mem_cons, List.not_mem_nil, ↓reduceIte, Nat.reduceAdd, Nat.reduceLeDiff, Nat.reduceLT, Nat.reduceEqDiff, not_false_eq_true, false_or, true_or, or_true, or_false, n0_e, n1_ne, n1_11, bI_z, bI_1, bI_fo, aBk_1, aBk_0, nI_add, nI_mul, hk_si, hp_si, hl_si, hk_sp, hk_sl, hk_cp, hp_cp, q, a6, g2, h2, g3, h3, h6, g6, el, va_rf_some, reduceCtorEq]
      rfl
    | false =>
      rw [he] at el
      simp only [e283_0, e283_1, e283_2s, e283_2d, e283_5, e283_6, e283_7, e283_8, e283_11, e283_14, e283_15, e283_18, e283_19, e283_22, e283_25, e283_26, e283_29, e283_30, e283_33, e283_36, e283_37, e283_40, e283_41, e283_44, e283_47, e283_50, e283_51, e283_54, e283_55, List.mem_cons, List.not_mem_nil, ↓reduceIte, Nat.reduceAdd, Nat.reduceLeDiff, Nat.reduceLT, Nat.reduceEqDiff, not_false_eq_true, false_or, true_or, or_true, or_false, n0_e, n1_ne, n1_11, bI_z, bI_1, bI_fo, aBk_1, aBk_0, nI_add, nI_mul, hk_si, hp_si, hl_si, hk_sp, hk_sl, hk_cp, hp_cp, q, a6, g2, h2, g3, h3, h6, g6, el, va_rf_some]
      rfl
end ST2
