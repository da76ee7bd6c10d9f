set_option maxRecDepth 100000
/-! X: reading (13): numbers, names -/
/-- X's names are those told -/
def NRx (ν : aNs) (T : aTx) (vs vg : Nat → Int64) : Prop := ∀ v, hasN ν v ν.2.2 = ((fnd (fun i => decide (vs i = v)) (ns_ T) 0).isSome || (fnd (fun i => decide (vg i = v)) (ng_ T) 0).isSome) ∧ gueN ν v = fnd (fun i => decide (vg i = v)) (ng_ T) 0
section XT97
variable {d n N : Nat} {h h' : aH} {β : Nat → Nat} {σ : aPs} {T : aTx} {ν : aNs} {nf tx sa ga la es eg : Nat} {qs qg : Nat → Nat} {vs vg : Nat → Int64}
theorem go_wrong {τ : aTok} {c j : Nat} : goX τ (wrongX σ c j) = eB (goX τ σ) (fun s => .inr (wrongX s c j)) := by
  unfold goX
  rw [wrong_t]
  by_cases q : σ.1 = 400
  · rw [if_pos q, if_pos q]
    show failX τ (wrongX σ c j) 2 = failX τ σ 2
    unfold failX; rw [wrong_t]
  · rw [if_neg q, if_neg q]
    show Sum.inr (_, (wrongX σ c j).2) = Sum.inr (wrongX (σ.1 + 1, σ.2) c j)
    congr 1
    unfold wrongX
    split
    · rfl
    · rfl
theorem p_number (hV : BV β n) (hE : EXr h β n N σ) {lo hi : Nat} (hlo : lo ≤ 9999) (hhi : hi ≤ 9999) : ∃ o h', (∀ d, (run (d + 5) 102 0 [.ref 73, .int (nI lo), .int (nI hi), aU, aU] [] h) = some (o, h')) ∧ On XPF h h' ∧ XO h' (tz β n) N (bndX (tz β n) σ lo hi) (some (.int (nI (tv_ (tz β n) σ.1)))) o := by
  obtain ⟨hR, hW, hF⟩ := id hE
  have hX := hR.1
  have h40 := hR.2.1.1
  have hj := hR.2.2.2.1
  obtain ⟨o, h1, e1, o1, f1⟩ := p_take hR (k := 2) (Or.inr rfl)
  have s2 : srt 2 = 1 := rfl
  rw [s2] at e1
  unfold bndX
  by_cases q : tk_ (tz β n) σ.1 = 2
  · rw [if_pos q]
    have em : mustX (tz β n) σ 2 = goX (tz β n) σ := if_pos q
    rw [em] at f1
    have tb := tvz_b hV (pz β σ.1)
    have tv : tv_ (tz β n) σ.1 = tvz β (pz β σ.1) := rfl
    have el : (nI (tvz β (pz β σ.1)) < nI lo) = (tvz β (pz β σ.1) < lo) := nI_ltL (by omega) (by omega)
    have eh : (nI (tvz β (pz β σ.1)) ≤ nI hi) = (tvz β (pz β σ.1) ≤ hi) := nI_leL (by omega) (by omega)
    have eg : (if tv_ (tz β n) σ.1 < lo ∨ hi < tv_ (tz β n) σ.1 then wrongX σ 5 σ.1 else σ) = (if tvz β (pz β σ.1) < lo ∨ hi < tvz β (pz β σ.1) then wrongX σ 5 σ.1 else σ) := rfl
    rw [eg]
    cases hg : goX (tz β n) σ with
    | inl e =>
      rw [hg] at f1
      obtain ⟨f0, f1⟩ := f1
      rw [f0] at e1
      have er : goX (tz β n) (if tvz β (pz β σ.1) < lo ∨ hi < tvz β (pz β σ.1) then wrongX σ 5 σ.1 else σ) = .inl e := by
        split
        · rw [go_wrong, hg]; rfl
        · exact hg
      rw [er]
      refine ⟨_, h1, fun d => ?_, o1, rfl, f1⟩
      simp only [e102_0, e102_1, e102_2, e102_5, e102_6, e102_7, e102_10, e102_11, e102_14, e102_16, e102_18, e102_19, e102_22, e102_24, e102_25, e102_28, e102_29, e102_30, e102_31, e102_34, e102_36, xk_64 hX, xk_73 hX, xk_66 hX, xk_65 hX, xp_37 hX, ↓reduceIte, Nat.reduceAdd, Nat.reduceLeDiff, Nat.reduceLT, Nat.reduceEqDiff, not_false_eq_true, false_or, true_or, or_true, or_false, n0_e, n1_ne, n1_11, bI_z, bI_1, bI_fo, va_rf_some, aBk_1, aBk_0, nI_add, nI_mul, hk_si, hp_si, hl_si, hk_sp, hk_sl, hk_cp, hp_cp, e1, bx_84, bx_85, bx_86, bx_87, bx_88, bx_89, bx_90, bx_91, bx_92, bx_93, bx_94, bx_95, bx_96, bx_97, bx_98, bx_99, bx_100, bx_101, bx_102, bx_103, bx_104]
    | inr s =>
      rw [hg] at f1
      obtain ⟨f0, R1⟩ := f1
      rw [f0] at e1
      have E1 := hE.px o1 R1
      have hX1 := R1.1
      have nm := fun d => k_number (d := d) hX1 hV E1.2.1 R1.2.2.1 (j := σ.1) hj h40 q
      by_cases q2 : tvz β (pz β σ.1) < lo ∨ hi < tvz β (pz β σ.1)
      · rw [if_pos q2, go_wrong, hg]
        obtain ⟨h2, e2, o2, R2⟩ := p_tell R1 (c := 5) (j := σ.1) (by decide) hj
        refine ⟨_, h2, fun d => ?_, o1.trans o2, rfl, R2⟩
        rw [tv]
        by_cases q3 : tvz β (pz β σ.1) < lo
        · simp only [e102_0, e102_1, e102_2, e102_5, e102_6, e102_7, e102_10, e102_11, e102_14, e102_16, e102_18, e102_19, e102_22, e102_24, e102_25, e102_28, e102_29, e102_30, e102_31, e102_34, e102_36, xk_64 hX, xk_73 hX, xk_66 hX, xk_65 hX, xp_37 hX, xk_64 hX1, xk_73 hX1, xk_66 hX1, xk_65 hX1, xp_37 hX1, ↓reduceIte, Nat.reduceAdd, Nat.reduceLeDiff, Nat.reduceLT, Nat.reduceEqDiff, not_false_eq_true, false_or, true_or, or_true, or_false, n0_e, n1_ne, n1_11, bI_z, bI_1, bI_fo, va_rf_some, aBk_1, aBk_0, nI_add, nI_mul, hk_si, hp_si, hl_si, hk_sp, hk_sl, hk_cp, hp_cp, e1, nm, el, q3, e2]
        · have q4 : ¬ tvz β (pz β σ.1) ≤ hi := by omega
          simp only [e102_0, e102_1, e102_2, e102_5, e102_6, e102_7, e102_10, e102_11, e102_14, e102_16, e102_18, e102_19, e102_22, e102_24, e102_25, e102_28, e102_29, e102_30, e102_31, e102_34, e102_36, xk_64 hX, xk_73 hX, xk_66 hX, xk_65 hX, xp_37 hX, xk_64 hX1, xk_73 hX1, xk_66 hX1, xk_65 hX1, xp_37 hX1, ↓reduceIte, Nat.reduceAdd, Nat.reduceLeDiff, Nat.reduceLT, Nat.reduceEqDiff, not_false_eq_true, false_or, true_or, or_true, or_false, n0_e, n1_ne, n1_11, bI_z, bI_1, bI_fo, va_rf_some, aBk_1, aBk_0, nI_add, nI_mul, hk_si, hp_si, hl_si, hk_sp, hk_sl, hk_cp, hp_cp, e1, nm, el, q3, eh, q4, e2]
      · rw [if_neg q2, hg]
        have q3 : ¬ tvz β (pz β σ.1) < lo := by omega
        have q4 : tvz β (pz β σ.1) ≤ hi := by omega
        refine ⟨_, h1, fun d => ?_, o1, rfl, R1⟩
        rw [tv]
        simp only [e102_0, e102_1, e102_2, e102_5, e102_6, e102_7, e102_10, e102_11, e102_14, e102_16, e102_18, e102_19, e102_22, e102_24, e102_25, e102_28, e102_29, e102_30, e102_31, e102_34, e102_36, xk_64 hX, xk_73 hX, xk_66 hX, xk_65 hX, xp_37 hX, xk_64 hX1, xk_73 hX1, xk_66 hX1, xk_65 hX1, xp_37 hX1, ↓reduceIte, Nat.reduceAdd, Nat.reduceLeDiff, Nat.reduceLT, Nat.reduceEqDiff, not_false_eq_true, false_or, true_or, or_true, or_false, n0_e, n1_ne, n1_11, bI_z, bI_1, bI_fo, va_rf_some, aBk_1, aBk_0, nI_add, nI_mul, hk_si, hp_si, hl_si, hk_sp, hk_sl, hk_cp, hp_cp, e1, nm, el, q3, eh, q4]
  · rw [if_neg q]
    have em : mustX (tz β n) σ 2 = failX (tz β n) σ 1 := if_neg q
    rw [em] at f1
    obtain ⟨f0, f1⟩ := f1
    rw [f0] at e1
    refine ⟨_, h1, fun d => ?_, o1, rfl, f1⟩
    simp only [e102_0, e102_1, e102_2, e102_5, e102_6, e102_7, e102_10, e102_11, e102_14, e102_16, e102_18, e102_19, e102_22, e102_24, e102_25, e102_28, e102_29, e102_30, e102_31, e102_34, e102_36, xk_64 hX, xk_73 hX, xk_66 hX, xk_65 hX, xp_37 hX, ↓reduceIte, Nat.reduceAdd, Nat.reduceLeDiff, Nat.reduceLT, Nat.reduceEqDiff, not_false_eq_true, false_or, true_or, or_true, or_false, n0_e, n1_ne, n1_11, bI_z, bI_1, bI_fo, va_rf_some, aBk_1, aBk_0, nI_add, nI_mul, hk_si, hp_si, hl_si, hk_sp, hk_sl, hk_cp, hp_cp, e1, bx_84, bx_85, bx_86, bx_87, bx_88, bx_89, bx_90, bx_91, bx_92, bx_93, bx_94, bx_95, bx_96, bx_97, bx_98, bx_99, bx_100, bx_101, bx_102, bx_103, bx_104]
/-- a new name is read -/
theorem p_name (hV : BV β n) (hE : EXr h β n N σ) (ht : hp_ h 73 39 = some tx) (hT : XTq h T nf tx sa ga la es eg qs qg vs vg) (hN : NRx ν T vs vg) : match namX (tz β n) ν σ with
    | .inl e => ∃ h', (∀ d, (run (d + 9) 99 0 [.ref 73, aU, aU] [] h) = some (.threw 65, h')) ∧ OA 4 32 XPF NPx h h' ∧ FZ h' ∧ XF h' e.1 e.2
    | .inr s => ∃ h' a, (∀ d, (run (d + 9) 99 0 [.ref 73, aU, aU] [] h) = some (.returned (some (.ref a)), h')) ∧ OA 4 32 XPF NPx h h' ∧ EXr h' β n N s ∧ NmR h' a (tn_ (tz β n) σ.1) := by
  obtain ⟨hR, hW, hF⟩ := id hE
  have hX := hR.1
  have hj := hR.2.2.2.1
  have z5 := hF.1
  obtain ⟨o, h1, e1, o1, f1⟩ := p_take hR (k := 1) (Or.inl rfl)
  have s1 : srt 1 = 0 := rfl
  rw [s1] at e1
  unfold namX
  cases hm : mustX (tz β n) σ 1 with
  | inl e =>
    rw [hm] at f1
    obtain ⟨f0, f1⟩ := f1
    rw [f0] at e1
    refine ⟨h1, fun d => ?_, o1.OA.le (by decide) (by decide), hF.px o1, f1⟩
    simp only [e99_0, e99_1, e99_2, e99_5, e99_6, e99_7, e99_10, e99_11, e99_14, e99_15, e99_16, e99_19, e99_20, e99_23, e99_26, e99_27, e99_28, e99_29, e99_32, e99_33, xk_64 hX, xk_73 hX, xk_66 hX, xk_65 hX, xp_37 hX, ↓reduceIte, Nat.reduceAdd, Nat.reduceLeDiff, Nat.reduceLT, Nat.reduceEqDiff, not_false_eq_true, false_or, true_or, or_true, or_false, n0_e, n1_ne, n1_11, bI_z, bI_1, bI_fo, va_rf_some, aBk_1, aBk_0, nI_add, nI_mul, hk_si, hp_si, hl_si, hk_sp, hk_sl, hk_cp, hp_cp, e1, bx_84, bx_85, bx_86, bx_87, bx_88, bx_89, bx_90, bx_91, bx_92, bx_93, bx_94, bx_95, bx_96, bx_97, bx_98, bx_99, bx_100, bx_101, bx_102, bx_103, bx_104]
  | inr s =>
    rw [hm] at f1
    obtain ⟨f0, R1⟩ := f1
    rw [f0] at e1
    have E1 := hE.px o1 R1
    have k1 := (must_inr hm).1
    obtain ⟨h2, a, e2, o2, F2, N2⟩ := k_text hV E1 hj k1
    have E2 := E1.oan o2 F2 (fun _ _ q => q.elim) (fun _ _ q => q.elim)
    have o12 : OA (0 + 4) (0 + 32) XPF NPx h h2 := o1.OA.trans (o2.mono (Nat.le_refl _) (Nat.le_refl _) (fun _ _ q => q.elim) (fun _ _ q => q))
    have T2 := hT.px hF o12
    have t2 : hp_ h2 73 39 = some tx := (o12.p (by omega) (fun q => q)).trans ht
    have hs := fun d => t_has (d := d) T2 N2
    rw [← (hN (tn_ (tz β n) σ.1)).1] at hs
    have hX1 := R1.1
    have hX2 := E2.1.1
    have kt := T2.1.2.1
    cases hh : hasN ν (tn_ (tz β n) σ.1) ν.2.2 with
    | true =>
      rw [hh] at hs
      obtain ⟨h3, e3, o3, R3⟩ := p_tell E2.1 (c := 3) (j := σ.1) (by decide) hj
      refine ⟨h3, a, fun d => ?_, (o12.trans o3.OA).le (by omega) (by omega), E2.px o3 R3, N2.oa F2 (o3.OA (P := NPx)) (fun x f q => Or.inl (by unfold XPF at q; omega)) (fun _ _ q => q.elim)⟩
      simp only [e99_0, e99_1, e99_2, e99_5, e99_6, e99_7, e99_10, e99_11, e99_14, e99_15, e99_16, e99_19, e99_20, e99_23, e99_26, e99_27, e99_28, e99_29, e99_32, e99_33, xk_64 hX, xk_73 hX, xk_66 hX, xk_65 hX, xp_37 hX, xk_64 hX1, xk_73 hX1, xk_66 hX1, xk_65 hX1, xp_37 hX1, xk_64 hX2, xk_73 hX2, xk_66 hX2, xk_65 hX2, xp_37 hX2, ↓reduceIte, Nat.reduceAdd, Nat.reduceLeDiff, Nat.reduceLT, Nat.reduceEqDiff, not_false_eq_true, false_or, true_or, or_true, or_false, n0_e, n1_ne, n1_11, bI_z, bI_1, bI_fo, aBk_1, aBk_0, nI_add, nI_mul, hk_si, hp_si, hl_si, hk_sp, hk_sl, hk_cp, hp_cp, e1, e2, t2, kt, hs, e3, va_rf_some, reduceCtorEq]
    | false =>
      rw [hh] at hs
      refine ⟨h2, a, fun d => ?_, o12.le (by omega) (by omega), E2, N2⟩
      simp only [e99_0, e99_1, e99_2, e99_5, e99_6, e99_7, e99_10, e99_11, e99_14, e99_15, e99_16, e99_19, e99_20, e99_23, e99_26, e99_27, e99_28, e99_29, e99_32, e99_33, xk_64 hX, xk_73 hX, xk_66 hX, xk_65 hX, xp_37 hX, xk_64 hX1, xk_73 hX1, xk_66 hX1, xk_65 hX1, xp_37 hX1, xk_64 hX2, xk_73 hX2, xk_66 hX2, xk_65 hX2, xp_37 hX2, ↓reduceIte, Nat.reduceAdd, Nat.reduceLeDiff, Nat.reduceLT, Nat.reduceEqDiff, not_false_eq_true, false_or, true_or, or_true, or_false, n0_e, n1_ne, n1_11, bI_z, bI_1, bI_fo, aBk_1, aBk_0, nI_add, nI_mul, hk_si, hp_si, hl_si, hk_sp, hk_sl, hk_cp, hp_cp, e1, e2, t2, kt, hs, va_rf_some]
/-- a guest's name is read -/
theorem p_known (hV : BV β n) (hE : EXr h β n N σ) (hT : XTq h T nf tx sa ga la es eg qs qg vs vg) (hN : NRx ν T vs vg) : match knX (tz β n) ν σ with
    | .inl e => ∃ h', (∀ d, (run (d + 9) 104 0 [.ref 73, .ref ga, aU, aU] [] h) = some (.threw 65, h')) ∧ OA 4 32 XPF NPx h h' ∧ FZ h' ∧ XF h' e.1 e.2
    | .inr s => ∃ h', (∀ d, (run (d + 9) 104 0 [.ref 73, .ref ga, aU, aU] [] h) = some (.returned (some (.int (opI (gueN ν (tn_ (tz β n) σ.1))))), h')) ∧ OA 4 32 XPF NPx h h' ∧ EXr h' β n N s := by
  obtain ⟨hR, hW, hF⟩ := id hE
  have hX := hR.1
  have hj := hR.2.2.2.1
  have z5 := hF.1
  obtain ⟨o, h1, e1, o1, f1⟩ := p_take hR (k := 1) (Or.inl rfl)
  have s1 : srt 1 = 0 := rfl
  rw [s1] at e1
  unfold knX
  cases hm : mustX (tz β n) σ 1 with
  | inl e =>
    rw [hm] at f1
    obtain ⟨f0, f1⟩ := f1
    rw [f0] at e1
    refine ⟨h1, fun d => ?_, o1.OA.le (by decide) (by decide), hF.px o1, f1⟩
    simp only [e104_0, e104_1, e104_2, e104_5, e104_6, e104_7, e104_8, e104_11, e104_12, e104_15, e104_18, e104_19, e104_20, e104_23, e104_24, e104_25, e104_26, e104_29, e104_30, xk_64 hX, xk_73 hX, xk_66 hX, xk_65 hX, xp_37 hX, ↓reduceIte, Nat.reduceAdd, Nat.reduceLeDiff, Nat.reduceLT, Nat.reduceEqDiff, not_false_eq_true, false_or, true_or, or_true, or_false, n0_e, n1_ne, n1_11, bI_z, bI_1, bI_fo, va_rf_some, aBk_1, aBk_0, nI_add, nI_mul, hk_si, hp_si, hl_si, hk_sp, hk_sl, hk_cp, hp_cp, e1, bx_84, bx_85, bx_86, bx_87, bx_88, bx_89, bx_90, bx_91, bx_92, bx_93, bx_94, bx_95, bx_96, bx_97, bx_98, bx_99, bx_100, bx_101, bx_102, bx_103, bx_104]
  | inr s =>
    rw [hm] at f1
    obtain ⟨f0, R1⟩ := f1
    rw [f0] at e1
    have E1 := hE.px o1 R1
    have k1 := (must_inr hm).1
    obtain ⟨h2, a, e2, o2, F2, N2⟩ := k_text hV E1 hj k1
    have E2 := E1.oan o2 F2 (fun _ _ q => q.elim) (fun _ _ q => q.elim)
    have o12 : OA (0 + 4) (0 + 32) XPF NPx h h2 := o1.OA.trans (o2.mono (Nat.le_refl _) (Nat.le_refl _) (fun _ _ q => q.elim) (fun _ _ q => q))
    have T2 := hT.px hF o12
    have n2 : ng_ T ≤ 10 := T2.2.1.2.1.2.2.2.1
    have at' := fun d => t_at (d := d) T2.2.1.2.1.A (Or.inr rfl) (fun i hi => (T2.2.2.2.1 i hi).2) N2
    have l2 : (opI (fnd (fun i => decide (vg i = tn_ (tz β n) σ.1)) (ng_ T) 0) < 0) = (fnd (fun i => decide (vg i = tn_ (tz β n) σ.1)) (ng_ T) 0 = none) := opI_lt (n := ng_ T) (fun k hk => by have := (fnd_some _ _ _ hk).2.1; omega) (by omega)
    have g2 : (0 ≤ opI (fnd (fun i => decide (vg i = tn_ (tz β n) σ.1)) (ng_ T) 0)) = ¬ (fnd (fun i => decide (vg i = tn_ (tz β n) σ.1)) (ng_ T) 0 = none) := by rw [← l2]; exact propext Int32.not_lt.symm
    rw [← (hN (tn_ (tz β n) σ.1)).2] at at' l2 g2
    have hX1 := R1.1
    have hX2 := E2.1.1
    cases hh : gueN ν (tn_ (tz β n) σ.1) with
    | some g =>
      rw [hh] at at' l2 g2
      refine ⟨h2, fun d => ?_, o12.le (by omega) (by omega), E2⟩
      simp only [e104_0, e104_1, e104_2, e104_5, e104_6, e104_7, e104_8, e104_11, e104_12, e104_15, e104_18, e104_19, e104_20, e104_23, e104_24, e104_25, e104_26, e104_29, e104_30, xk_64 hX, xk_73 hX, xk_66 hX, xk_65 hX, xp_37 hX, xk_64 hX1, xk_73 hX1, xk_66 hX1, xk_65 hX1, xp_37 hX1, xk_64 hX2, xk_73 hX2, xk_66 hX2, xk_65 hX2, xp_37 hX2, ↓reduceIte, Nat.reduceAdd, Nat.reduceLeDiff, Nat.reduceLT, Nat.reduceEqDiff, not_false_eq_true, false_or, true_or, or_true, or_false, n0_e, n1_ne, n1_11, bI_z, bI_1, bI_fo, aBk_1, aBk_0, nI_add, nI_mul, hk_si, hp_si, hl_si, hk_sp, hk_sl, hk_cp, hp_cp, e1, e2, at', l2, g2, reduceCtorEq, va_rf_some]
    | none =>
      rw [hh] at at' l2 g2
      obtain ⟨h3, e3, o3, R3⟩ := p_tell E2.1 (c := 4) (j := σ.1) (by decide) hj
      refine ⟨h3, fun d => ?_, (o12.trans o3.OA).le (by omega) (by omega), E2.px o3 R3⟩
      simp only [e104_0, e104_1, e104_2, e104_5, e104_6, e104_7, e104_8, e104_11, e104_12, e104_15, e104_18, e104_19, e104_20, e104_23, e104_24, e104_25, e104_26, e104_29, e104_30, xk_64 hX, xk_73 hX, xk_66 hX, xk_65 hX, xp_37 hX, xk_64 hX1, xk_73 hX1, xk_66 hX1, xk_65 hX1, xp_37 hX1, xk_64 hX2, xk_73 hX2, xk_66 hX2, xk_65 hX2, xp_37 hX2, ↓reduceIte, Nat.reduceAdd, Nat.reduceLeDiff, Nat.reduceLT, Nat.reduceEqDiff, not_false_eq_true, false_or, true_or, or_true, or_false, n0_e, n1_ne, n1_11, bI_z, bI_1, bI_fo, aBk_1, aBk_0, nI_add, nI_mul, hk_si, hp_si, hl_si, hk_sp, hk_sl, hk_cp, hp_cp, e1, e2, at', l2, g2, not_true_eq_false, e3, reduceCtorEq, va_rf_some]
end XT97
