set_option maxRecDepth 100000
/-! X: reading (2): steps of the parser -/
section XR2
variable {d N : Nat} {h h' : aH} {τ : aTok} {σ : aPs}
theorem srt_5 {k : Nat} : srt k = 5 ↔ k = 3 := by
  unfold srt
  repeat' split
  all_goals omega
theorem p_sort (hR : XR h τ N σ) (h3 : tk_ τ σ.1 ≠ 3) : (run (d + 3) 85 0 [.ref 73] [] h) = some (.returned (some (.int (nI (srt (tk_ τ σ.1))))), h) := by
  obtain ⟨hX, hT, hK, h1, h2, -⟩ := hR
  have h40 := hT.1
  have g1 : σ.1 < 2001 := by omega
  obtain ⟨k0, k1, -⟩ := hK σ.1 h1
  have b5 := srt_b (tk_ τ σ.1)
  have e5 : (nI (srt (tk_ τ σ.1)) = nI 5) = False := by rw [nI_eqL (by omega) (by decide)]; exact eq_false (fun z => h3 (srt_5.mp z))
  simp only [e85_0, e85_1, e85_4, e85_7, e85_8, e85_11, e85_12, e85_13, e85_16, e85_17, e85_18, e85_21, e85_22, e85_23, e85_26, e85_29, e85_30, e85_33, e85_34, xk_64 hX, xk_73 hX, xk_66 hX, xk_65 hX, xp_32 hX, xk_69 hX, xp_37 hX, ↓reduceIte, Nat.reduceAdd, Nat.reduceLeDiff, Nat.reduceLT, Nat.reduceEqDiff, not_false_eq_true, false_or, true_or, or_true, or_false, n0_e, n1_ne, n1_11, bI_z, bI_1, bI_fo, va_rf_some, aBk_1, aBk_0, nI_add, nI_mul, hk_si, hp_si, hl_si, hk_sp, hk_sl, hk_cp, hp_cp, h2, g1, k1, e5]
theorem p_sortF (hR : XR h τ N σ) (h3 : tk_ τ σ.1 = 3) : ∃ h', (∀ d, (run (d + 3) 85 0 [.ref 73] [] h) = some (.threw 65, h')) ∧ On XPF h h' ∧ XF h' 1 (tp_ τ σ.1) := by
  obtain ⟨hX, hT, hK, h1, h2, -⟩ := id hR
  have h40 := hT.1
  have g1 : σ.1 < 2001 := by omega
  obtain ⟨k0, k1, -⟩ := hK σ.1 h1
  rw [srt_5.mpr h3] at k1
  obtain ⟨h', e, o, f⟩ := p_wrong (c := 1) hR
  have hX' := f.1
  refine ⟨h', fun d => ?_, o, f⟩
  simp only [e85_0, e85_1, e85_4, e85_7, e85_8, e85_11, e85_12, e85_13, e85_16, e85_17, e85_18, e85_21, e85_22, e85_23, e85_26, e85_29, e85_30, e85_33, e85_34, xk_64 hX, xk_73 hX, xk_66 hX, xk_65 hX, xp_32 hX, xk_69 hX, xp_37 hX, ↓reduceIte, Nat.reduceAdd, Nat.reduceLeDiff, Nat.reduceLT, Nat.reduceEqDiff, not_false_eq_true, false_or, true_or, or_true, or_false, n0_e, n1_ne, n1_11, bI_z, bI_1, bI_fo, va_rf_some, aBk_1, aBk_0, nI_add, nI_mul, hk_si, hp_si, hl_si, hk_sp, hk_sl, hk_cp, hp_cp, h2, g1, k1, e, xk_65 hX', bx_84, bx_85, bx_86, bx_87, bx_88, bx_89, bx_90, bx_91, bx_92, bx_93, bx_94, bx_95, bx_96, bx_97, bx_98, bx_99, bx_100, bx_101, bx_102, bx_103, bx_104]
theorem p_sign (hR : XR h τ N σ) {k : Nat} (hk : sgk k) : ∃ o h', (∀ d, (run (d + 4) 91 0 [.ref 73, .int (nI (chr k))] [] h) = some (o, h')) ∧ On XPF h h' ∧ XO h' τ N (mustX τ σ k) none o := by
  have hX := hR.1
  have ei := fun d => p_isSign (d := d) hR hk
  unfold mustX
  by_cases q : tk_ τ σ.1 = k
  · rw [if_pos q]
    rw [decide_eq_true q] at ei
    obtain ⟨o, h', e, oo, f⟩ := p_pass hR (hR.nx (by unfold sgk at hk; omega) (by unfold sgk at hk; omega))
    refine ⟨o, h', fun d => ?_, oo, f⟩
    revert f
    cases goX τ σ with
    | inl z => intro f; rw [f.1] at e ⊢; simp only [e91_0, e91_1, e91_2, e91_5, e91_8, e91_9, e91_10, e91_13, e91_14, e91_15, e91_18, xk_64 hX, xk_73 hX, xk_66 hX, xk_65 hX, ↓reduceIte, Nat.reduceAdd, Nat.reduceLeDiff, Nat.reduceLT, Nat.reduceEqDiff, not_false_eq_true, false_or, true_or, or_true, or_false, n0_e, n1_ne, n1_11, bI_z, bI_1, bI_fo, va_rf_some, aBk_1, aBk_0, nI_add, nI_mul, hk_si, hp_si, hl_si, hk_sp, hk_sl, hk_cp, hp_cp, ei, reduceCtorEq, e, bx_84, bx_85, bx_86, bx_87, bx_88, bx_89, bx_90, bx_91, bx_92, bx_93, bx_94, bx_95, bx_96, bx_97, bx_98, bx_99, bx_100, bx_101, bx_102, bx_103, bx_104]
    | inr z => intro f; rw [f.1] at e ⊢; simp only [e91_0, e91_1, e91_2, e91_5, e91_8, e91_9, e91_10, e91_13, e91_14, e91_15, e91_18, xk_64 hX, xk_73 hX, xk_66 hX, xk_65 hX, ↓reduceIte, Nat.reduceAdd, Nat.reduceLeDiff, Nat.reduceLT, Nat.reduceEqDiff, not_false_eq_true, false_or, true_or, or_true, or_false, n0_e, n1_ne, n1_11, bI_z, bI_1, bI_fo, va_rf_some, aBk_1, aBk_0, nI_add, nI_mul, hk_si, hp_si, hl_si, hk_sp, hk_sl, hk_cp, hp_cp, ei, reduceCtorEq, e]
  · rw [if_neg q]
    rw [decide_eq_false q] at ei
    obtain ⟨h', e, o, f⟩ := p_wrong (c := 1) hR
    have hX' := f.1
    refine ⟨_, h', fun d => ?_, o, rfl, f⟩
    simp only [e91_0, e91_1, e91_2, e91_5, e91_8, e91_9, e91_10, e91_13, e91_14, e91_15, e91_18, xk_64 hX, xk_73 hX, xk_66 hX, xk_65 hX, ↓reduceIte, Nat.reduceAdd, Nat.reduceLeDiff, Nat.reduceLT, Nat.reduceEqDiff, not_false_eq_true, false_or, true_or, or_true, or_false, n0_e, n1_ne, n1_11, bI_z, bI_1, bI_fo, va_rf_some, aBk_1, aBk_0, nI_add, nI_mul, hk_si, hp_si, hl_si, hk_sp, hk_sl, hk_cp, hp_cp, ei, e, xk_65 hX', bx_84, bx_85, bx_86, bx_87, bx_88, bx_89, bx_90, bx_91, bx_92, bx_93, bx_94, bx_95, bx_96, bx_97, bx_98, bx_99, bx_100, bx_101, bx_102, bx_103, bx_104]
theorem p_word (hR : XR h τ N σ) {w : Nat} (hw : w < 21) : ∃ o h', (∀ d, (run (d + 4) 98 0 [.ref 73, .int (nI w)] [] h) = some (o, h')) ∧ On XPF h h' ∧ XO h' τ N (mustX τ σ (20 + w)) none o := by
  have hX := hR.1
  have ei := fun d => p_isWord (d := d) hR hw
  unfold mustX
  by_cases q : tk_ τ σ.1 = 20 + w
  · rw [if_pos q]
    rw [decide_eq_true q] at ei
    obtain ⟨o, h', e, oo, f⟩ := p_pass hR (hR.nx (by omega) (by omega))
    refine ⟨o, h', fun d => ?_, oo, f⟩
    revert f
    cases goX τ σ with
    | inl z => intro f; rw [f.1] at e ⊢; simp only [e98_0, e98_1, e98_2, e98_5, e98_8, e98_9, e98_10, e98_13, e98_14, e98_15, e98_18, xk_64 hX, xk_73 hX, xk_66 hX, xk_65 hX, ↓reduceIte, Nat.reduceAdd, Nat.reduceLeDiff, Nat.reduceLT, Nat.reduceEqDiff, not_false_eq_true, false_or, true_or, or_true, or_false, n0_e, n1_ne, n1_11, bI_z, bI_1, bI_fo, va_rf_some, aBk_1, aBk_0, nI_add, nI_mul, hk_si, hp_si, hl_si, hk_sp, hk_sl, hk_cp, hp_cp, ei, reduceCtorEq, e, bx_84, bx_85, bx_86, bx_87, bx_88, bx_89, bx_90, bx_91, bx_92, bx_93, bx_94, bx_95, bx_96, bx_97, bx_98, bx_99, bx_100, bx_101, bx_102, bx_103, bx_104]
    | inr z => intro f; rw [f.1] at e ⊢; simp only [e98_0, e98_1, e98_2, e98_5, e98_8, e98_9, e98_10, e98_13, e98_14, e98_15, e98_18, xk_64 hX, xk_73 hX, xk_66 hX, xk_65 hX, ↓reduceIte, Nat.reduceAdd, Nat.reduceLeDiff, Nat.reduceLT, Nat.reduceEqDiff, not_false_eq_true, false_or, true_or, or_true, or_false, n0_e, n1_ne, n1_11, bI_z, bI_1, bI_fo, va_rf_some, aBk_1, aBk_0, nI_add, nI_mul, hk_si, hp_si, hl_si, hk_sp, hk_sl, hk_cp, hp_cp, ei, reduceCtorEq, e]
  · rw [if_neg q]
    rw [decide_eq_false q] at ei
    obtain ⟨h', e, o, f⟩ := p_wrong (c := 1) hR
    have hX' := f.1
    refine ⟨_, h', fun d => ?_, o, rfl, f⟩
    simp only [e98_0, e98_1, e98_2, e98_5, e98_8, e98_9, e98_10, e98_13, e98_14, e98_15, e98_18, xk_64 hX, xk_73 hX, xk_66 hX, xk_65 hX, ↓reduceIte, Nat.reduceAdd, Nat.reduceLeDiff, Nat.reduceLT, Nat.reduceEqDiff, not_false_eq_true, false_or, true_or, or_true, or_false, n0_e, n1_ne, n1_11, bI_z, bI_1, bI_fo, va_rf_some, aBk_1, aBk_0, nI_add, nI_mul, hk_si, hp_si, hl_si, hk_sp, hk_sl, hk_cp, hp_cp, ei, e, xk_65 hX', bx_84, bx_85, bx_86, bx_87, bx_88, bx_89, bx_90, bx_91, bx_92, bx_93, bx_94, bx_95, bx_96, bx_97, bx_98, bx_99, bx_100, bx_101, bx_102, bx_103, bx_104]
theorem p_take (hR : XR h τ N σ) {k : Nat} (hk : k = 1 ∨ k = 2) : ∃ o h', (∀ d, (run (d + 4) 100 0 [.ref 73, .int (nI (srt k))] [] h) = some (o, h')) ∧ On XPF h h' ∧ XO h' τ N (mustX τ σ k) (some (.int (nI σ.1))) o := by
  have hX := hR.1
  unfold mustX
  by_cases q3 : tk_ τ σ.1 = 3
  · rw [if_neg (by omega)]
    obtain ⟨h', e, o, f⟩ := p_sortF hR q3
    refine ⟨_, h', fun d => ?_, o, rfl, f⟩
    simp only [e100_0, e100_1, e100_4, e100_5, e100_8, e100_9, e100_10, e100_13, e100_14, e100_15, e100_18, e100_19, e100_22, e100_23, e100_24, xk_64 hX, xk_73 hX, xk_66 hX, xk_65 hX, ↓reduceIte, Nat.reduceAdd, Nat.reduceLeDiff, Nat.reduceLT, Nat.reduceEqDiff, not_false_eq_true, false_or, true_or, or_true, or_false, n0_e, n1_ne, n1_11, bI_z, bI_1, bI_fo, va_rf_some, aBk_1, aBk_0, nI_add, nI_mul, hk_si, hp_si, hl_si, hk_sp, hk_sl, hk_cp, hp_cp, e, bx_84, bx_85, bx_86, bx_87, bx_88, bx_89, bx_90, bx_91, bx_92, bx_93, bx_94, bx_95, bx_96, bx_97, bx_98, bx_99, bx_100, bx_101, bx_102, bx_103, bx_104]
  · have es := fun d => p_sort (d := d) hR q3
    have b5 := srt_b (tk_ τ σ.1)
    have b6 := srt_b k
    have ee : (nI (srt (tk_ τ σ.1)) = nI (srt k)) = (tk_ τ σ.1 = k) := by
      rw [nI_eqL (by omega) (by omega)]
      apply propext
      constructor
      · intro z
        have k0 := (hR.2.2.1 σ.1 hR.2.2.2.1).1
        unfold srt at z; unfold kok sgk at k0
        rcases hk with hk | hk <;> subst hk
        · simp only [Nat.reduceEqDiff, if_false, if_true] at z
          repeat' split at z
          all_goals omega
        · simp only [Nat.reduceEqDiff, if_false, if_true] at z
          repeat' split at z
          all_goals omega
      · intro z; rw [z]
    by_cases q : tk_ τ σ.1 = k
    · rw [if_pos q]
      have ee' : (nI (srt (tk_ τ σ.1)) = nI (srt k)) = True := by rw [ee]; exact eq_true q
      obtain ⟨o, h', e, oo, f⟩ := p_pass hR (hR.nx (by omega) (by omega))
      cases hg : goX τ σ with
      | inl z =>
        rw [hg] at f
        refine ⟨_, h', fun d => ?_, oo, rfl, f.2⟩
        rw [f.1] at e
        simp only [e100_0, e100_1, e100_4, e100_5, e100_8, e100_9, e100_10, e100_13, e100_14, e100_15, e100_18, e100_19, e100_22, e100_23, e100_24, xk_64 hX, xk_73 hX, xk_66 hX, xk_65 hX, ↓reduceIte, Nat.reduceAdd, Nat.reduceLeDiff, Nat.reduceLT, Nat.reduceEqDiff, not_false_eq_true, false_or, true_or, or_true, or_false, n0_e, n1_ne, n1_11, bI_z, bI_1, bI_fo, va_rf_some, aBk_1, aBk_0, nI_add, nI_mul, hk_si, hp_si, hl_si, hk_sp, hk_sl, hk_cp, hp_cp, es, ee', e, bx_84, bx_85, bx_86, bx_87, bx_88, bx_89, bx_90, bx_91, bx_92, bx_93, bx_94, bx_95, bx_96, bx_97, bx_98, bx_99, bx_100, bx_101, bx_102, bx_103, bx_104]
      | inr s =>
        rw [hg] at f
        obtain ⟨f1, R1⟩ := f
        have es1 := (go_inr hg).2
        have hX' := R1.1
        have a1 : hi_ h' 73 40 = nI (σ.1 + 1) := by rw [R1.2.2.2.2.1, es1]
        refine ⟨_, h', fun d => ?_, oo, rfl, R1⟩
        rw [f1] at e
        simp only [e100_0, e100_1, e100_4, e100_5, e100_8, e100_9, e100_10, e100_13, e100_14, e100_15, e100_18, e100_19, e100_22, e100_23, e100_24, xk_64 hX, xk_73 hX, xk_66 hX, xk_65 hX, xk_64 hX', xk_73 hX', xk_66 hX', xk_65 hX', ↓reduceIte, Nat.reduceAdd, Nat.reduceLeDiff, Nat.reduceLT, Nat.reduceEqDiff, not_false_eq_true, false_or, true_or, or_true, or_false, n0_e, n1_ne, n1_11, bI_z, bI_1, bI_fo, va_rf_some, aBk_1, aBk_0, nI_add, nI_mul, hk_si, hp_si, hl_si, hk_sp, hk_sl, hk_cp, hp_cp, es, ee', e, a1, nI_s1]
    · rw [if_neg q]
      have ee' : (nI (srt (tk_ τ σ.1)) = nI (srt k)) = False := by rw [ee]; exact eq_false q
      obtain ⟨h', e, o, f⟩ := p_wrong (c := 1) hR
      have hX' := f.1
      refine ⟨_, h', fun d => ?_, o, rfl, f⟩
      simp only [e100_0, e100_1, e100_4, e100_5, e100_8, e100_9, e100_10, e100_13, e100_14, e100_15, e100_18, e100_19, e100_22, e100_23, e100_24, xk_64 hX, xk_73 hX, xk_66 hX, xk_65 hX, ↓reduceIte, Nat.reduceAdd, Nat.reduceLeDiff, Nat.reduceLT, Nat.reduceEqDiff, not_false_eq_true, false_or, true_or, or_true, or_false, n0_e, n1_ne, n1_11, bI_z, bI_1, bI_fo, va_rf_some, aBk_1, aBk_0, nI_add, nI_mul, hk_si, hp_si, hl_si, hk_sp, hk_sl, hk_cp, hp_cp, es, ee', e, xk_65 hX', bx_84, bx_85, bx_86, bx_87, bx_88, bx_89, bx_90, bx_91, bx_92, bx_93, bx_94, bx_95, bx_96, bx_97, bx_98, bx_99, bx_100, bx_101, bx_102, bx_103, bx_104]
theorem p_begins (hR : XR h τ N σ) (h0 : tk_ τ σ.1 ≠ 0) (h3 : tk_ τ σ.1 ≠ 3) {has most : Nat} (hh : has < 64) (hm : most < 64) : ∃ o h', (∀ d, (run (d + 4) 94 0 [.ref 73, .int (nI has), .int (nI most)] [] h) = some (o, h')) ∧ On XPF h h' ∧ XO h' τ N (roomX τ has most σ) none o := by
  have hX := hR.1
  have em : (nI has = nI most) = (has = most) := nI_eqL (by omega) (by omega)
  unfold roomX
  by_cases q : has = most
  · rw [if_pos q]
    obtain ⟨h', e, o, f⟩ := p_wrong (c := 2) hR
    have hX' := f.1
    refine ⟨_, h', fun d => ?_, o, rfl, f⟩
    have q' : (nI has = nI most) = True := by rw [em]; exact eq_true q
    simp only [e94_0, e94_1, e94_2, e94_5, e94_6, e94_7, e94_10, e94_11, e94_12, e94_15, xk_64 hX, xk_73 hX, xk_66 hX, xk_65 hX, ↓reduceIte, Nat.reduceAdd, Nat.reduceLeDiff, Nat.reduceLT, Nat.reduceEqDiff, not_false_eq_true, false_or, true_or, or_true, or_false, n0_e, n1_ne, n1_11, bI_z, bI_1, bI_fo, va_rf_some, aBk_1, aBk_0, nI_add, nI_mul, hk_si, hp_si, hl_si, hk_sp, hk_sl, hk_cp, hp_cp, q', e, xk_65 hX', bx_84, bx_85, bx_86, bx_87, bx_88, bx_89, bx_90, bx_91, bx_92, bx_93, bx_94, bx_95, bx_96, bx_97, bx_98, bx_99, bx_100, bx_101, bx_102, bx_103, bx_104]
  · rw [if_neg q]
    obtain ⟨o, h', e, oo, f⟩ := p_pass hR (hR.nx h0 h3)
    cases hg : goX τ σ with
    | inl z =>
      rw [hg] at f
      refine ⟨_, h', fun d => ?_, oo, rfl, f.2⟩
      rw [f.1] at e
      simp only [e94_0, e94_1, e94_2, e94_5, e94_6, e94_7, e94_10, e94_11, e94_12, e94_15, xk_64 hX, xk_73 hX, xk_66 hX, xk_65 hX, ↓reduceIte, Nat.reduceAdd, Nat.reduceLeDiff, Nat.reduceLT, Nat.reduceEqDiff, not_false_eq_true, false_or, true_or, or_true, or_false, n0_e, n1_ne, n1_11, bI_z, bI_1, bI_fo, va_rf_some, aBk_1, aBk_0, nI_add, nI_mul, hk_si, hp_si, hl_si, hk_sp, hk_sl, hk_cp, hp_cp, em, q, e, bx_84, bx_85, bx_86, bx_87, bx_88, bx_89, bx_90, bx_91, bx_92, bx_93, bx_94, bx_95, bx_96, bx_97, bx_98, bx_99, bx_100, bx_101, bx_102, bx_103, bx_104]
    | inr s =>
      rw [hg] at f
      refine ⟨_, h', fun d => ?_, oo, rfl, f.2⟩
      rw [f.1] at e
      simp only [e94_0, e94_1, e94_2, e94_5, e94_6, e94_7, e94_10, e94_11, e94_12, e94_15, xk_64 hX, xk_73 hX, xk_66 hX, xk_65 hX, ↓reduceIte, Nat.reduceAdd, Nat.reduceLeDiff, Nat.reduceLT, Nat.reduceEqDiff, not_false_eq_true, false_or, true_or, or_true, or_false, n0_e, n1_ne, n1_11, bI_z, bI_1, bI_fo, va_rf_some, aBk_1, aBk_0, nI_add, nI_mul, hk_si, hp_si, hl_si, hk_sp, hk_sl, hk_cp, hp_cp, em, q, e]
theorem p_tell (hR : XR h τ N σ) {c j : Nat} (hc : 0 < c ∧ c < 10) (hj : j ≤ N) : ∃ h', (∀ d, (run (d) 101 0 [.ref 73, .int (nI c), .int (nI j)] [] h) = some (.returned none, h')) ∧ On XPF h h' ∧ XR h' τ N (wrongX σ c j) := by
  obtain ⟨hX, hT, hK, h1, h2, h3, h5, h6, h7⟩ := id hR
  have h40 := hT.1
  have o : On XPF h (si_ (si_ h 73 42 (nI c)) 73 43 (nI j)) := (On.si (Or.inl ⟨rfl, by decide, by decide⟩)).trans (On.si (Or.inl ⟨rfl, by decide, by decide⟩))
  have fin : XR (si_ (si_ h 73 42 (nI c)) 73 43 (nI j)) τ N (σ.1, σ.2.1, c, j) := by
    refine ⟨hX.on o, hT, hK.on o (fun a f q => by unfold XPF at q; omega), h1, ?_, ?_, hc.2, (hi_ne (by omega)).trans hi_same, fun _ => ⟨hj, hi_same⟩⟩
    · rw [hi_ne (by omega), hi_ne (by omega)]; exact h2
    · rw [hi_ne (by omega), hi_ne (by omega)]; exact h3
  unfold wrongX
  by_cases q0 : σ.2.2.1 = 0
  · rw [if_neg (fun z => z.1 q0)]
    have e0 : (nI σ.2.2.1 = 0) = True := by rw [nI_z (by omega)]; exact eq_true q0
    refine ⟨_, fun d => ?_, o, fin⟩
    simp only [e101_0, e101_1, e101_4, e101_7, e101_8, e101_9, e101_12, e101_15, e101_16, e101_17, e101_20, e101_23, e101_24, e101_25, e101_28, e101_31, e101_32, e101_33, e101_34, e101_37, e101_38, e101_39, e101_42, xk_64 hX, xk_73 hX, xk_66 hX, xk_65 hX, ↓reduceIte, Nat.reduceAdd, Nat.reduceLeDiff, Nat.reduceLT, Nat.reduceEqDiff, not_false_eq_true, false_or, true_or, or_true, or_false, n0_e, n1_ne, n1_11, bI_z, bI_1, bI_fo, va_rf_some, aBk_1, aBk_0, nI_add, nI_mul, hk_si, hp_si, hl_si, hk_sp, hk_sl, hk_cp, hp_cp, h6, e0]
  · obtain ⟨a1, a2⟩ := h7 q0
    have e0 : (nI σ.2.2.1 = 0) = False := by rw [nI_z (by omega)]; exact eq_false q0
    have elt : (nI σ.2.2.2 < nI j) = (σ.2.2.2 < j) := nI_ltL (by omega) (by omega)
    have eeq : (nI j = nI σ.2.2.2) = (j = σ.2.2.2) := nI_eqL (by omega) (by omega)
    have ecl : (nI c < nI σ.2.2.1) = (c < σ.2.2.1) := nI_ltL (by omega) (by omega)
    by_cases q1 : σ.2.2.2 < j
    · rw [if_pos ⟨q0, Or.inl q1⟩]
      refine ⟨h, fun d => ?_, On.refl, hR⟩
      simp only [e101_0, e101_1, e101_4, e101_7, e101_8, e101_9, e101_12, e101_15, e101_16, e101_17, e101_20, e101_23, e101_24, e101_25, e101_28, e101_31, e101_32, e101_33, e101_34, e101_37, e101_38, e101_39, e101_42, xk_64 hX, xk_73 hX, xk_66 hX, xk_65 hX, ↓reduceIte, Nat.reduceAdd, Nat.reduceLeDiff, Nat.reduceLT, Nat.reduceEqDiff, not_false_eq_true, false_or, true_or, or_true, or_false, n0_e, n1_ne, n1_11, bI_z, bI_1, bI_fo, va_rf_some, aBk_1, aBk_0, nI_add, nI_mul, hk_si, hp_si, hl_si, hk_sp, hk_sl, hk_cp, hp_cp, h6, e0, a2, elt, q1]
    · by_cases q2 : j = σ.2.2.2
      · have eeq' : (nI j = nI σ.2.2.2) = True := by rw [eeq]; exact eq_true q2
        by_cases q3 : c < σ.2.2.1
        · rw [if_neg (fun z => z.2.elim q1 (fun y => by omega))]
          refine ⟨_, fun d => ?_, o, fin⟩
          simp only [e101_0, e101_1, e101_4, e101_7, e101_8, e101_9, e101_12, e101_15, e101_16, e101_17, e101_20, e101_23, e101_24, e101_25, e101_28, e101_31, e101_32, e101_33, e101_34, e101_37, e101_38, e101_39, e101_42, xk_64 hX, xk_73 hX, xk_66 hX, xk_65 hX, ↓reduceIte, Nat.reduceAdd, Nat.reduceLeDiff, Nat.reduceLT, Nat.reduceEqDiff, not_false_eq_true, false_or, true_or, or_true, or_false, n0_e, n1_ne, n1_11, bI_z, bI_1, bI_fo, va_rf_some, aBk_1, aBk_0, nI_add, nI_mul, hk_si, hp_si, hl_si, hk_sp, hk_sl, hk_cp, hp_cp, h6, e0, a2, elt, q1, eeq', ecl, q3]
        · rw [if_pos ⟨q0, Or.inr ⟨q2, by omega⟩⟩]
          refine ⟨h, fun d => ?_, On.refl, hR⟩
          simp only [e101_0, e101_1, e101_4, e101_7, e101_8, e101_9, e101_12, e101_15, e101_16, e101_17, e101_20, e101_23, e101_24, e101_25, e101_28, e101_31, e101_32, e101_33, e101_34, e101_37, e101_38, e101_39, e101_42, xk_64 hX, xk_73 hX, xk_66 hX, xk_65 hX, ↓reduceIte, Nat.reduceAdd, Nat.reduceLeDiff, Nat.reduceLT, Nat.reduceEqDiff, not_false_eq_true, false_or, true_or, or_true, or_false, n0_e, n1_ne, n1_11, bI_z, bI_1, bI_fo, va_rf_some, aBk_1, aBk_0, nI_add, nI_mul, hk_si, hp_si, hl_si, hk_sp, hk_sl, hk_cp, hp_cp, h6, e0, a2, elt, q1, eeq', ecl, q3]
      · rw [if_neg (fun z => z.2.elim q1 (fun y => q2 y.1))]
        refine ⟨_, fun d => ?_, o, fin⟩
        simp only [e101_0, e101_1, e101_4, e101_7, e101_8, e101_9, e101_12, e101_15, e101_16, e101_17, e101_20, e101_23, e101_24, e101_25, e101_28, e101_31, e101_32, e101_33, e101_34, e101_37, e101_38, e101_39, e101_42, xk_64 hX, xk_73 hX, xk_66 hX, xk_65 hX, ↓reduceIte, Nat.reduceAdd, Nat.reduceLeDiff, Nat.reduceLT, Nat.reduceEqDiff, not_false_eq_true, false_or, true_or, or_true, or_false, n0_e, n1_ne, n1_11, bI_z, bI_1, bI_fo, va_rf_some, aBk_1, aBk_0, nI_add, nI_mul, hk_si, hp_si, hl_si, hk_sp, hk_sl, hk_cp, hp_cp, h6, e0, a2, elt, q1, eeq, q2]
end XR2
