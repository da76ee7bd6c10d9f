set_option maxRecDepth 100000
/-! M: reading (11): expression and term, fault or not -/
def LWF (p B b Bb a f : Nat) : Prop := EXs p B a f ∨ (a = 458 ∧ f = 102) ∨ (481 ≤ a ∧ a ≤ 485 ∧ b ≤ f ∧ f < Bb)
def TRF (p B b a f : Nat) : Prop := EXs p B a f ∨ (a = 458 ∧ f = 102) ∨ ((a = 484 ∨ a = 485) ∧ f = b)
section M23
variable {d N p b0 b Bb : Nat} {h h' : aH} {τ : aTok} {x : aEr aPs} {σ : aPs} {c : cdT}
theorem cdM.ag (hc : cdM h p c) (hs : ∀ f, p ≤ f → f < p + c.length → hi_ h' 486 f = hi_ h 486 f ∧ hi_ h' 487 f = hi_ h 487 f) : cdM h' p c :=
  ⟨hc.1, fun i hi => ⟨(hs _ (by omega) (by omega)).1.trans (hc.2 i hi).1, (hs _ (by omega) (by omega)).2.trans (hc.2 i hi).2⟩⟩
theorem m_expressionF {e1 e2 : Nat} (hF : MF h e1 e2) : ∃ h', (∀ d, (run (d + 3) 176 0 [.ref 458, aU, aU] [] h) = some (.returned none, h')) ∧ On PU h h' ∧ MF h' e1 e2 := by
  have hM := hF.1
  have o : On PU h (si_ h 458 112 (nI 0)) := On.si (Or.inr ⟨rfl, rfl⟩)
  have f1 : MF (si_ h 458 112 (nI 0)) e1 e2 := hF.on o (fun f _ _ _ q => by unfold PU at q; omega)
  have hM1 := f1.1
  have f3 : hi_ h 458 79 = nI e1 := hF.2.2.2.2.1
  have fn : (nI e1 = 0) = False := by have := hF.2.2.1; have := hF.2.2.2.1; rw [nI_z (by omega)]; exact eq_false (by omega)
  refine ⟨_, fun d => ?_, o, f1⟩
  simp only [e176_0, e176_1, e176_2, e176_5, e176_6, e176_9, e176_10, e176_11, e176_12, e176_13, e176_16, e176_17, e176_20, e176_24, e176_26, e176_29, e176_32, e176_33, e176_36, e176_38, e176_41, e176_42, e176_43, e176_46, e176_47, e176_48, e176_51, e176_52, e176_53, e176_56, e176_57, e176_60, e176_61, e176_64, e176_65, e176_68, e176_70, e176_71, e176_72, e176_73, e176_76, e176_77, e176_78, e176_81, e176_84, e176_85, e176_88, e176_89, e176_92, e176_95, e176_97, e176_99, e176_102, e176_105, e176_106, e176_109, e176_110, e176_113, e176_114, e176_115, e176_118, e176_119, e176_120, e176_123, e176_124, e176_125, e176_128, e176_129, e176_130, e176_133, e176_134, e176_135, e176_138, e176_139, e176_142, e176_145, e176_146, e176_148, e176_151, e176_154, e176_155, e176_157, e176_160, e176_163, e176_164, e176_166, e176_169, e176_172, e176_173, e176_175, e176_178, e176_181, e176_182, e176_185, e176_186, e176_187, e176_188, e176_191, e176_192, e176_195, e176_196, e176_199, e176_200, e176_201, e176_204, e176_205, e176_206, e176_209, e176_210, e176_211, e176_212, e176_214, e176_217, e176_220, e176_221, e176_223, e176_226, e176_229, e176_230, e176_233, e176_234, e176_237, e176_238, e176_241, e176_242, e176_245, e176_246, e176_249, e176_250, e176_253, e176_254, e176_255, e176_256, e176_257, e176_260, e176_261, e176_262, e176_265, e176_266, e176_269, e176_272, mk_458 hM, mp_71 hM, mk_461 hM, mp_111 hM, mk_488 hM, mk_458 hM1, mp_71 hM1, mk_461 hM1, mp_111 hM1, mk_488 hM1, ↓reduceIte, Nat.reduceAdd, Nat.reduceLeDiff, Nat.reduceLT, not_false_eq_true, false_or, true_or, or_true, or_false, n0_e, n1_ne, n1_11, bI_z, bI_1, bI_fo, va_rf_some, aBk_1, aBk_0, nI_add, nI_mul, hk_si, hp_si, hl_si, hk_sp, hk_sl, hk_cp, hp_cp, f3, fn, hi_si, Nat.reduceEqDiff, false_and, true_and, and_false, and_true]
theorem mo_expression (hv : ∀ j, tv_ τ j ≤ 9999) (h0 : b0 ≤ 420) (hO : MO h τ N x) (hx : ∀ σ, x = .inr σ → hi_ h 458 108 = nI p ∧ p ≤ b0 + σ.1 ∧ σ.2.1 ≤ 6) : ∃ h', (∀ d, (run (d + 3) 176 0 [.ref 458, aU, aU] [] h) = some (.returned none, h')) ∧ On (EXs p (b0 + 420)) h h' ∧ MO h' τ N (stX (eB x (sumX τ))) ∧ ∀ q, eB x (sumX τ) = .inr q → hi_ h' 458 108 = nI (p + q.2.length) ∧ cdM h' p q.2 := by
  cases x with
  | inl e =>
    obtain ⟨y, ey, oy, fy⟩ := m_expressionF hO
    exact ⟨y, ey, oy.ex_p, fy, fun q hq => by cases hq⟩
  | inr σ =>
    obtain ⟨a1, a2, a3⟩ := hx σ rfl
    have E := m_expression hv h0 hO a1 a2 a3
    show ∃ h', _ ∧ _ ∧ MO h' τ N (stX (sumX τ σ)) ∧ ∀ q, sumX τ σ = .inr q → _
    cases hs : sumX τ σ with
    | inl e =>
      rw [hs] at E
      obtain ⟨y, ey, oy, fy⟩ := E
      exact ⟨y, ey, oy, fy, fun q hq => by cases hq⟩
    | inr q =>
      rw [hs] at E
      obtain ⟨y, ey, oy, fy, c1, c2⟩ := E
      exact ⟨y, ey, oy, fy, fun q' hq => by cases hq; exact ⟨c1, c2⟩⟩
/-- M.term -/
theorem mo_term (hv : ∀ j, tv_ τ j ≤ 9999) (h0 : b0 ≤ 420) (hO : MO h τ N x) (hx : ∀ σ, x = .inr σ → hi_ h 458 108 = nI p ∧ p ≤ b0 + σ.1 ∧ σ.2.1 ≤ 6) (hb : hi_ h 458 102 = nI b) (g1 : b < 260) : ∃ h', (∀ d, (run (d + 4) 180 0 [.ref 458] [] h) = some (.returned none, h')) ∧ On (TRF p (b0 + 420) b) h h' ∧ MO h' τ N (stX (eB x (sumX τ))) ∧ hi_ h' 458 102 = nI (b + 1) ∧ (∀ q, eB x (sumX τ) = .inr q → hi_ h' 458 108 = nI (p + q.2.length) ∧ cdM h' p q.2 ∧ hi_ h' 484 b = nI p ∧ hi_ h' 485 b = nI (p + q.2.length)) := by
  have hM := hO.S
  have o1 : On (TRF p (b0 + 420) b) h (si_ h 484 b (hi_ h 458 108)) := On.si (Or.inr (Or.inr ⟨Or.inl rfl, rfl⟩))
  have O1 : MO (si_ h 484 b (hi_ h 458 108)) τ N x := hO.on_nf (S := AA 484) On.sa (fun a f q => by unfold AA at q; omega)
  have hM1 := O1.S
  have b1 : hi_ (si_ h 484 b (hi_ h 458 108)) 458 102 = nI b := by rw [hi_ne (by omega)]; exact hb
  obtain ⟨y, ey, oy, fy, gy⟩ := mo_expression (p := p) hv h0 O1 (fun σ hσ => ⟨by rw [hi_ne (by omega)]; exact (hx σ hσ).1, (hx σ hσ).2⟩)
  have ft := O1.ft
  have step : ∃ y, On (EXs p (b0 + 420)) (si_ h 484 b (hi_ h 458 108)) y ∧ MO y τ N (stX (eB x (sumX τ))) ∧ (∀ q, eB x (sumX τ) = .inr q → hi_ y 458 108 = nI (p + q.2.length) ∧ cdM y p q.2) ∧ ∀ d, (run (d + 4) 180 0 [.ref 458] [] h) = (run (d + 4) 180 24 [.ref 458] [] y) := by
    cases x with
    | inl e =>
      refine ⟨_, On.refl, O1, fun q hq => (by cases hq), fun d => ?_⟩
      have hF : MF h e.1 e.2 := hO
      have f3 : hi_ h 458 79 = nI e.1 := hF.2.2.2.2.1
      have fn : (nI e.1 = 0) = False := by have := hF.2.2.1; have := hF.2.2.2.1; rw [nI_z (by omega)]; exact eq_false (by omega)
      simp only [e180_0, e180_1, e180_4, e180_5, e180_8, e180_9, e180_12, e180_13, e180_14, e180_17, e180_20, e180_21, mk_458 hM, mp_106 hM, mk_484 hM, mp_107 hM, mk_485 hM, mk_458 hM1, mp_106 hM1, mk_484 hM1, mp_107 hM1, mk_485 hM1, ↓reduceIte, Nat.reduceAdd, Nat.reduceLeDiff, Nat.reduceLT, not_false_eq_true, false_or, true_or, or_true, or_false, n0_e, n1_ne, n1_11, bI_z, bI_1, bI_fo, va_rf_some, aBk_1, aBk_0, nI_add, nI_mul, hk_si, hp_si, hl_si, hk_sp, hk_sl, hk_cp, hp_cp, hb, g1, f3, fn, hi_si, Nat.reduceEqDiff, false_and, true_and, and_false, and_true]
    | inr σ =>
      refine ⟨y, oy, fy, gy, fun d => ?_⟩
      have hF : MR h τ N σ := hO
      have f3 := hF.2.2.2.2.2.2.1
      simp only [e180_0, e180_1, e180_4, e180_5, e180_8, e180_9, e180_12, e180_13, e180_14, e180_17, e180_20, e180_21, mk_458 hM, mp_106 hM, mk_484 hM, mp_107 hM, mk_485 hM, mk_458 hM1, mp_106 hM1, mk_484 hM1, mp_107 hM1, mk_485 hM1, ↓reduceIte, Nat.reduceAdd, Nat.reduceLeDiff, Nat.reduceLT, not_false_eq_true, false_or, true_or, or_true, or_false, n0_e, n1_ne, n1_11, bI_z, bI_1, bI_fo, va_rf_some, aBk_1, aBk_0, nI_add, nI_mul, hk_si, hp_si, hl_si, hk_sp, hk_sl, hk_cp, hp_cp, hb, g1, f3, ey, hi_si, Nat.reduceEqDiff, false_and, true_and, and_false, and_true]
  obtain ⟨y, oy, fy, gy, es⟩ := step
  have hMy := fy.S
  have by1 : hi_ y 458 102 = nI b := (oy.i (fun q => by unfold EXs FP CO at q; omega)).trans b1
  have o2 : On (TRF p (b0 + 420) b) y (si_ (si_ y 485 b (hi_ y 458 108)) 458 102 (nI (b + 1))) := (On.si (Or.inr (Or.inr ⟨Or.inr rfl, rfl⟩))).trans (On.si (Or.inr (Or.inl ⟨rfl, rfl⟩)))
  have oT : On (fun a f => a = 485 ∨ (a = 458 ∧ f = 102)) y (si_ (si_ y 485 b (hi_ y 458 108)) 458 102 (nI (b + 1))) := (On.si (Or.inl rfl)).trans (On.si (Or.inr ⟨rfl, rfl⟩))
  refine ⟨_, fun d => (es d).trans ?_, (o1.trans (oy.mono (fun _ _ q => Or.inl q))).trans o2, fy.on_nf oT (fun a f q => by omega), hi_same, fun q hq => ?_⟩
  · simp only [e180_24, e180_25, e180_28, e180_29, e180_32, e180_33, e180_36, e180_37, e180_38, e180_39, e180_42, e180_43, e180_44, e180_47, mk_458 hMy, mp_106 hMy, mk_484 hMy, mp_107 hMy, mk_485 hMy, ↓reduceIte, Nat.reduceAdd, Nat.reduceLeDiff, Nat.reduceLT, not_false_eq_true, false_or, true_or, or_true, or_false, n0_e, n1_ne, n1_11, bI_z, bI_1, bI_fo, va_rf_some, aBk_1, aBk_0, nI_add, nI_mul, hk_si, hp_si, hl_si, hk_sp, hk_sl, hk_cp, hp_cp, by1, g1, hi_si, Nat.reduceEqDiff, false_and, true_and, and_false, and_true]
  · obtain ⟨c1, c2⟩ := gy q hq
    refine ⟨?_, c2.on oT (fun f _ _ => ⟨fun q => by omega, fun q => by omega⟩), ?_, ?_⟩
    · rw [hi_ne (by omega), hi_ne (by omega)]; exact c1
    · rw [hi_ne (by omega), hi_ne (by omega), oy.i (fun q => by unfold EXs FP CO at q; omega), hi_same]
      cases x with
      | inl e => cases hq
      | inr σ => exact (hx σ rfl).1
    · rw [hi_ne (by omega), hi_same]; exact c1
end M23
