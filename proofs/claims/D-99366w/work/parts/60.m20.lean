set_option maxRecDepth 100000
/-! M: reading (9): expression, signs and ends -/
section M20
variable {d N p b0 base : Nat} {h h' : aH} {τ : aTok} {σ : aPs} {ws ws0 : List Nat} {c c0 : cdT}
theorem MO.on_nf {x : aEr aPs} (hO : MO h τ N x) {S : Nat → Nat → Prop} (o : On S h h') (hs : ∀ a f, S a f → (a < 461 ∨ 463 < a) ∧ (a = 458 → f < 77 ∨ 82 < f)) : MO h' τ N x := by
  cases x with
  | inl e => exact MF.on hO o (fun f h1 h2 _ q => by have := (hs _ _ q).2 rfl; omega)
  | inr s => exact MR.ol hO (o.OL (L := fun _ => False)) hs (fun q => q)
theorem PU.nf {a f : Nat} (q : PU a f) : (a < 461 ∨ 463 < a) ∧ (a = 458 → f < 77 ∨ 82 < f) := by unfold PU at q; omega
/-- a sign -/
theorem ex_sign (hE : EC h τ N p b0 ws0 c0 σ) (h0 : b0 ≤ 420) (hk : (tk_ τ σ.1 = 8 ∨ tk_ τ σ.1 = 9) ∨ (tk_ τ σ.1 = 10 ∨ tk_ τ σ.1 = 15)) (hl : (co (bs τ σ) ws0 c0).1.length ≤ 59) : match goX τ σ with
    | .inl e => ∃ h', (∀ d, exAt d 96 base h = some (.returned none, h')) ∧ On (EXs p (b0 + 420)) h h' ∧ MF h' e.1 e.2
    | .inr s => ∃ h', (∀ d, exAt d 96 base h = exAt d 23 base h') ∧ On (EXs p (b0 + 420)) h h' ∧ EC h' τ N p b0 (tk_ τ σ.1 :: (co (bs τ σ) ws0 c0).1) (co (bs τ σ) ws0 c0).2 s := by
  obtain ⟨hR, hW, hb⟩ := hE
  obtain ⟨hM, hT, hK, h1, h2, h3, h4, h5, h6, h7⟩ := id hR
  have h40 := hT.1
  have i7 := fun d => m_is (d := d) hR (k := 7) (by decide)
  have i8 := fun d => m_is (d := d) hR (k := 8) (by decide)
  have i9 := fun d => m_is (d := d) hR (k := 9) (by decide)
  have i10 := fun d => m_is (d := d) hR (k := 10) (by decide)
  have i15 := fun d => m_is (d := d) hR (k := 15) (by decide)
  obtain ⟨y, ey, oy, Wy⟩ := m_comesOut (b := bs τ σ) (B := b0 + 420) (by omega) ws0 c0 h aU hM hW (by omega)
  obtain ⟨l1, l2⟩ := co_len (b := bs τ σ) ws0 c0
  have Ry := hR.co oy
  have hMy := Ry.1
  have y2 := Ry.2.2.2.2.1
  have yk := (Ry.2.2.1 σ.1 h1).1
  have w3 := Wy.2.2.1
  have g1 : (co (bs τ σ) ws0 c0).1.length < 64 := by omega
  have g2 : σ.1 < 403 := by omega
  have Rz : MR (pu_ y (co (bs τ σ) ws0 c0).1.length (nI (tk_ τ σ.1))) τ N σ := Ry.pu pu_on
  have hMz := Rz.1
  have Wz := pu_wc Wy (w := tk_ τ σ.1) (by omega) hl
  obtain ⟨z, ez, oz, fz⟩ := m_goesOn Rz (Rz.nx (by omega) (by omega))
  have hMz2 := fz.S
  have ft := fz.ft
  have o2 : On (EXs p (b0 + 420)) h z := (oy.ex_c.trans pu_on.ex_p).trans oz.ex_f
  have ez' : ∀ d, (run (d + 1) 166 0 [.ref 458] [] (si_ (si_ y 488 (co (bs τ σ) ws0 c0).1.length (nI (tk_ τ σ.1))) 458 112 (nI ((co (bs τ σ) ws0 c0).1.length + 1)))) = some (.returned none, z) := ez
  have step : ∀ d, exAt d 96 base h = (run (d + 3) 176 12 [.ref 458, .int (nI base), .int (nI 1)] [] z) := fun d => by
    unfold exAt
    refine (e176_96).trans ?_
    have n7 : decide (tk_ τ σ.1 = 7) = false := decide_eq_false (by omega)
    rw [n7] at i7
    unfold bs at *
    rcases hk with (hk | hk) | (hk | hk)
    · simp only [hk, Nat.reduceEqDiff, or_self, decide_false, decide_true, ← bI_f, ← bI_t] at i8 i9 i10 i15 ey ez' y2 yk w3 g1
      simp only [e176_0, e176_1, e176_2, e176_5, e176_6, e176_9, e176_10, e176_11, e176_13, e176_16, e176_17, e176_20, e176_24, e176_26, e176_29, e176_32, e176_33, e176_36, e176_38, e176_41, e176_42, e176_43, e176_46, e176_47, e176_48, e176_51, e176_52, e176_53, e176_56, e176_57, e176_60, e176_61, e176_64, e176_65, e176_68, e176_70, e176_71, e176_72, e176_73, e176_76, e176_77, e176_78, e176_81, e176_84, e176_85, e176_88, e176_89, e176_92, e176_95, e176_97, e176_99, e176_102, e176_105, e176_106, e176_109, e176_110, e176_113, e176_114, e176_115, e176_118, e176_119, e176_120, e176_123, e176_124, e176_125, e176_128, e176_129, e176_130, e176_133, e176_134, e176_135, e176_138, e176_139, e176_142, e176_145, e176_146, e176_148, e176_151, e176_154, e176_155, e176_157, e176_160, e176_163, e176_164, e176_166, e176_169, e176_172, e176_173, e176_175, e176_178, e176_181, e176_182, e176_185, e176_186, e176_187, e176_188, e176_191, e176_192, e176_195, e176_196, e176_199, e176_200, e176_201, e176_204, e176_205, e176_206, e176_209, e176_210, e176_211, e176_212, e176_214, e176_217, e176_220, e176_221, e176_223, e176_226, e176_229, e176_230, e176_233, e176_234, e176_237, e176_238, e176_241, e176_242, e176_245, e176_246, e176_249, e176_250, e176_253, e176_254, e176_255, e176_256, e176_257, e176_260, e176_261, e176_262, e176_265, e176_266, e176_269, e176_272, mk_458 hM, mp_71 hM, mk_461 hM, mp_111 hM, mk_488 hM, mk_458 hMy, mp_71 hMy, mk_461 hMy, mp_111 hMy, mk_488 hMy, mk_458 hMz, mp_71 hMz, mk_461 hMz, mp_111 hMz, mk_488 hMz, mk_458 hMz2, mp_71 hMz2, mk_461 hMz2, mp_111 hMz2, mk_488 hMz2, ↓reduceIte, Nat.reduceAdd, Nat.reduceLeDiff, Nat.reduceLT, not_false_eq_true, false_or, true_or, or_true, or_false, n0_e, n1_ne, n1_11, bI_z, bI_1, bI_fo, va_rf_some, aBk_1, aBk_0, nI_add, nI_mul, hk_si, hp_si, hl_si, hk_sp, hk_sl, hk_cp, hp_cp, i7, i8, i9, i10, i15, reduceCtorEq, ey, y2, yk, w3, g1, g2, ez', hi_si, Nat.reduceEqDiff, false_and, true_and, and_false, and_true]
    · simp only [hk, Nat.reduceEqDiff, or_self, decide_false, decide_true, ← bI_f, ← bI_t] at i8 i9 i10 i15 ey ez' y2 yk w3 g1
      simp only [e176_0, e176_1, e176_2, e176_5, e176_6, e176_9, e176_10, e176_11, e176_13, e176_16, e176_17, e176_20, e176_24, e176_26, e176_29, e176_32, e176_33, e176_36, e176_38, e176_41, e176_42, e176_43, e176_46, e176_47, e176_48, e176_51, e176_52, e176_53, e176_56, e176_57, e176_60, e176_61, e176_64, e176_65, e176_68, e176_70, e176_71, e176_72, e176_73, e176_76, e176_77, e176_78, e176_81, e176_84, e176_85, e176_88, e176_89, e176_92, e176_95, e176_97, e176_99, e176_102, e176_105, e176_106, e176_109, e176_110, e176_113, e176_114, e176_115, e176_118, e176_119, e176_120, e176_123, e176_124, e176_125, e176_128, e176_129, e176_130, e176_133, e176_134, e176_135, e176_138, e176_139, e176_142, e176_145, e176_146, e176_148, e176_151, e176_154, e176_155, e176_157, e176_160, e176_163, e176_164, e176_166, e176_169, e176_172, e176_173, e176_175, e176_178, e176_181, e176_182, e176_185, e176_186, e176_187, e176_188, e176_191, e176_192, e176_195, e176_196, e176_199, e176_200, e176_201, e176_204, e176_205, e176_206, e176_209, e176_210, e176_211, e176_212, e176_214, e176_217, e176_220, e176_221, e176_223, e176_226, e176_229, e176_230, e176_233, e176_234, e176_237, e176_238, e176_241, e176_242, e176_245, e176_246, e176_249, e176_250, e176_253, e176_254, e176_255, e176_256, e176_257, e176_260, e176_261, e176_262, e176_265, e176_266, e176_269, e176_272, mk_458 hM, mp_71 hM, mk_461 hM, mp_111 hM, mk_488 hM, mk_458 hMy, mp_71 hMy, mk_461 hMy, mp_111 hMy, mk_488 hMy, mk_458 hMz, mp_71 hMz, mk_461 hMz, mp_111 hMz, mk_488 hMz, mk_458 hMz2, mp_71 hMz2, mk_461 hMz2, mp_111 hMz2, mk_488 hMz2, ↓reduceIte, Nat.reduceAdd, Nat.reduceLeDiff, Nat.reduceLT, not_false_eq_true, false_or, true_or, or_true, or_false, n0_e, n1_ne, n1_11, bI_z, bI_1, bI_fo, va_rf_some, aBk_1, aBk_0, nI_add, nI_mul, hk_si, hp_si, hl_si, hk_sp, hk_sl, hk_cp, hp_cp, i7, i8, i9, i10, i15, reduceCtorEq, ey, y2, yk, w3, g1, g2, ez', hi_si, Nat.reduceEqDiff, false_and, true_and, and_false, and_true]
    · simp only [hk, Nat.reduceEqDiff, or_self, or_false, true_or, decide_false, decide_true, ← bI_f, ← bI_t] at i8 i9 i10 i15 ey ez' y2 yk w3 g1
      simp only [e176_0, e176_1, e176_2, e176_5, e176_6, e176_9, e176_10, e176_11, e176_13, e176_16, e176_17, e176_20, e176_24, e176_26, e176_29, e176_32, e176_33, e176_36, e176_38, e176_41, e176_42, e176_43, e176_46, e176_47, e176_48, e176_51, e176_52, e176_53, e176_56, e176_57, e176_60, e176_61, e176_64, e176_65, e176_68, e176_70, e176_71, e176_72, e176_73, e176_76, e176_77, e176_78, e176_81, e176_84, e176_85, e176_88, e176_89, e176_92, e176_95, e176_97, e176_99, e176_102, e176_105, e176_106, e176_109, e176_110, e176_113, e176_114, e176_115, e176_118, e176_119, e176_120, e176_123, e176_124, e176_125, e176_128, e176_129, e176_130, e176_133, e176_134, e176_135, e176_138, e176_139, e176_142, e176_145, e176_146, e176_148, e176_151, e176_154, e176_155, e176_157, e176_160, e176_163, e176_164, e176_166, e176_169, e176_172, e176_173, e176_175, e176_178, e176_181, e176_182, e176_185, e176_186, e176_187, e176_188, e176_191, e176_192, e176_195, e176_196, e176_199, e176_200, e176_201, e176_204, e176_205, e176_206, e176_209, e176_210, e176_211, e176_212, e176_214, e176_217, e176_220, e176_221, e176_223, e176_226, e176_229, e176_230, e176_233, e176_234, e176_237, e176_238, e176_241, e176_242, e176_245, e176_246, e176_249, e176_250, e176_253, e176_254, e176_255, e176_256, e176_257, e176_260, e176_261, e176_262, e176_265, e176_266, e176_269, e176_272, mk_458 hM, mp_71 hM, mk_461 hM, mp_111 hM, mk_488 hM, mk_458 hMy, mp_71 hMy, mk_461 hMy, mp_111 hMy, mk_488 hMy, mk_458 hMz, mp_71 hMz, mk_461 hMz, mp_111 hMz, mk_488 hMz, mk_458 hMz2, mp_71 hMz2, mk_461 hMz2, mp_111 hMz2, mk_488 hMz2, ↓reduceIte, Nat.reduceAdd, Nat.reduceLeDiff, Nat.reduceLT, not_false_eq_true, false_or, true_or, or_true, or_false, n0_e, n1_ne, n1_11, bI_z, bI_1, bI_fo, va_rf_some, aBk_1, aBk_0, nI_add, nI_mul, hk_si, hp_si, hl_si, hk_sp, hk_sl, hk_cp, hp_cp, i7, i8, i9, i10, i15, reduceCtorEq, ey, y2, yk, w3, g1, g2, ez', hi_si, Nat.reduceEqDiff, false_and, true_and, and_false, and_true]
    · simp only [hk, Nat.reduceEqDiff, or_self, false_or, or_true, decide_false, decide_true, ← bI_f, ← bI_t] at i8 i9 i10 i15 ey ez' y2 yk w3 g1
      simp only [e176_0, e176_1, e176_2, e176_5, e176_6, e176_9, e176_10, e176_11, e176_13, e176_16, e176_17, e176_20, e176_24, e176_26, e176_29, e176_32, e176_33, e176_36, e176_38, e176_41, e176_42, e176_43, e176_46, e176_47, e176_48, e176_51, e176_52, e176_53, e176_56, e176_57, e176_60, e176_61, e176_64, e176_65, e176_68, e176_70, e176_71, e176_72, e176_73, e176_76, e176_77, e176_78, e176_81, e176_84, e176_85, e176_88, e176_89, e176_92, e176_95, e176_97, e176_99, e176_102, e176_105, e176_106, e176_109, e176_110, e176_113, e176_114, e176_115, e176_118, e176_119, e176_120, e176_123, e176_124, e176_125, e176_128, e176_129, e176_130, e176_133, e176_134, e176_135, e176_138, e176_139, e176_142, e176_145, e176_146, e176_148, e176_151, e176_154, e176_155, e176_157, e176_160, e176_163, e176_164, e176_166, e176_169, e176_172, e176_173, e176_175, e176_178, e176_181, e176_182, e176_185, e176_186, e176_187, e176_188, e176_191, e176_192, e176_195, e176_196, e176_199, e176_200, e176_201, e176_204, e176_205, e176_206, e176_209, e176_210, e176_211, e176_212, e176_214, e176_217, e176_220, e176_221, e176_223, e176_226, e176_229, e176_230, e176_233, e176_234, e176_237, e176_238, e176_241, e176_242, e176_245, e176_246, e176_249, e176_250, e176_253, e176_254, e176_255, e176_256, e176_257, e176_260, e176_261, e176_262, e176_265, e176_266, e176_269, e176_272, mk_458 hM, mp_71 hM, mk_461 hM, mp_111 hM, mk_488 hM, mk_458 hMy, mp_71 hMy, mk_461 hMy, mp_111 hMy, mk_488 hMy, mk_458 hMz, mp_71 hMz, mk_461 hMz, mp_111 hMz, mk_488 hMz, mk_458 hMz2, mp_71 hMz2, mk_461 hMz2, mp_111 hMz2, mk_488 hMz2, ↓reduceIte, Nat.reduceAdd, Nat.reduceLeDiff, Nat.reduceLT, not_false_eq_true, false_or, true_or, or_true, or_false, n0_e, n1_ne, n1_11, bI_z, bI_1, bI_fo, va_rf_some, aBk_1, aBk_0, nI_add, nI_mul, hk_si, hp_si, hl_si, hk_sp, hk_sl, hk_cp, hp_cp, i7, i8, i9, i10, i15, reduceCtorEq, ey, y2, yk, w3, g1, g2, ez', hi_si, Nat.reduceEqDiff, false_and, true_and, and_false, and_true]
  cases hg : goX τ σ with
  | inl e =>
    rw [hg] at fz ft
    have fz : MF z e.1 e.2 := fz
    have f3 : hi_ z 458 79 = nI e.1 := fz.2.2.2.2.1
    have fn : (nI e.1 = 0) = False := by have := fz.2.2.1; have := fz.2.2.2.1; rw [nI_z (by omega)]; exact eq_false (by omega)
    refine ⟨z, fun d => (step d).trans ?_, o2, fz⟩
    refine (e176_12).trans ?_
    simp only [e176_0, e176_1, e176_2, e176_5, e176_6, e176_9, e176_10, e176_11, e176_13, e176_16, e176_17, e176_20, e176_24, e176_26, e176_29, e176_32, e176_33, e176_36, e176_38, e176_41, e176_42, e176_43, e176_46, e176_47, e176_48, e176_51, e176_52, e176_53, e176_56, e176_57, e176_60, e176_61, e176_64, e176_65, e176_68, e176_70, e176_71, e176_72, e176_73, e176_76, e176_77, e176_78, e176_81, e176_84, e176_85, e176_88, e176_89, e176_92, e176_95, e176_97, e176_99, e176_102, e176_105, e176_106, e176_109, e176_110, e176_113, e176_114, e176_115, e176_118, e176_119, e176_120, e176_123, e176_124, e176_125, e176_128, e176_129, e176_130, e176_133, e176_134, e176_135, e176_138, e176_139, e176_142, e176_145, e176_146, e176_148, e176_151, e176_154, e176_155, e176_157, e176_160, e176_163, e176_164, e176_166, e176_169, e176_172, e176_173, e176_175, e176_178, e176_181, e176_182, e176_185, e176_186, e176_187, e176_188, e176_191, e176_192, e176_195, e176_196, e176_199, e176_200, e176_201, e176_204, e176_205, e176_206, e176_209, e176_210, e176_211, e176_212, e176_214, e176_217, e176_220, e176_221, e176_223, e176_226, e176_229, e176_230, e176_233, e176_234, e176_237, e176_238, e176_241, e176_242, e176_245, e176_246, e176_249, e176_250, e176_253, e176_254, e176_255, e176_256, e176_257, e176_260, e176_261, e176_262, e176_265, e176_266, e176_269, e176_272, mk_458 hMz2, mp_71 hMz2, mk_461 hMz2, mp_111 hMz2, mk_488 hMz2, ↓reduceIte, Nat.reduceAdd, Nat.reduceLeDiff, Nat.reduceLT, Nat.reduceEqDiff, not_false_eq_true, false_or, true_or, or_true, or_false, n0_e, n1_ne, n1_11, bI_z, bI_1, bI_fo, va_rf_some, aBk_1, aBk_0, nI_add, nI_mul, hk_si, hp_si, hl_si, hk_sp, hk_sl, hk_cp, hp_cp, f3, fn]
  | inr s =>
    rw [hg] at fz ft
    have fz : MR z τ N s := fz
    have f3 := fz.2.2.2.2.2.2.1
    have es := (go_inr hg).2
    refine ⟨z, fun d => (step d).trans ?_, o2, fz, Wz.fp oz, ?_⟩
    · unfold exAt
      refine (e176_12).trans ?_
      simp only [e176_0, e176_1, e176_2, e176_5, e176_6, e176_9, e176_10, e176_11, e176_13, e176_16, e176_17, e176_20, e176_24, e176_26, e176_29, e176_32, e176_33, e176_36, e176_38, e176_41, e176_42, e176_43, e176_46, e176_47, e176_48, e176_51, e176_52, e176_53, e176_56, e176_57, e176_60, e176_61, e176_64, e176_65, e176_68, e176_70, e176_71, e176_72, e176_73, e176_76, e176_77, e176_78, e176_81, e176_84, e176_85, e176_88, e176_89, e176_92, e176_95, e176_97, e176_99, e176_102, e176_105, e176_106, e176_109, e176_110, e176_113, e176_114, e176_115, e176_118, e176_119, e176_120, e176_123, e176_124, e176_125, e176_128, e176_129, e176_130, e176_133, e176_134, e176_135, e176_138, e176_139, e176_142, e176_145, e176_146, e176_148, e176_151, e176_154, e176_155, e176_157, e176_160, e176_163, e176_164, e176_166, e176_169, e176_172, e176_173, e176_175, e176_178, e176_181, e176_182, e176_185, e176_186, e176_187, e176_188, e176_191, e176_192, e176_195, e176_196, e176_199, e176_200, e176_201, e176_204, e176_205, e176_206, e176_209, e176_210, e176_211, e176_212, e176_214, e176_217, e176_220, e176_221, e176_223, e176_226, e176_229, e176_230, e176_233, e176_234, e176_237, e176_238, e176_241, e176_242, e176_245, e176_246, e176_249, e176_250, e176_253, e176_254, e176_255, e176_256, e176_257, e176_260, e176_261, e176_262, e176_265, e176_266, e176_269, e176_272, mk_458 hMz2, mp_71 hMz2, mk_461 hMz2, mp_111 hMz2, mk_488 hMz2, ↓reduceIte, Nat.reduceAdd, Nat.reduceLeDiff, Nat.reduceLT, Nat.reduceEqDiff, not_false_eq_true, false_or, true_or, or_true, or_false, n0_e, n1_ne, n1_11, bI_z, bI_1, bI_fo, va_rf_some, aBk_1, aBk_0, nI_add, nI_mul, hk_si, hp_si, hl_si, hk_sp, hk_sl, hk_cp, hp_cp, f3]
    · rw [List.length_cons, es]
      show _ ≤ b0 + (σ.1 + 1)
      omega
/-- a closing bracket -/
theorem ex_close (hE : EC h τ N p b0 ws0 c0 σ) (h0 : b0 ≤ 420) (hk : tk_ τ σ.1 = 7) (ho : base < σ.2.1) (ho6 : σ.2.1 ≤ 6) (hc : co false ws0 c0 = (6 :: ws, c)) : match goX τ (cls σ) with
    | .inl e => ∃ h', (∀ d, exAt d 96 base h = some (.returned none, h')) ∧ On (EXs p (b0 + 420)) h h' ∧ MF h' e.1 e.2
    | .inr s => ∃ h', (∀ d, exAt d 96 base h = exAt d 96 base h') ∧ On (EXs p (b0 + 420)) h h' ∧ EC h' τ N p b0 ws c s := by
  obtain ⟨hR, hW, hb⟩ := hE
  obtain ⟨hM, hT, hK, h1, h2, h3, h4, h5, h6, h7⟩ := id hR
  have h40 := hT.1
  have i7 := fun d => m_is (d := d) hR (k := 7) (by decide)
  rw [decide_eq_true hk] at i7
  obtain ⟨y, ey, oy, Wy⟩ := m_comesOut (b := false) (B := b0 + 420) (by omega) ws0 c0 h aU hM hW (by omega)
  rw [← bI_f] at ey
  obtain ⟨l1, l2⟩ := co_len (b := false) ws0 c0
  rw [hc] at Wy l1 l2
  have Wy : WC y p (6 :: ws) c := Wy
  have l1 : ws.length + 1 ≤ ws0.length := l1
  have l2 : c.length + (ws.length + 1) = c0.length + ws0.length := l2
  have Ry := hR.co oy
  have hMy := Ry.1
  obtain ⟨w1, w2, w3, w4, w5, w6, w7⟩ := id Wy
  rw [List.length_cons] at w3 w4
  have gl : ¬ nI σ.2.1 ≤ nI base := nI_ge ho (by omega)
  have oA : On PU y (si_ y 458 112 (nI ws.length)) := On.si (Or.inr ⟨rfl, rfl⟩)
  have oA' : On (AA 458) y (si_ y 458 112 (nI ws.length)) := On.sa
  have R1 := Ry.pu oA
  have hM1 := R1.1
  have W1 : WC (si_ y 458 112 (nI ws.length)) p ws c := ⟨by rw [hi_ne (by omega)]; exact w1, w2.on oA' (fun f _ _ => ⟨fun q => by unfold AA at q; omega, fun q => by unfold AA at q; omega⟩), hi_same, by omega, w7.on oA' (fun f _ q => by unfold AA at q; omega)⟩
  obtain ⟨-, -, K1, a1, a2, a3, a4, a5, a6, a7⟩ := id R1
  obtain ⟨m, hm⟩ : ∃ m, σ.2.1 = m + 1 := ⟨σ.2.1 - 1, by omega⟩
  have o2 : On FP (si_ y 458 112 (nI ws.length)) (si_ (si_ y 458 112 (nI ws.length)) 458 78 (nI m)) := On.si ⟨rfl, by decide, by decide⟩
  have R2 : MR (si_ (si_ y 458 112 (nI ws.length)) 458 78 (nI m)) τ N (cls σ) := by
    refine ⟨hM1.on o2, hT, K1.on o2, h1, ?_, ?_, ?_, h5, ?_, fun q => ⟨(a7 q).1, ?_⟩⟩
    · rw [hi_ne (by omega)]; exact a2
    · rw [hi_same]; show nI m = nI (σ.2.1 - 1); rw [hm]; rfl
    · rw [hi_ne (by omega)]; exact a4
    · rw [hi_ne (by omega)]; exact a6
    · rw [hi_ne (by omega)]; exact (a7 q).2
  have hM2 := R2.1
  have t7 : tk_ τ (cls σ).1 = 7 := hk
  obtain ⟨z, ez, oz, fz⟩ := m_goesOn R2 (R2.nx (by omega) (by omega))
  have hMz := fz.S
  have Wz := (W1.fp o2).fp oz
  have o3 : On (EXs p (b0 + 420)) h z := ((oy.ex_c.trans oA.ex_p).trans o2.ex_f).trans oz.ex_f
  rw [hm] at a3 gl h3
  have y3 : hi_ y 458 78 = nI (m + 1) := by rw [← a3, hi_ne (by omega)]
  have step : ∀ d, exAt d 96 base h = exAt d 96 base z := fun d => by
    unfold exAt
    refine (e176_96).trans ?_
    simp only [e176_0, e176_1, e176_2, e176_5, e176_6, e176_9, e176_10, e176_11, e176_12, e176_13, e176_16, e176_17, e176_20, e176_24, e176_26, e176_29, e176_32, e176_33, e176_36, e176_38, e176_41, e176_42, e176_43, e176_46, e176_47, e176_48, e176_51, e176_52, e176_53, e176_56, e176_57, e176_60, e176_61, e176_64, e176_65, e176_68, e176_70, e176_71, e176_72, e176_73, e176_76, e176_77, e176_78, e176_81, e176_84, e176_85, e176_88, e176_89, e176_92, e176_95, e176_97, e176_99, e176_102, e176_105, e176_106, e176_109, e176_110, e176_113, e176_114, e176_115, e176_118, e176_119, e176_120, e176_123, e176_124, e176_125, e176_128, e176_129, e176_130, e176_133, e176_134, e176_135, e176_138, e176_139, e176_142, e176_145, e176_146, e176_148, e176_151, e176_154, e176_155, e176_157, e176_160, e176_163, e176_164, e176_166, e176_169, e176_172, e176_173, e176_175, e176_178, e176_181, e176_182, e176_185, e176_186, e176_187, e176_188, e176_191, e176_192, e176_195, e176_196, e176_199, e176_200, e176_201, e176_204, e176_205, e176_206, e176_209, e176_210, e176_211, e176_212, e176_214, e176_217, e176_220, e176_221, e176_223, e176_226, e176_229, e176_230, e176_233, e176_234, e176_237, e176_238, e176_241, e176_242, e176_245, e176_246, e176_249, e176_250, e176_253, e176_254, e176_255, e176_256, e176_257, e176_260, e176_261, e176_262, e176_265, e176_266, e176_269, e176_272, mk_458 hM, mp_71 hM, mk_461 hM, mp_111 hM, mk_488 hM, mk_458 hMy, mp_71 hMy, mk_461 hMy, mp_111 hMy, mk_488 hMy, mk_458 hM1, mp_71 hM1, mk_461 hM1, mp_111 hM1, mk_488 hM1, mk_458 hM2, mp_71 hM2, mk_461 hM2, mp_111 hM2, mk_488 hM2, mk_458 hMz, mp_71 hMz, mk_461 hMz, mp_111 hMz, mk_488 hMz, ↓reduceIte, Nat.reduceAdd, Nat.reduceLeDiff, Nat.reduceLT, not_false_eq_true, false_or, true_or, or_true, or_false, n0_e, n1_ne, n1_11, bI_z, bI_1, bI_fo, va_rf_some, aBk_1, aBk_0, nI_add, nI_mul, hk_si, hp_si, hl_si, hk_sp, hk_sl, hk_cp, hp_cp, i7, reduceCtorEq, h3, gl, ey, w3, nI_s1, y3, ez, hi_si, Nat.reduceEqDiff, false_and, true_and, and_false, and_true]
  cases hg : goX τ (cls σ) with
  | inl e =>
    rw [hg] at fz
    obtain ⟨x, ex, ox, fx⟩ := ex_AF (base := base) (b0 := b0) fz Wz (by omega) h0
    exact ⟨x, fun d => (step d).trans (ex d), o3.trans ox, fx⟩
  | inr s =>
    rw [hg] at fz
    have es := (go_inr hg).2
    refine ⟨z, step, o3, fz, Wz, ?_⟩
    rw [es]
    show _ ≤ b0 + (σ.1 + 1)
    omega
/-- the end -/
theorem ex_end (hE : EC h τ N p b0 ws0 c0 σ) (h0 : b0 ≤ 420) (hk : tk_ τ σ.1 ≠ 8 ∧ tk_ τ σ.1 ≠ 9 ∧ tk_ τ σ.1 ≠ 10 ∧ tk_ τ σ.1 ≠ 15) (ho6 : σ.2.1 ≤ 6) : (base < σ.2.1 → tk_ τ σ.1 ≠ 7 → ∃ h', (∀ d, exAt d 96 base h = some (.returned none, h')) ∧ On (EXs p (b0 + 420)) h h' ∧ MF h' 1 (tp_ τ σ.1)) ∧
    (base = σ.2.1 → ∃ h', (∀ d, exAt d 96 base h = some (.returned none, h')) ∧ On (EXs p (b0 + 420)) h h' ∧ MR h' τ N σ ∧ WC h' p (co false ws0 c0).1 (co false ws0 c0).2) := by
  obtain ⟨hR, hW, hb⟩ := hE
  obtain ⟨hM, hT, hK, h1, h2, h3, h4, h5, h6, h7⟩ := id hR
  have h40 := hT.1
  have i7 := fun d => m_is (d := d) hR (k := 7) (by decide)
  have i8 := fun d => m_is (d := d) hR (k := 8) (by decide)
  have i9 := fun d => m_is (d := d) hR (k := 9) (by decide)
  have i10 := fun d => m_is (d := d) hR (k := 10) (by decide)
  have i15 := fun d => m_is (d := d) hR (k := 15) (by decide)
  rw [decide_eq_false hk.1] at i8
  rw [decide_eq_false hk.2.1] at i9
  rw [decide_eq_false hk.2.2.1] at i10
  rw [decide_eq_false hk.2.2.2] at i15
  constructor
  · intro hb2 k7
    rw [decide_eq_false k7] at i7
    have gl : ¬ nI σ.2.1 ≤ nI base := nI_ge hb2 (by omega)
    obtain ⟨y, ey, oy, fy⟩ := m_fail hR (c := 1) (by decide)
    have hMy := fy.1
    obtain ⟨z, ez, oz, -⟩ := m_comesOut (b := false) (B := b0 + 420) (by omega) ws0 c0 y aU hMy (hW.fp oy) (by omega)
    rw [← bI_f] at ez
    refine ⟨z, fun d => ?_, oy.ex_f.trans oz.ex_c, fy.on oz (fun f _ _ _ q => by unfold CO at q; omega)⟩
    unfold exAt
    refine (e176_96).trans ?_
    simp only [e176_0, e176_1, e176_2, e176_5, e176_6, e176_9, e176_10, e176_11, e176_12, e176_13, e176_16, e176_17, e176_20, e176_24, e176_26, e176_29, e176_32, e176_33, e176_36, e176_38, e176_41, e176_42, e176_43, e176_46, e176_47, e176_48, e176_51, e176_52, e176_53, e176_56, e176_57, e176_60, e176_61, e176_64, e176_65, e176_68, e176_70, e176_71, e176_72, e176_73, e176_76, e176_77, e176_78, e176_81, e176_84, e176_85, e176_88, e176_89, e176_92, e176_95, e176_97, e176_99, e176_102, e176_105, e176_106, e176_109, e176_110, e176_113, e176_114, e176_115, e176_118, e176_119, e176_120, e176_123, e176_124, e176_125, e176_128, e176_129, e176_130, e176_133, e176_134, e176_135, e176_138, e176_139, e176_142, e176_145, e176_146, e176_148, e176_151, e176_154, e176_155, e176_157, e176_160, e176_163, e176_164, e176_166, e176_169, e176_172, e176_173, e176_175, e176_178, e176_181, e176_182, e176_185, e176_186, e176_187, e176_188, e176_191, e176_192, e176_195, e176_196, e176_199, e176_200, e176_201, e176_204, e176_205, e176_206, e176_209, e176_210, e176_211, e176_212, e176_214, e176_217, e176_220, e176_221, e176_223, e176_226, e176_229, e176_230, e176_233, e176_234, e176_237, e176_238, e176_241, e176_242, e176_245, e176_246, e176_249, e176_250, e176_253, e176_254, e176_255, e176_256, e176_257, e176_260, e176_261, e176_262, e176_265, e176_266, e176_269, e176_272, mk_458 hM, mp_71 hM, mk_461 hM, mp_111 hM, mk_488 hM, mk_458 hMy, mp_71 hMy, mk_461 hMy, mp_111 hMy, mk_488 hMy, ↓reduceIte, Nat.reduceAdd, Nat.reduceLeDiff, Nat.reduceLT, Nat.reduceEqDiff, not_false_eq_true, false_or, true_or, or_true, or_false, n0_e, n1_ne, n1_11, bI_z, bI_1, bI_fo, va_rf_some, aBk_1, aBk_0, nI_add, nI_mul, hk_si, hp_si, hl_si, hk_sp, hk_sl, hk_cp, hp_cp, i7, i8, i9, i10, i15, h3, gl, ey, ez]
  · intro hb2
    have gl : nI σ.2.1 ≤ nI base := by rw [hb2]; exact Int32.le_refl _
    obtain ⟨z, ez, oz, Wz⟩ := m_comesOut (b := false) (B := b0 + 420) (by omega) ws0 c0 h aU hM hW (by omega)
    rw [← bI_f] at ez
    refine ⟨z, fun d => ?_, oz.ex_c, hR.co oz, Wz⟩
    unfold exAt
    refine (e176_96).trans ?_
    by_cases k7 : tk_ τ σ.1 = 7
    · rw [decide_eq_true k7] at i7
      simp only [e176_0, e176_1, e176_2, e176_5, e176_6, e176_9, e176_10, e176_11, e176_12, e176_13, e176_16, e176_17, e176_20, e176_24, e176_26, e176_29, e176_32, e176_33, e176_36, e176_38, e176_41, e176_42, e176_43, e176_46, e176_47, e176_48, e176_51, e176_52, e176_53, e176_56, e176_57, e176_60, e176_61, e176_64, e176_65, e176_68, e176_70, e176_71, e176_72, e176_73, e176_76, e176_77, e176_78, e176_81, e176_84, e176_85, e176_88, e176_89, e176_92, e176_95, e176_97, e176_99, e176_102, e176_105, e176_106, e176_109, e176_110, e176_113, e176_114, e176_115, e176_118, e176_119, e176_120, e176_123, e176_124, e176_125, e176_128, e176_129, e176_130, e176_133, e176_134, e176_135, e176_138, e176_139, e176_142, e176_145, e176_146, e176_148, e176_151, e176_154, e176_155, e176_157, e176_160, e176_163, e176_164, e176_166, e176_169, e176_172, e176_173, e176_175, e176_178, e176_181, e176_182, e176_185, e176_186, e176_187, e176_188, e176_191, e176_192, e176_195, e176_196, e176_199, e176_200, e176_201, e176_204, e176_205, e176_206, e176_209, e176_210, e176_211, e176_212, e176_214, e176_217, e176_220, e176_221, e176_223, e176_226, e176_229, e176_230, e176_233, e176_234, e176_237, e176_238, e176_241, e176_242, e176_245, e176_246, e176_249, e176_250, e176_253, e176_254, e176_255, e176_256, e176_257, e176_260, e176_261, e176_262, e176_265, e176_266, e176_269, e176_272, mk_458 hM, mp_71 hM, mk_461 hM, mp_111 hM, mk_488 hM, ↓reduceIte, Nat.reduceAdd, Nat.reduceLeDiff, Nat.reduceLT, Nat.reduceEqDiff, not_false_eq_true, false_or, true_or, or_true, or_false, n0_e, n1_ne, n1_11, bI_z, bI_1, bI_fo, va_rf_some, aBk_1, aBk_0, nI_add, nI_mul, hk_si, hp_si, hl_si, hk_sp, hk_sl, hk_cp, hp_cp, i7, i8, i9, i10, i15, reduceCtorEq, h3, gl, ez]
    · rw [decide_eq_false k7] at i7
      simp only [e176_0, e176_1, e176_2, e176_5, e176_6, e176_9, e176_10, e176_11, e176_12, e176_13, e176_16, e176_17, e176_20, e176_24, e176_26, e176_29, e176_32, e176_33, e176_36, e176_38, e176_41, e176_42, e176_43, e176_46, e176_47, e176_48, e176_51, e176_52, e176_53, e176_56, e176_57, e176_60, e176_61, e176_64, e176_65, e176_68, e176_70, e176_71, e176_72, e176_73, e176_76, e176_77, e176_78, e176_81, e176_84, e176_85, e176_88, e176_89, e176_92, e176_95, e176_97, e176_99, e176_102, e176_105, e176_106, e176_109, e176_110, e176_113, e176_114, e176_115, e176_118, e176_119, e176_120, e176_123, e176_124, e176_125, e176_128, e176_129, e176_130, e176_133, e176_134, e176_135, e176_138, e176_139, e176_142, e176_145, e176_146, e176_148, e176_151, e176_154, e176_155, e176_157, e176_160, e176_163, e176_164, e176_166, e176_169, e176_172, e176_173, e176_175, e176_178, e176_181, e176_182, e176_185, e176_186, e176_187, e176_188, e176_191, e176_192, e176_195, e176_196, e176_199, e176_200, e176_201, e176_204, e176_205, e176_206, e176_209, e176_210, e176_211, e176_212, e176_214, e176_217, e176_220, e176_221, e176_223, e176_226, e176_229, e176_230, e176_233, e176_234, e176_237, e176_238, e176_241, e176_242, e176_245, e176_246, e176_249, e176_250, e176_253, e176_254, e176_255, e176_256, e176_257, e176_260, e176_261, e176_262, e176_265, e176_266, e176_269, e176_272, mk_458 hM, mp_71 hM, mk_461 hM, mp_111 hM, mk_488 hM, ↓reduceIte, Nat.reduceAdd, Nat.reduceLeDiff, Nat.reduceLT, Nat.reduceEqDiff, not_false_eq_true, false_or, true_or, or_true, or_false, n0_e, n1_ne, n1_11, bI_z, bI_1, bI_fo, va_rf_some, aBk_1, aBk_0, nI_add, nI_mul, hk_si, hp_si, hl_si, hk_sp, hk_sl, hk_cp, hp_cp, i7, i8, i9, i10, i15, h3, gl, ez]
end M20
