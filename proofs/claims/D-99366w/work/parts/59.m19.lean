set_option maxRecDepth 100000
/-! M: reading (8): expression -/
def EXs (p B a f : Nat) : Prop := FP a f ∨ CO p B a f ∨ a = 488
def EC (h : aH) (τ : aTok) (N p b0 : Nat) (ws : List Nat) (c : cdT) (σ : aPs) : Prop := MR h τ N σ ∧ WC h p ws c ∧ p + c.length + ws.length ≤ b0 + σ.1
/-- a strong sign comes next -/
def bs (τ : aTok) (σ : aPs) : Bool := decide (tk_ τ σ.1 = 10 ∨ tk_ τ σ.1 = 15)
noncomputable def exAt (d pc b : Nat) (h : aH) : aR := (run (d + 3) 176 pc [.ref 458, .int (nI b), .int (nI 1)] [] h)
def pu_ (h : aH) (n : Nat) (w : Int32) : aH := si_ (si_ h 488 n w) 458 112 (nI (n + 1))
def PU (a f : Nat) : Prop := a = 488 ∨ (a = 458 ∧ f = 112)
theorem co_st {w : Nat} {ws : List Nat} {c : cdT} {b : Bool} (hw : w = 10 ∨ w = 15) : co b (w :: ws) c = co b ws (c ++ [(oc w, 0)]) := if_neg (by omega)
theorem co_wk {w : Nat} {ws : List Nat} {c : cdT} (hw : w = 8 ∨ w = 9) : co false (w :: ws) c = co false ws (c ++ [(oc w, 0)]) := if_neg (by
  intro q
  rcases q with q | ⟨q, -⟩
  · omega
  · cases q)
theorem co_wt {w : Nat} {ws : List Nat} {c : cdT} (hw : w = 8 ∨ w = 9) : co true (w :: ws) c = (w :: ws, c) := if_pos (Or.inr ⟨rfl, hw⟩)
theorem co_6 {ws : List Nat} {c : cdT} {b : Bool} : co b (6 :: ws) c = (6 :: ws, c) := if_pos (Or.inl rfl)
section M19
variable {d N p b0 base : Nat} {h h' : aH} {τ : aTok} {x : aEr aPs} {σ : aPs} {ws : List Nat} {c : cdT}
theorem pu_on {n : Nat} {w : Int32} : On PU h (pu_ h n w) := (On.si (Or.inl rfl)).trans (On.si (Or.inr ⟨rfl, rfl⟩))
theorem pu_wc (hW : WC h p ws c) {w : Nat} (hw : w < 64) (hn : ws.length ≤ 59) : WC (pu_ h ws.length (nI w)) p (w :: ws) c := by
  obtain ⟨w1, w2, w3, w4, w5⟩ := hW
  refine ⟨?_, w2.on (pu_on (n := ws.length) (w := nI w)) (fun f _ _ => ⟨fun q => by unfold PU at q; omega, fun q => by unfold PU at q; omega⟩), hi_same, by rw [List.length_cons]; omega, ?_, hw, ?_⟩
  · show hi_ (si_ (si_ h _ _ _) _ _ _) 458 108 = _
    rw [hi_ne (by omega), hi_ne (by omega)]; exact w1
  · show hi_ (si_ (si_ h _ _ _) _ _ _) 488 _ = _
    rw [hi_ne (by omega)]; exact hi_same
  · have o : On (fun a f => a = 458 ∨ (a = 488 ∧ f = ws.length)) h (pu_ h ws.length (nI w)) := (On.si (Or.inr ⟨rfl, rfl⟩)).trans (On.si (Or.inl rfl))
    exact w5.on o (fun f hf q => by omega)
theorem MR.pu (hR : MR h τ N σ) (o : On PU h h') : MR h' τ N σ := hR.ol (o.OL (L := fun _ => False)) (fun _ _ q => by unfold PU at q; omega) (fun q => q)
theorem MF.on {e1 e2 : Nat} (hF : MF h e1 e2) {S : Nat → Nat → Prop} (o : On S h h') (hs : ∀ f, 77 ≤ f → f ≤ 80 → f ≠ 78 → ¬ S 458 f) : MF h' e1 e2 := by
  obtain ⟨hM, ⟨t, ht, et⟩, h1, h2, h3, h4⟩ := hF
  exact ⟨hM.on o, ⟨t, ht, (o.i (hs _ (by decide) (by decide) (by decide))).trans et⟩, h1, h2, (o.i (hs _ (by decide) (by decide) (by decide))).trans h3, (o.i (hs _ (by decide) (by decide) (by decide))).trans h4⟩
theorem On.ex_f (o : On FP h h') {B : Nat} : On (EXs p B) h h' := o.mono (fun _ _ q => Or.inl q)
theorem On.ex_c {B : Nat} (o : On (CO p B) h h') : On (EXs p B) h h' := o.mono (fun _ _ q => Or.inr (Or.inl q))
theorem On.ex_p (o : On PU h h') {B : Nat} : On (EXs p B) h h' := o.mono (fun a f q => by unfold PU at q; unfold EXs CO; omega)
theorem On.ex_u {B : Nat} (o : On (UN p B) h h') : On (EXs p B) h h' := o.mono (fun _ _ q => q.elim Or.inl (fun z => Or.inr (Or.inl z)))
/-- in fault, ahead of a unit -/
theorem ex_SF {e1 e2 : Nat} (hF : MF h e1 e2) : exAt d 23 base h = some (.returned none, h) := by
  have hM := hF.1
  have f3 := hF.2.2.2.2.1
  have fz : ¬ nI e1 ≤ 0 := nI_nle hF.2.2.1 (by have := hF.2.2.2.1; omega)
  unfold exAt
  refine (e176_23).trans ?_
  simp only [e176_0, e176_1, e176_2, e176_5, e176_6, e176_9, e176_10, e176_11, e176_12, e176_13, e176_16, e176_17, e176_20, e176_24, e176_26, e176_29, e176_32, e176_33, e176_36, e176_38, e176_41, e176_42, e176_43, e176_46, e176_47, e176_48, e176_51, e176_52, e176_53, e176_56, e176_57, e176_60, e176_61, e176_64, e176_65, e176_68, e176_70, e176_71, e176_72, e176_73, e176_76, e176_77, e176_78, e176_81, e176_84, e176_85, e176_88, e176_89, e176_92, e176_95, e176_96, e176_97, e176_99, e176_102, e176_105, e176_106, e176_109, e176_110, e176_113, e176_114, e176_115, e176_118, e176_119, e176_120, e176_123, e176_124, e176_125, e176_128, e176_129, e176_130, e176_133, e176_134, e176_135, e176_138, e176_139, e176_142, e176_145, e176_146, e176_148, e176_151, e176_154, e176_155, e176_157, e176_160, e176_163, e176_164, e176_166, e176_169, e176_172, e176_173, e176_175, e176_178, e176_181, e176_182, e176_185, e176_186, e176_187, e176_188, e176_191, e176_192, e176_195, e176_196, e176_199, e176_200, e176_201, e176_204, e176_205, e176_206, e176_209, e176_210, e176_211, e176_212, e176_214, e176_217, e176_220, e176_221, e176_223, e176_226, e176_229, e176_230, e176_233, e176_234, e176_237, e176_238, e176_241, e176_242, e176_245, e176_246, e176_249, e176_250, e176_253, e176_254, e176_255, e176_256, e176_257, e176_260, e176_261, e176_262, e176_265, e176_266, e176_269, e176_272, mk_458 hM, mp_71 hM, mk_461 hM, mp_111 hM, mk_488 hM, ↓reduceIte, Nat.reduceAdd, Nat.reduceLeDiff, Nat.reduceLT, Nat.reduceEqDiff, not_false_eq_true, false_or, true_or, or_true, or_false, n0_e, n1_ne, n1_11, bI_z, bI_1, bI_fo, va_rf_some, aBk_1, aBk_0, nI_add, nI_mul, hk_si, hp_si, hl_si, hk_sp, hk_sl, hk_cp, hp_cp, m_isF hF, m_unitF hF, f3, fz]
/-- in fault, behind a unit -/
theorem ex_AF {e1 e2 : Nat} (hF : MF h e1 e2) (hW : WC h p ws c) (hb : p + c.length + ws.length ≤ b0 + 420) (h0 : b0 ≤ 420) : ∃ h', (∀ d, exAt d 96 base h = some (.returned none, h')) ∧ On (EXs p (b0 + 420)) h h' ∧ MF h' e1 e2 := by
  have hM := hF.1
  obtain ⟨y, ey, oy, -⟩ := m_comesOut (b := false) (B := b0 + 420) (by omega) ws c h aU hM hW hb
  rw [← bI_f] at ey
  refine ⟨y, fun d => ?_, oy.ex_c, hF.on oy (fun f _ _ _ q => by unfold CO at q; omega)⟩
  unfold exAt
  refine (e176_96).trans ?_
  by_cases q : hi_ h 458 78 ≤ nI base
  · simp only [e176_0, e176_1, e176_2, e176_5, e176_6, e176_9, e176_10, e176_11, e176_12, e176_13, e176_16, e176_17, e176_20, e176_24, e176_26, e176_29, e176_32, e176_33, e176_36, e176_38, e176_41, e176_42, e176_43, e176_46, e176_47, e176_48, e176_51, e176_52, e176_53, e176_56, e176_57, e176_60, e176_61, e176_64, e176_65, e176_68, e176_70, e176_71, e176_72, e176_73, e176_76, e176_77, e176_78, e176_81, e176_84, e176_85, e176_88, e176_89, e176_92, e176_95, e176_97, e176_99, e176_102, e176_105, e176_106, e176_109, e176_110, e176_113, e176_114, e176_115, e176_118, e176_119, e176_120, e176_123, e176_124, e176_125, e176_128, e176_129, e176_130, e176_133, e176_134, e176_135, e176_138, e176_139, e176_142, e176_145, e176_146, e176_148, e176_151, e176_154, e176_155, e176_157, e176_160, e176_163, e176_164, e176_166, e176_169, e176_172, e176_173, e176_175, e176_178, e176_181, e176_182, e176_185, e176_186, e176_187, e176_188, e176_191, e176_192, e176_195, e176_196, e176_199, e176_200, e176_201, e176_204, e176_205, e176_206, e176_209, e176_210, e176_211, e176_212, e176_214, e176_217, e176_220, e176_221, e176_223, e176_226, e176_229, e176_230, e176_233, e176_234, e176_237, e176_238, e176_241, e176_242, e176_245, e176_246, e176_249, e176_250, e176_253, e176_254, e176_255, e176_256, e176_257, e176_260, e176_261, e176_262, e176_265, e176_266, e176_269, e176_272, mk_458 hM, mp_71 hM, mk_461 hM, mp_111 hM, mk_488 hM, ↓reduceIte, Nat.reduceAdd, Nat.reduceLeDiff, Nat.reduceLT, Nat.reduceEqDiff, not_false_eq_true, false_or, true_or, or_true, or_false, n0_e, n1_ne, n1_11, bI_z, bI_1, bI_fo, va_rf_some, aBk_1, aBk_0, nI_add, nI_mul, hk_si, hp_si, hl_si, hk_sp, hk_sl, hk_cp, hp_cp, m_isF hF, q, ey]
  · simp only [e176_0, e176_1, e176_2, e176_5, e176_6, e176_9, e176_10, e176_11, e176_12, e176_13, e176_16, e176_17, e176_20, e176_24, e176_26, e176_29, e176_32, e176_33, e176_36, e176_38, e176_41, e176_42, e176_43, e176_46, e176_47, e176_48, e176_51, e176_52, e176_53, e176_56, e176_57, e176_60, e176_61, e176_64, e176_65, e176_68, e176_70, e176_71, e176_72, e176_73, e176_76, e176_77, e176_78, e176_81, e176_84, e176_85, e176_88, e176_89, e176_92, e176_95, e176_97, e176_99, e176_102, e176_105, e176_106, e176_109, e176_110, e176_113, e176_114, e176_115, e176_118, e176_119, e176_120, e176_123, e176_124, e176_125, e176_128, e176_129, e176_130, e176_133, e176_134, e176_135, e176_138, e176_139, e176_142, e176_145, e176_146, e176_148, e176_151, e176_154, e176_155, e176_157, e176_160, e176_163, e176_164, e176_166, e176_169, e176_172, e176_173, e176_175, e176_178, e176_181, e176_182, e176_185, e176_186, e176_187, e176_188, e176_191, e176_192, e176_195, e176_196, e176_199, e176_200, e176_201, e176_204, e176_205, e176_206, e176_209, e176_210, e176_211, e176_212, e176_214, e176_217, e176_220, e176_221, e176_223, e176_226, e176_229, e176_230, e176_233, e176_234, e176_237, e176_238, e176_241, e176_242, e176_245, e176_246, e176_249, e176_250, e176_253, e176_254, e176_255, e176_256, e176_257, e176_260, e176_261, e176_262, e176_265, e176_266, e176_269, e176_272, mk_458 hM, mp_71 hM, mk_461 hM, mp_111 hM, mk_488 hM, ↓reduceIte, Nat.reduceAdd, Nat.reduceLeDiff, Nat.reduceLT, Nat.reduceEqDiff, not_false_eq_true, false_or, true_or, or_true, or_false, n0_e, n1_ne, n1_11, bI_z, bI_1, bI_fo, va_rf_some, aBk_1, aBk_0, nI_add, nI_mul, hk_si, hp_si, hl_si, hk_sp, hk_sl, hk_cp, hp_cp, m_isF hF, q, m_failF hF, ey]
/-- an opening bracket too many -/
theorem ex_open6 (hR : MR h τ N σ) (hW : WC h p ws c) (hk : tk_ τ σ.1 = 6) (ho : σ.2.1 = 6) {B : Nat} : ∃ h', (∀ d, exAt d 23 base h = some (.returned none, h')) ∧ On (EXs p B) h h' ∧ MF h' 2 (tp_ τ σ.1) := by
  have hM := hR.1
  have h3 := hR.2.2.2.2.2.1
  have ei := fun d => m_is (d := d) hR (k := 6) (by decide)
  rw [decide_eq_true hk] at ei
  obtain ⟨y, ey, oy, fy⟩ := m_fail hR (c := 2) (by decide)
  have hMy := fy.1
  have o1 : On FP y (si_ y 458 78 (hi_ y 458 78 + nI 1)) := On.si ⟨rfl, by decide, by decide⟩
  have f1 : MF (si_ y 458 78 (hi_ y 458 78 + nI 1)) 2 (tp_ τ σ.1) := fy.on (S := fun a f => a = 458 ∧ f = 78) (On.si ⟨rfl, rfl⟩) (fun f _ _ z q => z q.2)
  obtain ⟨z, ez, oz, fz⟩ := m_goesOnF f1
  have hM1 := f1.1
  have hMz := fz.1
  have Wz := ((hW.fp oy).fp o1).fp oz
  have w3 := Wz.2.2.1
  have w4 := Wz.2.2.2.1
  have g1 : ws.length < 64 := by omega
  have f2 : MF (pu_ z ws.length (nI 6)) 2 (tp_ τ σ.1) := fz.on pu_on (fun f _ _ _ q => by unfold PU at q; omega)
  refine ⟨pu_ z ws.length (nI 6), fun d => ?_, ((oy.ex_f.trans o1.ex_f).trans oz.ex_f).trans pu_on.ex_p, f2⟩
  have eo : hi_ h 458 78 = nI 6 := by rw [h3, ho]
  have es := ex_SF (d := d) (base := base) f2
  unfold exAt at es ⊢
  refine (e176_23).trans ?_
  simp only [e176_0, e176_1, e176_2, e176_5, e176_6, e176_9, e176_10, e176_11, e176_12, e176_13, e176_16, e176_17, e176_20, e176_24, e176_26, e176_29, e176_32, e176_33, e176_36, e176_38, e176_41, e176_42, e176_43, e176_46, e176_47, e176_48, e176_51, e176_52, e176_53, e176_56, e176_57, e176_60, e176_61, e176_64, e176_65, e176_68, e176_70, e176_71, e176_72, e176_73, e176_76, e176_77, e176_78, e176_81, e176_84, e176_85, e176_88, e176_89, e176_92, e176_95, e176_96, e176_97, e176_99, e176_102, e176_105, e176_106, e176_109, e176_110, e176_113, e176_114, e176_115, e176_118, e176_119, e176_120, e176_123, e176_124, e176_125, e176_128, e176_129, e176_130, e176_133, e176_134, e176_135, e176_138, e176_139, e176_142, e176_145, e176_146, e176_148, e176_151, e176_154, e176_155, e176_157, e176_160, e176_163, e176_164, e176_166, e176_169, e176_172, e176_173, e176_175, e176_178, e176_181, e176_182, e176_185, e176_186, e176_187, e176_188, e176_191, e176_192, e176_195, e176_196, e176_199, e176_200, e176_201, e176_204, e176_205, e176_206, e176_209, e176_210, e176_211, e176_212, e176_214, e176_217, e176_220, e176_221, e176_223, e176_226, e176_229, e176_230, e176_233, e176_234, e176_237, e176_238, e176_241, e176_242, e176_245, e176_246, e176_249, e176_250, e176_253, e176_254, e176_255, e176_256, e176_257, e176_260, e176_261, e176_262, e176_265, e176_266, e176_269, e176_272, mk_458 hM, mp_71 hM, mk_461 hM, mp_111 hM, mk_488 hM, mk_458 hMy, mp_71 hMy, mk_461 hMy, mp_111 hMy, mk_488 hMy, mk_458 hM1, mp_71 hM1, mk_461 hM1, mp_111 hM1, mk_488 hM1, mk_458 hMz, mp_71 hMz, mk_461 hMz, mp_111 hMz, mk_488 hMz, ↓reduceIte, Nat.reduceAdd, Nat.reduceLeDiff, Nat.reduceLT, not_false_eq_true, false_or, true_or, or_true, or_false, n0_e, n1_ne, n1_11, bI_z, bI_1, bI_fo, va_rf_some, aBk_1, aBk_0, nI_add, nI_mul, hk_si, hp_si, hl_si, hk_sp, hk_sl, hk_cp, hp_cp, ei, reduceCtorEq, eo, ey, ez, w3, g1, hi_si, Nat.reduceEqDiff, false_and, true_and, and_false, and_true]
  exact es
/-- an opening bracket -/
theorem ex_open (hE : EC h τ N p b0 ws c σ) (hk : tk_ τ σ.1 = 6) (ho : σ.2.1 < 6) (hl : ws.length ≤ 59) : match goX τ (opn σ) with
    | .inl e => ∃ h', (∀ d, exAt d 23 base h = some (.returned none, h')) ∧ On (EXs p (b0 + 420)) h h' ∧ MF h' e.1 e.2
    | .inr s => ∃ h', (∀ d, exAt d 23 base h = exAt d 23 base h') ∧ On (EXs p (b0 + 420)) h h' ∧ EC h' τ N p b0 (6 :: ws) c s := by
  obtain ⟨hR, hW, hb⟩ := hE
  obtain ⟨hM, hT, hK, h1, h2, h3, h4, h5, h6, h7⟩ := id hR
  have ei := fun d => m_is (d := d) hR (k := 6) (by decide)
  rw [decide_eq_true hk] at ei
  have o1 : On FP h (si_ h 458 78 (nI (σ.2.1 + 1))) := On.si ⟨rfl, by decide, by decide⟩
  have R1 : MR (si_ h 458 78 (nI (σ.2.1 + 1))) τ N (opn σ) := by
    refine ⟨hM.on o1, hT, hK.on o1, h1, ?_, hi_same, ?_, h5, ?_, fun q => ⟨(h7 q).1, ?_⟩⟩
    · rw [hi_ne (by omega)]; exact h2
    · rw [hi_ne (by omega)]; exact h4
    · rw [hi_ne (by omega)]; exact h6
    · rw [hi_ne (by omega)]; exact (h7 q).2
  have hM1 := R1.1
  have t6 : tk_ τ (opn σ).1 = 6 := hk
  obtain ⟨z, ez, oz, fz⟩ := m_goesOn R1 (R1.nx (by omega) (by omega))
  have hMz := fz.S
  have Wz := (hW.fp o1).fp oz
  have w3 := Wz.2.2.1
  have g1 : ws.length < 64 := by omega
  have e6 : (nI σ.2.1 = nI 6) = False := by rw [nI_eqL (by omega) (by decide)]; exact eq_false (by omega)
  have step : ∀ d, exAt d 23 base h = exAt d 23 base (pu_ z ws.length (nI 6)) := fun d => by
    unfold exAt
    refine (e176_23).trans ?_
    simp only [e176_0, e176_1, e176_2, e176_5, e176_6, e176_9, e176_10, e176_11, e176_12, e176_13, e176_16, e176_17, e176_20, e176_24, e176_26, e176_29, e176_32, e176_33, e176_36, e176_38, e176_41, e176_42, e176_43, e176_46, e176_47, e176_48, e176_51, e176_52, e176_53, e176_56, e176_57, e176_60, e176_61, e176_64, e176_65, e176_68, e176_70, e176_71, e176_72, e176_73, e176_76, e176_77, e176_78, e176_81, e176_84, e176_85, e176_88, e176_89, e176_92, e176_95, e176_96, e176_97, e176_99, e176_102, e176_105, e176_106, e176_109, e176_110, e176_113, e176_114, e176_115, e176_118, e176_119, e176_120, e176_123, e176_124, e176_125, e176_128, e176_129, e176_130, e176_133, e176_134, e176_135, e176_138, e176_139, e176_142, e176_145, e176_146, e176_148, e176_151, e176_154, e176_155, e176_157, e176_160, e176_163, e176_164, e176_166, e176_169, e176_172, e176_173, e176_175, e176_178, e176_181, e176_182, e176_185, e176_186, e176_187, e176_188, e176_191, e176_192, e176_195, e176_196, e176_199, e176_200, e176_201, e176_204, e176_205, e176_206, e176_209, e176_210, e176_211, e176_212, e176_214, e176_217, e176_220, e176_221, e176_223, e176_226, e176_229, e176_230, e176_233, e176_234, e176_237, e176_238, e176_241, e176_242, e176_245, e176_246, e176_249, e176_250, e176_253, e176_254, e176_255, e176_256, e176_257, e176_260, e176_261, e176_262, e176_265, e176_266, e176_269, e176_272, mk_458 hM, mp_71 hM, mk_461 hM, mp_111 hM, mk_488 hM, mk_458 hM1, mp_71 hM1, mk_461 hM1, mp_111 hM1, mk_488 hM1, mk_458 hMz, mp_71 hMz, mk_461 hMz, mp_111 hMz, mk_488 hMz, ↓reduceIte, Nat.reduceAdd, Nat.reduceLeDiff, Nat.reduceLT, not_false_eq_true, false_or, true_or, or_true, or_false, n0_e, n1_ne, n1_11, bI_z, bI_1, bI_fo, va_rf_some, aBk_1, aBk_0, nI_add, nI_mul, hk_si, hp_si, hl_si, hk_sp, hk_sl, hk_cp, hp_cp, ei, reduceCtorEq, h3, e6, ez, w3, g1, hi_si, Nat.reduceEqDiff, false_and, true_and, and_false, and_true]
    rfl
  have o2 : On (EXs p (b0 + 420)) h (pu_ z ws.length (nI 6)) := (o1.ex_f.trans oz.ex_f).trans pu_on.ex_p
  cases hg : goX τ (opn σ) with
  | inl e =>
    rw [hg] at fz
    have f2 : MF (pu_ z ws.length (nI 6)) e.1 e.2 := MF.on fz pu_on (fun f _ _ _ q => by unfold PU at q; omega)
    exact ⟨_, fun d => (step d).trans (ex_SF f2), o2, f2⟩
  | inr s =>
    rw [hg] at fz
    have fz : MR z τ N s := fz
    have es := (go_inr hg).2
    refine ⟨_, step, o2, fz.pu pu_on, pu_wc Wz (by decide) hl, ?_⟩
    rw [List.length_cons, es]
    show _ ≤ b0 + (σ.1 + 1)
    omega
end M19
