set_option maxRecDepth 100000
/-! M: reading (15): a line of a sunday -/
/-- names and counts agree -/
def NV (ν : aNs) (T : aTx) : Prop := ν.2.2 = ns_ T + ng_ T ∧ ns_ T ≤ 4 ∧ ng_ T ≤ 7 ∧ ∀ k, k < ν.2.2 → ν.2.1 k < ns_ T ∨ (10 ≤ ν.2.1 k ∧ ν.2.1 k < 10 + ng_ T)
theorem bnd_inr {τ : aTok} {σ s : aPs} {lo hi : Nat} (h : bndX τ σ lo hi = .inr s) : tk_ τ σ.1 = 2 ∧ s.1 = σ.1 + 1 ∧ s.2.1 = (if tv_ τ σ.1 < lo ∨ hi < tv_ τ σ.1 then wrongX σ 5 σ.1 else σ).2.1 := by
  unfold bndX at h
  by_cases q : tk_ τ σ.1 = 2
  · rw [if_pos q] at h
    obtain ⟨-, e⟩ := go_inr h
    refine ⟨q, ?_, by rw [e]⟩
    rw [e]
    show (if _ then _ else _ : aPs).1 + 1 = _
    split
    · rw [wrong_t]
    · rfl
  · rw [if_neg q] at h; cases h
def TOR (τ : aTok) (N sd p b : Nat) (h : aH) (y : aEr aRd) : Prop := match y with
  | .inl e => ∃ h', (∀ d, (run (d + 6) 163 0 [.ref 458, aU, aU] [] h) = some (.returned none, h')) ∧ OL (TOF sd) LN h h' ∧ MF h' e.1 e.2
  | .inr ρ => ∃ h' p' b', (∀ d, (run (d + 6) 163 0 [.ref 458, aU, aU] [] h) = some (.returned none, h')) ∧ OL (TOF sd) LN h h' ∧ MR h' τ N ρ.1 ∧ MN h' ρ.2.1 ∧ MXt h' sd ρ.2.2.1 ρ.2.2.2 p' b' ∧ (420 * sd ≤ p' ∧ p' ≤ 420 * sd + ρ.1.1) ∧ (130 * sd ≤ b' ∧ 4 * b' ≤ 4 * (130 * sd) + ρ.1.1)
section M28
variable {d N sd p b nf : Nat} {h h' : aH} {τ : aTok} {σ : aPs} {ν : aNs} {T : aTx}
theorem MN.ol {S : Nat → Nat → Prop} {L : Nat → Prop} (hN : MN h ν) (o : OL S L h h') (hs : ∀ a f, S a f → a ≠ 467 ∧ (a = 458 → f ≠ 86)) (hl : ¬ L 466) : MN h' ν := by
  obtain ⟨h1, h2, h3⟩ := hN
  refine ⟨h1, (o.i (fun q => ((hs _ _ q).2 rfl) rfl)).trans h2, fun k hk => ?_⟩
  obtain ⟨a, b, c⟩ := h3 k hk
  exact ⟨(o.l hl).trans a, (o.i (fun q => ((hs _ _ q).1) rfl)).trans b, c⟩
/-- what a sunday's line writes -/
def SUF (sd n a f : Nat) : Prop := FP a f ∨ NQ a f ∨ ((a = 469 ∨ a = 470) ∧ f = 4 * sd + n)
theorem m_tlS (hR : MR h τ N σ) (hk : tk_ τ σ.1 = 20) (hN : MN h ν) (hV : NV ν T) (hX : MXt h sd T nf p b) (hs2 : sd < 2) (hp : 420 * sd ≤ p ∧ p ≤ 420 * sd + σ.1) (hb : 130 * sd ≤ b ∧ 4 * b ≤ 4 * (130 * sd) + σ.1) : TOR τ N sd p b h (tlS τ σ ν T nf) := by
  obtain ⟨hM, hT, hK, t1, t2, t3, t4, -⟩ := id hR
  have h40 := hT.1
  have g1 : σ.1 < 403 := by omega
  have ek : hi_ h 461 σ.1 = nI 20 := by rw [(hK σ.1 t1).1, hk]
  obtain ⟨v1, v2, v3, v4⟩ := hV
  obtain ⟨⟨⟨x1, x2⟩, x3⟩, x4, x5, x6, x7, x8⟩ := id hX
  have hle0 : nI 0 ≤ 0 := by decide
  obtain ⟨h1, r1, o1, O1⟩ := m_roomFor hR (has := ns_ T) (most := 4) (by omega) (by omega) (by omega) (by decide)
  have hM1 := O1.S
  have X1 := hX.fp v2 v3 o1
  have s1' : hi_ h1 458 85 = nI sd := X1.2.2.2.2.2
  have n1' : hi_ h1 468 sd = nI (ns_ T) := X1.1.1.1
  unfold tlS
  cases hx1 : roomX τ (ns_ T) 4 σ with
  | inl e =>
    rw [hx1] at O1
    have hF : MF h1 e.1 e.2 := O1
    have f3 : hi_ h1 458 79 = nI e.1 := hF.2.2.2.2.1
    have fz : ¬ nI e.1 ≤ 0 := nI_nle hF.2.2.1 (by have := hF.2.2.2.1; omega)
    refine ⟨h1, fun d => ?_, (o1.mono (fun _ _ q => Or.inl q)).OL, hF⟩
    simp only [e163_0, e163_1, e163_4, e163_5, e163_8, e163_9_20, e163_9_21, e163_9_22, e163_9_23, e163_9_24, e163_9_25, e163_9_26, e163_9_27, e163_9_28, e163_9_d, e163_60, e163_61, e163_62, e163_65, e163_66, e163_69, e163_70, e163_71, e163_74, e163_75, e163_78, e163_81, e163_82, e163_83, e163_84, e163_87, e163_88, e163_89, e163_92, e163_93, e163_96, e163_97, e163_98, e163_99, e163_100, e163_103, e163_104, e163_105, e163_108, e163_109, e163_110, e163_111, e163_113, e163_116, e163_117, e163_118, e163_121, e163_122, e163_123, e163_124, e163_126, e163_129, e163_130, e163_131, e163_132, e163_133, e163_136, e163_137, e163_140, e163_141, e163_144, e163_145, e163_148, e163_151, e163_152, e163_155, e163_156, e163_159, e163_160, e163_161, e163_162, e163_163, e163_164, e163_167, e163_168, e163_169, e163_172, e163_173, e163_176, e163_177, e163_179, e163_182, e163_183, e163_186, e163_189, e163_190, e163_192, e163_193, e163_196, e163_197, e163_198, e163_201, e163_202, e163_205, e163_206, e163_207, e163_208, e163_209, e163_212, e163_213, e163_214, e163_217, e163_218, e163_219, e163_220, e163_222, e163_225, e163_226, e163_227, e163_230, e163_231, e163_232, e163_233, e163_235, e163_238, e163_239, e163_240, e163_243, e163_244, e163_245, e163_246, e163_248, e163_251, e163_252, e163_253, e163_254, e163_256, e163_257, e163_260, e163_261, e163_264, e163_265, e163_266, e163_269, e163_270, e163_273, e163_276, e163_277, e163_280, e163_281, e163_284, e163_285, e163_286, e163_287, e163_288, e163_289, e163_292, e163_293, e163_294, e163_297, e163_298, e163_301, e163_302, e163_304, e163_307, e163_308, e163_311, e163_314, e163_315, e163_318, e163_321, e163_322, e163_325, e163_326, e163_329, e163_330, e163_331, e163_334, e163_337, e163_338, e163_341, e163_342, e163_345, e163_346, e163_349, e163_350, e163_351, e163_354, e163_357, e163_358, e163_361, e163_362, e163_365, e163_366, e163_369, e163_370, e163_372, e163_373, e163_374, e163_375, e163_378, e163_379, e163_382, e163_383, e163_386, e163_387, e163_389, e163_392, e163_393, e163_394, e163_397, e163_398, e163_401, e163_404, e163_405, e163_406, e163_409, e163_410, e163_411, e163_414, mk_458 hM, mp_71 hM, mk_461 hM, mp_89 hM, mk_468 hM, mp_90 hM, mk_469 hM, mp_91 hM, mk_470 hM, mp_92 hM, mk_471 hM, mp_93 hM, mk_472 hM, mp_94 hM, mk_473 hM, mp_95 hM, mk_474 hM, mp_97 hM, mk_476 hM, mp_98 hM, mk_477 hM, mp_99 hM, mk_478 hM, mk_458 hM1, mp_71 hM1, mk_461 hM1, mp_89 hM1, mk_468 hM1, mp_90 hM1, mk_469 hM1, mp_91 hM1, mk_470 hM1, mp_92 hM1, mk_471 hM1, mp_93 hM1, mk_472 hM1, mp_94 hM1, mk_473 hM1, mp_95 hM1, mk_474 hM1, mp_97 hM1, mk_476 hM1, mp_98 hM1, mk_477 hM1, mp_99 hM1, mk_478 hM1, ↓reduceIte, Nat.reduceAdd, Nat.reduceLeDiff, Nat.reduceLT, Nat.reduceEqDiff, not_false_eq_true, false_or, true_or, or_true, or_false, n0_e, n1_ne, n1_11, bI_z, bI_1, bI_fo, va_rf_some, aBk_1, aBk_0, nI_add, nI_mul, hk_si, hp_si, hl_si, hk_sp, hk_sl, hk_cp, hp_cp, t2, g1, ek, x8, hs2, x1, r1, f3, fz]
  | inr s1 =>
    rw [hx1] at O1
    have R1 : MR h1 τ N s1 := O1
    have f1 := R1.2.2.2.2.2.2.1
    have N1 := hN.on o1
    obtain ⟨en4, es1⟩ : ns_ T ≠ 4 ∧ s1 = (σ.1 + 1, σ.2) := by
      unfold roomX at hx1
      by_cases q : ns_ T = 4
      · rw [if_pos q] at hx1; cases hx1
      · rw [if_neg q] at hx1; exact ⟨q, (go_inr hx1).2⟩
    obtain ⟨h2, r2, o2, O2⟩ := m_named R1 N1
    have hM2 := O2.S
    obtain ⟨h3, v3', r3, o3, O3, w3⟩ := mo_bounded O2 (lo := 1) (hi := 24) (by decide) (by decide)
    have hM3 := O3.S
    have oA : On (fun a f => a = 469 ∧ f = 4 * sd + ns_ T) h3 (si_ h3 469 (4 * sd + ns_ T) v3') := On.si ⟨rfl, rfl⟩
    have vA : hi_ (si_ h3 469 (4 * sd + ns_ T) v3') 469 (4 * sd + ns_ T) = v3' := hi_same
    generalize hh : si_ h3 469 (4 * sd + ns_ T) v3' = h3' at oA vA
    have O3' := O3.on_nf oA (fun a f q => by omega)
    have hM3' := O3'.S
    obtain ⟨h4, v4', r4, o4, O4, w4⟩ := mo_bounded O3' (lo := 0) (hi := 99) (by decide) (by decide)
    have hM4 := O4.S
    have oB : On (fun a f => a = 470 ∧ f = 4 * sd + ns_ T) h4 (si_ h4 470 (4 * sd + ns_ T) v4') := On.si ⟨rfl, rfl⟩
    have vB : hi_ (si_ h4 470 (4 * sd + ns_ T) v4') 470 (4 * sd + ns_ T) = v4' := hi_same
    generalize hh4 : si_ h4 470 (4 * sd + ns_ T) v4' = h4' at oB vB
    have O4' := O4.on_nf oB (fun a f q => by omega)
    have hM4' := O4'.S
    have oAll : On (SUF sd (ns_ T)) h h4' := (((((o1.trans o2).trans o3).mono (fun _ _ q => Or.inl q)).trans (oA.mono (fun a f q => Or.inr (Or.inr ⟨Or.inl q.1, q.2⟩)))).trans (o4.mono (fun _ _ q => Or.inl q))).trans (oB.mono (fun a f q => Or.inr (Or.inr ⟨Or.inr q.1, q.2⟩)))
    have N4 : MN h4' ν := (((N1.on (o2.trans o3)).ol (oA.OL (L := fun _ => False)) (fun a f q => by omega) (fun q => q)).on o4).ol (oB.OL (L := fun _ => False)) (fun a f q => by omega) (fun q => q)
    have jN : s1.1 ≤ N := R1.2.2.2.1
    obtain ⟨h5, r5, o5, O5, N5⟩ := m_endsName O4' N4 (by omega) h40 (j := s1.1) (a := ns_ T) jN (by omega)
    have hM5 := O5.S
    have s4 : hi_ h4' 458 85 = nI sd := (oAll.i (fun q => by unfold SUF FP NQ at q; omega)).trans x8
    have n4' : hi_ h4' 468 sd = nI (ns_ T) := (oAll.i (fun q => by unfold SUF FP NQ at q; omega)).trans x1
    have o5' : OL (SUF sd (ns_ T)) LN h h5 := (oAll.OL).trans (o5.mono (fun a f q => q.elim Or.inl (fun z => Or.inr (Or.inl z))) (fun _ q => q))
    have s5 : hi_ h5 458 85 = nI sd := (o5'.i (fun q => by unfold SUF FP NQ at q; omega)).trans x8
    have n5 : hi_ h5 468 sd = nI (ns_ T) := (o5'.i (fun q => by unfold SUF FP NQ at q; omega)).trans x1
    have g8 : 4 * sd + ns_ T < 8 := by omega
    have SUT : ∀ a f, SUF sd (ns_ T) a f → TOF sd a f := fun a f q => by
      unfold SUF NQ at q; unfold TOF RG
      rcases q with q | q | q
      · exact Or.inl q
      · exact Or.inr (by omega)
      · exact Or.inr (Or.inr (Or.inr (Or.inr (Or.inr (Or.inr (Or.inl (by omega)))))))
    have st : ∀ d, (run (d + 6) 163 0 [.ref 458, aU, aU] [] h) = (run (d + 6) 163 144 [.ref 458, .int (nI (4 * sd + ns_ T)), .int (nI s1.1)] [] h5) := fun d => by
      simp only [e163_0, e163_1, e163_4, e163_5, e163_8, e163_9_20, e163_9_21, e163_9_22, e163_9_23, e163_9_24, e163_9_25, e163_9_26, e163_9_27, e163_9_28, e163_9_d, e163_60, e163_61, e163_62, e163_65, e163_66, e163_69, e163_70, e163_71, e163_74, e163_75, e163_78, e163_81, e163_82, e163_83, e163_84, e163_87, e163_88, e163_89, e163_92, e163_93, e163_96, e163_97, e163_98, e163_99, e163_100, e163_103, e163_104, e163_105, e163_108, e163_109, e163_110, e163_111, e163_113, e163_116, e163_117, e163_118, e163_121, e163_122, e163_123, e163_124, e163_126, e163_129, e163_130, e163_131, e163_132, e163_133, e163_136, e163_137, e163_140, e163_141, e163_145, e163_148, e163_151, e163_152, e163_155, e163_156, e163_159, e163_160, e163_161, e163_162, e163_163, e163_164, e163_167, e163_168, e163_169, e163_172, e163_173, e163_176, e163_177, e163_179, e163_182, e163_183, e163_186, e163_189, e163_190, e163_192, e163_193, e163_196, e163_197, e163_198, e163_201, e163_202, e163_205, e163_206, e163_207, e163_208, e163_209, e163_212, e163_213, e163_214, e163_217, e163_218, e163_219, e163_220, e163_222, e163_225, e163_226, e163_227, e163_230, e163_231, e163_232, e163_233, e163_235, e163_238, e163_239, e163_240, e163_243, e163_244, e163_245, e163_246, e163_248, e163_251, e163_252, e163_253, e163_254, e163_256, e163_257, e163_260, e163_261, e163_264, e163_265, e163_266, e163_269, e163_270, e163_273, e163_276, e163_277, e163_280, e163_281, e163_284, e163_285, e163_286, e163_287, e163_288, e163_289, e163_292, e163_293, e163_294, e163_297, e163_298, e163_301, e163_302, e163_304, e163_307, e163_308, e163_311, e163_314, e163_315, e163_318, e163_321, e163_322, e163_325, e163_326, e163_329, e163_330, e163_331, e163_334, e163_337, e163_338, e163_341, e163_342, e163_345, e163_346, e163_349, e163_350, e163_351, e163_354, e163_357, e163_358, e163_361, e163_362, e163_365, e163_366, e163_369, e163_370, e163_372, e163_373, e163_374, e163_375, e163_378, e163_379, e163_382, e163_383, e163_386, e163_387, e163_389, e163_392, e163_393, e163_394, e163_397, e163_398, e163_401, e163_404, e163_405, e163_406, e163_409, e163_410, e163_411, e163_414, mk_458 hM, mp_71 hM, mk_461 hM, mp_89 hM, mk_468 hM, mp_90 hM, mk_469 hM, mp_91 hM, mk_470 hM, mp_92 hM, mk_471 hM, mp_93 hM, mk_472 hM, mp_94 hM, mk_473 hM, mp_95 hM, mk_474 hM, mp_97 hM, mk_476 hM, mp_98 hM, mk_477 hM, mp_99 hM, mk_478 hM, mk_458 hM1, mp_71 hM1, mk_461 hM1, mp_89 hM1, mk_468 hM1, mp_90 hM1, mk_469 hM1, mp_91 hM1, mk_470 hM1, mp_92 hM1, mk_471 hM1, mp_93 hM1, mk_472 hM1, mp_94 hM1, mk_473 hM1, mp_95 hM1, mk_474 hM1, mp_97 hM1, mk_476 hM1, mp_98 hM1, mk_477 hM1, mp_99 hM1, mk_478 hM1, mk_458 hM2, mp_71 hM2, mk_461 hM2, mp_89 hM2, mk_468 hM2, mp_90 hM2, mk_469 hM2, mp_91 hM2, mk_470 hM2, mp_92 hM2, mk_471 hM2, mp_93 hM2, mk_472 hM2, mp_94 hM2, mk_473 hM2, mp_95 hM2, mk_474 hM2, mp_97 hM2, mk_476 hM2, mp_98 hM2, mk_477 hM2, mp_99 hM2, mk_478 hM2, mk_458 hM3, mp_71 hM3, mk_461 hM3, mp_89 hM3, mk_468 hM3, mp_90 hM3, mk_469 hM3, mp_91 hM3, mk_470 hM3, mp_92 hM3, mk_471 hM3, mp_93 hM3, mk_472 hM3, mp_94 hM3, mk_473 hM3, mp_95 hM3, mk_474 hM3, mp_97 hM3, mk_476 hM3, mp_98 hM3, mk_477 hM3, mp_99 hM3, mk_478 hM3, ↓reduceIte, Nat.reduceAdd, Nat.reduceLeDiff, Nat.reduceLT, Nat.reduceEqDiff, not_false_eq_true, false_or, true_or, or_true, or_false, n0_e, n1_ne, n1_11, bI_z, bI_1, bI_fo, va_rf_some, aBk_1, aBk_0, nI_add, nI_mul, hk_si, hp_si, hl_si, hk_sp, hk_sl, hk_cp, hp_cp, t2, g1, ek, x8, hs2, x1, r1, f1, hle0, s1', n1', r2, r3, g8]
      rw [hh]
      simp only [e163_117, e163_118, e163_121, e163_122, e163_123, e163_124, e163_126, e163_129, mk_458 hM3', mp_71 hM3', mk_461 hM3', mp_89 hM3', mk_468 hM3', mp_90 hM3', mk_469 hM3', mp_91 hM3', mk_470 hM3', mp_92 hM3', mk_471 hM3', mp_93 hM3', mk_472 hM3', mp_94 hM3', mk_473 hM3', mp_95 hM3', mk_474 hM3', mp_97 hM3', mk_476 hM3', mp_98 hM3', mk_477 hM3', mp_99 hM3', mk_478 hM3', mk_458 hM4, mp_71 hM4, mk_461 hM4, mp_89 hM4, mk_468 hM4, mp_90 hM4, mk_469 hM4, mp_91 hM4, mk_470 hM4, mp_92 hM4, mk_471 hM4, mp_93 hM4, mk_472 hM4, mp_94 hM4, mk_473 hM4, mp_95 hM4, mk_474 hM4, mp_97 hM4, mk_476 hM4, mp_98 hM4, mk_477 hM4, mp_99 hM4, mk_478 hM4, ↓reduceIte, Nat.reduceAdd, Nat.reduceLeDiff, Nat.reduceLT, Nat.reduceEqDiff, not_false_eq_true, false_or, true_or, or_true, or_false, n0_e, n1_ne, n1_11, bI_z, bI_1, bI_fo, va_rf_some, aBk_1, aBk_0, nI_add, nI_mul, hk_si, hp_si, hl_si, hk_sp, hk_sl, hk_cp, hp_cp, r4, g8]
      rw [hh4]
      simp only [e163_130, e163_131, e163_132, e163_133, e163_136, e163_137, e163_140, e163_141, mk_458 hM4', mp_71 hM4', mk_461 hM4', mp_89 hM4', mk_468 hM4', mp_90 hM4', mk_469 hM4', mp_91 hM4', mk_470 hM4', mp_92 hM4', mk_471 hM4', mp_93 hM4', mk_472 hM4', mp_94 hM4', mk_473 hM4', mp_95 hM4', mk_474 hM4', mp_97 hM4', mk_476 hM4', mp_98 hM4', mk_477 hM4', mp_99 hM4', mk_478 hM4', ↓reduceIte, Nat.reduceAdd, Nat.reduceLeDiff, Nat.reduceLT, Nat.reduceEqDiff, not_false_eq_true, false_or, true_or, or_true, or_false, n0_e, n1_ne, n1_11, bI_z, bI_1, bI_fo, va_rf_some, aBk_1, aBk_0, nI_add, nI_mul, hk_si, hp_si, hl_si, hk_sp, hk_sl, hk_cp, hp_cp, s4, hs2, n4', r5]
    -- the pure side
    cases hx5 : eB (eB (eB (namX τ ν s1) (bndX τ · 1 24)) (bndX τ · 0 99)) (mustX τ · 4) with
    | inl e =>
      rw [hx5] at O5
      have hF : MF h5 e.1 e.2 := O5
      have f3 : hi_ h5 458 79 = nI e.1 := hF.2.2.2.2.1
      have fn : (nI e.1 = 0) = False := by have := hF.2.2.1; have := hF.2.2.2.1; rw [nI_z (by omega)]; exact eq_false (by omega)
      have ep : (eB (namX τ ν s1) fun s2 => eB (bndX τ s2 1 24) fun s3 => eB (bndX τ s3 0 99) fun s4 => eB (mustX τ s4 4) fun s5 => (.inr (s5, addN ν (tn_ τ s1.1) (ns_ T), addS T (nI (tv_ τ s2.1)) (nI (tv_ τ s3.1)), nf) : aEr aRd)) = .inl e := by
        revert hx5
        cases namX τ ν s1 with
        | inl e => intro z; cases z; rfl
        | inr s2 =>
          show eB (eB (bndX τ s2 1 24) _) _ = _ → eB (bndX τ s2 1 24) _ = _
          cases bndX τ s2 1 24 with
          | inl e => intro z; cases z; rfl
          | inr s3 =>
            show eB (bndX τ s3 0 99) _ = _ → eB (bndX τ s3 0 99) _ = _
            cases bndX τ s3 0 99 with
            | inl e => intro z; cases z; rfl
            | inr s4 =>
              show mustX τ s4 4 = _ → eB (mustX τ s4 4) _ = _
              intro z; rw [z]; rfl
      show TOR τ N sd p b h (eB (namX τ ν s1) _)
      rw [ep]
      refine ⟨h5, fun d => (st d).trans ?_, o5'.mono SUT (fun _ q => q), hF⟩
      simp only [e163_144, e163_145, e163_148, e163_151, e163_152, e163_155, e163_156, e163_159, e163_160, e163_161, e163_162, e163_163, e163_414, mk_458 hM5, mp_71 hM5, mk_461 hM5, mp_89 hM5, mk_468 hM5, mp_90 hM5, mk_469 hM5, mp_91 hM5, mk_470 hM5, mp_92 hM5, mk_471 hM5, mp_93 hM5, mk_472 hM5, mp_94 hM5, mk_473 hM5, mp_95 hM5, mk_474 hM5, mp_97 hM5, mk_476 hM5, mp_98 hM5, mk_477 hM5, mp_99 hM5, mk_478 hM5, ↓reduceIte, Nat.reduceAdd, Nat.reduceLeDiff, Nat.reduceLT, Nat.reduceEqDiff, not_false_eq_true, false_or, true_or, or_true, or_false, n0_e, n1_ne, n1_11, bI_z, bI_1, bI_fo, va_rf_some, aBk_1, aBk_0, nI_add, nI_mul, hk_si, hp_si, hl_si, hk_sp, hk_sl, hk_cp, hp_cp, f3, fn]
    | inr s5' =>
      obtain ⟨a4, q4, q5⟩ := eB_inr hx5
      obtain ⟨a3, q3, q4⟩ := eB_inr q4
      obtain ⟨a2, q2, q3⟩ := eB_inr q3
      rw [hx5] at O5
      have R5 : MR h5 τ N s5' := O5
      have f5 := R5.2.2.2.2.2.2.1
      obtain ⟨-, -, ee5⟩ := must_inr q5
      obtain ⟨k2, e2, -⟩ := bnd_inr q3
      obtain ⟨k3, e3, -⟩ := bnd_inr q4
      have y3 := w3 a2 q2 k2
      have y4 := w4 a3 (by show eB (namX τ ν s1) (bndX τ · 1 24) = _; rw [q2]; exact q3) k3
      have ea2 : a2.1 = s1.1 + 1 := by
        unfold namX at q2
        obtain ⟨a1, q1, q2⟩ := eB_inr q2
        obtain ⟨-, -, z⟩ := must_inr q1
        cases q2
        cases hasN ν (tn_ τ s1.1) ν.2.2 with
        | true => show (wrongX a1 3 s1.1).1 = _; rw [wrong_t, z]
        | false => show a1.1 = _; rw [z]
      have ep : (eB (namX τ ν s1) fun s2 => eB (bndX τ s2 1 24) fun s3 => eB (bndX τ s3 0 99) fun s4 => eB (mustX τ s4 4) fun s5 => (.inr (s5, addN ν (tn_ τ s1.1) (ns_ T), addS T (nI (tv_ τ s2.1)) (nI (tv_ τ s3.1)), nf) : aEr aRd)) = .inr (s5', addN ν (tn_ τ s1.1) (ns_ T), addS T (nI (tv_ τ a2.1)) (nI (tv_ τ a3.1)), nf) := by
        rw [q2]
        show eB (bndX τ a2 1 24) _ = _
        rw [q3]
        show eB (bndX τ a3 0 99) _ = _
        rw [q4]
        show eB (mustX τ a4 4) _ = _
        rw [q5]
        rfl
      show TOR τ N sd p b h (eB (namX τ ν s1) _)
      rw [ep]
      have oC : On (fun a f => a = 468 ∧ f = sd) h5 (si_ h5 468 sd (nI (ns_ T + 1))) := On.si ⟨rfl, rfl⟩
      have vC : hi_ (si_ h5 468 sd (nI (ns_ T + 1))) 468 sd = nI (ns_ T + 1) := hi_same
      have stC : ∀ d, (run (d + 6) 163 144 [.ref 458, .int (nI (4 * sd + ns_ T)), .int (nI s1.1)] [] h5) = some (.returned none, si_ h5 468 sd (nI (ns_ T + 1))) := fun d => by
        simp only [e163_144, e163_145, e163_148, e163_151, e163_152, e163_155, e163_156, e163_159, e163_160, e163_161, e163_162, e163_163, e163_164, e163_414, mk_458 hM5, mp_71 hM5, mk_461 hM5, mp_89 hM5, mk_468 hM5, mp_90 hM5, mk_469 hM5, mp_91 hM5, mk_470 hM5, mp_92 hM5, mk_471 hM5, mp_93 hM5, mk_472 hM5, mp_94 hM5, mk_473 hM5, mp_95 hM5, mk_474 hM5, mp_97 hM5, mk_476 hM5, mp_98 hM5, mk_477 hM5, mp_99 hM5, mk_478 hM5, ↓reduceIte, Nat.reduceAdd, Nat.reduceLeDiff, Nat.reduceLT, Nat.reduceEqDiff, not_false_eq_true, false_or, true_or, or_true, or_false, n0_e, n1_ne, n1_11, bI_z, bI_1, bI_fo, va_rf_some, aBk_1, aBk_0, nI_add, nI_mul, hk_si, hp_si, hl_si, hk_sp, hk_sl, hk_cp, hp_cp, f5, s5, hs2, n5]
      generalize hh6 : si_ h5 468 sd (nI (ns_ T + 1)) = h6 at oC vC stC
      have oZ : OL (fun a f => SUF sd (ns_ T) a f ∨ (a = 468 ∧ f = sd)) LN h h6 := (o5'.mono (fun _ _ q => Or.inl q) (fun _ q => q)).trans ((oC.mono (fun _ _ q => Or.inr q)).OL)
      have et : s5'.1 = σ.1 + 5 := by rw [ee5]; show a4.1 + 1 = _; rw [e3, e2, ea2, es1]
      have o45 : ∀ f, hi_ h6 470 f = hi_ h4' 470 f := fun f => (oC.i (fun q => by omega)).trans (o5.i (fun q => by unfold EN FP at q; omega))
      have o35 : ∀ f, hi_ h6 469 f = hi_ h3' 469 f := fun f => (oC.i (fun q => by omega)).trans ((o5.i (fun q => by unfold EN FP at q; omega)).trans ((oB.i (fun q => by omega)).trans (o4.i (fun q => by unfold FP at q; omega))))
      refine ⟨h6, p, b, fun d => (st d).trans (stC d), oZ.mono (fun a f q => q.elim (SUT a f) (fun z => Or.inr (Or.inr (Or.inr (Or.inr (Or.inl ⟨Or.inl z.1, z.2⟩)))))) (fun _ q => q), R5.ol (oC.OL (L := fun _ => False)) (fun a f q => by omega) (fun q => q), (N5 s5' hx5).ol (oC.OL (L := fun _ => False)) (fun a f q => by omega) (fun q => q), ⟨⟨⟨vC, ?_⟩, ?_, ?_, ?_, ?_, ?_⟩, ?_, fun k hk => ?_, ?_, ?_, ?_⟩, ⟨hp.1, by show p ≤ 420 * sd + s5'.1; omega⟩, hb.1, by show 4 * b ≤ 4 * (130 * sd) + s5'.1; omega⟩
      · exact (oZ.i (fun q => by unfold SUF FP NQ at q; omega)).trans x2
      · intro g hg
        obtain ⟨b1, b2, b3⟩ := x3.1 g hg
        exact ⟨(oZ.i (fun q => by unfold SUF FP NQ at q; omega)).trans b1, (oZ.i (fun q => by unfold SUF FP NQ at q; omega)).trans b2, (oZ.i (fun q => by unfold SUF FP NQ at q; omega)).trans b3⟩
      · intro g hg
        exact (oZ.i (fun q => by unfold SUF FP NQ at q; omega)).trans (x3.2.1 g hg)
      · intro s hs
        have hs : s < ns_ T + 1 := hs
        show hi_ h6 469 (4 * sd + s) = up_ T.2.2.1.1 T.1.1 (nI (tv_ τ a2.1)) s ∧ hi_ h6 470 (4 * sd + s) = up_ T.2.2.1.2 T.1.1 (nI (tv_ τ a3.1)) s
        have en : T.1.1 = ns_ T := rfl
        rw [en]
        unfold up_
        by_cases q : s = ns_ T
        · rw [if_pos q, if_pos q, q, o45, o35, vA, vB, y3, y4]
          exact ⟨rfl, rfl⟩
        · rw [if_neg q, if_neg q]
          obtain ⟨b1, b2⟩ := x3.2.2.1 s (by omega)
          exact ⟨(oZ.i (fun q => by unfold SUF FP NQ at q; omega)).trans b1, (oZ.i (fun q => by unfold SUF FP NQ at q; omega)).trans b2⟩
      · exact (oZ.i (fun q => by unfold SUF FP NQ at q; omega)).trans x3.2.2.2.1
      · exact (oZ.i (fun q => by unfold SUF FP NQ at q; omega)).trans x3.2.2.2.2
      · exact (oZ.i (fun q => by unfold SUF FP NQ at q; omega)).trans x4
      · exact (x5 k hk).ol oZ (fun a f q => by unfold SUF FP NQ at q; omega)
      · exact (oZ.i (fun q => by unfold SUF FP NQ at q; omega)).trans x6
      · exact (oZ.i (fun q => by unfold SUF FP NQ at q; omega)).trans x7
      · exact (oZ.i (fun q => by unfold SUF FP NQ at q; omega)).trans x8
end M28
