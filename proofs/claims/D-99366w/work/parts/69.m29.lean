set_option maxRecDepth 100000
/-! M: reading (16): a line of a guest -/
section M29
variable {d N sd p b nf : Nat} {h h' : aH} {τ : aTok} {σ : aPs} {ν : aNs} {T : aTx}
/-- what a guest's line writes -/
def GUF (sd n a f : Nat) : Prop := FP a f ∨ NQ a f ∨ (472 ≤ a ∧ a ≤ 474 ∧ f = 7 * sd + n)
theorem m_tlG (hR : MR h τ N σ) (hk : tk_ τ σ.1 = 21) (hN : MN h ν) (hV : NV ν T) (hX : MXt h sd T nf p b) (hs2 : sd < 2) (hp : 420 * sd ≤ p ∧ p ≤ 420 * sd + σ.1) (hb : 130 * sd ≤ b ∧ 4 * b ≤ 4 * (130 * sd) + σ.1) : TOR τ N sd p b h (tlG τ σ ν T nf) := by
  obtain ⟨hM, hT, hK, t1, t2, t3, t4, -⟩ := id hR
  have h40 := hT.1
  have g1 : σ.1 < 403 := by omega
  have ek : hi_ h 461 σ.1 = nI 21 := by rw [(hK σ.1 t1).1, hk]
  obtain ⟨v1, v2, v3, v4⟩ := hV
  obtain ⟨⟨⟨x1, x2⟩, x3⟩, x4, x5, x6, x7, x8⟩ := id hX
  have hle0 : nI 0 ≤ 0 := by decide
  obtain ⟨h1, r1, o1, O1⟩ := m_roomFor hR (has := ng_ T) (most := 7) (by omega) (by omega) (by omega) (by decide)
  have hM1 := O1.S
  have X1 := hX.fp v2 v3 o1
  have s1' : hi_ h1 458 85 = nI sd := X1.2.2.2.2.2
  have n1' : hi_ h1 471 sd = nI (ng_ T) := X1.1.1.2
  unfold tlG
  cases hx1 : roomX τ (ng_ T) 7 σ with
  | inl e =>
    rw [hx1] at O1
    have hF : MF h1 e.1 e.2 := O1
    have f3 : hi_ h1 458 79 = nI e.1 := hF.2.2.2.2.1
    have fz : ¬ nI e.1 ≤ 0 := nI_nle hF.2.2.1 (by have := hF.2.2.2.1; omega)
    refine ⟨h1, fun d => ?_, (o1.mono (fun _ _ q => Or.inl q)).OL, hF⟩
    simp only [e163_0, e163_1, e163_4, e163_5, e163_8, e163_9_20, e163_9_21, e163_9_22, e163_9_23, e163_9_24, e163_9_25, e163_9_26, e163_9_27, e163_9_28, e163_9_d, e163_60, e163_61, e163_62, e163_65, e163_66, e163_69, e163_70, e163_71, e163_74, e163_75, e163_78, e163_81, e163_82, e163_83, e163_84, e163_87, e163_88, e163_89, e163_92, e163_93, e163_96, e163_97, e163_98, e163_99, e163_100, e163_103, e163_104, e163_105, e163_108, e163_109, e163_110, e163_111, e163_113, e163_116, e163_117, e163_118, e163_121, e163_122, e163_123, e163_124, e163_126, e163_129, e163_130, e163_131, e163_132, e163_133, e163_136, e163_137, e163_140, e163_141, e163_144, e163_145, e163_148, e163_151, e163_152, e163_155, e163_156, e163_159, e163_160, e163_161, e163_162, e163_163, e163_164, e163_167, e163_168, e163_169, e163_172, e163_173, e163_176, e163_177, e163_179, e163_182, e163_183, e163_186, e163_189, e163_190, e163_192, e163_193, e163_196, e163_197, e163_198, e163_201, e163_202, e163_205, e163_206, e163_207, e163_208, e163_209, e163_212, e163_213, e163_214, e163_217, e163_218, e163_219, e163_220, e163_222, e163_225, e163_226, e163_227, e163_230, e163_231, e163_232, e163_233, e163_235, e163_238, e163_239, e163_240, e163_243, e163_244, e163_245, e163_246, e163_248, e163_251, e163_252, e163_253, e163_254, e163_256, e163_257, e163_260, e163_261, e163_264, e163_265, e163_266, e163_269, e163_270, e163_273, e163_276, e163_277, e163_280, e163_281, e163_284, e163_285, e163_286, e163_287, e163_288, e163_289, e163_292, e163_293, e163_294, e163_297, e163_298, e163_301, e163_302, e163_304, e163_307, e163_308, e163_311, e163_314, e163_315, e163_318, e163_321, e163_322, e163_325, e163_326, e163_329, e163_330, e163_331, e163_334, e163_337, e163_338, e163_341, e163_342, e163_345, e163_346, e163_349, e163_350, e163_351, e163_354, e163_357, e163_358, e163_361, e163_362, e163_365, e163_366, e163_369, e163_370, e163_372, e163_373, e163_374, e163_375, e163_378, e163_379, e163_382, e163_383, e163_386, e163_387, e163_389, e163_392, e163_393, e163_394, e163_397, e163_398, e163_401, e163_404, e163_405, e163_406, e163_409, e163_410, e163_411, e163_414, mk_458 hM, mp_71 hM, mk_461 hM, mp_89 hM, mk_468 hM, mp_90 hM, mk_469 hM, mp_91 hM, mk_470 hM, mp_92 hM, mk_471 hM, mp_93 hM, mk_472 hM, mp_94 hM, mk_473 hM, mp_95 hM, mk_474 hM, mp_97 hM, mk_476 hM, mp_98 hM, mk_477 hM, mp_99 hM, mk_478 hM, mk_458 hM1, mp_71 hM1, mk_461 hM1, mp_89 hM1, mk_468 hM1, mp_90 hM1, mk_469 hM1, mp_91 hM1, mk_470 hM1, mp_92 hM1, mk_471 hM1, mp_93 hM1, mk_472 hM1, mp_94 hM1, mk_473 hM1, mp_95 hM1, mk_474 hM1, mp_97 hM1, mk_476 hM1, mp_98 hM1, mk_477 hM1, mp_99 hM1, mk_478 hM1, ↓reduceIte, Nat.reduceAdd, Nat.reduceLeDiff, Nat.reduceLT, Nat.reduceEqDiff, not_false_eq_true, false_or, true_or, or_true, or_false, n0_e, n1_ne, n1_11, bI_z, bI_1, bI_fo, va_rf_some, aBk_1, aBk_0, nI_add, nI_mul, hk_si, hp_si, hl_si, hk_sp, hk_sl, hk_cp, hp_cp, t2, g1, ek, x8, hs2, x2, r1, f3, fz]
  | inr s1 =>
    rw [hx1] at O1
    have R1 : MR h1 τ N s1 := O1
    have f1 := R1.2.2.2.2.2.2.1
    have N1 := hN.on o1
    obtain ⟨en4, es1⟩ : ng_ T ≠ 7 ∧ s1 = (σ.1 + 1, σ.2) := by
      unfold roomX at hx1
      by_cases q : ng_ T = 7
      · rw [if_pos q] at hx1; cases hx1
      · rw [if_neg q] at hx1; exact ⟨q, (go_inr hx1).2⟩
    obtain ⟨h2, r2, o2, O2⟩ := m_named R1 N1
    have hM2 := O2.S
    obtain ⟨h3, v3', r3, o3, O3, w3⟩ := mo_bounded O2 (lo := 0) (hi := 23) (by decide) (by decide)
    have hM3 := O3.S
    have oA : On (fun a f => a = 472 ∧ f = 7 * sd + ng_ T) h3 (si_ h3 472 (7 * sd + ng_ T) v3') := On.si ⟨rfl, rfl⟩
    have vA : hi_ (si_ h3 472 (7 * sd + ng_ T) v3') 472 (7 * sd + ng_ T) = v3' := hi_same
    generalize hh : si_ h3 472 (7 * sd + ng_ T) v3' = h3' at oA vA
    have O3' := O3.on_nf oA (fun a f q => by omega)
    have hM3' := O3'.S
    obtain ⟨h4, v4', r4, o4, O4, w4⟩ := mo_bounded O3' (lo := 1) (hi := 12) (by decide) (by decide)
    have hM4 := O4.S
    have oB : On (fun a f => a = 473 ∧ f = 7 * sd + ng_ T) h4 (si_ h4 473 (7 * sd + ng_ T) v4') := On.si ⟨rfl, rfl⟩
    have vB : hi_ (si_ h4 473 (7 * sd + ng_ T) v4') 473 (7 * sd + ng_ T) = v4' := hi_same
    generalize hh4 : si_ h4 473 (7 * sd + ng_ T) v4' = h4' at oB vB
    have O4' := O4.on_nf oB (fun a f q => by omega)
    have hM4' := O4'.S
    obtain ⟨h4b, v4b, r4b, o4b, O4b, w4b⟩ := mo_bounded O4' (lo := 0) (hi := 99) (by decide) (by decide)
    have hM4b := O4b.S
    have oB2 : On (fun a f => a = 474 ∧ f = 7 * sd + ng_ T) h4b (si_ h4b 474 (7 * sd + ng_ T) v4b) := On.si ⟨rfl, rfl⟩
    have vB2 : hi_ (si_ h4b 474 (7 * sd + ng_ T) v4b) 474 (7 * sd + ng_ T) = v4b := hi_same
    generalize hh4b : si_ h4b 474 (7 * sd + ng_ T) v4b = h4c at oB2 vB2
    have O4c := O4b.on_nf oB2 (fun a f q => by omega)
    have hM4c := O4c.S
    have oAll : On (GUF sd (ng_ T)) h h4c := (((((((o1.trans o2).trans o3).mono (fun _ _ q => Or.inl q)).trans (oA.mono (fun a f q => Or.inr (Or.inr (by omega))))).trans (o4.mono (fun _ _ q => Or.inl q))).trans (oB.mono (fun a f q => Or.inr (Or.inr (by omega))))).trans (o4b.mono (fun _ _ q => Or.inl q))).trans (oB2.mono (fun a f q => Or.inr (Or.inr (by omega))))
    have N4 : MN h4c ν := (((((N1.on (o2.trans o3)).ol (oA.OL (L := fun _ => False)) (fun a f q => by omega) (fun q => q)).on o4).ol (oB.OL (L := fun _ => False)) (fun a f q => by omega) (fun q => q)).on o4b).ol (oB2.OL (L := fun _ => False)) (fun a f q => by omega) (fun q => q)
    have jN : s1.1 ≤ N := R1.2.2.2.1
    obtain ⟨h5, r5, o5, O5, N5⟩ := m_endsName O4c N4 (by omega) h40 (j := s1.1) (a := 10 + ng_ T) jN (by omega)
    have hM5 := O5.S
    have s4 : hi_ h4c 458 85 = nI sd := (oAll.i (fun q => by unfold GUF FP NQ at q; omega)).trans x8
    have n4' : hi_ h4c 471 sd = nI (ng_ T) := (oAll.i (fun q => by unfold GUF FP NQ at q; omega)).trans x2
    have o5' : OL (GUF sd (ng_ T)) LN h h5 := (oAll.OL).trans (o5.mono (fun a f q => q.elim Or.inl (fun z => Or.inr (Or.inl z))) (fun _ q => q))
    have s5 : hi_ h5 458 85 = nI sd := (o5'.i (fun q => by unfold GUF FP NQ at q; omega)).trans x8
    have n5 : hi_ h5 471 sd = nI (ng_ T) := (o5'.i (fun q => by unfold GUF FP NQ at q; omega)).trans x2
    have g8 : 7 * sd + ng_ T < 14 := by omega
    have GUT : ∀ a f, GUF sd (ng_ T) a f → TOF sd a f := fun a f q => by
      unfold GUF NQ at q; unfold TOF RG
      rcases q with q | q | q
      · exact Or.inl q
      · exact Or.inr (by omega)
      · exact Or.inr (Or.inr (Or.inr (Or.inr (Or.inr (Or.inl (by omega))))))
    have st : ∀ d, (run (d + 6) 163 0 [.ref 458, aU, aU] [] h) = (run (d + 6) 163 269 [.ref 458, .int (nI (7 * sd + ng_ T)), .int (nI s1.1)] [] h5) := fun d => by
      simp only [e163_0, e163_1, e163_4, e163_5, e163_8, e163_9_20, e163_9_21, e163_9_22, e163_9_23, e163_9_24, e163_9_25, e163_9_26, e163_9_27, e163_9_28, e163_9_d, e163_60, e163_61, e163_62, e163_65, e163_66, e163_69, e163_70, e163_71, e163_74, e163_75, e163_78, e163_81, e163_82, e163_83, e163_84, e163_87, e163_88, e163_89, e163_92, e163_93, e163_96, e163_97, e163_98, e163_99, e163_100, e163_103, e163_104, e163_105, e163_108, e163_109, e163_110, e163_111, e163_113, e163_116, e163_117, e163_118, e163_121, e163_122, e163_123, e163_124, e163_126, e163_129, e163_130, e163_131, e163_132, e163_133, e163_136, e163_137, e163_140, e163_141, e163_144, e163_145, e163_148, e163_151, e163_152, e163_155, e163_156, e163_159, e163_160, e163_161, e163_162, e163_163, e163_164, e163_167, e163_168, e163_169, e163_172, e163_173, e163_176, e163_177, e163_179, e163_182, e163_183, e163_186, e163_189, e163_190, e163_192, e163_193, e163_196, e163_197, e163_198, e163_201, e163_202, e163_205, e163_206, e163_207, e163_208, e163_209, e163_212, e163_213, e163_214, e163_217, e163_218, e163_219, e163_220, e163_222, e163_225, e163_226, e163_227, e163_230, e163_231, e163_232, e163_233, e163_235, e163_238, e163_239, e163_240, e163_243, e163_244, e163_245, e163_246, e163_248, e163_251, e163_252, e163_253, e163_254, e163_256, e163_257, e163_260, e163_261, e163_264, e163_265, e163_266, e163_270, e163_273, e163_276, e163_277, e163_280, e163_281, e163_284, e163_285, e163_286, e163_287, e163_288, e163_289, e163_292, e163_293, e163_294, e163_297, e163_298, e163_301, e163_302, e163_304, e163_307, e163_308, e163_311, e163_314, e163_315, e163_318, e163_321, e163_322, e163_325, e163_326, e163_329, e163_330, e163_331, e163_334, e163_337, e163_338, e163_341, e163_342, e163_345, e163_346, e163_349, e163_350, e163_351, e163_354, e163_357, e163_358, e163_361, e163_362, e163_365, e163_366, e163_369, e163_370, e163_372, e163_373, e163_374, e163_375, e163_378, e163_379, e163_382, e163_383, e163_386, e163_387, e163_389, e163_392, e163_393, e163_394, e163_397, e163_398, e163_401, e163_404, e163_405, e163_406, e163_409, e163_410, e163_411, e163_414, mk_458 hM, mp_71 hM, mk_461 hM, mp_89 hM, mk_468 hM, mp_90 hM, mk_469 hM, mp_91 hM, mk_470 hM, mp_92 hM, mk_471 hM, mp_93 hM, mk_472 hM, mp_94 hM, mk_473 hM, mp_95 hM, mk_474 hM, mp_97 hM, mk_476 hM, mp_98 hM, mk_477 hM, mp_99 hM, mk_478 hM, mk_458 hM1, mp_71 hM1, mk_461 hM1, mp_89 hM1, mk_468 hM1, mp_90 hM1, mk_469 hM1, mp_91 hM1, mk_470 hM1, mp_92 hM1, mk_471 hM1, mp_93 hM1, mk_472 hM1, mp_94 hM1, mk_473 hM1, mp_95 hM1, mk_474 hM1, mp_97 hM1, mk_476 hM1, mp_98 hM1, mk_477 hM1, mp_99 hM1, mk_478 hM1, mk_458 hM2, mp_71 hM2, mk_461 hM2, mp_89 hM2, mk_468 hM2, mp_90 hM2, mk_469 hM2, mp_91 hM2, mk_470 hM2, mp_92 hM2, mk_471 hM2, mp_93 hM2, mk_472 hM2, mp_94 hM2, mk_473 hM2, mp_95 hM2, mk_474 hM2, mp_97 hM2, mk_476 hM2, mp_98 hM2, mk_477 hM2, mp_99 hM2, mk_478 hM2, mk_458 hM3, mp_71 hM3, mk_461 hM3, mp_89 hM3, mk_468 hM3, mp_90 hM3, mk_469 hM3, mp_91 hM3, mk_470 hM3, mp_92 hM3, mk_471 hM3, mp_93 hM3, mk_472 hM3, mp_94 hM3, mk_473 hM3, mp_95 hM3, mk_474 hM3, mp_97 hM3, mk_476 hM3, mp_98 hM3, mk_477 hM3, mp_99 hM3, mk_478 hM3, ↓reduceIte, Nat.reduceAdd, Nat.reduceLeDiff, Nat.reduceLT, Nat.reduceEqDiff, not_false_eq_true, false_or, true_or, or_true, or_false, n0_e, n1_ne, n1_11, bI_z, bI_1, bI_fo, va_rf_some, aBk_1, aBk_0, nI_add, nI_mul, hk_si, hp_si, hl_si, hk_sp, hk_sl, hk_cp, hp_cp, t2, g1, ek, x8, hs2, x2, r1, f1, hle0, s1', n1', r2, r3, g8]
      rw [hh]
      simp only [e163_226, e163_227, e163_230, e163_231, e163_232, e163_233, e163_235, e163_238, mk_458 hM3', mp_71 hM3', mk_461 hM3', mp_89 hM3', mk_468 hM3', mp_90 hM3', mk_469 hM3', mp_91 hM3', mk_470 hM3', mp_92 hM3', mk_471 hM3', mp_93 hM3', mk_472 hM3', mp_94 hM3', mk_473 hM3', mp_95 hM3', mk_474 hM3', mp_97 hM3', mk_476 hM3', mp_98 hM3', mk_477 hM3', mp_99 hM3', mk_478 hM3', mk_458 hM4, mp_71 hM4, mk_461 hM4, mp_89 hM4, mk_468 hM4, mp_90 hM4, mk_469 hM4, mp_91 hM4, mk_470 hM4, mp_92 hM4, mk_471 hM4, mp_93 hM4, mk_472 hM4, mp_94 hM4, mk_473 hM4, mp_95 hM4, mk_474 hM4, mp_97 hM4, mk_476 hM4, mp_98 hM4, mk_477 hM4, mp_99 hM4, mk_478 hM4, ↓reduceIte, Nat.reduceAdd, Nat.reduceLeDiff, Nat.reduceLT, Nat.reduceEqDiff, not_false_eq_true, false_or, true_or, or_true, or_false, n0_e, n1_ne, n1_11, bI_z, bI_1, bI_fo, va_rf_some, aBk_1, aBk_0, nI_add, nI_mul, hk_si, hp_si, hl_si, hk_sp, hk_sl, hk_cp, hp_cp, r4, g8]
      rw [hh4]
      simp only [e163_239, e163_240, e163_243, e163_244, e163_245, e163_246, e163_248, e163_251, mk_458 hM4', mp_71 hM4', mk_461 hM4', mp_89 hM4', mk_468 hM4', mp_90 hM4', mk_469 hM4', mp_91 hM4', mk_470 hM4', mp_92 hM4', mk_471 hM4', mp_93 hM4', mk_472 hM4', mp_94 hM4', mk_473 hM4', mp_95 hM4', mk_474 hM4', mp_97 hM4', mk_476 hM4', mp_98 hM4', mk_477 hM4', mp_99 hM4', mk_478 hM4', mk_458 hM4b, mp_71 hM4b, mk_461 hM4b, mp_89 hM4b, mk_468 hM4b, mp_90 hM4b, mk_469 hM4b, mp_91 hM4b, mk_470 hM4b, mp_92 hM4b, mk_471 hM4b, mp_93 hM4b, mk_472 hM4b, mp_94 hM4b, mk_473 hM4b, mp_95 hM4b, mk_474 hM4b, mp_97 hM4b, mk_476 hM4b, mp_98 hM4b, mk_477 hM4b, mp_99 hM4b, mk_478 hM4b, ↓reduceIte, Nat.reduceAdd, Nat.reduceLeDiff, Nat.reduceLT, Nat.reduceEqDiff, not_false_eq_true, false_or, true_or, or_true, or_false, n0_e, n1_ne, n1_11, bI_z, bI_1, bI_fo, va_rf_some, aBk_1, aBk_0, nI_add, nI_mul, hk_si, hp_si, hl_si, hk_sp, hk_sl, hk_cp, hp_cp, r4b, g8]
      rw [hh4b]
      simp only [e163_252, e163_253, e163_254, e163_256, e163_257, e163_260, e163_261, e163_264, e163_265, e163_266, mk_458 hM4c, mp_71 hM4c, mk_461 hM4c, mp_89 hM4c, mk_468 hM4c, mp_90 hM4c, mk_469 hM4c, mp_91 hM4c, mk_470 hM4c, mp_92 hM4c, mk_471 hM4c, mp_93 hM4c, mk_472 hM4c, mp_94 hM4c, mk_473 hM4c, mp_95 hM4c, mk_474 hM4c, mp_97 hM4c, mk_476 hM4c, mp_98 hM4c, mk_477 hM4c, mp_99 hM4c, mk_478 hM4c, ↓reduceIte, Nat.reduceAdd, Nat.reduceLeDiff, Nat.reduceLT, Nat.reduceEqDiff, not_false_eq_true, false_or, true_or, or_true, or_false, n0_e, n1_ne, n1_11, bI_z, bI_1, bI_fo, va_rf_some, aBk_1, aBk_0, nI_add, nI_mul, hk_si, hp_si, hl_si, hk_sp, hk_sl, hk_cp, hp_cp, s4, hs2, n4', r5]
    -- the pure side
    cases hx5 : eB (eB (eB (eB (namX τ ν s1) (bndX τ · 0 23)) (bndX τ · 1 12)) (bndX τ · 0 99)) (mustX τ · 4) with
    | inl e =>
      rw [hx5] at O5
      have hF : MF h5 e.1 e.2 := O5
      have f3 : hi_ h5 458 79 = nI e.1 := hF.2.2.2.2.1
      have fn : (nI e.1 = 0) = False := by have := hF.2.2.1; have := hF.2.2.2.1; rw [nI_z (by omega)]; exact eq_false (by omega)
      have ep : (eB (namX τ ν s1) fun s2 => eB (bndX τ s2 0 23) fun s3 => eB (bndX τ s3 1 12) fun s4 => eB (bndX τ s4 0 99) fun s5 => eB (mustX τ s5 4) fun s6 => (.inr (s6, addN ν (tn_ τ s1.1) (10 + ng_ T), addG T (nI (tv_ τ s2.1)) (nI (tv_ τ s3.1)) (nI (tv_ τ s4.1)), nf) : aEr aRd)) = .inl e := by
        revert hx5
        cases namX τ ν s1 with
        | inl e => intro z; cases z; rfl
        | inr s2 =>
          show eB (eB (eB (bndX τ s2 0 23) _) _) _ = _ → eB (bndX τ s2 0 23) _ = _
          cases bndX τ s2 0 23 with
          | inl e => intro z; cases z; rfl
          | inr s3 =>
            show eB (eB (bndX τ s3 1 12) _) _ = _ → eB (bndX τ s3 1 12) _ = _
            cases bndX τ s3 1 12 with
            | inl e => intro z; cases z; rfl
            | inr s4 =>
              show eB (bndX τ s4 0 99) _ = _ → eB (bndX τ s4 0 99) _ = _
              cases bndX τ s4 0 99 with
              | inl e => intro z; cases z; rfl
              | inr s5 =>
                show mustX τ s5 4 = _ → eB (mustX τ s5 4) _ = _
                intro z; rw [z]; rfl
      show TOR τ N sd p b h (eB (namX τ ν s1) _)
      rw [ep]
      refine ⟨h5, fun d => (st d).trans ?_, o5'.mono GUT (fun _ q => q), hF⟩
      simp only [e163_269, e163_270, e163_273, e163_276, e163_277, e163_280, e163_281, e163_284, e163_285, e163_286, e163_287, e163_288, e163_414, mk_458 hM5, mp_71 hM5, mk_461 hM5, mp_89 hM5, mk_468 hM5, mp_90 hM5, mk_469 hM5, mp_91 hM5, mk_470 hM5, mp_92 hM5, mk_471 hM5, mp_93 hM5, mk_472 hM5, mp_94 hM5, mk_473 hM5, mp_95 hM5, mk_474 hM5, mp_97 hM5, mk_476 hM5, mp_98 hM5, mk_477 hM5, mp_99 hM5, mk_478 hM5, ↓reduceIte, Nat.reduceAdd, Nat.reduceLeDiff, Nat.reduceLT, Nat.reduceEqDiff, not_false_eq_true, false_or, true_or, or_true, or_false, n0_e, n1_ne, n1_11, bI_z, bI_1, bI_fo, va_rf_some, aBk_1, aBk_0, nI_add, nI_mul, hk_si, hp_si, hl_si, hk_sp, hk_sl, hk_cp, hp_cp, f3, fn]
    | inr s5' =>
      obtain ⟨a5, q5, q6⟩ := eB_inr hx5
      obtain ⟨a4, q4, q5⟩ := eB_inr q5
      obtain ⟨a3, q3, q4⟩ := eB_inr q4
      obtain ⟨a2, q2, q3⟩ := eB_inr q3
      rw [hx5] at O5
      have R5 : MR h5 τ N s5' := O5
      have f5 := R5.2.2.2.2.2.2.1
      obtain ⟨-, -, ee5⟩ := must_inr q6
      obtain ⟨k2, e2, -⟩ := bnd_inr q3
      obtain ⟨k3, e3, -⟩ := bnd_inr q4
      obtain ⟨k4, e4, -⟩ := bnd_inr q5
      have y3 := w3 a2 q2 k2
      have y4 := w4 a3 (by show eB (namX τ ν s1) (bndX τ · 0 23) = _; rw [q2]; exact q3) k3
      have y5 := w4b a4 (by show eB (eB (namX τ ν s1) (bndX τ · 0 23)) (bndX τ · 1 12) = _; rw [q2]; show eB (bndX τ a2 0 23) _ = _; rw [q3]; exact q4) k4
      have ea2 : a2.1 = s1.1 + 1 := by
        unfold namX at q2
        obtain ⟨a1, q1, q2⟩ := eB_inr q2
        obtain ⟨-, -, z⟩ := must_inr q1
        cases q2
        cases hasN ν (tn_ τ s1.1) ν.2.2 with
        | true => show (wrongX a1 3 s1.1).1 = _; rw [wrong_t, z]
        | false => show a1.1 = _; rw [z]
      have ep : (eB (namX τ ν s1) fun s2 => eB (bndX τ s2 0 23) fun s3 => eB (bndX τ s3 1 12) fun s4 => eB (bndX τ s4 0 99) fun s5 => eB (mustX τ s5 4) fun s6 => (.inr (s6, addN ν (tn_ τ s1.1) (10 + ng_ T), addG T (nI (tv_ τ s2.1)) (nI (tv_ τ s3.1)) (nI (tv_ τ s4.1)), nf) : aEr aRd)) = .inr (s5', addN ν (tn_ τ s1.1) (10 + ng_ T), addG T (nI (tv_ τ a2.1)) (nI (tv_ τ a3.1)) (nI (tv_ τ a4.1)), nf) := by
        rw [q2]
        show eB (bndX τ a2 0 23) _ = _
        rw [q3]
        show eB (bndX τ a3 1 12) _ = _
        rw [q4]
        show eB (bndX τ a4 0 99) _ = _
        rw [q5]
        show eB (mustX τ a5 4) _ = _
        rw [q6]
        rfl
      show TOR τ N sd p b h (eB (namX τ ν s1) _)
      rw [ep]
      have oC : On (fun a f => a = 471 ∧ f = sd) h5 (si_ h5 471 sd (nI (ng_ T + 1))) := On.si ⟨rfl, rfl⟩
      have vC : hi_ (si_ h5 471 sd (nI (ng_ T + 1))) 471 sd = nI (ng_ T + 1) := hi_same
      have stC : ∀ d, (run (d + 6) 163 269 [.ref 458, .int (nI (7 * sd + ng_ T)), .int (nI s1.1)] [] h5) = some (.returned none, si_ h5 471 sd (nI (ng_ T + 1))) := fun d => by
        simp only [e163_269, e163_270, e163_273, e163_276, e163_277, e163_280, e163_281, e163_284, e163_285, e163_286, e163_287, e163_288, e163_289, e163_414, mk_458 hM5, mp_71 hM5, mk_461 hM5, mp_89 hM5, mk_468 hM5, mp_90 hM5, mk_469 hM5, mp_91 hM5, mk_470 hM5, mp_92 hM5, mk_471 hM5, mp_93 hM5, mk_472 hM5, mp_94 hM5, mk_473 hM5, mp_95 hM5, mk_474 hM5, mp_97 hM5, mk_476 hM5, mp_98 hM5, mk_477 hM5, mp_99 hM5, mk_478 hM5, ↓reduceIte, Nat.reduceAdd, Nat.reduceLeDiff, Nat.reduceLT, Nat.reduceEqDiff, not_false_eq_true, false_or, true_or, or_true, or_false, n0_e, n1_ne, n1_11, bI_z, bI_1, bI_fo, va_rf_some, aBk_1, aBk_0, nI_add, nI_mul, hk_si, hp_si, hl_si, hk_sp, hk_sl, hk_cp, hp_cp, f5, s5, hs2, n5]
      generalize hh6 : si_ h5 471 sd (nI (ng_ T + 1)) = h6 at oC vC stC
      have oZ : OL (fun a f => GUF sd (ng_ T) a f ∨ (a = 471 ∧ f = sd)) LN h h6 := (o5'.mono (fun _ _ q => Or.inl q) (fun _ q => q)).trans ((oC.mono (fun _ _ q => Or.inr q)).OL)
      have et : s5'.1 = σ.1 + 6 := by rw [ee5]; show a5.1 + 1 = _; rw [e4, e3, e2, ea2, es1]
      have o55 : ∀ f, hi_ h6 474 f = hi_ h4c 474 f := fun f => (oC.i (fun q => by omega)).trans (o5.i (fun q => by unfold EN FP at q; omega))
      have o45 : ∀ f, hi_ h6 473 f = hi_ h4' 473 f := fun f => (oC.i (fun q => by omega)).trans ((o5.i (fun q => by unfold EN FP at q; omega)).trans ((oB2.i (fun q => by omega)).trans (o4b.i (fun q => by unfold FP at q; omega))))
      have o35 : ∀ f, hi_ h6 472 f = hi_ h3' 472 f := fun f => (oC.i (fun q => by omega)).trans ((o5.i (fun q => by unfold EN FP at q; omega)).trans ((oB2.i (fun q => by omega)).trans ((o4b.i (fun q => by unfold FP at q; omega)).trans ((oB.i (fun q => by omega)).trans (o4.i (fun q => by unfold FP at q; omega))))))
      refine ⟨h6, p, b, fun d => (st d).trans (stC d), oZ.mono (fun a f q => q.elim (GUT a f) (fun z => Or.inr (Or.inr (Or.inr (Or.inr (Or.inl ⟨Or.inr (Or.inl z.1), z.2⟩)))))) (fun _ q => q), R5.ol (oC.OL (L := fun _ => False)) (fun a f q => by omega) (fun q => q), (N5 s5' hx5).ol (oC.OL (L := fun _ => False)) (fun a f q => by omega) (fun q => q), ⟨⟨⟨?_, vC⟩, ?_, ?_, ?_, ?_, ?_⟩, ?_, fun k hk => ?_, ?_, ?_, ?_⟩, ⟨hp.1, by show p ≤ 420 * sd + s5'.1; omega⟩, hb.1, by show 4 * b ≤ 4 * (130 * sd) + s5'.1; omega⟩
      · exact (oZ.i (fun q => by unfold GUF FP NQ at q; omega)).trans x1
      · intro g hg
        have hg : g < ng_ T + 1 := hg
        show hi_ h6 472 (7 * sd + g) = up_ T.2.1.1 T.1.2 (nI (tv_ τ a2.1)) g ∧ hi_ h6 473 (7 * sd + g) = up_ T.2.1.2.1 T.1.2 (nI (tv_ τ a3.1)) g ∧ hi_ h6 474 (7 * sd + g) = up_ T.2.1.2.2.1 T.1.2 (nI (tv_ τ a4.1)) g
        have en : T.1.2 = ng_ T := rfl
        rw [en]
        unfold up_
        by_cases q : g = ng_ T
        · rw [if_pos q, if_pos q, if_pos q, q, o35, o45, o55, vA, vB, vB2, y3, y4, y5]
          exact ⟨rfl, rfl, rfl⟩
        · rw [if_neg q, if_neg q, if_neg q]
          obtain ⟨b1, b2, b3⟩ := x3.1 g (by omega)
          exact ⟨(oZ.i (fun q => by unfold GUF FP NQ at q; omega)).trans b1, (oZ.i (fun q => by unfold GUF FP NQ at q; omega)).trans b2, (oZ.i (fun q => by unfold GUF FP NQ at q; omega)).trans b3⟩
      · intro g hg
        exact (oZ.i (fun q => by unfold GUF FP NQ at q; omega)).trans (x3.2.1 g hg)
      · intro s hs
        obtain ⟨b1, b2⟩ := x3.2.2.1 s hs
        exact ⟨(oZ.i (fun q => by unfold GUF FP NQ at q; omega)).trans b1, (oZ.i (fun q => by unfold GUF FP NQ at q; omega)).trans b2⟩
      · exact (oZ.i (fun q => by unfold GUF FP NQ at q; omega)).trans x3.2.2.2.1
      · exact (oZ.i (fun q => by unfold GUF FP NQ at q; omega)).trans x3.2.2.2.2
      · exact (oZ.i (fun q => by unfold GUF FP NQ at q; omega)).trans x4
      · exact (x5 k hk).ol oZ (fun a f q => by unfold GUF FP NQ at q; omega)
      · exact (oZ.i (fun q => by unfold GUF FP NQ at q; omega)).trans x6
      · exact (oZ.i (fun q => by unfold GUF FP NQ at q; omega)).trans x7
      · exact (oZ.i (fun q => by unfold GUF FP NQ at q; omega)).trans x8
end M29
