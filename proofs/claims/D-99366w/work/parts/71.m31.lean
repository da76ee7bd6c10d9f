set_option maxRecDepth 100000
/-! M: reading (18): death, seed, laws, what is no line -/
section M31
variable {d N sd p b nf : Nat} {h h' : aH} {τ : aTok} {σ : aPs} {ν : aNs} {T : aTx}
theorem m_tlD (hR : MR h τ N σ) (hk : tk_ τ σ.1 = 27) (hN : MN h ν) (hV : NV ν T) (hX : MXt h sd T nf p b) (hs2 : sd < 2) (hp : 420 * sd ≤ p ∧ p ≤ 420 * sd + σ.1) (hb : 130 * sd ≤ b ∧ 4 * b ≤ 4 * (130 * sd) + σ.1) : TOR τ N sd p b h (tlD τ σ ν T nf) := by
  obtain ⟨hM, hT, hK, t1, t2, t3, t4, -⟩ := id hR
  have h40 := hT.1
  have g1 : σ.1 < 403 := by omega
  have ek : hi_ h 461 σ.1 = nI 27 := by rw [(hK σ.1 t1).1, hk]
  have x8 := hX.2.2.2.2.2
  obtain ⟨h1, v1, r1, o1, O1, w1⟩ := m_toldInt hR (by omega) (by omega) (lo := 1) (hi := 999) (by decide) (by decide)
  have hM1 := O1.S
  have X1 := hX.fp hV.2.1 hV.2.2.1 o1
  have N1 := hN.on o1
  have oA : On (fun a f => a = 477 ∧ f = sd) h1 (si_ h1 477 sd v1) := On.si ⟨rfl, rfl⟩
  have vA : hi_ (si_ h1 477 sd v1) 477 sd = v1 := hi_same
  have st : ∀ d, (run (d + 6) 163 0 [.ref 458, aU, aU] [] h) = some (.returned none, si_ h1 477 sd v1) := fun d => by
    simp only [e163_0, e163_1, e163_4, e163_5, e163_8, e163_9_20, e163_9_21, e163_9_22, e163_9_23, e163_9_24, e163_9_25, e163_9_26, e163_9_27, e163_9_28, e163_9_d, e163_60, e163_61, e163_62, e163_65, e163_66, e163_69, e163_70, e163_71, e163_74, e163_75, e163_78, e163_81, e163_82, e163_83, e163_84, e163_87, e163_88, e163_89, e163_92, e163_93, e163_96, e163_97, e163_98, e163_99, e163_100, e163_103, e163_104, e163_105, e163_108, e163_109, e163_110, e163_111, e163_113, e163_116, e163_117, e163_118, e163_121, e163_122, e163_123, e163_124, e163_126, e163_129, e163_130, e163_131, e163_132, e163_133, e163_136, e163_137, e163_140, e163_141, e163_144, e163_145, e163_148, e163_151, e163_152, e163_155, e163_156, e163_159, e163_160, e163_161, e163_162, e163_163, e163_164, e163_167, e163_168, e163_169, e163_172, e163_173, e163_176, e163_177, e163_179, e163_182, e163_183, e163_186, e163_189, e163_190, e163_192, e163_193, e163_196, e163_197, e163_198, e163_201, e163_202, e163_205, e163_206, e163_207, e163_208, e163_209, e163_212, e163_213, e163_214, e163_217, e163_218, e163_219, e163_220, e163_222, e163_225, e163_226, e163_227, e163_230, e163_231, e163_232, e163_233, e163_235, e163_238, e163_239, e163_240, e163_243, e163_244, e163_245, e163_246, e163_248, e163_251, e163_252, e163_253, e163_254, e163_256, e163_257, e163_260, e163_261, e163_264, e163_265, e163_266, e163_269, e163_270, e163_273, e163_276, e163_277, e163_280, e163_281, e163_284, e163_285, e163_286, e163_287, e163_288, e163_289, e163_292, e163_293, e163_294, e163_297, e163_298, e163_301, e163_302, e163_304, e163_307, e163_308, e163_311, e163_314, e163_315, e163_318, e163_321, e163_322, e163_325, e163_326, e163_329, e163_330, e163_331, e163_334, e163_337, e163_338, e163_341, e163_342, e163_345, e163_346, e163_349, e163_350, e163_351, e163_354, e163_357, e163_358, e163_361, e163_362, e163_365, e163_366, e163_369, e163_370, e163_372, e163_373, e163_374, e163_375, e163_378, e163_379, e163_382, e163_383, e163_386, e163_387, e163_389, e163_392, e163_393, e163_394, e163_397, e163_398, e163_401, e163_404, e163_405, e163_406, e163_409, e163_410, e163_411, e163_414, mk_458 hM, mp_71 hM, mk_461 hM, mp_89 hM, mk_468 hM, mp_90 hM, mk_469 hM, mp_91 hM, mk_470 hM, mp_92 hM, mk_471 hM, mp_93 hM, mk_472 hM, mp_94 hM, mk_473 hM, mp_95 hM, mk_474 hM, mp_97 hM, mk_476 hM, mp_98 hM, mk_477 hM, mp_99 hM, mk_478 hM, mk_458 hM1, mp_71 hM1, mk_461 hM1, mp_89 hM1, mk_468 hM1, mp_90 hM1, mk_469 hM1, mp_91 hM1, mk_470 hM1, mp_92 hM1, mk_471 hM1, mp_93 hM1, mk_472 hM1, mp_94 hM1, mk_473 hM1, mp_95 hM1, mk_474 hM1, mp_97 hM1, mk_476 hM1, mp_98 hM1, mk_477 hM1, mp_99 hM1, mk_478 hM1, ↓reduceIte, Nat.reduceAdd, Nat.reduceLeDiff, Nat.reduceLT, Nat.reduceEqDiff, not_false_eq_true, false_or, true_or, or_true, or_false, n0_e, n1_ne, n1_11, bI_z, bI_1, bI_fo, va_rf_some, aBk_1, aBk_0, nI_add, nI_mul, hk_si, hp_si, hl_si, hk_sp, hk_sl, hk_cp, hp_cp, t2, g1, ek, x8, hs2, r1]
  generalize si_ h1 477 sd v1 = h2 at oA vA st
  have O2 := O1.on_nf oA (fun a f q => by omega)
  have o12 : On (TOF sd) h h2 := (o1.mono (fun _ _ q => Or.inl q)).trans (oA.mono (fun a f q => Or.inr (Or.inr (Or.inr (Or.inr (Or.inl ⟨by omega, q.2⟩))))))
  unfold tlD
  cases hx1 : goX τ σ with
  | inl e =>
    rw [hx1] at O2
    exact ⟨h2, st, o12.OL, O2⟩
  | inr s1 =>
    rw [hx1] at O2
    have es1 : s1.1 = σ.1 + 1 := by rw [(go_inr hx1).2]
    show TOR τ N sd p b h (eB (bndX τ s1 1 999) _)
    have O2 : MO h2 τ N (eB (bndX τ s1 1 999) (mustX τ · 4)) := O2
    cases hx2 : bndX τ s1 1 999 with
    | inl e =>
      rw [hx2] at O2
      exact ⟨h2, st, o12.OL, O2⟩
    | inr s2 =>
      rw [hx2] at O2
      obtain ⟨k2, e2, -⟩ := bnd_inr hx2
      have y1 := w1 s1 hx1 k2
      show TOR τ N sd p b h (eB (mustX τ s2 4) _)
      have O2 : MO h2 τ N (mustX τ s2 4) := O2
      cases hx3 : mustX τ s2 4 with
      | inl e =>
        rw [hx3] at O2
        exact ⟨h2, st, o12.OL, O2⟩
      | inr s3 =>
        rw [hx3] at O2
        have R2 : MR h2 τ N s3 := O2
        have es3 : s3.1 = s2.1 + 1 := by rw [(must_inr hx3).2.2]
        obtain ⟨⟨⟨a1, a2⟩, a3, a4, a5, a6, a7⟩, a8, a9, a10, a11, a12⟩ := X1
        refine ⟨h2, p, b, st, o12.OL, R2, N1.ol (oA.OL (L := fun _ => False)) (fun a f q => by omega) (fun q => q), ⟨⟨⟨?_, ?_⟩, ?_, ?_, ?_, ?_, ?_⟩, ?_, fun k hk => ?_, ?_, ?_, ?_⟩, ⟨hp.1, by show p ≤ 420 * sd + s3.1; omega⟩, hb.1, by show 4 * b ≤ 4 * (130 * sd) + s3.1; omega⟩
        · exact (oA.i (fun q => by omega)).trans a1
        · exact (oA.i (fun q => by omega)).trans a2
        · intro g hg
          obtain ⟨b1, b2, b3⟩ := a3 g hg
          exact ⟨(oA.i (fun q => by omega)).trans b1, (oA.i (fun q => by omega)).trans b2, (oA.i (fun q => by omega)).trans b3⟩
        · intro g hg
          exact (oA.i (fun q => by omega)).trans (a4 g hg)
        · intro s hs
          obtain ⟨b1, b2⟩ := a5 s hs
          exact ⟨(oA.i (fun q => by omega)).trans b1, (oA.i (fun q => by omega)).trans b2⟩
        · exact vA.trans y1
        · exact (oA.i (fun q => by omega)).trans a7
        · exact (oA.i (fun q => by omega)).trans a8
        · exact (a9 k hk).ol (oA.OL (L := fun _ => False)) (fun a f q => by omega)
        · exact (oA.i (fun q => by omega)).trans a10
        · exact (oA.i (fun q => by omega)).trans a11
        · exact (oA.i (fun q => by omega)).trans a12
theorem m_tlE (hR : MR h τ N σ) (hk : tk_ τ σ.1 = 28) (hN : MN h ν) (hV : NV ν T) (hX : MXt h sd T nf p b) (hs2 : sd < 2) (hp : 420 * sd ≤ p ∧ p ≤ 420 * sd + σ.1) (hb : 130 * sd ≤ b ∧ 4 * b ≤ 4 * (130 * sd) + σ.1) : TOR τ N sd p b h (tlE τ σ ν T nf) := by
  obtain ⟨hM, hT, hK, t1, t2, t3, t4, -⟩ := id hR
  have h40 := hT.1
  have g1 : σ.1 < 403 := by omega
  have ek : hi_ h 461 σ.1 = nI 28 := by rw [(hK σ.1 t1).1, hk]
  have x8 := hX.2.2.2.2.2
  obtain ⟨h1, v1, r1, o1, O1, w1⟩ := m_toldInt hR (by omega) (by omega) (lo := 0) (hi := 9999) (by decide) (by decide)
  have hM1 := O1.S
  have X1 := hX.fp hV.2.1 hV.2.2.1 o1
  have N1 := hN.on o1
  have oA : On (fun a f => a = 478 ∧ f = sd) h1 (si_ h1 478 sd v1) := On.si ⟨rfl, rfl⟩
  have vA : hi_ (si_ h1 478 sd v1) 478 sd = v1 := hi_same
  have st : ∀ d, (run (d + 6) 163 0 [.ref 458, aU, aU] [] h) = some (.returned none, si_ h1 478 sd v1) := fun d => by
    simp only [e163_0, e163_1, e163_4, e163_5, e163_8, e163_9_20, e163_9_21, e163_9_22, e163_9_23, e163_9_24, e163_9_25, e163_9_26, e163_9_27, e163_9_28, e163_9_d, e163_60, e163_61, e163_62, e163_65, e163_66, e163_69, e163_70, e163_71, e163_74, e163_75, e163_78, e163_81, e163_82, e163_83, e163_84, e163_87, e163_88, e163_89, e163_92, e163_93, e163_96, e163_97, e163_98, e163_99, e163_100, e163_103, e163_104, e163_105, e163_108, e163_109, e163_110, e163_111, e163_113, e163_116, e163_117, e163_118, e163_121, e163_122, e163_123, e163_124, e163_126, e163_129, e163_130, e163_131, e163_132, e163_133, e163_136, e163_137, e163_140, e163_141, e163_144, e163_145, e163_148, e163_151, e163_152, e163_155, e163_156, e163_159, e163_160, e163_161, e163_162, e163_163, e163_164, e163_167, e163_168, e163_169, e163_172, e163_173, e163_176, e163_177, e163_179, e163_182, e163_183, e163_186, e163_189, e163_190, e163_192, e163_193, e163_196, e163_197, e163_198, e163_201, e163_202, e163_205, e163_206, e163_207, e163_208, e163_209, e163_212, e163_213, e163_214, e163_217, e163_218, e163_219, e163_220, e163_222, e163_225, e163_226, e163_227, e163_230, e163_231, e163_232, e163_233, e163_235, e163_238, e163_239, e163_240, e163_243, e163_244, e163_245, e163_246, e163_248, e163_251, e163_252, e163_253, e163_254, e163_256, e163_257, e163_260, e163_261, e163_264, e163_265, e163_266, e163_269, e163_270, e163_273, e163_276, e163_277, e163_280, e163_281, e163_284, e163_285, e163_286, e163_287, e163_288, e163_289, e163_292, e163_293, e163_294, e163_297, e163_298, e163_301, e163_302, e163_304, e163_307, e163_308, e163_311, e163_314, e163_315, e163_318, e163_321, e163_322, e163_325, e163_326, e163_329, e163_330, e163_331, e163_334, e163_337, e163_338, e163_341, e163_342, e163_345, e163_346, e163_349, e163_350, e163_351, e163_354, e163_357, e163_358, e163_361, e163_362, e163_365, e163_366, e163_369, e163_370, e163_372, e163_373, e163_374, e163_375, e163_378, e163_379, e163_382, e163_383, e163_386, e163_387, e163_389, e163_392, e163_393, e163_394, e163_397, e163_398, e163_401, e163_404, e163_405, e163_406, e163_409, e163_410, e163_411, e163_414, mk_458 hM, mp_71 hM, mk_461 hM, mp_89 hM, mk_468 hM, mp_90 hM, mk_469 hM, mp_91 hM, mk_470 hM, mp_92 hM, mk_471 hM, mp_93 hM, mk_472 hM, mp_94 hM, mk_473 hM, mp_95 hM, mk_474 hM, mp_97 hM, mk_476 hM, mp_98 hM, mk_477 hM, mp_99 hM, mk_478 hM, mk_458 hM1, mp_71 hM1, mk_461 hM1, mp_89 hM1, mk_468 hM1, mp_90 hM1, mk_469 hM1, mp_91 hM1, mk_470 hM1, mp_92 hM1, mk_471 hM1, mp_93 hM1, mk_472 hM1, mp_94 hM1, mk_473 hM1, mp_95 hM1, mk_474 hM1, mp_97 hM1, mk_476 hM1, mp_98 hM1, mk_477 hM1, mp_99 hM1, mk_478 hM1, ↓reduceIte, Nat.reduceAdd, Nat.reduceLeDiff, Nat.reduceLT, Nat.reduceEqDiff, not_false_eq_true, false_or, true_or, or_true, or_false, n0_e, n1_ne, n1_11, bI_z, bI_1, bI_fo, va_rf_some, aBk_1, aBk_0, nI_add, nI_mul, hk_si, hp_si, hl_si, hk_sp, hk_sl, hk_cp, hp_cp, t2, g1, ek, x8, hs2, r1]
  generalize si_ h1 478 sd v1 = h2 at oA vA st
  have O2 := O1.on_nf oA (fun a f q => by omega)
  have o12 : On (TOF sd) h h2 := (o1.mono (fun _ _ q => Or.inl q)).trans (oA.mono (fun a f q => Or.inr (Or.inr (Or.inr (Or.inr (Or.inl ⟨by omega, q.2⟩))))))
  unfold tlE
  cases hx1 : goX τ σ with
  | inl e =>
    rw [hx1] at O2
    exact ⟨h2, st, o12.OL, O2⟩
  | inr s1 =>
    rw [hx1] at O2
    have es1 : s1.1 = σ.1 + 1 := by rw [(go_inr hx1).2]
    show TOR τ N sd p b h (eB (bndX τ s1 0 9999) _)
    have O2 : MO h2 τ N (eB (bndX τ s1 0 9999) (mustX τ · 4)) := O2
    cases hx2 : bndX τ s1 0 9999 with
    | inl e =>
      rw [hx2] at O2
      exact ⟨h2, st, o12.OL, O2⟩
    | inr s2 =>
      rw [hx2] at O2
      obtain ⟨k2, e2, -⟩ := bnd_inr hx2
      have y1 := w1 s1 hx1 k2
      show TOR τ N sd p b h (eB (mustX τ s2 4) _)
      have O2 : MO h2 τ N (mustX τ s2 4) := O2
      cases hx3 : mustX τ s2 4 with
      | inl e =>
        rw [hx3] at O2
        exact ⟨h2, st, o12.OL, O2⟩
      | inr s3 =>
        rw [hx3] at O2
        have R2 : MR h2 τ N s3 := O2
        have es3 : s3.1 = s2.1 + 1 := by rw [(must_inr hx3).2.2]
        obtain ⟨⟨⟨a1, a2⟩, a3, a4, a5, a6, a7⟩, a8, a9, a10, a11, a12⟩ := X1
        refine ⟨h2, p, b, st, o12.OL, R2, N1.ol (oA.OL (L := fun _ => False)) (fun a f q => by omega) (fun q => q), ⟨⟨⟨?_, ?_⟩, ?_, ?_, ?_, ?_, ?_⟩, ?_, fun k hk => ?_, ?_, ?_, ?_⟩, ⟨hp.1, by show p ≤ 420 * sd + s3.1; omega⟩, hb.1, by show 4 * b ≤ 4 * (130 * sd) + s3.1; omega⟩
        · exact (oA.i (fun q => by omega)).trans a1
        · exact (oA.i (fun q => by omega)).trans a2
        · intro g hg
          obtain ⟨b1, b2, b3⟩ := a3 g hg
          exact ⟨(oA.i (fun q => by omega)).trans b1, (oA.i (fun q => by omega)).trans b2, (oA.i (fun q => by omega)).trans b3⟩
        · intro g hg
          exact (oA.i (fun q => by omega)).trans (a4 g hg)
        · intro s hs
          obtain ⟨b1, b2⟩ := a5 s hs
          exact ⟨(oA.i (fun q => by omega)).trans b1, (oA.i (fun q => by omega)).trans b2⟩
        · exact (oA.i (fun q => by omega)).trans a6
        · exact vA.trans y1
        · exact (oA.i (fun q => by omega)).trans a8
        · exact (a9 k hk).ol (oA.OL (L := fun _ => False)) (fun a f q => by omega)
        · exact (oA.i (fun q => by omega)).trans a10
        · exact (oA.i (fun q => by omega)).trans a11
        · exact (oA.i (fun q => by omega)).trans a12
theorem m_tlL {k : Nat} (hv : ∀ j, tv_ τ j ≤ 9999) (hR : MR h τ N σ) (hk : tk_ τ σ.1 = 23 + k) (hk4 : k < 4) (h6 : σ.2.1 ≤ 6) (hN : MN h ν) (hV : NV ν T) (hX : MXt h sd T nf p b) (hs2 : sd < 2) (hp : 420 * sd ≤ p ∧ p ≤ 420 * sd + σ.1) (hb : 130 * sd ≤ b ∧ 4 * b ≤ 4 * (130 * sd) + σ.1) : TOR τ N sd p b h (tlL τ σ ν T nf k) := by
  obtain ⟨hM, hT, hK, t1, t2, t3, t4, -⟩ := id hR
  have h40 := hT.1
  have g1 : σ.1 < 403 := by omega
  have ek : hi_ h 461 σ.1 = nI (23 + k) := by rw [(hK σ.1 t1).1, hk]
  have x8 := hX.2.2.2.2.2
  have hle0 : nI 0 ≤ 0 := by decide
  obtain ⟨h1, r1, o1, O1⟩ := m_goesOn hR (hR.nx (by omega) (by omega))
  have hM1 := O1.S
  have X1 := hX.fp hV.2.1 hV.2.2.1 o1
  have N1 := hN.on o1
  obtain ⟨h2, r2, o2, O2, g2⟩ := mo_tellLaw (b0 := 420 * sd) (Bb := 130 * sd + 130) (k := k) (p := p) (b := b) hv (by omega) (by omega) hs2 hk4 O1 (fun s hs => by
    obtain ⟨-, es⟩ := go_inr hs
    rw [es]
    exact ⟨X1.2.2.2.1, by show p ≤ 420 * sd + (σ.1 + 1); omega, h6⟩) X1.2.2.2.2.1 (by omega) X1.2.2.2.2.2
  have st : ∀ d, (run (d + 6) 163 0 [.ref 458, aU, aU] [] h) = some (.returned none, h2) := fun d => by
    have c : k = 0 ∨ k = 1 ∨ k = 2 ∨ k = 3 := by omega
    rcases c with c | c | c | c <;> subst c
    · have e5 : nI 23 - nI 23 = nI 0 := by decide
      have e6 : ¬ nI 0 < 0 := by decide
      have e7 : nI 23 ≤ nI 26 := by decide
      simp only [e163_0, e163_1, e163_4, e163_5, e163_8, e163_9_20, e163_9_21, e163_9_22, e163_9_23, e163_9_24, e163_9_25, e163_9_26, e163_9_27, e163_9_28, e163_9_d, e163_60, e163_61, e163_62, e163_65, e163_66, e163_69, e163_70, e163_71, e163_74, e163_75, e163_78, e163_81, e163_82, e163_83, e163_84, e163_87, e163_88, e163_89, e163_92, e163_93, e163_96, e163_97, e163_98, e163_99, e163_100, e163_103, e163_104, e163_105, e163_108, e163_109, e163_110, e163_111, e163_113, e163_116, e163_117, e163_118, e163_121, e163_122, e163_123, e163_124, e163_126, e163_129, e163_130, e163_131, e163_132, e163_133, e163_136, e163_137, e163_140, e163_141, e163_144, e163_145, e163_148, e163_151, e163_152, e163_155, e163_156, e163_159, e163_160, e163_161, e163_162, e163_163, e163_164, e163_167, e163_168, e163_169, e163_172, e163_173, e163_176, e163_177, e163_179, e163_182, e163_183, e163_186, e163_189, e163_190, e163_192, e163_193, e163_196, e163_197, e163_198, e163_201, e163_202, e163_205, e163_206, e163_207, e163_208, e163_209, e163_212, e163_213, e163_214, e163_217, e163_218, e163_219, e163_220, e163_222, e163_225, e163_226, e163_227, e163_230, e163_231, e163_232, e163_233, e163_235, e163_238, e163_239, e163_240, e163_243, e163_244, e163_245, e163_246, e163_248, e163_251, e163_252, e163_253, e163_254, e163_256, e163_257, e163_260, e163_261, e163_264, e163_265, e163_266, e163_269, e163_270, e163_273, e163_276, e163_277, e163_280, e163_281, e163_284, e163_285, e163_286, e163_287, e163_288, e163_289, e163_292, e163_293, e163_294, e163_297, e163_298, e163_301, e163_302, e163_304, e163_307, e163_308, e163_311, e163_314, e163_315, e163_318, e163_321, e163_322, e163_325, e163_326, e163_329, e163_330, e163_331, e163_334, e163_337, e163_338, e163_341, e163_342, e163_345, e163_346, e163_349, e163_350, e163_351, e163_354, e163_357, e163_358, e163_361, e163_362, e163_365, e163_366, e163_369, e163_370, e163_372, e163_373, e163_374, e163_375, e163_378, e163_379, e163_382, e163_383, e163_386, e163_387, e163_389, e163_392, e163_393, e163_394, e163_397, e163_398, e163_401, e163_404, e163_405, e163_406, e163_409, e163_410, e163_411, e163_414, mk_458 hM, mp_71 hM, mk_461 hM, mp_89 hM, mk_468 hM, mp_90 hM, mk_469 hM, mp_91 hM, mk_470 hM, mp_92 hM, mk_471 hM, mp_93 hM, mk_472 hM, mp_94 hM, mk_473 hM, mp_95 hM, mk_474 hM, mp_97 hM, mk_476 hM, mp_98 hM, mk_477 hM, mp_99 hM, mk_478 hM, mk_458 hM1, mp_71 hM1, mk_461 hM1, mp_89 hM1, mk_468 hM1, mp_90 hM1, mk_469 hM1, mp_91 hM1, mk_470 hM1, mp_92 hM1, mk_471 hM1, mp_93 hM1, mk_472 hM1, mp_94 hM1, mk_473 hM1, mp_95 hM1, mk_474 hM1, mp_97 hM1, mk_476 hM1, mp_98 hM1, mk_477 hM1, mp_99 hM1, mk_478 hM1, ↓reduceIte, Nat.reduceAdd, Nat.reduceLeDiff, Nat.reduceLT, Nat.reduceEqDiff, not_false_eq_true, false_or, true_or, or_true, or_false, n0_e, n1_ne, n1_11, bI_z, bI_1, bI_fo, va_rf_some, aBk_1, aBk_0, nI_add, nI_mul, hk_si, hp_si, hl_si, hk_sp, hk_sl, hk_cp, hp_cp, t2, g1, ek, t4, e5, e6, e7, hle0, r1, r2]
    · have e5 : nI 24 - nI 23 = nI 1 := by decide
      have e6 : ¬ nI 1 < 0 := by decide
      have e7 : nI 24 ≤ nI 26 := by decide
      simp only [e163_0, e163_1, e163_4, e163_5, e163_8, e163_9_20, e163_9_21, e163_9_22, e163_9_23, e163_9_24, e163_9_25, e163_9_26, e163_9_27, e163_9_28, e163_9_d, e163_60, e163_61, e163_62, e163_65, e163_66, e163_69, e163_70, e163_71, e163_74, e163_75, e163_78, e163_81, e163_82, e163_83, e163_84, e163_87, e163_88, e163_89, e163_92, e163_93, e163_96, e163_97, e163_98, e163_99, e163_100, e163_103, e163_104, e163_105, e163_108, e163_109, e163_110, e163_111, e163_113, e163_116, e163_117, e163_118, e163_121, e163_122, e163_123, e163_124, e163_126, e163_129, e163_130, e163_131, e163_132, e163_133, e163_136, e163_137, e163_140, e163_141, e163_144, e163_145, e163_148, e163_151, e163_152, e163_155, e163_156, e163_159, e163_160, e163_161, e163_162, e163_163, e163_164, e163_167, e163_168, e163_169, e163_172, e163_173, e163_176, e163_177, e163_179, e163_182, e163_183, e163_186, e163_189, e163_190, e163_192, e163_193, e163_196, e163_197, e163_198, e163_201, e163_202, e163_205, e163_206, e163_207, e163_208, e163_209, e163_212, e163_213, e163_214, e163_217, e163_218, e163_219, e163_220, e163_222, e163_225, e163_226, e163_227, e163_230, e163_231, e163_232, e163_233, e163_235, e163_238, e163_239, e163_240, e163_243, e163_244, e163_245, e163_246, e163_248, e163_251, e163_252, e163_253, e163_254, e163_256, e163_257, e163_260, e163_261, e163_264, e163_265, e163_266, e163_269, e163_270, e163_273, e163_276, e163_277, e163_280, e163_281, e163_284, e163_285, e163_286, e163_287, e163_288, e163_289, e163_292, e163_293, e163_294, e163_297, e163_298, e163_301, e163_302, e163_304, e163_307, e163_308, e163_311, e163_314, e163_315, e163_318, e163_321, e163_322, e163_325, e163_326, e163_329, e163_330, e163_331, e163_334, e163_337, e163_338, e163_341, e163_342, e163_345, e163_346, e163_349, e163_350, e163_351, e163_354, e163_357, e163_358, e163_361, e163_362, e163_365, e163_366, e163_369, e163_370, e163_372, e163_373, e163_374, e163_375, e163_378, e163_379, e163_382, e163_383, e163_386, e163_387, e163_389, e163_392, e163_393, e163_394, e163_397, e163_398, e163_401, e163_404, e163_405, e163_406, e163_409, e163_410, e163_411, e163_414, mk_458 hM, mp_71 hM, mk_461 hM, mp_89 hM, mk_468 hM, mp_90 hM, mk_469 hM, mp_91 hM, mk_470 hM, mp_92 hM, mk_471 hM, mp_93 hM, mk_472 hM, mp_94 hM, mk_473 hM, mp_95 hM, mk_474 hM, mp_97 hM, mk_476 hM, mp_98 hM, mk_477 hM, mp_99 hM, mk_478 hM, mk_458 hM1, mp_71 hM1, mk_461 hM1, mp_89 hM1, mk_468 hM1, mp_90 hM1, mk_469 hM1, mp_91 hM1, mk_470 hM1, mp_92 hM1, mk_471 hM1, mp_93 hM1, mk_472 hM1, mp_94 hM1, mk_473 hM1, mp_95 hM1, mk_474 hM1, mp_97 hM1, mk_476 hM1, mp_98 hM1, mk_477 hM1, mp_99 hM1, mk_478 hM1, ↓reduceIte, Nat.reduceAdd, Nat.reduceLeDiff, Nat.reduceLT, Nat.reduceEqDiff, not_false_eq_true, false_or, true_or, or_true, or_false, n0_e, n1_ne, n1_11, bI_z, bI_1, bI_fo, va_rf_some, aBk_1, aBk_0, nI_add, nI_mul, hk_si, hp_si, hl_si, hk_sp, hk_sl, hk_cp, hp_cp, t2, g1, ek, t4, e5, e6, e7, hle0, r1, r2]
    · have e5 : nI 25 - nI 23 = nI 2 := by decide
      have e6 : ¬ nI 2 < 0 := by decide
      have e7 : nI 25 ≤ nI 26 := by decide
      simp only [e163_0, e163_1, e163_4, e163_5, e163_8, e163_9_20, e163_9_21, e163_9_22, e163_9_23, e163_9_24, e163_9_25, e163_9_26, e163_9_27, e163_9_28, e163_9_d, e163_60, e163_61, e163_62, e163_65, e163_66, e163_69, e163_70, e163_71, e163_74, e163_75, e163_78, e163_81, e163_82, e163_83, e163_84, e163_87, e163_88, e163_89, e163_92, e163_93, e163_96, e163_97, e163_98, e163_99, e163_100, e163_103, e163_104, e163_105, e163_108, e163_109, e163_110, e163_111, e163_113, e163_116, e163_117, e163_118, e163_121, e163_122, e163_123, e163_124, e163_126, e163_129, e163_130, e163_131, e163_132, e163_133, e163_136, e163_137, e163_140, e163_141, e163_144, e163_145, e163_148, e163_151, e163_152, e163_155, e163_156, e163_159, e163_160, e163_161, e163_162, e163_163, e163_164, e163_167, e163_168, e163_169, e163_172, e163_173, e163_176, e163_177, e163_179, e163_182, e163_183, e163_186, e163_189, e163_190, e163_192, e163_193, e163_196, e163_197, e163_198, e163_201, e163_202, e163_205, e163_206, e163_207, e163_208, e163_209, e163_212, e163_213, e163_214, e163_217, e163_218, e163_219, e163_220, e163_222, e163_225, e163_226, e163_227, e163_230, e163_231, e163_232, e163_233, e163_235, e163_238, e163_239, e163_240, e163_243, e163_244, e163_245, e163_246, e163_248, e163_251, e163_252, e163_253, e163_254, e163_256, e163_257, e163_260, e163_261, e163_264, e163_265, e163_266, e163_269, e163_270, e163_273, e163_276, e163_277, e163_280, e163_281, e163_284, e163_285, e163_286, e163_287, e163_288, e163_289, e163_292, e163_293, e163_294, e163_297, e163_298, e163_301, e163_302, e163_304, e163_307, e163_308, e163_311, e163_314, e163_315, e163_318, e163_321, e163_322, e163_325, e163_326, e163_329, e163_330, e163_331, e163_334, e163_337, e163_338, e163_341, e163_342, e163_345, e163_346, e163_349, e163_350, e163_351, e163_354, e163_357, e163_358, e163_361, e163_362, e163_365, e163_366, e163_369, e163_370, e163_372, e163_373, e163_374, e163_375, e163_378, e163_379, e163_382, e163_383, e163_386, e163_387, e163_389, e163_392, e163_393, e163_394, e163_397, e163_398, e163_401, e163_404, e163_405, e163_406, e163_409, e163_410, e163_411, e163_414, mk_458 hM, mp_71 hM, mk_461 hM, mp_89 hM, mk_468 hM, mp_90 hM, mk_469 hM, mp_91 hM, mk_470 hM, mp_92 hM, mk_471 hM, mp_93 hM, mk_472 hM, mp_94 hM, mk_473 hM, mp_95 hM, mk_474 hM, mp_97 hM, mk_476 hM, mp_98 hM, mk_477 hM, mp_99 hM, mk_478 hM, mk_458 hM1, mp_71 hM1, mk_461 hM1, mp_89 hM1, mk_468 hM1, mp_90 hM1, mk_469 hM1, mp_91 hM1, mk_470 hM1, mp_92 hM1, mk_471 hM1, mp_93 hM1, mk_472 hM1, mp_94 hM1, mk_473 hM1, mp_95 hM1, mk_474 hM1, mp_97 hM1, mk_476 hM1, mp_98 hM1, mk_477 hM1, mp_99 hM1, mk_478 hM1, ↓reduceIte, Nat.reduceAdd, Nat.reduceLeDiff, Nat.reduceLT, Nat.reduceEqDiff, not_false_eq_true, false_or, true_or, or_true, or_false, n0_e, n1_ne, n1_11, bI_z, bI_1, bI_fo, va_rf_some, aBk_1, aBk_0, nI_add, nI_mul, hk_si, hp_si, hl_si, hk_sp, hk_sl, hk_cp, hp_cp, t2, g1, ek, t4, e5, e6, e7, hle0, r1, r2]
    · have e5 : nI 26 - nI 23 = nI 3 := by decide
      have e6 : ¬ nI 3 < 0 := by decide
      have e7 : nI 26 ≤ nI 26 := by decide
      simp only [e163_0, e163_1, e163_4, e163_5, e163_8, e163_9_20, e163_9_21, e163_9_22, e163_9_23, e163_9_24, e163_9_25, e163_9_26, e163_9_27, e163_9_28, e163_9_d, e163_60, e163_61, e163_62, e163_65, e163_66, e163_69, e163_70, e163_71, e163_74, e163_75, e163_78, e163_81, e163_82, e163_83, e163_84, e163_87, e163_88, e163_89, e163_92, e163_93, e163_96, e163_97, e163_98, e163_99, e163_100, e163_103, e163_104, e163_105, e163_108, e163_109, e163_110, e163_111, e163_113, e163_116, e163_117, e163_118, e163_121, e163_122, e163_123, e163_124, e163_126, e163_129, e163_130, e163_131, e163_132, e163_133, e163_136, e163_137, e163_140, e163_141, e163_144, e163_145, e163_148, e163_151, e163_152, e163_155, e163_156, e163_159, e163_160, e163_161, e163_162, e163_163, e163_164, e163_167, e163_168, e163_169, e163_172, e163_173, e163_176, e163_177, e163_179, e163_182, e163_183, e163_186, e163_189, e163_190, e163_192, e163_193, e163_196, e163_197, e163_198, e163_201, e163_202, e163_205, e163_206, e163_207, e163_208, e163_209, e163_212, e163_213, e163_214, e163_217, e163_218, e163_219, e163_220, e163_222, e163_225, e163_226, e163_227, e163_230, e163_231, e163_232, e163_233, e163_235, e163_238, e163_239, e163_240, e163_243, e163_244, e163_245, e163_246, e163_248, e163_251, e163_252, e163_253, e163_254, e163_256, e163_257, e163_260, e163_261, e163_264, e163_265, e163_266, e163_269, e163_270, e163_273, e163_276, e163_277, e163_280, e163_281, e163_284, e163_285, e163_286, e163_287, e163_288, e163_289, e163_292, e163_293, e163_294, e163_297, e163_298, e163_301, e163_302, e163_304, e163_307, e163_308, e163_311, e163_314, e163_315, e163_318, e163_321, e163_322, e163_325, e163_326, e163_329, e163_330, e163_331, e163_334, e163_337, e163_338, e163_341, e163_342, e163_345, e163_346, e163_349, e163_350, e163_351, e163_354, e163_357, e163_358, e163_361, e163_362, e163_365, e163_366, e163_369, e163_370, e163_372, e163_373, e163_374, e163_375, e163_378, e163_379, e163_382, e163_383, e163_386, e163_387, e163_389, e163_392, e163_393, e163_394, e163_397, e163_398, e163_401, e163_404, e163_405, e163_406, e163_409, e163_410, e163_411, e163_414, mk_458 hM, mp_71 hM, mk_461 hM, mp_89 hM, mk_468 hM, mp_90 hM, mk_469 hM, mp_91 hM, mk_470 hM, mp_92 hM, mk_471 hM, mp_93 hM, mk_472 hM, mp_94 hM, mk_473 hM, mp_95 hM, mk_474 hM, mp_97 hM, mk_476 hM, mp_98 hM, mk_477 hM, mp_99 hM, mk_478 hM, mk_458 hM1, mp_71 hM1, mk_461 hM1, mp_89 hM1, mk_468 hM1, mp_90 hM1, mk_469 hM1, mp_91 hM1, mk_470 hM1, mp_92 hM1, mk_471 hM1, mp_93 hM1, mk_472 hM1, mp_94 hM1, mk_473 hM1, mp_95 hM1, mk_474 hM1, mp_97 hM1, mk_476 hM1, mp_98 hM1, mk_477 hM1, mp_99 hM1, mk_478 hM1, ↓reduceIte, Nat.reduceAdd, Nat.reduceLeDiff, Nat.reduceLT, Nat.reduceEqDiff, not_false_eq_true, false_or, true_or, or_true, or_false, n0_e, n1_ne, n1_11, bI_z, bI_1, bI_fo, va_rf_some, aBk_1, aBk_0, nI_add, nI_mul, hk_si, hp_si, hl_si, hk_sp, hk_sl, hk_cp, hp_cp, t2, g1, ek, t4, e5, e6, e7, hle0, r1, r2]
  have LT : ∀ a f, LLF p (420 * sd + 420) b (130 * sd + 130) (4 * sd + k) a f → (420 * sd ≤ p) → TOF sd a f := fun a f q hp0 => by
    unfold LLF EXs CO at q; unfold TOF RG
    rcases q with (q | q | q) | q | q | q
    · exact Or.inl q
    · rcases q with q | q
      · exact Or.inr (by omega)
      · exact Or.inr (Or.inr (Or.inr (Or.inr (Or.inr (Or.inr (Or.inr (Or.inr (by omega))))))))
    · exact Or.inr (Or.inr (Or.inr (Or.inl q)))
    · exact Or.inr (by omega)
    · exact Or.inr (Or.inr (Or.inr (Or.inr (Or.inr (Or.inr (Or.inr (Or.inl (by omega))))))))
    · exact Or.inr (Or.inr (Or.inr (Or.inr (Or.inr (Or.inr (Or.inl (by omega)))))))
  have o12 : On (TOF sd) h h2 := (o1.mono (fun _ _ q => Or.inl q)).trans (o2.mono (fun a f q => LT a f q hp.1))
  have oi : ∀ a f, a ≤ 478 → a ≠ 458 → hi_ h2 a f = hi_ h1 a f := fun a f ha hn => o2.i (fun q => by unfold LLF EXs FP CO at q; omega)
  unfold tlL
  cases hx1 : goX τ σ with
  | inl e =>
    rw [hx1] at O2
    exact ⟨h2, st, o12.OL, O2⟩
  | inr s1 =>
    rw [hx1] at O2 g2
    have O2 : MO h2 τ N (stX (lawT τ s1)) := O2
    have g2 : ∀ q, lawT τ s1 = .inr q → _ := g2
    have es1 := (go_inr hx1).2
    show TOR τ N sd p b h (eB (lawT τ s1) _)
    cases hx2 : lawT τ s1 with
    | inl e =>
      rw [hx2] at O2
      exact ⟨h2, st, o12.OL, O2⟩
    | inr q =>
      obtain ⟨s2, L⟩ := q
      rw [hx2] at O2
      have R2 : MR h2 τ N s2 := O2
      obtain ⟨y1, y2, y3, y4, y5⟩ := g2 _ hx2
      have y1 : hi_ h2 458 108 = nI (p + lnL L.1 + L.2.length) := y1
      have y2 : hi_ h2 458 102 = nI (b + L.1.length + 1) := y2
      have y3 : brP h2 p b L.1 L.2 := y3
      have y5 : hi_ h2 480 (4 * sd + k) = nI (b + L.1.length + 1) := y5
      obtain ⟨m1, m2, m3, -⟩ := lawT_mono hv hx2
      have es : s1.1 = σ.1 + 1 := by rw [es1]
      obtain ⟨⟨⟨a1, a2⟩, a3, a4, a5, a6, a7⟩, a8, a9, a10, a11, a12⟩ := X1
      refine ⟨h2, p + lnL L.1 + L.2.length, b + L.1.length + 1, st, o12.OL, R2, N1.ol (o2.OL (L := fun _ => False)) (fun a f q => by unfold LLF EXs FP CO at q; omega) (fun q => q), ⟨⟨⟨?_, ?_⟩, ?_, ?_, ?_, ?_, ?_⟩, ?_, fun j hj => ?_, y1, y2, ?_⟩, ⟨by omega, by show _ ≤ 420 * sd + s2.1; omega⟩, by omega, by show _ ≤ 4 * (130 * sd) + s2.1; omega⟩
      · exact (oi _ _ (by decide) (by decide)).trans a1
      · exact (oi _ _ (by decide) (by decide)).trans a2
      · intro g hg
        obtain ⟨b1, b2, b3⟩ := a3 g hg
        exact ⟨(oi _ _ (by decide) (by decide)).trans b1, (oi _ _ (by decide) (by decide)).trans b2, (oi _ _ (by decide) (by decide)).trans b3⟩
      · intro g hg
        exact (oi _ _ (by decide) (by decide)).trans (a4 g hg)
      · intro s hs
        obtain ⟨b1, b2⟩ := a5 s hs
        exact ⟨(oi _ _ (by decide) (by decide)).trans b1, (oi _ _ (by decide) (by decide)).trans b2⟩
      · exact (oi _ _ (by decide) (by decide)).trans a6
      · exact (oi _ _ (by decide) (by decide)).trans a7
      · exact (oi _ _ (by decide) (by decide)).trans a8
      · show lwS h2 sd j (p + lnL L.1 + L.2.length) (b + L.1.length + 1) (if j = k then some L else la_ T j)
        by_cases q : j = k
        · rw [if_pos q, q]
          exact ⟨b, p, y4, y5, y3, hp.1, by omega, hb.1, by omega⟩
        · rw [if_neg q]
          exact (a9 j hj).ag (o2.i (fun z => by unfold LLF EXs FP CO at z; omega)) (o2.i (fun z => by unfold LLF EXs FP CO at z; omega)) (fun f f1 f2 => ⟨o2.i (fun z => by unfold LLF EXs FP CO at z; omega), o2.i (fun z => by unfold LLF EXs FP CO at z; omega)⟩) (fun a f f1 f2 f3 f4 => o2.i (fun z => by unfold LLF EXs FP CO at z; omega)) (by omega) (by omega)
      · exact (o2.i (fun z => by unfold LLF EXs FP CO at z; omega)).trans a12
/-- what is no line -/
theorem m_tlN (hR : MR h τ N σ) (hk : tk_ τ σ.1 < 20 ∨ 28 < tk_ τ σ.1) : TOR τ N sd p b h (.inl (1, tp_ τ σ.1)) := by
  obtain ⟨hM, hT, hK, t1, t2, t3, t4, -⟩ := id hR
  have h40 := hT.1
  have g1 : σ.1 < 403 := by omega
  have kt := (hT.2.1 σ.1 t1).1
  have ek : hi_ h 461 σ.1 = nI (tk_ τ σ.1) := (hK σ.1 t1).1
  obtain ⟨h1, r1, o1, f1⟩ := m_fail hR (c := 1) (by decide)
  have hM1 := f1.1
  have f3 := f1.2.2.2.2.1
  have fz : ¬ nI 1 ≤ 0 := by decide
  have tI : (nI (tk_ τ σ.1)).toInt = tk_ τ σ.1 := nI_toInt (by omega)
  have sw : (nI (tk_ τ σ.1)).toInt < 20 ∨ 28 < (nI (tk_ τ σ.1)).toInt := by rw [tI]; omega
  refine ⟨h1, fun d => ?_, (o1.mono (fun _ _ q => Or.inl q)).OL, f1⟩
  rcases hk with q | q
  · have e6 : nI (tk_ τ σ.1) - nI 23 < 0 := by
      rw [Int32.lt_iff_toInt_lt, ti_sub (by rw [tI, nI_toInt (by decide)]; omega) (by rw [tI, nI_toInt (by decide)]; omega), tI, nI_toInt (by decide)]
      show (tk_ τ σ.1 : Int) - 23 < 0
      omega
    simp only [e163_0, e163_1, e163_4, e163_5, e163_8, e163_9_20, e163_9_21, e163_9_22, e163_9_23, e163_9_24, e163_9_25, e163_9_26, e163_9_27, e163_9_28, e163_9_d, e163_60, e163_61, e163_62, e163_65, e163_66, e163_69, e163_70, e163_71, e163_74, e163_75, e163_78, e163_81, e163_82, e163_83, e163_84, e163_87, e163_88, e163_89, e163_92, e163_93, e163_96, e163_97, e163_98, e163_99, e163_100, e163_103, e163_104, e163_105, e163_108, e163_109, e163_110, e163_111, e163_113, e163_116, e163_117, e163_118, e163_121, e163_122, e163_123, e163_124, e163_126, e163_129, e163_130, e163_131, e163_132, e163_133, e163_136, e163_137, e163_140, e163_141, e163_144, e163_145, e163_148, e163_151, e163_152, e163_155, e163_156, e163_159, e163_160, e163_161, e163_162, e163_163, e163_164, e163_167, e163_168, e163_169, e163_172, e163_173, e163_176, e163_177, e163_179, e163_182, e163_183, e163_186, e163_189, e163_190, e163_192, e163_193, e163_196, e163_197, e163_198, e163_201, e163_202, e163_205, e163_206, e163_207, e163_208, e163_209, e163_212, e163_213, e163_214, e163_217, e163_218, e163_219, e163_220, e163_222, e163_225, e163_226, e163_227, e163_230, e163_231, e163_232, e163_233, e163_235, e163_238, e163_239, e163_240, e163_243, e163_244, e163_245, e163_246, e163_248, e163_251, e163_252, e163_253, e163_254, e163_256, e163_257, e163_260, e163_261, e163_264, e163_265, e163_266, e163_269, e163_270, e163_273, e163_276, e163_277, e163_280, e163_281, e163_284, e163_285, e163_286, e163_287, e163_288, e163_289, e163_292, e163_293, e163_294, e163_297, e163_298, e163_301, e163_302, e163_304, e163_307, e163_308, e163_311, e163_314, e163_315, e163_318, e163_321, e163_322, e163_325, e163_326, e163_329, e163_330, e163_331, e163_334, e163_337, e163_338, e163_341, e163_342, e163_345, e163_346, e163_349, e163_350, e163_351, e163_354, e163_357, e163_358, e163_361, e163_362, e163_365, e163_366, e163_369, e163_370, e163_372, e163_373, e163_374, e163_375, e163_378, e163_379, e163_382, e163_383, e163_386, e163_387, e163_389, e163_392, e163_393, e163_394, e163_397, e163_398, e163_401, e163_404, e163_405, e163_406, e163_409, e163_410, e163_411, e163_414, mk_458 hM, mp_71 hM, mk_461 hM, mp_89 hM, mk_468 hM, mp_90 hM, mk_469 hM, mp_91 hM, mk_470 hM, mp_92 hM, mk_471 hM, mp_93 hM, mk_472 hM, mp_94 hM, mk_473 hM, mp_95 hM, mk_474 hM, mp_97 hM, mk_476 hM, mp_98 hM, mk_477 hM, mp_99 hM, mk_478 hM, mk_458 hM1, mp_71 hM1, mk_461 hM1, mp_89 hM1, mk_468 hM1, mp_90 hM1, mk_469 hM1, mp_91 hM1, mk_470 hM1, mp_92 hM1, mk_471 hM1, mp_93 hM1, mk_472 hM1, mp_94 hM1, mk_473 hM1, mp_95 hM1, mk_474 hM1, mp_97 hM1, mk_476 hM1, mp_98 hM1, mk_477 hM1, mp_99 hM1, mk_478 hM1, ↓reduceIte, Nat.reduceAdd, Nat.reduceLeDiff, Nat.reduceLT, Nat.reduceEqDiff, not_false_eq_true, false_or, true_or, or_true, or_false, n0_e, n1_ne, n1_11, bI_z, bI_1, bI_fo, va_rf_some, aBk_1, aBk_0, nI_add, nI_mul, hk_si, hp_si, hl_si, hk_sp, hk_sl, hk_cp, hp_cp, t2, g1, ek, sw, e6, r1, f3, fz]
  · have e5 : nI (tk_ τ σ.1) - nI 23 = nI (tk_ τ σ.1 - 23) := nI_sub (by omega)
    have e6 : ¬ nI (tk_ τ σ.1 - 23) < 0 := nI_pos (by omega)
    have e7 : ¬ nI (tk_ τ σ.1) ≤ nI 26 := nI_ge (by omega) (by omega)
    simp only [e163_0, e163_1, e163_4, e163_5, e163_8, e163_9_20, e163_9_21, e163_9_22, e163_9_23, e163_9_24, e163_9_25, e163_9_26, e163_9_27, e163_9_28, e163_9_d, e163_60, e163_61, e163_62, e163_65, e163_66, e163_69, e163_70, e163_71, e163_74, e163_75, e163_78, e163_81, e163_82, e163_83, e163_84, e163_87, e163_88, e163_89, e163_92, e163_93, e163_96, e163_97, e163_98, e163_99, e163_100, e163_103, e163_104, e163_105, e163_108, e163_109, e163_110, e163_111, e163_113, e163_116, e163_117, e163_118, e163_121, e163_122, e163_123, e163_124, e163_126, e163_129, e163_130, e163_131, e163_132, e163_133, e163_136, e163_137, e163_140, e163_141, e163_144, e163_145, e163_148, e163_151, e163_152, e163_155, e163_156, e163_159, e163_160, e163_161, e163_162, e163_163, e163_164, e163_167, e163_168, e163_169, e163_172, e163_173, e163_176, e163_177, e163_179, e163_182, e163_183, e163_186, e163_189, e163_190, e163_192, e163_193, e163_196, e163_197, e163_198, e163_201, e163_202, e163_205, e163_206, e163_207, e163_208, e163_209, e163_212, e163_213, e163_214, e163_217, e163_218, e163_219, e163_220, e163_222, e163_225, e163_226, e163_227, e163_230, e163_231, e163_232, e163_233, e163_235, e163_238, e163_239, e163_240, e163_243, e163_244, e163_245, e163_246, e163_248, e163_251, e163_252, e163_253, e163_254, e163_256, e163_257, e163_260, e163_261, e163_264, e163_265, e163_266, e163_269, e163_270, e163_273, e163_276, e163_277, e163_280, e163_281, e163_284, e163_285, e163_286, e163_287, e163_288, e163_289, e163_292, e163_293, e163_294, e163_297, e163_298, e163_301, e163_302, e163_304, e163_307, e163_308, e163_311, e163_314, e163_315, e163_318, e163_321, e163_322, e163_325, e163_326, e163_329, e163_330, e163_331, e163_334, e163_337, e163_338, e163_341, e163_342, e163_345, e163_346, e163_349, e163_350, e163_351, e163_354, e163_357, e163_358, e163_361, e163_362, e163_365, e163_366, e163_369, e163_370, e163_372, e163_373, e163_374, e163_375, e163_378, e163_379, e163_382, e163_383, e163_386, e163_387, e163_389, e163_392, e163_393, e163_394, e163_397, e163_398, e163_401, e163_404, e163_405, e163_406, e163_409, e163_410, e163_411, e163_414, mk_458 hM, mp_71 hM, mk_461 hM, mp_89 hM, mk_468 hM, mp_90 hM, mk_469 hM, mp_91 hM, mk_470 hM, mp_92 hM, mk_471 hM, mp_93 hM, mk_472 hM, mp_94 hM, mk_473 hM, mp_95 hM, mk_474 hM, mp_97 hM, mk_476 hM, mp_98 hM, mk_477 hM, mp_99 hM, mk_478 hM, mk_458 hM1, mp_71 hM1, mk_461 hM1, mp_89 hM1, mk_468 hM1, mp_90 hM1, mk_469 hM1, mp_91 hM1, mk_470 hM1, mp_92 hM1, mk_471 hM1, mp_93 hM1, mk_472 hM1, mp_94 hM1, mk_473 hM1, mp_95 hM1, mk_474 hM1, mp_97 hM1, mk_476 hM1, mp_98 hM1, mk_477 hM1, mp_99 hM1, mk_478 hM1, ↓reduceIte, Nat.reduceAdd, Nat.reduceLeDiff, Nat.reduceLT, Nat.reduceEqDiff, not_false_eq_true, false_or, true_or, or_true, or_false, n0_e, n1_ne, n1_11, bI_z, bI_1, bI_fo, va_rf_some, aBk_1, aBk_0, nI_add, nI_mul, hk_si, hp_si, hl_si, hk_sp, hk_sl, hk_cp, hp_cp, t2, g1, ek, sw, e5, e6, e7, r1, f3, fz]
end M31
