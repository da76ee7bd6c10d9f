set_option maxRecDepth 100000
/-! M: reading (17): the other lines -/
theorem lawT_mono {τ : aTok} {σ s : aPs} {L : aLw} (hv : ∀ j, tv_ τ j ≤ 9999) (h : lawT τ σ = .inr (s, L)) : L.1.length ≤ 4 ∧ σ.1 + lnL L.1 + L.2.length + 2 ≤ s.1 ∧ σ.1 + 4 * L.1.length + 3 ≤ s.1 ∧ s.2 = σ.2 ∧ (∀ q ∈ L.1, good3 q) ∧ goodC L.2 := by
  unfold lawT ifT at h
  obtain ⟨s1, h1, h⟩ := eB_inr h
  obtain ⟨⟨s2, L2⟩, h2, h⟩ := eB_inr h
  obtain ⟨s3, h3, h⟩ := eB_inr h
  cases h
  obtain ⟨-, -, e1⟩ := must_inr h1
  obtain ⟨-, -, e3⟩ := must_inr h3
  obtain ⟨a1, a2, a3, a4, a5, a6⟩ := ifX_mono hv _ _ _ _ h2
  subst e1; subst e3
  simp only at *
  exact ⟨a1, by omega, by omega, a4, a5, a6⟩
section M30
variable {d N sd p b nf : Nat} {h h' : aH} {τ : aTok} {σ : aPs} {ν : aNs} {T : aTx}
theorem gue7 (hV : NV ν T) {v : Int64} {g : Nat} (h : gueN ν v = some g) : g < ng_ T := by
  unfold gueN at h
  cases hf : fnd (gueP ν v) ν.2.2 0 with
  | none => rw [hf] at h; cases h
  | some k =>
    rw [hf] at h
    cases h
    obtain ⟨-, h1, h2, -⟩ := fnd_some _ _ _ hf
    unfold gueP at h2
    rw [Bool.and_eq_true] at h2
    have h3 := of_decide_eq_true h2.2
    rcases hV.2.2.2 k (by omega) with z | z
    · have := hV.2.1; omega
    · omega
theorem m_tlF (hR : MR h τ N σ) (hk : tk_ τ σ.1 = 22) (hN : MN h ν) (hV : NV ν T) (hX : MXt h sd T nf p b) (hnf : nf ≤ 8) (hs2 : sd < 2) (hp : 420 * sd ≤ p ∧ p ≤ 420 * sd + σ.1) (hb : 130 * sd ≤ b ∧ 4 * b ≤ 4 * (130 * sd) + σ.1) : TOR τ N sd p b h (tlF τ σ ν T nf) := by
  obtain ⟨hM, hT, hK, t1, t2, t3, t4, -⟩ := id hR
  have h40 := hT.1
  have g1 : σ.1 < 403 := by omega
  have ek : hi_ h 461 σ.1 = nI 22 := by rw [(hK σ.1 t1).1, hk]
  have x4 := hX.2.1
  have x8 := hX.2.2.2.2.2
  obtain ⟨h1, r1, o1, O1⟩ := m_roomFor hR (has := nf) (most := 8) (by omega) (by omega) (by omega) (by decide)
  have hM1 := O1.S
  have X1 := hX.fp hV.2.1 hV.2.2.1 o1
  have N1 := hN.on o1
  unfold tlF
  cases hx1 : roomX τ nf 8 σ with
  | inl e =>
    rw [hx1] at O1
    have hF : MF h1 e.1 e.2 := O1
    have f3 : hi_ h1 458 79 = nI e.1 := hF.2.2.2.2.1
    have fn : (nI e.1 = 0) = False := by have := hF.2.2.1; have := hF.2.2.2.1; rw [nI_z (by omega)]; exact eq_false (by omega)
    refine ⟨h1, fun d => ?_, (o1.mono (fun _ _ q => Or.inl q)).OL, hF⟩
    simp only [e163_0, e163_1, e163_4, e163_5, e163_8, e163_9_20, e163_9_21, e163_9_22, e163_9_23, e163_9_24, e163_9_25, e163_9_26, e163_9_27, e163_9_28, e163_9_d, e163_60, e163_61, e163_62, e163_65, e163_66, e163_69, e163_70, e163_71, e163_74, e163_75, e163_78, e163_81, e163_82, e163_83, e163_84, e163_87, e163_88, e163_89, e163_92, e163_93, e163_96, e163_97, e163_98, e163_99, e163_100, e163_103, e163_104, e163_105, e163_108, e163_109, e163_110, e163_111, e163_113, e163_116, e163_117, e163_118, e163_121, e163_122, e163_123, e163_124, e163_126, e163_129, e163_130, e163_131, e163_132, e163_133, e163_136, e163_137, e163_140, e163_141, e163_144, e163_145, e163_148, e163_151, e163_152, e163_155, e163_156, e163_159, e163_160, e163_161, e163_162, e163_163, e163_164, e163_167, e163_168, e163_169, e163_172, e163_173, e163_176, e163_177, e163_179, e163_182, e163_183, e163_186, e163_189, e163_190, e163_192, e163_193, e163_196, e163_197, e163_198, e163_201, e163_202, e163_205, e163_206, e163_207, e163_208, e163_209, e163_212, e163_213, e163_214, e163_217, e163_218, e163_219, e163_220, e163_222, e163_225, e163_226, e163_227, e163_230, e163_231, e163_232, e163_233, e163_235, e163_238, e163_239, e163_240, e163_243, e163_244, e163_245, e163_246, e163_248, e163_251, e163_252, e163_253, e163_254, e163_256, e163_257, e163_260, e163_261, e163_264, e163_265, e163_266, e163_269, e163_270, e163_273, e163_276, e163_277, e163_280, e163_281, e163_284, e163_285, e163_286, e163_287, e163_288, e163_289, e163_292, e163_293, e163_294, e163_297, e163_298, e163_301, e163_302, e163_304, e163_307, e163_308, e163_311, e163_314, e163_315, e163_318, e163_321, e163_322, e163_325, e163_326, e163_329, e163_330, e163_331, e163_334, e163_337, e163_338, e163_341, e163_342, e163_345, e163_346, e163_349, e163_350, e163_351, e163_354, e163_357, e163_358, e163_361, e163_362, e163_365, e163_366, e163_369, e163_370, e163_372, e163_373, e163_374, e163_375, e163_378, e163_379, e163_382, e163_383, e163_386, e163_387, e163_389, e163_392, e163_393, e163_394, e163_397, e163_398, e163_401, e163_404, e163_405, e163_406, e163_409, e163_410, e163_411, e163_414, mk_458 hM, mp_71 hM, mk_461 hM, mp_89 hM, mk_468 hM, mp_90 hM, mk_469 hM, mp_91 hM, mk_470 hM, mp_92 hM, mk_471 hM, mp_93 hM, mk_472 hM, mp_94 hM, mk_473 hM, mp_95 hM, mk_474 hM, mp_97 hM, mk_476 hM, mp_98 hM, mk_477 hM, mp_99 hM, mk_478 hM, mk_458 hM1, mp_71 hM1, mk_461 hM1, mp_89 hM1, mk_468 hM1, mp_90 hM1, mk_469 hM1, mp_91 hM1, mk_470 hM1, mp_92 hM1, mk_471 hM1, mp_93 hM1, mk_472 hM1, mp_94 hM1, mk_473 hM1, mp_95 hM1, mk_474 hM1, mp_97 hM1, mk_476 hM1, mp_98 hM1, mk_477 hM1, mp_99 hM1, mk_478 hM1, ↓reduceIte, Nat.reduceAdd, Nat.reduceLeDiff, Nat.reduceLT, Nat.reduceEqDiff, not_false_eq_true, false_or, true_or, or_true, or_false, n0_e, n1_ne, n1_11, bI_z, bI_1, bI_fo, va_rf_some, aBk_1, aBk_0, nI_add, nI_mul, hk_si, hp_si, hl_si, hk_sp, hk_sl, hk_cp, hp_cp, t2, g1, ek, x8, hs2, x4, r1, f3, fn]
  | inr s1 =>
    rw [hx1] at O1
    have R1 : MR h1 τ N s1 := O1
    have f1 := R1.2.2.2.2.2.2.1
    have es1 : s1.1 = σ.1 + 1 := by
      unfold roomX at hx1
      by_cases q : nf = 8
      · rw [if_pos q] at hx1; cases hx1
      · rw [if_neg q] at hx1; rw [(go_inr hx1).2]
    obtain ⟨h2, r2, o2, O2, g2⟩ := m_tellFoes (f := fo_ T) (nf := nf) R1 N1 (fun v g hg => by have := gue7 hV hg; have := hV.2.2.1; omega) X1.2.2.2.2.2 hs2 X1.1.2.2.1 X1.2.1
    have FT : ∀ a f, FOF sd a f → TOF sd a f := fun a f q => by
      unfold FOF at q; unfold TOF RG
      rcases q with q | q | q
      · exact Or.inl q
      · exact Or.inr (Or.inr (Or.inr (Or.inr (Or.inl ⟨by omega, q.2⟩))))
      · exact Or.inr (Or.inr (Or.inr (Or.inr (Or.inr (Or.inl (by omega))))))
    have o12 : On (TOF sd) h h2 := (o1.mono (fun _ _ q => Or.inl q)).trans (o2.mono FT)
    have st : ∀ d, (run (d + 6) 163 0 [.ref 458, aU, aU] [] h) = some (.returned none, h2) := fun d => by
      simp only [e163_0, e163_1, e163_4, e163_5, e163_8, e163_9_20, e163_9_21, e163_9_22, e163_9_23, e163_9_24, e163_9_25, e163_9_26, e163_9_27, e163_9_28, e163_9_d, e163_60, e163_61, e163_62, e163_65, e163_66, e163_69, e163_70, e163_71, e163_74, e163_75, e163_78, e163_81, e163_82, e163_83, e163_84, e163_87, e163_88, e163_89, e163_92, e163_93, e163_96, e163_97, e163_98, e163_99, e163_100, e163_103, e163_104, e163_105, e163_108, e163_109, e163_110, e163_111, e163_113, e163_116, e163_117, e163_118, e163_121, e163_122, e163_123, e163_124, e163_126, e163_129, e163_130, e163_131, e163_132, e163_133, e163_136, e163_137, e163_140, e163_141, e163_144, e163_145, e163_148, e163_151, e163_152, e163_155, e163_156, e163_159, e163_160, e163_161, e163_162, e163_163, e163_164, e163_167, e163_168, e163_169, e163_172, e163_173, e163_176, e163_177, e163_179, e163_182, e163_183, e163_186, e163_189, e163_190, e163_192, e163_193, e163_196, e163_197, e163_198, e163_201, e163_202, e163_205, e163_206, e163_207, e163_208, e163_209, e163_212, e163_213, e163_214, e163_217, e163_218, e163_219, e163_220, e163_222, e163_225, e163_226, e163_227, e163_230, e163_231, e163_232, e163_233, e163_235, e163_238, e163_239, e163_240, e163_243, e163_244, e163_245, e163_246, e163_248, e163_251, e163_252, e163_253, e163_254, e163_256, e163_257, e163_260, e163_261, e163_264, e163_265, e163_266, e163_269, e163_270, e163_273, e163_276, e163_277, e163_280, e163_281, e163_284, e163_285, e163_286, e163_287, e163_288, e163_289, e163_292, e163_293, e163_294, e163_297, e163_298, e163_301, e163_302, e163_304, e163_307, e163_308, e163_311, e163_314, e163_315, e163_318, e163_321, e163_322, e163_325, e163_326, e163_329, e163_330, e163_331, e163_334, e163_337, e163_338, e163_341, e163_342, e163_345, e163_346, e163_349, e163_350, e163_351, e163_354, e163_357, e163_358, e163_361, e163_362, e163_365, e163_366, e163_369, e163_370, e163_372, e163_373, e163_374, e163_375, e163_378, e163_379, e163_382, e163_383, e163_386, e163_387, e163_389, e163_392, e163_393, e163_394, e163_397, e163_398, e163_401, e163_404, e163_405, e163_406, e163_409, e163_410, e163_411, e163_414, mk_458 hM, mp_71 hM, mk_461 hM, mp_89 hM, mk_468 hM, mp_90 hM, mk_469 hM, mp_91 hM, mk_470 hM, mp_92 hM, mk_471 hM, mp_93 hM, mk_472 hM, mp_94 hM, mk_473 hM, mp_95 hM, mk_474 hM, mp_97 hM, mk_476 hM, mp_98 hM, mk_477 hM, mp_99 hM, mk_478 hM, mk_458 hM1, mp_71 hM1, mk_461 hM1, mp_89 hM1, mk_468 hM1, mp_90 hM1, mk_469 hM1, mp_91 hM1, mk_470 hM1, mp_92 hM1, mk_471 hM1, mp_93 hM1, mk_472 hM1, mp_94 hM1, mk_473 hM1, mp_95 hM1, mk_474 hM1, mp_97 hM1, mk_476 hM1, mp_98 hM1, mk_477 hM1, mp_99 hM1, mk_478 hM1, ↓reduceIte, Nat.reduceAdd, Nat.reduceLeDiff, Nat.reduceLT, Nat.reduceEqDiff, not_false_eq_true, false_or, true_or, or_true, or_false, n0_e, n1_ne, n1_11, bI_z, bI_1, bI_fo, va_rf_some, aBk_1, aBk_0, nI_add, nI_mul, hk_si, hp_si, hl_si, hk_sp, hk_sl, hk_cp, hp_cp, t2, g1, ek, x8, hs2, x4, r1, f1, r2]
    show TOR τ N sd p b h (eB (foeX τ ν (fo_ T) s1) _)
    cases hx2 : foeX τ ν (fo_ T) s1 with
    | inl e =>
      rw [hx2] at O2
      exact ⟨h2, st, o12.OL, O2⟩
    | inr q =>
      rw [hx2] at O2
      have R2 : MR h2 τ N q.1 := O2
      obtain ⟨y1, y2⟩ := g2 q hx2
      obtain ⟨⟨⟨a1, a2⟩, a3, a4, a5, a6, a7⟩, a8, a9, a10, a11, a12⟩ := X1
      have et : σ.1 ≤ q.1.1 := by
        unfold foeX at hx2
        obtain ⟨w1, q1, hx2⟩ := eB_inr hx2
        obtain ⟨w2, q2, hx2⟩ := eB_inr hx2
        obtain ⟨w3, q3, hx2⟩ := eB_inr hx2
        cases hx2
        have e1 := (kn_t q1).1
        have e2 := (kn_t q2).1
        obtain ⟨-, -, e3⟩ := must_inr q3
        rw [e3]
        show σ.1 ≤ (foeW _ _ w2 _).1 + 1
        have : (foeW (fo_ T) (twoN (gueN ν (tn_ τ s1.1)) (gueN ν (tn_ τ w1.1))) w2 w1.1).1 = w2.1 := by
          unfold foeW
          split
          · split
            · exact wrong_t
            · rfl
          · rfl
        rw [this]
        omega
      refine ⟨h2, p, b, st, o12.OL, R2, N1.ol (o2.OL (L := fun _ => False)) (fun a f q => by unfold FOF FP at q; omega) (fun q => q), ⟨⟨⟨?_, ?_⟩, ?_, y1, ?_, ?_, ?_⟩, y2, fun k hk => ?_, ?_, ?_, ?_⟩, ⟨hp.1, by show p ≤ 420 * sd + q.1.1; omega⟩, hb.1, by show 4 * b ≤ 4 * (130 * sd) + q.1.1; omega⟩
      · exact (o2.i (fun q => by unfold FOF FP at q; omega)).trans a1
      · exact (o2.i (fun q => by unfold FOF FP at q; omega)).trans a2
      · intro g hg
        obtain ⟨b1, b2, b3⟩ := a3 g hg
        exact ⟨(o2.i (fun q => by unfold FOF FP at q; omega)).trans b1, (o2.i (fun q => by unfold FOF FP at q; omega)).trans b2, (o2.i (fun q => by unfold FOF FP at q; omega)).trans b3⟩
      · intro s hs
        obtain ⟨b1, b2⟩ := a5 s hs
        exact ⟨(o2.i (fun q => by unfold FOF FP at q; omega)).trans b1, (o2.i (fun q => by unfold FOF FP at q; omega)).trans b2⟩
      · exact (o2.i (fun q => by unfold FOF FP at q; omega)).trans a6
      · exact (o2.i (fun q => by unfold FOF FP at q; omega)).trans a7
      · exact (a9 k hk).ol (o2.OL (L := fun _ => False)) (fun a f q => by unfold FOF FP at q; omega)
      · exact (o2.i (fun q => by unfold FOF FP at q; omega)).trans a10
      · exact (o2.i (fun q => by unfold FOF FP at q; omega)).trans a11
      · exact (o2.i (fun q => by unfold FOF FP at q; omega)).trans a12
end M30
