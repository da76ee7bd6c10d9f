set_option maxRecDepth 100000
/-! X: reading (15): told: death, seed, laws -/
section TD99
variable {n N z0 : Nat} {h h' : aH} {β : Nat → Nat} {tx : Nat}
theorem td_D {ρ : aRd} (hV : BV β n) (hG : XG h β n N z0 ρ tx) (hk : tk_ (tz β n) ρ.1.1 = 27) : TdR β n N z0 tx ρ.1 h (tdD (tz β n) ρ.1 ρ.2.1 ρ.2.2.1 ρ.2.2.2) := by
  obtain ⟨sa, ga, la, es, eg, qs, qg, vs, vg, hG⟩ := hG
  obtain ⟨hE, ht, h45, hT, hN, hO, hZ⟩ := id hG
  obtain ⟨hR, hW, hF⟩ := id hE
  have hX := hR.1
  have hle := hE.le
  have z5 := hF.1
  have st := td_at hR (by omega)
  rw [hk, show 27 - 20 = 7 from rfl] at st
  obtain ⟨o, h1, e1, o1, f1⟩ := p_pass hR (hR.nx (by omega) (by omega))
  have l3 : ¬ nI 7 < nI 3 := by decide
  have l6 : nI 6 < nI 7 := by decide
  unfold tdD
  cases hg : goX (tz β n) ρ.1 with
  | inl e =>
    rw [hg] at f1
    obtain ⟨f0, f1⟩ := f1
    rw [f0] at e1
    refine ⟨h1, fun d => (st d).trans ?_, (onTd o1).le (Nat.zero_le _) (Nat.zero_le _), hF.px o1, f1⟩
    simp only [e88_25, e88_26, e88_27, e88_30, e88_31, e88_33, e88_36, e88_37, e88_40, e88_41, e88_44, e88_47, e88_48, e88_49, e88_50, e88_51, e88_54, e88_55, e88_56, e88_57_0, e88_57_1, e88_57_2, e88_57_3, e88_57_4, e88_57_5, e88_57_6, e88_57_7, e88_57_8, e88_57_d, e88_108, e88_109, e88_110, e88_113, e88_116, e88_119, e88_120, e88_123, e88_126, e88_127, e88_128, e88_131, e88_134, e88_135, e88_136, e88_137, e88_138, e88_140, e88_143, e88_146, e88_147, e88_148, e88_149, e88_151, e88_154, e88_157, e88_158, e88_161, e88_164, e88_165, e88_168, e88_169, e88_172, e88_173, e88_174, e88_177, e88_180, e88_183, e88_185, e88_188, e88_191, e88_192, e88_193, e88_196, e88_199, e88_200, e88_201, e88_202, e88_203, e88_205, e88_208, e88_211, e88_212, e88_213, e88_214, e88_216, e88_219, e88_222, e88_223, e88_224, e88_225, e88_227, e88_230, e88_233, e88_234, e88_237, e88_240, e88_241, e88_244, e88_245, e88_248, e88_249, e88_250, e88_253, e88_256, e88_258, e88_261, e88_262, e88_265, e88_266, e88_269, e88_270, e88_273, e88_274, e88_275, e88_278, e88_281, e88_282, e88_285, e88_286, e88_289, e88_290, e88_291, e88_294, e88_297, e88_300, e88_303, e88_304, e88_307, e88_308, e88_311, e88_312, e88_313, e88_316, e88_319, e88_322, e88_325, e88_326, e88_327, e88_330, e88_331, xk_64 hX, xk_73 hX, xk_66 hX, xk_65 hX, xp_35 hX, xk_72 hX, xp_37 hX, ↓reduceIte, Nat.reduceAdd, Nat.reduceLeDiff, Nat.reduceLT, Nat.reduceEqDiff, not_false_eq_true, false_or, true_or, or_true, or_false, n0_e, n1_ne, n1_11, bI_z, bI_1, bI_fo, va_rf_some, aBk_1, aBk_0, nI_add, nI_mul, hk_si, hp_si, hl_si, hk_sp, hk_sl, hk_cp, hp_cp, l3, l6, e1, bx_84, bx_85, bx_86, bx_87, bx_88, bx_89, bx_90, bx_91, bx_92, bx_93, bx_94, bx_95, bx_96, bx_97, bx_98, bx_99, bx_100, bx_101, bx_102, bx_103, bx_104]
  | inr s1 =>
    rw [hg] at f1
    obtain ⟨f0, R1⟩ := f1
    rw [f0] at e1
    have s11 : s1.1 = ρ.1.1 + 1 := by rw [(go_inr hg).2]
    have E1 := hE.px o1 R1
    have G1 := hG.px (σ' := s1) o1.OA E1
    have hX1 := R1.1
    obtain ⟨o2', h2, e2, o2, f2⟩ := p_number hV E1 (lo := 1) (hi := 999) (by decide) (by decide)
    have o12 := o1.trans o2
    show TdR β n N z0 tx ρ.1 h (eB (bndX (tz β n) s1 1 999) _)
    cases hb : bndX (tz β n) s1 1 999 with
    | inl e =>
      rw [hb] at f2
      obtain ⟨f0, f2⟩ := f2
      rw [f0] at e2
      refine ⟨h2, fun d => (st d).trans ?_, (onTd o12).le (Nat.zero_le _) (Nat.zero_le _), hF.px o12, f2⟩
      have t1 := G1.2.1
      simp only [e88_25, e88_26, e88_27, e88_30, e88_31, e88_33, e88_36, e88_37, e88_40, e88_41, e88_44, e88_47, e88_48, e88_49, e88_50, e88_51, e88_54, e88_55, e88_56, e88_57_0, e88_57_1, e88_57_2, e88_57_3, e88_57_4, e88_57_5, e88_57_6, e88_57_7, e88_57_8, e88_57_d, e88_108, e88_109, e88_110, e88_113, e88_116, e88_119, e88_120, e88_123, e88_126, e88_127, e88_128, e88_131, e88_134, e88_135, e88_136, e88_137, e88_138, e88_140, e88_143, e88_146, e88_147, e88_148, e88_149, e88_151, e88_154, e88_157, e88_158, e88_161, e88_164, e88_165, e88_168, e88_169, e88_172, e88_173, e88_174, e88_177, e88_180, e88_183, e88_185, e88_188, e88_191, e88_192, e88_193, e88_196, e88_199, e88_200, e88_201, e88_202, e88_203, e88_205, e88_208, e88_211, e88_212, e88_213, e88_214, e88_216, e88_219, e88_222, e88_223, e88_224, e88_225, e88_227, e88_230, e88_233, e88_234, e88_237, e88_240, e88_241, e88_244, e88_245, e88_248, e88_249, e88_250, e88_253, e88_256, e88_258, e88_261, e88_262, e88_265, e88_266, e88_269, e88_270, e88_273, e88_274, e88_275, e88_278, e88_281, e88_282, e88_285, e88_286, e88_289, e88_290, e88_291, e88_294, e88_297, e88_300, e88_303, e88_304, e88_307, e88_308, e88_311, e88_312, e88_313, e88_316, e88_319, e88_322, e88_325, e88_326, e88_327, e88_330, e88_331, xk_64 hX, xk_73 hX, xk_66 hX, xk_65 hX, xp_35 hX, xk_72 hX, xp_37 hX, xk_64 hX1, xk_73 hX1, xk_66 hX1, xk_65 hX1, xp_35 hX1, xk_72 hX1, xp_37 hX1, ↓reduceIte, Nat.reduceAdd, Nat.reduceLeDiff, Nat.reduceLT, Nat.reduceEqDiff, not_false_eq_true, false_or, true_or, or_true, or_false, n0_e, n1_ne, n1_11, bI_z, bI_1, bI_fo, aBk_1, aBk_0, nI_add, nI_mul, hk_si, hp_si, hl_si, hk_sp, hk_sl, hk_cp, hp_cp, l3, l6, e1, t1, e2, va_rf_some, bx_84, bx_85, bx_86, bx_87, bx_88, bx_89, bx_90, bx_91, bx_92, bx_93, bx_94, bx_95, bx_96, bx_97, bx_98, bx_99, bx_100, bx_101, bx_102, bx_103, bx_104]
    | inr s2 =>
      rw [hb] at f2
      obtain ⟨f0, R2⟩ := f2
      rw [f0] at e2
      have s21 := (bnd_i hb).2.2.1
      have E2 := E1.px o2 R2
      obtain ⟨g1, g2, g3, g4, g5, g6, g7⟩ := G1.px (σ' := s2) o2.OA E2
      have t1 := G1.2.1
      have kt := g4.1.2.1
      have t5 := g4.1.1
      have F2 := E2.2.2
      have tl := F2.lt kt (by decide)
      have t6 : 64 ≤ tx := by omega
      have o3 : OA 0 0 (fun a f => a = tx ∧ f = 48) NPx h2 (si_ h2 tx 48 (nI (tv_ (tz β n) s1.1))) := OA.refl.sis ⟨rfl, rfl⟩
      refine ⟨_, fun d => (st d).trans ?_, ((onTd o12).trans (o3.mono (Nat.le_refl _) (Nat.le_refl _) (fun a f q => Or.inr (by have := q.1; omega)) (fun _ _ q => q.elim))).le (Nat.zero_le _) (Nat.zero_le _), sa, ga, la, es, eg, qs, qg, vs, vg, E2.si t5 tl, (o3.p (by have := F2.1; omega) (fun q => q)).trans g2, (o3.k (by have := F2.1; omega)).trans g3, g4.up F2 o3 (fun x f q => Or.inr q.1) rfl rfl rfl rfl ?_ ?_ ?_, g5, g6, g7⟩
      · simp only [e88_25, e88_26, e88_27, e88_30, e88_31, e88_33, e88_36, e88_37, e88_40, e88_41, e88_44, e88_47, e88_48, e88_49, e88_50, e88_51, e88_54, e88_55, e88_56, e88_57_0, e88_57_1, e88_57_2, e88_57_3, e88_57_4, e88_57_5, e88_57_6, e88_57_7, e88_57_8, e88_57_d, e88_108, e88_109, e88_110, e88_113, e88_116, e88_119, e88_120, e88_123, e88_126, e88_127, e88_128, e88_131, e88_134, e88_135, e88_136, e88_137, e88_138, e88_140, e88_143, e88_146, e88_147, e88_148, e88_149, e88_151, e88_154, e88_157, e88_158, e88_161, e88_164, e88_165, e88_168, e88_169, e88_172, e88_173, e88_174, e88_177, e88_180, e88_183, e88_185, e88_188, e88_191, e88_192, e88_193, e88_196, e88_199, e88_200, e88_201, e88_202, e88_203, e88_205, e88_208, e88_211, e88_212, e88_213, e88_214, e88_216, e88_219, e88_222, e88_223, e88_224, e88_225, e88_227, e88_230, e88_233, e88_234, e88_237, e88_240, e88_241, e88_244, e88_245, e88_248, e88_249, e88_250, e88_253, e88_256, e88_258, e88_261, e88_262, e88_265, e88_266, e88_269, e88_270, e88_273, e88_274, e88_275, e88_278, e88_281, e88_282, e88_285, e88_286, e88_289, e88_290, e88_291, e88_294, e88_297, e88_300, e88_303, e88_304, e88_307, e88_308, e88_311, e88_312, e88_313, e88_316, e88_319, e88_322, e88_325, e88_326, e88_327, e88_330, e88_331, xk_64 hX, xk_73 hX, xk_66 hX, xk_65 hX, xp_35 hX, xk_72 hX, xp_37 hX, xk_64 hX1, xk_73 hX1, xk_66 hX1, xk_65 hX1, xp_35 hX1, xk_72 hX1, xp_37 hX1, ↓reduceIte, Nat.reduceAdd, Nat.reduceLeDiff, Nat.reduceLT, Nat.reduceEqDiff, not_false_eq_true, false_or, true_or, or_true, or_false, n0_e, n1_ne, n1_11, bI_z, bI_1, bI_fo, aBk_1, aBk_0, nI_add, nI_mul, hk_si, hp_si, hl_si, hk_sp, hk_sl, hk_cp, hp_cp, l3, l6, e1, t1, e2, kt, t6, va_rf_some]
      · rw [hi_ne (by omega)]; exact g4.1.2.2.2.2.2.1
      · exact hi_same
      · rw [hi_ne (by omega)]; exact g4.1.2.2.2.2.2.2.2
theorem td_E {ρ : aRd} (hV : BV β n) (hG : XG h β n N z0 ρ tx) (hk : tk_ (tz β n) ρ.1.1 = 28) : TdR β n N z0 tx ρ.1 h (tdE (tz β n) ρ.1 ρ.2.1 ρ.2.2.1 ρ.2.2.2) := by
  obtain ⟨sa, ga, la, es, eg, qs, qg, vs, vg, hG⟩ := hG
  obtain ⟨hE, ht, h45, hT, hN, hO, hZ⟩ := id hG
  obtain ⟨hR, hW, hF⟩ := id hE
  have hX := hR.1
  have hle := hE.le
  have z5 := hF.1
  have st := td_at hR (by omega)
  rw [hk, show 28 - 20 = 8 from rfl] at st
  obtain ⟨o, h1, e1, o1, f1⟩ := p_pass hR (hR.nx (by omega) (by omega))
  have l3 : ¬ nI 8 < nI 3 := by decide
  have l6 : nI 6 < nI 8 := by decide
  unfold tdE
  cases hg : goX (tz β n) ρ.1 with
  | inl e =>
    rw [hg] at f1
    obtain ⟨f0, f1⟩ := f1
    rw [f0] at e1
    refine ⟨h1, fun d => (st d).trans ?_, (onTd o1).le (Nat.zero_le _) (Nat.zero_le _), hF.px o1, f1⟩
    simp only [e88_25, e88_26, e88_27, e88_30, e88_31, e88_33, e88_36, e88_37, e88_40, e88_41, e88_44, e88_47, e88_48, e88_49, e88_50, e88_51, e88_54, e88_55, e88_56, e88_57_0, e88_57_1, e88_57_2, e88_57_3, e88_57_4, e88_57_5, e88_57_6, e88_57_7, e88_57_8, e88_57_d, e88_108, e88_109, e88_110, e88_113, e88_116, e88_119, e88_120, e88_123, e88_126, e88_127, e88_128, e88_131, e88_134, e88_135, e88_136, e88_137, e88_138, e88_140, e88_143, e88_146, e88_147, e88_148, e88_149, e88_151, e88_154, e88_157, e88_158, e88_161, e88_164, e88_165, e88_168, e88_169, e88_172, e88_173, e88_174, e88_177, e88_180, e88_183, e88_185, e88_188, e88_191, e88_192, e88_193, e88_196, e88_199, e88_200, e88_201, e88_202, e88_203, e88_205, e88_208, e88_211, e88_212, e88_213, e88_214, e88_216, e88_219, e88_222, e88_223, e88_224, e88_225, e88_227, e88_230, e88_233, e88_234, e88_237, e88_240, e88_241, e88_244, e88_245, e88_248, e88_249, e88_250, e88_253, e88_256, e88_258, e88_261, e88_262, e88_265, e88_266, e88_269, e88_270, e88_273, e88_274, e88_275, e88_278, e88_281, e88_282, e88_285, e88_286, e88_289, e88_290, e88_291, e88_294, e88_297, e88_300, e88_303, e88_304, e88_307, e88_308, e88_311, e88_312, e88_313, e88_316, e88_319, e88_322, e88_325, e88_326, e88_327, e88_330, e88_331, xk_64 hX, xk_73 hX, xk_66 hX, xk_65 hX, xp_35 hX, xk_72 hX, xp_37 hX, ↓reduceIte, Nat.reduceAdd, Nat.reduceLeDiff, Nat.reduceLT, Nat.reduceEqDiff, not_false_eq_true, false_or, true_or, or_true, or_false, n0_e, n1_ne, n1_11, bI_z, bI_1, bI_fo, va_rf_some, aBk_1, aBk_0, nI_add, nI_mul, hk_si, hp_si, hl_si, hk_sp, hk_sl, hk_cp, hp_cp, l3, l6, e1, bx_84, bx_85, bx_86, bx_87, bx_88, bx_89, bx_90, bx_91, bx_92, bx_93, bx_94, bx_95, bx_96, bx_97, bx_98, bx_99, bx_100, bx_101, bx_102, bx_103, bx_104]
  | inr s1 =>
    rw [hg] at f1
    obtain ⟨f0, R1⟩ := f1
    rw [f0] at e1
    have s11 : s1.1 = ρ.1.1 + 1 := by rw [(go_inr hg).2]
    have E1 := hE.px o1 R1
    have G1 := hG.px (σ' := s1) o1.OA E1
    have hX1 := R1.1
    obtain ⟨o2', h2, e2, o2, f2⟩ := p_number hV E1 (lo := 0) (hi := 9999) (by decide) (by decide)
    have o12 := o1.trans o2
    show TdR β n N z0 tx ρ.1 h (eB (bndX (tz β n) s1 0 9999) _)
    cases hb : bndX (tz β n) s1 0 9999 with
    | inl e =>
      rw [hb] at f2
      obtain ⟨f0, f2⟩ := f2
      rw [f0] at e2
      refine ⟨h2, fun d => (st d).trans ?_, (onTd o12).le (Nat.zero_le _) (Nat.zero_le _), hF.px o12, f2⟩
      have t1 := G1.2.1
      simp only [e88_25, e88_26, e88_27, e88_30, e88_31, e88_33, e88_36, e88_37, e88_40, e88_41, e88_44, e88_47, e88_48, e88_49, e88_50, e88_51, e88_54, e88_55, e88_56, e88_57_0, e88_57_1, e88_57_2, e88_57_3, e88_57_4, e88_57_5, e88_57_6, e88_57_7, e88_57_8, e88_57_d, e88_108, e88_109, e88_110, e88_113, e88_116, e88_119, e88_120, e88_123, e88_126, e88_127, e88_128, e88_131, e88_134, e88_135, e88_136, e88_137, e88_138, e88_140, e88_143, e88_146, e88_147, e88_148, e88_149, e88_151, e88_154, e88_157, e88_158, e88_161, e88_164, e88_165, e88_168, e88_169, e88_172, e88_173, e88_174, e88_177, e88_180, e88_183, e88_185, e88_188, e88_191, e88_192, e88_193, e88_196, e88_199, e88_200, e88_201, e88_202, e88_203, e88_205, e88_208, e88_211, e88_212, e88_213, e88_214, e88_216, e88_219, e88_222, e88_223, e88_224, e88_225, e88_227, e88_230, e88_233, e88_234, e88_237, e88_240, e88_241, e88_244, e88_245, e88_248, e88_249, e88_250, e88_253, e88_256, e88_258, e88_261, e88_262, e88_265, e88_266, e88_269, e88_270, e88_273, e88_274, e88_275, e88_278, e88_281, e88_282, e88_285, e88_286, e88_289, e88_290, e88_291, e88_294, e88_297, e88_300, e88_303, e88_304, e88_307, e88_308, e88_311, e88_312, e88_313, e88_316, e88_319, e88_322, e88_325, e88_326, e88_327, e88_330, e88_331, xk_64 hX, xk_73 hX, xk_66 hX, xk_65 hX, xp_35 hX, xk_72 hX, xp_37 hX, xk_64 hX1, xk_73 hX1, xk_66 hX1, xk_65 hX1, xp_35 hX1, xk_72 hX1, xp_37 hX1, ↓reduceIte, Nat.reduceAdd, Nat.reduceLeDiff, Nat.reduceLT, Nat.reduceEqDiff, not_false_eq_true, false_or, true_or, or_true, or_false, n0_e, n1_ne, n1_11, bI_z, bI_1, bI_fo, aBk_1, aBk_0, nI_add, nI_mul, hk_si, hp_si, hl_si, hk_sp, hk_sl, hk_cp, hp_cp, l3, l6, e1, t1, e2, va_rf_some, bx_84, bx_85, bx_86, bx_87, bx_88, bx_89, bx_90, bx_91, bx_92, bx_93, bx_94, bx_95, bx_96, bx_97, bx_98, bx_99, bx_100, bx_101, bx_102, bx_103, bx_104]
    | inr s2 =>
      rw [hb] at f2
      obtain ⟨f0, R2⟩ := f2
      rw [f0] at e2
      have s21 := (bnd_i hb).2.2.1
      have E2 := E1.px o2 R2
      obtain ⟨g1, g2, g3, g4, g5, g6, g7⟩ := G1.px (σ' := s2) o2.OA E2
      have t1 := G1.2.1
      have kt := g4.1.2.1
      have t5 := g4.1.1
      have F2 := E2.2.2
      have tl := F2.lt kt (by decide)
      have t6 : 64 ≤ tx := by omega
      have o3 : OA 0 0 (fun a f => a = tx ∧ f = 49) NPx h2 (si_ h2 tx 49 (nI (tv_ (tz β n) s1.1))) := OA.refl.sis ⟨rfl, rfl⟩
      refine ⟨_, fun d => (st d).trans ?_, ((onTd o12).trans (o3.mono (Nat.le_refl _) (Nat.le_refl _) (fun a f q => Or.inr (by have := q.1; omega)) (fun _ _ q => q.elim))).le (Nat.zero_le _) (Nat.zero_le _), sa, ga, la, es, eg, qs, qg, vs, vg, E2.si t5 tl, (o3.p (by have := F2.1; omega) (fun q => q)).trans g2, (o3.k (by have := F2.1; omega)).trans g3, g4.up F2 o3 (fun x f q => Or.inr q.1) rfl rfl rfl rfl ?_ ?_ ?_, g5, g6, g7⟩
      · simp only [e88_25, e88_26, e88_27, e88_30, e88_31, e88_33, e88_36, e88_37, e88_40, e88_41, e88_44, e88_47, e88_48, e88_49, e88_50, e88_51, e88_54, e88_55, e88_56, e88_57_0, e88_57_1, e88_57_2, e88_57_3, e88_57_4, e88_57_5, e88_57_6, e88_57_7, e88_57_8, e88_57_d, e88_108, e88_109, e88_110, e88_113, e88_116, e88_119, e88_120, e88_123, e88_126, e88_127, e88_128, e88_131, e88_134, e88_135, e88_136, e88_137, e88_138, e88_140, e88_143, e88_146, e88_147, e88_148, e88_149, e88_151, e88_154, e88_157, e88_158, e88_161, e88_164, e88_165, e88_168, e88_169, e88_172, e88_173, e88_174, e88_177, e88_180, e88_183, e88_185, e88_188, e88_191, e88_192, e88_193, e88_196, e88_199, e88_200, e88_201, e88_202, e88_203, e88_205, e88_208, e88_211, e88_212, e88_213, e88_214, e88_216, e88_219, e88_222, e88_223, e88_224, e88_225, e88_227, e88_230, e88_233, e88_234, e88_237, e88_240, e88_241, e88_244, e88_245, e88_248, e88_249, e88_250, e88_253, e88_256, e88_258, e88_261, e88_262, e88_265, e88_266, e88_269, e88_270, e88_273, e88_274, e88_275, e88_278, e88_281, e88_282, e88_285, e88_286, e88_289, e88_290, e88_291, e88_294, e88_297, e88_300, e88_303, e88_304, e88_307, e88_308, e88_311, e88_312, e88_313, e88_316, e88_319, e88_322, e88_325, e88_326, e88_327, e88_330, e88_331, xk_64 hX, xk_73 hX, xk_66 hX, xk_65 hX, xp_35 hX, xk_72 hX, xp_37 hX, xk_64 hX1, xk_73 hX1, xk_66 hX1, xk_65 hX1, xp_35 hX1, xk_72 hX1, xp_37 hX1, ↓reduceIte, Nat.reduceAdd, Nat.reduceLeDiff, Nat.reduceLT, Nat.reduceEqDiff, not_false_eq_true, false_or, true_or, or_true, or_false, n0_e, n1_ne, n1_11, bI_z, bI_1, bI_fo, aBk_1, aBk_0, nI_add, nI_mul, hk_si, hp_si, hl_si, hk_sp, hk_sl, hk_cp, hp_cp, l3, l6, e1, t1, e2, kt, t6, va_rf_some]
      · rw [hi_ne (by omega)]; exact g4.1.2.2.2.2.2.1
      · rw [hi_ne (by omega)]; exact g4.1.2.2.2.2.2.2.1
      · exact hi_same
theorem sto_112 : aSto 112 12 = true := by decide
theorem td_L {ρ : aRd} {k : Nat} (hV : BV β n) (hG : XG h β n N z0 ρ tx) (hk : tk_ (tz β n) ρ.1.1 = 23 + k) (hk4 : k < 4) (h0 : ρ.1.2.1 = 0) : TdR β n N z0 tx ρ.1 h (tdL (tz β n) ρ.1 ρ.2.1 ρ.2.2.1 ρ.2.2.2 k) := by
  obtain ⟨sa, ga, la, es, eg, qs, qg, vs, vg, hG⟩ := hG
  obtain ⟨hE, ht, h45, hT, hN, hO, hZ⟩ := id hG
  obtain ⟨hR, hW, hF⟩ := id hE
  have hX := hR.1
  have hle := hE.le
  have z5 := hF.1
  have st := td_at hR (by omega)
  rw [hk, show 23 + k - 20 = 3 + k by omega] at st
  obtain ⟨o, h1, e1, o1, f1⟩ := p_pass hR (hR.nx (by omega) (by omega))
  have l3 : ¬ nI (3 + k) < nI 3 := by rw [nI_ltL (by omega) (by decide)]; omega
  have l6 : ¬ nI 6 < nI (3 + k) := by rw [nI_ltL (by decide) (by omega)]; omega
  have sk3 : nI (3 + k) - nI 3 = nI k := by rw [nI_sub (by omega)]; congr 1; omega
  unfold tdL
  cases hg : goX (tz β n) ρ.1 with
  | inl e =>
    rw [hg] at f1
    obtain ⟨f0, f1⟩ := f1
    rw [f0] at e1
    refine ⟨h1, fun d => (st d).trans ?_, (onTd o1).le (Nat.zero_le _) (Nat.zero_le _), hF.px o1, f1⟩
    simp only [e88_25, e88_26, e88_27, e88_30, e88_31, e88_33, e88_36, e88_37, e88_40, e88_41, e88_44, e88_47, e88_48, e88_49, e88_50, e88_51, e88_54, e88_55, xk_64 hX, xk_73 hX, xk_66 hX, xk_65 hX, xp_35 hX, xk_72 hX, xp_37 hX, ↓reduceIte, Nat.reduceAdd, Nat.reduceLeDiff, Nat.reduceLT, Nat.reduceEqDiff, not_false_eq_true, false_or, true_or, or_true, or_false, n0_e, n1_ne, n1_11, bI_z, bI_1, bI_fo, va_rf_some, aBk_1, aBk_0, nI_add, nI_mul, hk_si, hp_si, hl_si, hk_sp, hk_sl, hk_cp, hp_cp, l3, l6, e1, bx_84, bx_85, bx_86, bx_87, bx_88, bx_89, bx_90, bx_91, bx_92, bx_93, bx_94, bx_95, bx_96, bx_97, bx_98, bx_99, bx_100, bx_101, bx_102, bx_103, bx_104]
  | inr s1 =>
    rw [hg] at f1
    obtain ⟨f0, R1⟩ := f1
    rw [f0] at e1
    have es1 := (go_inr hg).2
    have s11 : s1.1 = ρ.1.1 + 1 := by rw [es1]
    have E1 := hE.px o1 R1
    have G1 := hG.px (σ' := s1) o1.OA E1
    have hX1 := R1.1
    have t1 := G1.2.1
    have T1 := G1.2.2.2.1
    have A := x_law hV E1 (by rw [es1]; exact h0)
    show TdR β n N z0 tx ρ.1 h (eB (lawX (tz β n) s1) _)
    cases hl : lawX (tz β n) s1 with
    | inl e =>
      rw [hl] at A
      obtain ⟨h2, e2, o2, F2, f2⟩ := A
      refine ⟨h2, fun d => (st d).trans ?_, ((onTd o1).trans (oaTd o2)).le (by omega) (by omega), F2, f2⟩
      simp only [e88_25, e88_26, e88_27, e88_30, e88_31, e88_33, e88_36, e88_37, e88_40, e88_41, e88_44, e88_47, e88_48, e88_49, e88_50, e88_51, e88_54, e88_55, xk_64 hX, xk_73 hX, xk_66 hX, xk_65 hX, xp_35 hX, xk_72 hX, xp_37 hX, xk_64 hX1, xk_73 hX1, xk_66 hX1, xk_65 hX1, xp_35 hX1, xk_72 hX1, xp_37 hX1, ↓reduceIte, Nat.reduceAdd, Nat.reduceLeDiff, Nat.reduceLT, Nat.reduceEqDiff, not_false_eq_true, false_or, true_or, or_true, or_false, n0_e, n1_ne, n1_11, bI_z, bI_1, bI_fo, aBk_1, aBk_0, nI_add, nI_mul, hk_si, hp_si, hl_si, hk_sp, hk_sl, hk_cp, hp_cp, l3, l6, e1, t1, T1.1.2.1, T1.1.2.2.2.2.1, sk3, e2, va_rf_some, bx_84, bx_85, bx_86, bx_87, bx_88, bx_89, bx_90, bx_91, bx_92, bx_93, bx_94, bx_95, bx_96, bx_97, bx_98, bx_99, bx_100, bx_101, bx_102, bx_103, bx_104]
    | inr q =>
      rw [hl] at A
      obtain ⟨h2, l, e2, o2, E2, X2⟩ := A
      have F2 := E2.2.2
      obtain ⟨g1, g2, g3, g4, g5, g6, g7⟩ := G1.px (σ' := q.1) o2 E2
      have k2 := X2.2.1
      obtain ⟨⟨a1, a2, a3, a4, a5, a6, a7, a8⟩, ⟨b1, b2, b3, b4⟩, c1, c2, c3, ⟨d1, d2, d3⟩⟩ := id g4
      have ll := F2.lt d2 (by decide)
      have la6 : 64 ≤ la := by omega
      have o3 : OA 0 0 NPx (fun a f => a = la ∧ f = k) h2 (sp_ h2 la k (some l)) := OA.refl.sps ⟨rfl, rfl⟩
      have st2 := sto_112
      have hP : ∀ x f, (x = la ∧ f = k) → x < 504 ∨ (hk_ h2 x).1 ≠ 11 := fun x f q => Or.inr (by rw [q.1, d2]; decide)
      have hS : ∀ x f, NPx x f → x < 504 ∨ ((hk_ h2 x).1 ≠ 11 ∧ (hk_ h2 x).1 ≠ 101) := fun _ _ q => q.elim
      have ep : ∀ {x f : Nat}, x ≠ la → hp_ (sp_ h2 la k (some l)) x f = hp_ h2 x f := fun hx => if_neg (fun q => hx q.1)
      have nla : ∀ {x κ m : Nat}, hk_ h2 x = (κ, m) → κ ≠ 112 → x ≠ la := fun hx hn z => by rw [z, d2] at hx; exact hn (congrArg Prod.fst hx).symm
      have mono1 : s1.1 < q.1.1 := by
        unfold lawX at hl
        obtain ⟨w1, y1, y2⟩ := eB_inr hl
        have := (must_inr y1).2.2
        have m3 := (ifX_mono (tz_v hV) 4 w1 q.1 q.2 y2).2.2.1
        have : w1.1 = s1.1 + 1 := by rw [this]
        omega
      have keepL : ∀ {l' : Nat} {L : aLw}, XL h2 l' L → XL (sp_ h2 la k (some l)) l' L := fun w => w.oa F2 o3 (fun _ _ q => q.elim) (fun x f q => by rw [q.1, d2]; decide)
      refine ⟨_, fun d => (st d).trans ?_, (((onTd o1).trans (oaTd o2)).trans (o3.mono (Nat.le_refl _) (Nat.le_refl _) (fun _ _ q => q.elim) (fun a f q => by show z0 ≤ a; have := q.1; omega))).le (by show _ ≤ 8 * (q.1.1 - ρ.1.1); omega) (by show _ ≤ 64 * (q.1.1 - ρ.1.1); omega), sa, ga, la, es, eg, qs, qg, vs, vg, E2.sp d1 ll, (ep (by omega)).trans g2, g3, ⟨⟨a1, a2, (ep (nla a2 (by decide))).trans a3, (ep (nla a2 (by decide))).trans a4, (ep (nla a2 (by decide))).trans a5, a6, a7, a8⟩, ⟨b1.oa F2 (by decide) o3 (fun q => q) (fun f => ⟨fun q => nla b1.2.1 (by decide) q.1, fun hn q => nla (b1.2.2.2.2.2.1 hn).2.2.1 (by decide) q.1⟩), b2.oa F2 (by decide) o3 (fun q => q) (fun f => ⟨fun q => nla b2.2.1 (by decide) q.1, fun hn q => nla (b2.2.2.2.2.2.1 hn).2.2.1 (by decide) q.1⟩), b3, b4⟩, fun s hs => ⟨(c1 s hs).1, (c1 s hs).2.1, (c1 s hs).2.2.oa F2 (F2.lt (b1.2.2.2.2.2.2 s hs).2 (by decide)) o3 (fun q => nla (b1.2.2.2.2.2.2 s hs).2 (by decide) q.1) hS hP⟩, fun g hg => ⟨(c2 g hg).1, (c2 g hg).2.oa F2 (F2.lt (b2.2.2.2.2.2.2 g hg).2 (by decide)) o3 (fun q => nla (b2.2.2.2.2.2.2 g hg).2 (by decide) q.1) hS hP⟩, c3, ⟨d1, d2, fun j hj => ?_⟩⟩, g5, g6, g7⟩
      · simp only [e88_25, e88_26, e88_27, e88_30, e88_31, e88_33, e88_36, e88_37, e88_40, e88_41, e88_44, e88_47, e88_48, e88_49, e88_50, e88_51, e88_54, e88_55, xk_64 hX, xk_73 hX, xk_66 hX, xk_65 hX, xp_35 hX, xk_72 hX, xp_37 hX, xk_64 hX1, xk_73 hX1, xk_66 hX1, xk_65 hX1, xp_35 hX1, xk_72 hX1, xp_37 hX1, ↓reduceIte, Nat.reduceAdd, Nat.reduceLeDiff, Nat.reduceLT, Nat.reduceEqDiff, not_false_eq_true, false_or, true_or, or_true, or_false, n0_e, n1_ne, n1_11, bI_z, bI_1, bI_fo, aBk_1, aBk_0, nI_add, nI_mul, hk_si, hp_si, hl_si, hk_sp, hk_sl, hk_cp, hp_cp, l3, l6, e1, t1, T1.1.2.1, T1.1.2.2.2.2.1, sk3, e2, va_rf_some, d2, k2, st2, la6, hk4, bx_84, bx_85, bx_86, bx_87, bx_88, bx_89, bx_90, bx_91, bx_92, bx_93, bx_94, bx_95, bx_96, bx_97, bx_98, bx_99, bx_100, bx_101, bx_102, bx_103, bx_104]
      · show LaR _ la j (if j = k then some q.2 else la_ ρ.2.2.1 j)
        by_cases z : j = k
        · rw [if_pos z]
          exact ⟨l, if_pos ⟨rfl, z⟩, keepL X2⟩
        · rw [if_neg z]
          have w : LaR h2 la j (la_ ρ.2.2.1 j) := d3 j hj
          have ej : hp_ (sp_ h2 la k (some l)) la j = hp_ h2 la j := if_neg (fun y => z y.2)
          cases hq : la_ ρ.2.2.1 j with
          | none => rw [hq] at w; exact ej.trans w
          | some L =>
            rw [hq] at w
            obtain ⟨l', w1, w2⟩ := w
            exact ⟨l', ej.trans w1, keepL w2⟩
end TD99
