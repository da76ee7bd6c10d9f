set_option maxRecDepth 100000
/-! X: reading (24): Tokens.read whole -/
section KR2
variable {d n : Nat} {h h' : aH} {β : Nat → Nat} {i j : Nat}
theorem kr_tail (hX : XS h) {e s : Nat} {w : Int32} {z3 : Value} (hj : j < 2001) (ht : hi_ h 66 36 = nI j) (hs : s ≤ 5) (hi : i < 32768) (he : e < 32768) (hw : w.toInt16.toInt32 = w) : (run (d + 6) 74 186 [.ref 66, .int (nI i), .int (nI 1), z3, .int (nI e), .int (nI s), .int w] [] h) = krAt d e (if s = 5 then 0 else 1) z3 (.int (nI e)) (.int (nI s)) (.int w) (tkX h j s i e w) := by
  have ka := fun d => k_add (d := d) hX (s := s) (a := i) (b := e) (w := w) hj ht (by omega) hi he hw
  have e5 : (nI s = nI 5) = (s = 5) := nI_eqL (by omega) (by decide)
  unfold krAt
  by_cases q : s = 5
  · have e5' : (nI s = nI 5) = True := by rw [e5]; exact eq_true q
    rw [if_pos q]
    simp only [e74_0, e74_1, e74_2, e74_5, e74_6, e74_7, e74_8, e74_10, e74_11, e74_14, e74_17, e74_18, e74_21, e74_22, e74_25, e74_26, e74_27, e74_28, e74_29, e74_30, e74_31, e74_33, e74_34, e74_36, e74_39, e74_40, e74_42, e74_45, e74_46, e74_48, e74_51, e74_52, e74_54, e74_57, e74_60, e74_63, e74_64, e74_66, e74_67, e74_68, e74_71, e74_75, e74_77, e74_80, e74_83, e74_86, e74_89, e74_90, e74_91, e74_93, e74_96, e74_98, e74_100, e74_103, e74_104, e74_107, e74_109, e74_110, e74_111, e74_113, e74_116, e74_117, e74_120, e74_121, e74_123, e74_126, e74_127, e74_128, e74_131, e74_135, e74_137, e74_140, e74_143, e74_146, e74_149, e74_151, e74_152, e74_153, e74_154, e74_157, e74_158, e74_161, e74_162, e74_164, e74_167, e74_168, e74_169, e74_172, e74_174, e74_176, e74_179, e74_180, e74_183, e74_184, e74_186, e74_187, e74_189, e74_190, e74_192, e74_194, e74_197, e74_199, e74_200, e74_203, e74_204, e74_207, e74_208, e74_209, e74_211, e74_212, e74_215, e74_216, e74_219, e74_220, e74_221, e74_222, e74_223, e74_224, e74_227, xk_64 hX, xk_66 hX, xp_30 hX, xk_68 hX, ↓reduceIte, Nat.reduceAdd, Nat.reduceLeDiff, Nat.reduceLT, Nat.reduceEqDiff, not_false_eq_true, false_or, true_or, or_true, or_false, n0_e, n1_ne, n1_11, bI_z, bI_1, bI_fo, va_rf_some, aBk_1, aBk_0, nI_add, nI_mul, hk_si, hp_si, hl_si, hk_sp, hk_sl, hk_cp, hp_cp, ka, e5']
  · rw [if_neg q]
    simp only [e74_0, e74_1, e74_2, e74_5, e74_6, e74_7, e74_8, e74_10, e74_11, e74_14, e74_17, e74_18, e74_21, e74_22, e74_25, e74_26, e74_27, e74_28, e74_29, e74_30, e74_31, e74_33, e74_34, e74_36, e74_39, e74_40, e74_42, e74_45, e74_46, e74_48, e74_51, e74_52, e74_54, e74_57, e74_60, e74_63, e74_64, e74_66, e74_67, e74_68, e74_71, e74_75, e74_77, e74_80, e74_83, e74_86, e74_89, e74_90, e74_91, e74_93, e74_96, e74_98, e74_100, e74_103, e74_104, e74_107, e74_109, e74_110, e74_111, e74_113, e74_116, e74_117, e74_120, e74_121, e74_123, e74_126, e74_127, e74_128, e74_131, e74_135, e74_137, e74_140, e74_143, e74_146, e74_149, e74_151, e74_152, e74_153, e74_154, e74_157, e74_158, e74_161, e74_162, e74_164, e74_167, e74_168, e74_169, e74_172, e74_174, e74_176, e74_179, e74_180, e74_183, e74_184, e74_186, e74_187, e74_189, e74_190, e74_192, e74_194, e74_197, e74_199, e74_200, e74_203, e74_204, e74_207, e74_208, e74_209, e74_211, e74_212, e74_215, e74_216, e74_219, e74_220, e74_221, e74_222, e74_223, e74_224, e74_227, xk_64 hX, xk_66 hX, xp_30 hX, xk_68 hX, ↓reduceIte, Nat.reduceAdd, Nat.reduceLeDiff, Nat.reduceLT, Nat.reduceEqDiff, not_false_eq_true, false_or, true_or, or_true, or_false, n0_e, n1_ne, n1_11, bI_z, bI_1, bI_fo, va_rf_some, aBk_1, aBk_0, nI_add, nI_mul, hk_si, hp_si, hl_si, hk_sp, hk_sl, hk_cp, hp_cp, ka, e5, q]
/-- a token -/
theorem kr_tok (hC : CSx h β n j i) (hV : BV β n) (hi : i < n) (hw : isW (β i) = false) : ∃ h', (∀ z3 z4 z5 z6, ∃ y3 y4 y5 y6, ∀ d, krAt d i 1 z3 z4 z5 z6 h = krAt d (i + tlz β i) (if kdz β n i = 3 then 0 else 1) y3 y4 y5 y6 h') ∧ On KRF h h' ∧ XKt h' β n j ∧ (∀ k, k < j → XKt h' β n k) ∧ hi_ h' 66 36 = nI (j + 1) ∧ pz β j = i := by
  obtain ⟨hX, hB, hW, ht, c5, c6, c7, c8⟩ := id hC
  have hn := hV.1
  have hj : j < 2001 := by omega
  have ep : pz β j = i := by rw [← c8]; exact sk_0 hw
  obtain ⟨tl0, tl1⟩ := tlz_le hV hi
  have b6 := hV.2.1 i
  have g1 : ¬ nI n ≤ nI i := nI_ge hi (by omega)
  have g2 : i < 2000 := by omega
  have tp := hB.2 i hi
  have w := of_decide_eq_false hw
  have e9 : (sb (β i) = nI 9) = False := by rw [sb_eqI b6 (by decide)]; exact eq_false (by omega)
  have e10 : (sb (β i) = nI 10) = False := by rw [sb_eqI b6 (by decide)]; exact eq_false (by omega)
  have e13 : (sb (β i) = nI 13) = False := by rw [sb_eqI b6 (by decide)]; exact eq_false (by omega)
  have e32 : (sb (β i) = nI 32) = False := by rw [sb_eqI b6 (by decide)]; exact eq_false (by omega)
  have li := fun d => k_isLetter (d := d) hX hV hB (k := i) (by omega)
  have di := fun d => k_isDigit (d := d) hX hV hB (k := i) (by omega)
  -- from where the token is known
  have fin : ∀ (s : Nat) (w : Int32), s = srt (kdz β n i) → w.toInt16.toInt32 = w → (20 ≤ kdz β n i → w = nI (kdz β n i - 20)) → (sgk (kdz β n i) → w = nI (chr (kdz β n i))) → (∀ d z3 z4 z5 z6, krAt d i 1 z3 z4 z5 z6 h = (run (d + 6) 74 186 [.ref 66, .int (nI i), .int (nI 1), .int (sb (β i)), .int (nI (i + tlz β i)), .int (nI s), .int w] [] h)) → ∃ h', (∀ z3 z4 z5 z6, ∃ y3 y4 y5 y6, ∀ d, krAt d i 1 z3 z4 z5 z6 h = krAt d (i + tlz β i) (if kdz β n i = 3 then 0 else 1) y3 y4 y5 y6 h') ∧ On KRF h h' ∧ XKt h' β n j ∧ (∀ k, k < j → XKt h' β n k) ∧ hi_ h' 66 36 = nI (j + 1) ∧ pz β j = i := by
    intro s w hs hw16 hw20 hwsg he
    have s5 : s ≤ 5 := by rw [hs]; exact srt_b _
    have e35 : (if s = 5 then 0 else 1) = (if kdz β n i = 3 then 0 else 1) := by
      by_cases q : kdz β n i = 3
      · rw [if_pos q, if_pos (by rw [hs]; exact srt_5.mpr q)]
      · rw [if_neg q, if_neg (fun z => q (srt_5.mp (hs ▸ z)))]
    obtain ⟨t1, t2, t3, t4, t5⟩ := tkX_at (h := h) (j := j) (s := s) (a := i) (b := i + tlz β i) (w := w)
    refine ⟨tkX h j s i (i + tlz β i) w, fun z3 z4 z5 z6 => ⟨.int (sb (β i)), .int (nI (i + tlz β i)), .int (nI s), .int w, fun d => (he d z3 z4 z5 z6).trans ?_⟩, tkX_on, ?_, fun k hk => (c5 k hk).1.off (by omega), t5, ep⟩
    · rw [kr_tail hX hj ht s5 (by omega) (by omega) hw16, e35]
    · unfold XKt
      rw [ep, t1, t2, t3, t4]
      exact ⟨by rw [hs], rfl, fun _ => rfl, hw20, hwsg⟩
  cases hL : isL (β i) with
  | true =>
    rw [hL] at li
    obtain ⟨a1, a2, a3⟩ := rl_at (p := isL) hV isL0 (i := i) (by omega)
    have et : tlz β i = rl isL β i := by unfold tlz; rw [hL]; rfl
    have r0 := rl_pos (p := isL) hV isL0 hi hL
    have lm := fun d => k_isLetter (d := d) hX hV hB (k := i + rl isL β i) (by omega)
    rw [a3] at lm
    have kw := fun d => k_word (d := d) hX hV hB hW (a := i) (m := rl isL β i) a1 r0
    have sm : nI (i + rl isL β i) - nI i = nI (rl isL β i) := by rw [nI_sub (by omega)]; congr 1; omega
    have kd : kdz β n i = if 8 < rl isL β i then 3 else kyz (nmN β i (rl isL β i)) := by unfold kdz; rw [if_neg (show ¬ n ≤ i by omega), hL]; rfl
    have p1 : ∀ d z3 z4 z5 z6, krAt d i 1 z3 z4 z5 z6 h = (run (d + 6) 74 98 [.ref 66, .int (nI i), .int (nI 1), .int (sb (β i)), .int (nI (i + rl isL β i)), z5, .int (opI (wordX β i (rl isL β i)))] [] h) := fun d z3 z4 z5 z6 => by
      have q := kr_letters (d := d) (z3 := .int (sb (β i))) (z5 := z5) (z6 := .int (nI 0)) hX hV hB hi hL _ r0 (Nat.le_refl _)
      unfold krAt
      refine (e74_9).trans ?_
      simp only [e74_0, e74_1, e74_2, e74_5, e74_6, e74_7, e74_8, e74_10, e74_11, e74_14, e74_17, e74_18, e74_21, e74_22, e74_25, e74_26, e74_27, e74_28, e74_29, e74_30, e74_31, e74_33, e74_34, e74_36, e74_39, e74_40, e74_42, e74_45, e74_46, e74_48, e74_51, e74_52, e74_54, e74_57, e74_60, e74_63, e74_64, e74_66, e74_67, e74_68, e74_71, e74_75, e74_77, e74_80, e74_83, e74_86, e74_89, e74_90, e74_91, e74_93, e74_96, e74_100, e74_103, e74_104, e74_107, e74_109, e74_110, e74_111, e74_113, e74_116, e74_117, e74_120, e74_121, e74_123, e74_126, e74_127, e74_128, e74_131, e74_135, e74_137, e74_140, e74_143, e74_146, e74_149, e74_151, e74_152, e74_153, e74_154, e74_157, e74_158, e74_161, e74_162, e74_164, e74_167, e74_168, e74_169, e74_172, e74_174, e74_176, e74_179, e74_180, e74_183, e74_184, e74_186, e74_187, e74_189, e74_190, e74_192, e74_194, e74_197, e74_199, e74_200, e74_203, e74_204, e74_207, e74_208, e74_209, e74_211, e74_212, e74_215, e74_216, e74_219, e74_220, e74_221, e74_222, e74_223, e74_224, e74_227, xk_64 hX, xk_66 hX, xp_30 hX, xk_68 hX, ↓reduceIte, Nat.reduceAdd, Nat.reduceLeDiff, Nat.reduceLT, Nat.reduceEqDiff, not_false_eq_true, false_or, true_or, or_true, or_false, n0_e, n1_ne, n1_11, bI_z, bI_1, bI_fo, va_rf_some, aBk_1, aBk_0, nI_add, nI_mul, hk_si, hp_si, hl_si, hk_sp, hk_sl, hk_cp, hp_cp, hB.1, g1, tp, g2, e9, e10, e13, e32, li, reduceCtorEq]
      refine q.trans ?_
      refine (e74_74).trans ?_
      simp only [e74_0, e74_1, e74_2, e74_5, e74_6, e74_7, e74_8, e74_10, e74_11, e74_14, e74_17, e74_18, e74_21, e74_22, e74_25, e74_26, e74_27, e74_28, e74_29, e74_30, e74_31, e74_33, e74_34, e74_36, e74_39, e74_40, e74_42, e74_45, e74_46, e74_48, e74_51, e74_52, e74_54, e74_57, e74_60, e74_63, e74_64, e74_66, e74_67, e74_68, e74_71, e74_75, e74_77, e74_80, e74_83, e74_86, e74_89, e74_90, e74_91, e74_93, e74_96, e74_100, e74_103, e74_104, e74_107, e74_109, e74_110, e74_111, e74_113, e74_116, e74_117, e74_120, e74_121, e74_123, e74_126, e74_127, e74_128, e74_131, e74_135, e74_137, e74_140, e74_143, e74_146, e74_149, e74_151, e74_152, e74_153, e74_154, e74_157, e74_158, e74_161, e74_162, e74_164, e74_167, e74_168, e74_169, e74_172, e74_174, e74_176, e74_179, e74_180, e74_183, e74_184, e74_186, e74_187, e74_189, e74_190, e74_192, e74_194, e74_197, e74_199, e74_200, e74_203, e74_204, e74_207, e74_208, e74_209, e74_211, e74_212, e74_215, e74_216, e74_219, e74_220, e74_221, e74_222, e74_223, e74_224, e74_227, xk_64 hX, xk_66 hX, xp_30 hX, xk_68 hX, ↓reduceIte, Nat.reduceAdd, Nat.reduceLeDiff, Nat.reduceLT, Nat.reduceEqDiff, not_false_eq_true, false_or, true_or, or_true, or_false, n0_e, n1_ne, n1_11, bI_z, bI_1, bI_fo, va_rf_some, aBk_1, aBk_0, nI_add, nI_mul, hk_si, hp_si, hl_si, hk_sp, hk_sl, hk_cp, hp_cp, lm, kw]
    cases hx : wordX β i (rl isL β i) with
    | some k =>
      have m8 : rl isL β i ≤ 8 := by
        by_cases z : rl isL β i ≤ 8
        · exact z
        · rw [wordX_long (by omega)] at hx; cases hx
      obtain ⟨k21, ky⟩ := wordX_some m8 (fun q hq => a2 q hq) hx
      have kd' : kdz β n i = 20 + k := by rw [kd, if_neg (by omega), ky]
      refine fin 3 (nI k) (by rw [kd']; unfold srt; rw [if_neg (by omega), if_neg (by omega), if_neg (by omega), if_neg (by omega), if_pos (by omega)]) (i16_c (by omega)) (fun _ => by rw [kd']; congr 1; omega) (fun z => by rw [kd'] at z; unfold sgk at z; omega) (fun d z3 z4 z5 z6 => (p1 d z3 z4 z5 z6).trans ?_)
      rw [hx, et]
      have k0 : ¬ nI k < 0 := nI_pos (by omega)
      simp only [e74_0, e74_1, e74_2, e74_5, e74_6, e74_7, e74_8, e74_10, e74_11, e74_14, e74_17, e74_18, e74_21, e74_22, e74_25, e74_26, e74_27, e74_28, e74_29, e74_30, e74_31, e74_33, e74_34, e74_36, e74_39, e74_40, e74_42, e74_45, e74_46, e74_48, e74_51, e74_52, e74_54, e74_57, e74_60, e74_63, e74_64, e74_66, e74_67, e74_68, e74_71, e74_75, e74_77, e74_80, e74_83, e74_86, e74_89, e74_90, e74_91, e74_93, e74_96, e74_98, e74_100, e74_103, e74_104, e74_107, e74_109, e74_110, e74_111, e74_113, e74_116, e74_117, e74_120, e74_121, e74_123, e74_126, e74_127, e74_128, e74_131, e74_135, e74_137, e74_140, e74_143, e74_146, e74_149, e74_151, e74_152, e74_153, e74_154, e74_157, e74_158, e74_161, e74_162, e74_164, e74_167, e74_168, e74_169, e74_172, e74_174, e74_176, e74_179, e74_180, e74_183, e74_184, e74_187, e74_189, e74_190, e74_192, e74_194, e74_197, e74_199, e74_200, e74_203, e74_204, e74_207, e74_208, e74_209, e74_211, e74_212, e74_215, e74_216, e74_219, e74_220, e74_221, e74_222, e74_223, e74_224, e74_227, xk_64 hX, xk_66 hX, xp_30 hX, xk_68 hX, ↓reduceIte, Nat.reduceAdd, Nat.reduceLeDiff, Nat.reduceLT, Nat.reduceEqDiff, not_false_eq_true, false_or, true_or, or_true, or_false, n0_e, n1_ne, n1_11, bI_z, bI_1, bI_fo, va_rf_some, aBk_1, aBk_0, nI_add, nI_mul, hk_si, hp_si, hl_si, hk_sp, hk_sl, hk_cp, hp_cp, opI_s, k0]
    | none =>
      have m1 : (-1 : Int32) < 0 := by decide
      have m16 : (-1 : Int32).toInt16.toInt32 = -1 := by decide
      by_cases q8 : 8 < rl isL β i
      · have kd' : kdz β n i = 3 := by rw [kd, if_pos q8]
        refine fin 5 (-1) (by rw [kd']; rfl) m16 (fun z => by omega) (fun z => by rw [kd'] at z; unfold sgk at z; omega) (fun d z3 z4 z5 z6 => (p1 d z3 z4 z5 z6).trans ?_)
        rw [hx, et]
        have e8 : ¬ nI (rl isL β i) ≤ nI 8 := nI_ge q8 (by omega)
        simp only [e74_0, e74_1, e74_2, e74_5, e74_6, e74_7, e74_8, e74_10, e74_11, e74_14, e74_17, e74_18, e74_21, e74_22, e74_25, e74_26, e74_27, e74_28, e74_29, e74_30, e74_31, e74_33, e74_34, e74_36, e74_39, e74_40, e74_42, e74_45, e74_46, e74_48, e74_51, e74_52, e74_54, e74_57, e74_60, e74_63, e74_64, e74_66, e74_67, e74_68, e74_71, e74_75, e74_77, e74_80, e74_83, e74_86, e74_89, e74_90, e74_91, e74_93, e74_96, e74_98, e74_100, e74_103, e74_104, e74_107, e74_109, e74_110, e74_111, e74_113, e74_116, e74_117, e74_120, e74_121, e74_123, e74_126, e74_127, e74_128, e74_131, e74_135, e74_137, e74_140, e74_143, e74_146, e74_149, e74_151, e74_152, e74_153, e74_154, e74_157, e74_158, e74_161, e74_162, e74_164, e74_167, e74_168, e74_169, e74_172, e74_174, e74_176, e74_179, e74_180, e74_183, e74_184, e74_187, e74_189, e74_190, e74_192, e74_194, e74_197, e74_199, e74_200, e74_203, e74_204, e74_207, e74_208, e74_209, e74_211, e74_212, e74_215, e74_216, e74_219, e74_220, e74_221, e74_222, e74_223, e74_224, e74_227, xk_64 hX, xk_66 hX, xp_30 hX, xk_68 hX, ↓reduceIte, Nat.reduceAdd, Nat.reduceLeDiff, Nat.reduceLT, Nat.reduceEqDiff, not_false_eq_true, false_or, true_or, or_true, or_false, n0_e, n1_ne, n1_11, bI_z, bI_1, bI_fo, va_rf_some, aBk_1, aBk_0, nI_add, nI_mul, hk_si, hp_si, hl_si, hk_sp, hk_sl, hk_cp, hp_cp, opI_n, m1, sm, e8]
      · have kd' : kdz β n i = 1 := by rw [kd, if_neg q8, wordX_none (by omega) (fun q hq => a2 q hq) hx]
        refine fin 0 (-1) (by rw [kd']; rfl) m16 (fun z => by omega) (fun z => by rw [kd'] at z; unfold sgk at z; omega) (fun d z3 z4 z5 z6 => (p1 d z3 z4 z5 z6).trans ?_)
        rw [hx, et]
        have e8 : nI (rl isL β i) ≤ nI 8 := by rw [nI_leL (by omega) (by decide)]; omega
        simp only [e74_0, e74_1, e74_2, e74_5, e74_6, e74_7, e74_8, e74_10, e74_11, e74_14, e74_17, e74_18, e74_21, e74_22, e74_25, e74_26, e74_27, e74_28, e74_29, e74_30, e74_31, e74_33, e74_34, e74_36, e74_39, e74_40, e74_42, e74_45, e74_46, e74_48, e74_51, e74_52, e74_54, e74_57, e74_60, e74_63, e74_64, e74_66, e74_67, e74_68, e74_71, e74_75, e74_77, e74_80, e74_83, e74_86, e74_89, e74_90, e74_91, e74_93, e74_96, e74_98, e74_100, e74_103, e74_104, e74_107, e74_109, e74_110, e74_111, e74_113, e74_116, e74_117, e74_120, e74_121, e74_123, e74_126, e74_127, e74_128, e74_131, e74_135, e74_137, e74_140, e74_143, e74_146, e74_149, e74_151, e74_152, e74_153, e74_154, e74_157, e74_158, e74_161, e74_162, e74_164, e74_167, e74_168, e74_169, e74_172, e74_174, e74_176, e74_179, e74_180, e74_183, e74_184, e74_187, e74_189, e74_190, e74_192, e74_194, e74_197, e74_199, e74_200, e74_203, e74_204, e74_207, e74_208, e74_209, e74_211, e74_212, e74_215, e74_216, e74_219, e74_220, e74_221, e74_222, e74_223, e74_224, e74_227, xk_64 hX, xk_66 hX, xp_30 hX, xk_68 hX, ↓reduceIte, Nat.reduceAdd, Nat.reduceLeDiff, Nat.reduceLT, Nat.reduceEqDiff, not_false_eq_true, false_or, true_or, or_true, or_false, n0_e, n1_ne, n1_11, bI_z, bI_1, bI_fo, va_rf_some, aBk_1, aBk_0, nI_add, nI_mul, hk_si, hp_si, hl_si, hk_sp, hk_sl, hk_cp, hp_cp, opI_n, m1, sm, e8]
  | false =>
    rw [hL] at li
    cases hD : isD (β i) with
    | true =>
      rw [hD] at di
      obtain ⟨a1, a2, a3⟩ := rl_at (p := isD) hV isD0 (i := i) (by omega)
      have et : tlz β i = rl isD β i := by unfold tlz; rw [hL, hD]; rfl
      have r0 := rl_pos (p := isD) hV isD0 hi hD
      have lm := fun d => k_isDigit (d := d) hX hV hB (k := i + rl isD β i) (by omega)
      rw [a3] at lm
      have sm : nI (i + rl isD β i) - nI i = nI (rl isD β i) := by rw [nI_sub (by omega)]; congr 1; omega
      have kd : kdz β n i = if 4 < rl isD β i then 3 else 2 := by unfold kdz; rw [hL, hD]; exact if_neg (show ¬ n ≤ i by omega)
      have p1 : ∀ d z3 z4 z5 z6, krAt d i 1 z3 z4 z5 z6 h = (run (d + 6) 74 149 [.ref 66, .int (nI i), .int (nI 1), .int (sb (β i)), .int (nI (i + rl isD β i)), z5, .int (nI 0)] [] h) := fun d z3 z4 z5 z6 => by
        have q := kr_digits (d := d) (z3 := .int (sb (β i))) (z5 := z5) (z6 := .int (nI 0)) hX hV hB hi hD _ r0 (Nat.le_refl _)
        unfold krAt
        refine (e74_9).trans ?_
        simp only [e74_0, e74_1, e74_2, e74_5, e74_6, e74_7, e74_8, e74_10, e74_11, e74_14, e74_17, e74_18, e74_21, e74_22, e74_25, e74_26, e74_27, e74_28, e74_29, e74_30, e74_31, e74_33, e74_34, e74_36, e74_39, e74_40, e74_42, e74_45, e74_46, e74_48, e74_51, e74_52, e74_54, e74_57, e74_60, e74_63, e74_64, e74_66, e74_67, e74_68, e74_71, e74_75, e74_77, e74_80, e74_83, e74_86, e74_89, e74_90, e74_91, e74_93, e74_96, e74_98, e74_100, e74_103, e74_104, e74_107, e74_109, e74_110, e74_111, e74_113, e74_116, e74_117, e74_120, e74_121, e74_123, e74_126, e74_127, e74_128, e74_131, e74_135, e74_137, e74_140, e74_143, e74_146, e74_151, e74_152, e74_153, e74_154, e74_157, e74_158, e74_161, e74_162, e74_164, e74_167, e74_168, e74_169, e74_172, e74_174, e74_176, e74_179, e74_180, e74_183, e74_184, e74_186, e74_187, e74_189, e74_190, e74_192, e74_194, e74_197, e74_199, e74_200, e74_203, e74_204, e74_207, e74_208, e74_209, e74_211, e74_212, e74_215, e74_216, e74_219, e74_220, e74_221, e74_222, e74_223, e74_224, e74_227, xk_64 hX, xk_66 hX, xp_30 hX, xk_68 hX, ↓reduceIte, Nat.reduceAdd, Nat.reduceLeDiff, Nat.reduceLT, Nat.reduceEqDiff, not_false_eq_true, false_or, true_or, or_true, or_false, n0_e, n1_ne, n1_11, bI_z, bI_1, bI_fo, va_rf_some, aBk_1, aBk_0, nI_add, nI_mul, hk_si, hp_si, hl_si, hk_sp, hk_sl, hk_cp, hp_cp, hB.1, g1, tp, g2, e9, e10, e13, e32, li, di, reduceCtorEq]
        refine q.trans ?_
        refine (e74_134).trans ?_
        simp only [e74_0, e74_1, e74_2, e74_5, e74_6, e74_7, e74_8, e74_10, e74_11, e74_14, e74_17, e74_18, e74_21, e74_22, e74_25, e74_26, e74_27, e74_28, e74_29, e74_30, e74_31, e74_33, e74_34, e74_36, e74_39, e74_40, e74_42, e74_45, e74_46, e74_48, e74_51, e74_52, e74_54, e74_57, e74_60, e74_63, e74_64, e74_66, e74_67, e74_68, e74_71, e74_75, e74_77, e74_80, e74_83, e74_86, e74_89, e74_90, e74_91, e74_93, e74_96, e74_98, e74_100, e74_103, e74_104, e74_107, e74_109, e74_110, e74_111, e74_113, e74_116, e74_117, e74_120, e74_121, e74_123, e74_126, e74_127, e74_128, e74_131, e74_135, e74_137, e74_140, e74_143, e74_146, e74_151, e74_152, e74_153, e74_154, e74_157, e74_158, e74_161, e74_162, e74_164, e74_167, e74_168, e74_169, e74_172, e74_174, e74_176, e74_179, e74_180, e74_183, e74_184, e74_186, e74_187, e74_189, e74_190, e74_192, e74_194, e74_197, e74_199, e74_200, e74_203, e74_204, e74_207, e74_208, e74_209, e74_211, e74_212, e74_215, e74_216, e74_219, e74_220, e74_221, e74_222, e74_223, e74_224, e74_227, xk_64 hX, xk_66 hX, xp_30 hX, xk_68 hX, ↓reduceIte, Nat.reduceAdd, Nat.reduceLeDiff, Nat.reduceLT, Nat.reduceEqDiff, not_false_eq_true, false_or, true_or, or_true, or_false, n0_e, n1_ne, n1_11, bI_z, bI_1, bI_fo, va_rf_some, aBk_1, aBk_0, nI_add, nI_mul, hk_si, hp_si, hl_si, hk_sp, hk_sl, hk_cp, hp_cp, lm]
      by_cases q4 : 4 < rl isD β i
      · have kd' : kdz β n i = 3 := by rw [kd, if_pos q4]
        refine fin 5 (nI 0) (by rw [kd']; rfl) (by decide) (fun z => by omega) (fun z => by rw [kd'] at z; unfold sgk at z; omega) (fun d z3 z4 z5 z6 => (p1 d z3 z4 z5 z6).trans ?_)
        rw [et]
        have e8 : ¬ nI (rl isD β i) ≤ nI 4 := nI_ge q4 (by omega)
        simp only [e74_0, e74_1, e74_2, e74_5, e74_6, e74_7, e74_8, e74_10, e74_11, e74_14, e74_17, e74_18, e74_21, e74_22, e74_25, e74_26, e74_27, e74_28, e74_29, e74_30, e74_31, e74_33, e74_34, e74_36, e74_39, e74_40, e74_42, e74_45, e74_46, e74_48, e74_51, e74_52, e74_54, e74_57, e74_60, e74_63, e74_64, e74_66, e74_67, e74_68, e74_71, e74_75, e74_77, e74_80, e74_83, e74_86, e74_89, e74_90, e74_91, e74_93, e74_96, e74_98, e74_100, e74_103, e74_104, e74_107, e74_109, e74_110, e74_111, e74_113, e74_116, e74_117, e74_120, e74_121, e74_123, e74_126, e74_127, e74_128, e74_131, e74_135, e74_137, e74_140, e74_143, e74_146, e74_149, e74_151, e74_152, e74_153, e74_154, e74_157, e74_158, e74_161, e74_162, e74_164, e74_167, e74_168, e74_169, e74_172, e74_174, e74_176, e74_179, e74_180, e74_183, e74_184, e74_187, e74_189, e74_190, e74_192, e74_194, e74_197, e74_199, e74_200, e74_203, e74_204, e74_207, e74_208, e74_209, e74_211, e74_212, e74_215, e74_216, e74_219, e74_220, e74_221, e74_222, e74_223, e74_224, e74_227, xk_64 hX, xk_66 hX, xp_30 hX, xk_68 hX, ↓reduceIte, Nat.reduceAdd, Nat.reduceLeDiff, Nat.reduceLT, Nat.reduceEqDiff, not_false_eq_true, false_or, true_or, or_true, or_false, n0_e, n1_ne, n1_11, bI_z, bI_1, bI_fo, va_rf_some, aBk_1, aBk_0, nI_add, nI_mul, hk_si, hp_si, hl_si, hk_sp, hk_sl, hk_cp, hp_cp, sm, e8]
      · have kd' : kdz β n i = 2 := by rw [kd, if_neg q4]
        refine fin 1 (nI 0) (by rw [kd']; rfl) (by decide) (fun z => by omega) (fun z => by rw [kd'] at z; unfold sgk at z; omega) (fun d z3 z4 z5 z6 => (p1 d z3 z4 z5 z6).trans ?_)
        rw [et]
        have e8 : nI (rl isD β i) ≤ nI 4 := by rw [nI_leL (by omega) (by decide)]; omega
        simp only [e74_0, e74_1, e74_2, e74_5, e74_6, e74_7, e74_8, e74_10, e74_11, e74_14, e74_17, e74_18, e74_21, e74_22, e74_25, e74_26, e74_27, e74_28, e74_29, e74_30, e74_31, e74_33, e74_34, e74_36, e74_39, e74_40, e74_42, e74_45, e74_46, e74_48, e74_51, e74_52, e74_54, e74_57, e74_60, e74_63, e74_64, e74_66, e74_67, e74_68, e74_71, e74_75, e74_77, e74_80, e74_83, e74_86, e74_89, e74_90, e74_91, e74_93, e74_96, e74_98, e74_100, e74_103, e74_104, e74_107, e74_109, e74_110, e74_111, e74_113, e74_116, e74_117, e74_120, e74_121, e74_123, e74_126, e74_127, e74_128, e74_131, e74_135, e74_137, e74_140, e74_143, e74_146, e74_149, e74_151, e74_152, e74_153, e74_154, e74_157, e74_158, e74_161, e74_162, e74_164, e74_167, e74_168, e74_169, e74_172, e74_174, e74_176, e74_179, e74_180, e74_183, e74_184, e74_187, e74_189, e74_190, e74_192, e74_194, e74_197, e74_199, e74_200, e74_203, e74_204, e74_207, e74_208, e74_209, e74_211, e74_212, e74_215, e74_216, e74_219, e74_220, e74_221, e74_222, e74_223, e74_224, e74_227, xk_64 hX, xk_66 hX, xp_30 hX, xk_68 hX, ↓reduceIte, Nat.reduceAdd, Nat.reduceLeDiff, Nat.reduceLT, Nat.reduceEqDiff, not_false_eq_true, false_or, true_or, or_true, or_false, n0_e, n1_ne, n1_11, bI_z, bI_1, bI_fo, va_rf_some, aBk_1, aBk_0, nI_add, nI_mul, hk_si, hp_si, hl_si, hk_sp, hk_sl, hk_cp, hp_cp, sm, e8]
    | false =>
      rw [hD] at di
      have et : tlz β i = 1 := by unfold tlz; rw [hL, hD]; rfl
      have kd : kdz β n i = sgz (β i) := by unfold kdz; rw [hL, hD]; exact if_neg (show ¬ n ≤ i by omega)
      have ks := fun d => k_sign (d := d) hX hV hB (k := i) (by omega)
      have p1 : ∀ d z3 z4 z5 z6, krAt d i 1 z3 z4 z5 z6 h = (run (d + 6) 74 174 [.ref 66, .int (nI i), .int (nI 1), .int (sb (β i)), .int (nI (i + 1)), z5, .int (nI (sgc (β i)))] [] h) := fun d z3 z4 z5 z6 => by
        unfold krAt
        refine (e74_9).trans ?_
        simp only [e74_0, e74_1, e74_2, e74_5, e74_6, e74_7, e74_8, e74_10, e74_11, e74_14, e74_17, e74_18, e74_21, e74_22, e74_25, e74_26, e74_27, e74_28, e74_29, e74_30, e74_31, e74_33, e74_34, e74_36, e74_39, e74_40, e74_42, e74_45, e74_46, e74_48, e74_51, e74_52, e74_54, e74_57, e74_60, e74_63, e74_64, e74_66, e74_67, e74_68, e74_71, e74_75, e74_77, e74_80, e74_83, e74_86, e74_89, e74_90, e74_91, e74_93, e74_96, e74_98, e74_100, e74_103, e74_104, e74_107, e74_109, e74_110, e74_111, e74_113, e74_116, e74_117, e74_120, e74_121, e74_123, e74_126, e74_127, e74_128, e74_131, e74_135, e74_137, e74_140, e74_143, e74_146, e74_149, e74_151, e74_152, e74_153, e74_154, e74_157, e74_158, e74_161, e74_162, e74_164, e74_167, e74_168, e74_169, e74_172, e74_176, e74_179, e74_180, e74_183, e74_184, e74_186, e74_187, e74_189, e74_190, e74_192, e74_194, e74_197, e74_199, e74_200, e74_203, e74_204, e74_207, e74_208, e74_209, e74_211, e74_212, e74_215, e74_216, e74_219, e74_220, e74_221, e74_222, e74_223, e74_224, e74_227, xk_64 hX, xk_66 hX, xp_30 hX, xk_68 hX, ↓reduceIte, Nat.reduceAdd, Nat.reduceLeDiff, Nat.reduceLT, Nat.reduceEqDiff, not_false_eq_true, false_or, true_or, or_true, or_false, n0_e, n1_ne, n1_11, bI_z, bI_1, bI_fo, va_rf_some, aBk_1, aBk_0, nI_add, nI_mul, hk_si, hp_si, hl_si, hk_sp, hk_sl, hk_cp, hp_cp, hB.1, g1, tp, g2, e9, e10, e13, e32, li, di, ks]
      rcases sgz_c (β i) with z | ⟨z1, z2, z3', z4'⟩
      · have kd' : kdz β n i = 3 := by rw [kd, z]
        have sc : sgc (β i) = 0 := if_pos z
        refine fin 5 (nI 0) (by rw [kd']; rfl) (by decide) (fun z => by omega) (fun z => by rw [kd'] at z; unfold sgk at z; omega) (fun d z3 z4 z5 z6 => (p1 d z3 z4 z5 z6).trans ?_)
        rw [sc, et]
        simp only [e74_0, e74_1, e74_2, e74_5, e74_6, e74_7, e74_8, e74_10, e74_11, e74_14, e74_17, e74_18, e74_21, e74_22, e74_25, e74_26, e74_27, e74_28, e74_29, e74_30, e74_31, e74_33, e74_34, e74_36, e74_39, e74_40, e74_42, e74_45, e74_46, e74_48, e74_51, e74_52, e74_54, e74_57, e74_60, e74_63, e74_64, e74_66, e74_67, e74_68, e74_71, e74_75, e74_77, e74_80, e74_83, e74_86, e74_89, e74_90, e74_91, e74_93, e74_96, e74_98, e74_100, e74_103, e74_104, e74_107, e74_109, e74_110, e74_111, e74_113, e74_116, e74_117, e74_120, e74_121, e74_123, e74_126, e74_127, e74_128, e74_131, e74_135, e74_137, e74_140, e74_143, e74_146, e74_149, e74_151, e74_152, e74_153, e74_154, e74_157, e74_158, e74_161, e74_162, e74_164, e74_167, e74_168, e74_169, e74_172, e74_174, e74_176, e74_179, e74_180, e74_183, e74_184, e74_187, e74_189, e74_190, e74_192, e74_194, e74_197, e74_199, e74_200, e74_203, e74_204, e74_207, e74_208, e74_209, e74_211, e74_212, e74_215, e74_216, e74_219, e74_220, e74_221, e74_222, e74_223, e74_224, e74_227, xk_64 hX, xk_66 hX, xp_30 hX, xk_68 hX, ↓reduceIte, Nat.reduceAdd, Nat.reduceLeDiff, Nat.reduceLT, Nat.reduceEqDiff, not_false_eq_true, false_or, true_or, or_true, or_false, n0_e, n1_ne, n1_11, bI_z, bI_1, bI_fo, va_rf_some, aBk_1, aBk_0, nI_add, nI_mul, hk_si, hp_si, hl_si, hk_sp, hk_sl, hk_cp, hp_cp]
      · have ns : sgz (β i) ≠ 3 := fun q => by rw [q] at z1; unfold sgk at z1; omega
        have sc : sgc (β i) = β i := if_neg ns
        refine fin 2 (nI (β i)) (by rw [kd]; exact ((srt_2 (Or.inr (Or.inl z1))).mpr z1).symm) (i16_c (by omega)) (fun z => by rw [kd] at z; unfold sgk at z1; omega) (fun _ => by rw [kd, z2]) (fun d z3 z4 z5 z6 => (p1 d z3 z4 z5 z6).trans ?_)
        rw [sc, et]
        have b0 : (nI (β i) = 0) = False := by rw [nI_z (by omega)]; exact eq_false (by omega)
        simp only [e74_0, e74_1, e74_2, e74_5, e74_6, e74_7, e74_8, e74_10, e74_11, e74_14, e74_17, e74_18, e74_21, e74_22, e74_25, e74_26, e74_27, e74_28, e74_29, e74_30, e74_31, e74_33, e74_34, e74_36, e74_39, e74_40, e74_42, e74_45, e74_46, e74_48, e74_51, e74_52, e74_54, e74_57, e74_60, e74_63, e74_64, e74_66, e74_67, e74_68, e74_71, e74_75, e74_77, e74_80, e74_83, e74_86, e74_89, e74_90, e74_91, e74_93, e74_96, e74_98, e74_100, e74_103, e74_104, e74_107, e74_109, e74_110, e74_111, e74_113, e74_116, e74_117, e74_120, e74_121, e74_123, e74_126, e74_127, e74_128, e74_131, e74_135, e74_137, e74_140, e74_143, e74_146, e74_149, e74_151, e74_152, e74_153, e74_154, e74_157, e74_158, e74_161, e74_162, e74_164, e74_167, e74_168, e74_169, e74_172, e74_174, e74_176, e74_179, e74_180, e74_183, e74_184, e74_187, e74_189, e74_190, e74_192, e74_194, e74_197, e74_199, e74_200, e74_203, e74_204, e74_207, e74_208, e74_209, e74_211, e74_212, e74_215, e74_216, e74_219, e74_220, e74_221, e74_222, e74_223, e74_224, e74_227, xk_64 hX, xk_66 hX, xp_30 hX, xk_68 hX, ↓reduceIte, Nat.reduceAdd, Nat.reduceLeDiff, Nat.reduceLT, Nat.reduceEqDiff, not_false_eq_true, false_or, true_or, or_true, or_false, n0_e, n1_ne, n1_11, bI_z, bI_1, bI_fo, va_rf_some, aBk_1, aBk_0, nI_add, nI_mul, hk_si, hp_si, hl_si, hk_sp, hk_sl, hk_cp, hp_cp, b0]
theorem kr_loop (hV : BV β n) : ∀ (m i j : Nat) (h : aH), n + 1 ≤ i + m → CSx h β n j i → ∃ h' J, (∀ z3 z4 z5 z6 d, krAt d i 1 z3 z4 z5 z6 h = some (.returned none, h')) ∧ On KRF h h' ∧ (∀ k, k < J → XKt h' β n k) ∧ 0 < J ∧ (kdz β n (pz β (J - 1)) = 0 ∨ kdz β n (pz β (J - 1)) = 3)
  | 0, i, j, h, hm, hC => absurd hC.2.2.2.2.2.2.1 (by omega)
  | m + 1, i, j, h, hm, hC => by
    obtain ⟨hX, hB, hW, ht, c5, c6, c7, c8⟩ := id hC
    have hn := hV.1
    by_cases q1 : i = n
    · subst q1
      have b0 : β i = 0 := hV.2.2 i (Nat.le_refl _)
      have ep : pz β j = i := by rw [← c8]; exact sk_0 (by rw [b0]; exact isW0)
      have g1 : nI i ≤ nI i := Int32.le_refl _
      have ka := fun d => k_add (d := d) hX (s := 4) (a := i) (b := i) (w := nI 0) (j := j) (by omega) ht (by decide) (by omega) (by omega) (by decide)
      obtain ⟨t1, t2, t3, t4, t5⟩ := tkX_at (h := h) (j := j) (s := 4) (a := i) (b := i) (w := nI 0)
      have kd0 : kdz β i i = 0 := kdz_e (Nat.le_refl _)
      refine ⟨tkX h j 4 i i (nI 0), j + 1, fun z3 z4 z5 z6 d => ?_, tkX_on, fun k hk => ?_, by omega, Or.inl (by show kdz β i (pz β j) = 0; rw [ep]; exact kd0)⟩
      · unfold krAt
        refine (e74_9).trans ?_
        simp only [e74_0, e74_1, e74_2, e74_5, e74_6, e74_7, e74_8, e74_10, e74_11, e74_14, e74_17, e74_18, e74_21, e74_22, e74_25, e74_26, e74_27, e74_28, e74_29, e74_30, e74_31, e74_33, e74_34, e74_36, e74_39, e74_40, e74_42, e74_45, e74_46, e74_48, e74_51, e74_52, e74_54, e74_57, e74_60, e74_63, e74_64, e74_66, e74_67, e74_68, e74_71, e74_75, e74_77, e74_80, e74_83, e74_86, e74_89, e74_90, e74_91, e74_93, e74_96, e74_98, e74_100, e74_103, e74_104, e74_107, e74_109, e74_110, e74_111, e74_113, e74_116, e74_117, e74_120, e74_121, e74_123, e74_126, e74_127, e74_128, e74_131, e74_135, e74_137, e74_140, e74_143, e74_146, e74_149, e74_151, e74_152, e74_153, e74_154, e74_157, e74_158, e74_161, e74_162, e74_164, e74_167, e74_168, e74_169, e74_172, e74_174, e74_176, e74_179, e74_180, e74_183, e74_184, e74_186, e74_187, e74_189, e74_190, e74_192, e74_194, e74_197, e74_199, e74_200, e74_203, e74_204, e74_207, e74_208, e74_209, e74_211, e74_212, e74_215, e74_216, e74_219, e74_220, e74_221, e74_222, e74_223, e74_224, e74_227, xk_64 hX, xk_66 hX, xp_30 hX, xk_68 hX, ↓reduceIte, Nat.reduceAdd, Nat.reduceLeDiff, Nat.reduceLT, Nat.reduceEqDiff, not_false_eq_true, false_or, true_or, or_true, or_false, n0_e, n1_ne, n1_11, bI_z, bI_1, bI_fo, va_rf_some, aBk_1, aBk_0, nI_add, nI_mul, hk_si, hp_si, hl_si, hk_sp, hk_sl, hk_cp, hp_cp, hB.1, g1, ka]
      · by_cases z : k = j
        · subst z
          unfold XKt
          rw [ep, t1, t2, kd0]
          exact ⟨rfl, rfl, fun q => absurd rfl q, fun q => absurd q (by decide), fun q => by unfold sgk at q; omega⟩
        · exact (c5 k (by omega)).1.off z
    · have hi : i < n := by omega
      cases hw : isW (β i) with
      | true =>
        have g1 : ¬ nI n ≤ nI i := nI_ge hi (by omega)
        have g2 : i < 2000 := by omega
        have tp := hB.2 i hi
        have w := of_decide_eq_true hw
        obtain ⟨h', J, e, o, f⟩ := kr_loop hV m (i + 1) j h (by omega) ⟨hX, hB, hW, ht, c5, by omega, by omega, by rw [← c8]; exact (sk_s hV hi hw).symm⟩
        refine ⟨h', J, fun z3 z4 z5 z6 d => ?_, o, f⟩
        have e' := e (.int (sb (β i))) (.int (nI (i + 1))) z5 z6 d
        unfold krAt at e' ⊢
        have es : sb (β i) = nI (β i) := if_pos (by omega)
        refine (e74_9).trans ?_
        have e9 : (nI (β i) = nI 9) = (β i = 9) := nI_eqL (by omega) (by decide)
        have e10 : (nI (β i) = nI 10) = (β i = 10) := nI_eqL (by omega) (by decide)
        have e13 : (nI (β i) = nI 13) = (β i = 13) := nI_eqL (by omega) (by decide)
        have e32 : (nI (β i) = nI 32) = (β i = 32) := nI_eqL (by omega) (by decide)
        rw [es] at tp e'
        rcases w with w | w | w | w
        · rw [w] at e9 e10 e13 e32 tp e'
          simp only [e74_0, e74_1, e74_2, e74_5, e74_6, e74_7, e74_8, e74_10, e74_11, e74_14, e74_17, e74_18, e74_21, e74_22, e74_25, e74_26, e74_27, e74_28, e74_29, e74_30, e74_31, e74_33, e74_34, e74_36, e74_39, e74_40, e74_42, e74_45, e74_46, e74_48, e74_51, e74_52, e74_54, e74_57, e74_60, e74_63, e74_64, e74_66, e74_67, e74_68, e74_71, e74_75, e74_77, e74_80, e74_83, e74_86, e74_89, e74_90, e74_91, e74_93, e74_96, e74_98, e74_100, e74_103, e74_104, e74_107, e74_109, e74_110, e74_111, e74_113, e74_116, e74_117, e74_120, e74_121, e74_123, e74_126, e74_127, e74_128, e74_131, e74_135, e74_137, e74_140, e74_143, e74_146, e74_149, e74_151, e74_152, e74_153, e74_154, e74_157, e74_158, e74_161, e74_162, e74_164, e74_167, e74_168, e74_169, e74_172, e74_174, e74_176, e74_179, e74_180, e74_183, e74_184, e74_186, e74_187, e74_189, e74_190, e74_192, e74_194, e74_197, e74_199, e74_200, e74_203, e74_204, e74_207, e74_208, e74_209, e74_211, e74_212, e74_215, e74_216, e74_219, e74_220, e74_221, e74_222, e74_223, e74_224, e74_227, xk_64 hX, xk_66 hX, xp_30 hX, xk_68 hX, ↓reduceIte, Nat.reduceAdd, Nat.reduceLeDiff, Nat.reduceLT, Nat.reduceEqDiff, not_false_eq_true, false_or, true_or, or_true, or_false, n0_e, n1_ne, n1_11, bI_z, bI_1, bI_fo, va_rf_some, aBk_1, aBk_0, nI_add, nI_mul, hk_si, hp_si, hl_si, hk_sp, hk_sl, hk_cp, hp_cp, hB.1, g1, tp, g2, e9, e10, e13, e32, e']
        · rw [w] at e9 e10 e13 e32 tp e'
          simp only [e74_0, e74_1, e74_2, e74_5, e74_6, e74_7, e74_8, e74_10, e74_11, e74_14, e74_17, e74_18, e74_21, e74_22, e74_25, e74_26, e74_27, e74_28, e74_29, e74_30, e74_31, e74_33, e74_34, e74_36, e74_39, e74_40, e74_42, e74_45, e74_46, e74_48, e74_51, e74_52, e74_54, e74_57, e74_60, e74_63, e74_64, e74_66, e74_67, e74_68, e74_71, e74_75, e74_77, e74_80, e74_83, e74_86, e74_89, e74_90, e74_91, e74_93, e74_96, e74_98, e74_100, e74_103, e74_104, e74_107, e74_109, e74_110, e74_111, e74_113, e74_116, e74_117, e74_120, e74_121, e74_123, e74_126, e74_127, e74_128, e74_131, e74_135, e74_137, e74_140, e74_143, e74_146, e74_149, e74_151, e74_152, e74_153, e74_154, e74_157, e74_158, e74_161, e74_162, e74_164, e74_167, e74_168, e74_169, e74_172, e74_174, e74_176, e74_179, e74_180, e74_183, e74_184, e74_186, e74_187, e74_189, e74_190, e74_192, e74_194, e74_197, e74_199, e74_200, e74_203, e74_204, e74_207, e74_208, e74_209, e74_211, e74_212, e74_215, e74_216, e74_219, e74_220, e74_221, e74_222, e74_223, e74_224, e74_227, xk_64 hX, xk_66 hX, xp_30 hX, xk_68 hX, ↓reduceIte, Nat.reduceAdd, Nat.reduceLeDiff, Nat.reduceLT, Nat.reduceEqDiff, not_false_eq_true, false_or, true_or, or_true, or_false, n0_e, n1_ne, n1_11, bI_z, bI_1, bI_fo, va_rf_some, aBk_1, aBk_0, nI_add, nI_mul, hk_si, hp_si, hl_si, hk_sp, hk_sl, hk_cp, hp_cp, hB.1, g1, tp, g2, e9, e10, e13, e32, e']
        · rw [w] at e9 e10 e13 e32 tp e'
          simp only [e74_0, e74_1, e74_2, e74_5, e74_6, e74_7, e74_8, e74_10, e74_11, e74_14, e74_17, e74_18, e74_21, e74_22, e74_25, e74_26, e74_27, e74_28, e74_29, e74_30, e74_31, e74_33, e74_34, e74_36, e74_39, e74_40, e74_42, e74_45, e74_46, e74_48, e74_51, e74_52, e74_54, e74_57, e74_60, e74_63, e74_64, e74_66, e74_67, e74_68, e74_71, e74_75, e74_77, e74_80, e74_83, e74_86, e74_89, e74_90, e74_91, e74_93, e74_96, e74_98, e74_100, e74_103, e74_104, e74_107, e74_109, e74_110, e74_111, e74_113, e74_116, e74_117, e74_120, e74_121, e74_123, e74_126, e74_127, e74_128, e74_131, e74_135, e74_137, e74_140, e74_143, e74_146, e74_149, e74_151, e74_152, e74_153, e74_154, e74_157, e74_158, e74_161, e74_162, e74_164, e74_167, e74_168, e74_169, e74_172, e74_174, e74_176, e74_179, e74_180, e74_183, e74_184, e74_186, e74_187, e74_189, e74_190, e74_192, e74_194, e74_197, e74_199, e74_200, e74_203, e74_204, e74_207, e74_208, e74_209, e74_211, e74_212, e74_215, e74_216, e74_219, e74_220, e74_221, e74_222, e74_223, e74_224, e74_227, xk_64 hX, xk_66 hX, xp_30 hX, xk_68 hX, ↓reduceIte, Nat.reduceAdd, Nat.reduceLeDiff, Nat.reduceLT, Nat.reduceEqDiff, not_false_eq_true, false_or, true_or, or_true, or_false, n0_e, n1_ne, n1_11, bI_z, bI_1, bI_fo, va_rf_some, aBk_1, aBk_0, nI_add, nI_mul, hk_si, hp_si, hl_si, hk_sp, hk_sl, hk_cp, hp_cp, hB.1, g1, tp, g2, e9, e10, e13, e32, e']
        · rw [w] at e9 e10 e13 e32 tp e'
          simp only [e74_0, e74_1, e74_2, e74_5, e74_6, e74_7, e74_8, e74_10, e74_11, e74_14, e74_17, e74_18, e74_21, e74_22, e74_25, e74_26, e74_27, e74_28, e74_29, e74_30, e74_31, e74_33, e74_34, e74_36, e74_39, e74_40, e74_42, e74_45, e74_46, e74_48, e74_51, e74_52, e74_54, e74_57, e74_60, e74_63, e74_64, e74_66, e74_67, e74_68, e74_71, e74_75, e74_77, e74_80, e74_83, e74_86, e74_89, e74_90, e74_91, e74_93, e74_96, e74_98, e74_100, e74_103, e74_104, e74_107, e74_109, e74_110, e74_111, e74_113, e74_116, e74_117, e74_120, e74_121, e74_123, e74_126, e74_127, e74_128, e74_131, e74_135, e74_137, e74_140, e74_143, e74_146, e74_149, e74_151, e74_152, e74_153, e74_154, e74_157, e74_158, e74_161, e74_162, e74_164, e74_167, e74_168, e74_169, e74_172, e74_174, e74_176, e74_179, e74_180, e74_183, e74_184, e74_186, e74_187, e74_189, e74_190, e74_192, e74_194, e74_197, e74_199, e74_200, e74_203, e74_204, e74_207, e74_208, e74_209, e74_211, e74_212, e74_215, e74_216, e74_219, e74_220, e74_221, e74_222, e74_223, e74_224, e74_227, xk_64 hX, xk_66 hX, xp_30 hX, xk_68 hX, ↓reduceIte, Nat.reduceAdd, Nat.reduceLeDiff, Nat.reduceLT, Nat.reduceEqDiff, not_false_eq_true, false_or, true_or, or_true, or_false, n0_e, n1_ne, n1_11, bI_z, bI_1, bI_fo, va_rf_some, aBk_1, aBk_0, nI_add, nI_mul, hk_si, hp_si, hl_si, hk_sp, hk_sl, hk_cp, hp_cp, hB.1, g1, tp, g2, e9, e10, e13, e32, e']
      | false =>
        obtain ⟨h1, e1, o1, K1, Ks, t1, ep⟩ := kr_tok hC hV hi hw
        have hX1 := hX.on o1
        have hB1 := hB.on o1
        have tl0 := (tlz_le hV hi)
        by_cases q3 : kdz β n i = 3
        · -- bad: it ends
          refine ⟨h1, j + 1, fun z3 z4 z5 z6 d => ?_, o1, fun k hk => ?_, by omega, Or.inr (by show kdz β n (pz β j) = 3; rw [ep]; exact q3)⟩
          · obtain ⟨y3, y4, y5, y6, e2⟩ := e1 z3 z4 z5 z6
            refine (e2 d).trans ?_
            rw [if_pos q3]
            unfold krAt
            refine (e74_9).trans ?_
            by_cases z : nI n ≤ nI (i + tlz β i)
            · simp only [e74_0, e74_1, e74_2, e74_5, e74_6, e74_7, e74_8, e74_10, e74_11, e74_14, e74_17, e74_18, e74_21, e74_22, e74_25, e74_26, e74_27, e74_28, e74_29, e74_30, e74_31, e74_33, e74_34, e74_36, e74_39, e74_40, e74_42, e74_45, e74_46, e74_48, e74_51, e74_52, e74_54, e74_57, e74_60, e74_63, e74_64, e74_66, e74_67, e74_68, e74_71, e74_75, e74_77, e74_80, e74_83, e74_86, e74_89, e74_90, e74_91, e74_93, e74_96, e74_98, e74_100, e74_103, e74_104, e74_107, e74_109, e74_110, e74_111, e74_113, e74_116, e74_117, e74_120, e74_121, e74_123, e74_126, e74_127, e74_128, e74_131, e74_135, e74_137, e74_140, e74_143, e74_146, e74_149, e74_151, e74_152, e74_153, e74_154, e74_157, e74_158, e74_161, e74_162, e74_164, e74_167, e74_168, e74_169, e74_172, e74_174, e74_176, e74_179, e74_180, e74_183, e74_184, e74_186, e74_187, e74_189, e74_190, e74_192, e74_194, e74_197, e74_199, e74_200, e74_203, e74_204, e74_207, e74_208, e74_209, e74_211, e74_212, e74_215, e74_216, e74_219, e74_220, e74_221, e74_222, e74_223, e74_224, e74_227, xk_64 hX1, xk_66 hX1, xp_30 hX1, xk_68 hX1, ↓reduceIte, Nat.reduceAdd, Nat.reduceLeDiff, Nat.reduceLT, Nat.reduceEqDiff, not_false_eq_true, false_or, true_or, or_true, or_false, n0_e, n1_ne, n1_11, bI_z, bI_1, bI_fo, va_rf_some, aBk_1, aBk_0, nI_add, nI_mul, hk_si, hp_si, hl_si, hk_sp, hk_sl, hk_cp, hp_cp, hB1.1, z]
            · simp only [e74_0, e74_1, e74_2, e74_5, e74_6, e74_7, e74_8, e74_10, e74_11, e74_14, e74_17, e74_18, e74_21, e74_22, e74_25, e74_26, e74_27, e74_28, e74_29, e74_30, e74_31, e74_33, e74_34, e74_36, e74_39, e74_40, e74_42, e74_45, e74_46, e74_48, e74_51, e74_52, e74_54, e74_57, e74_60, e74_63, e74_64, e74_66, e74_67, e74_68, e74_71, e74_75, e74_77, e74_80, e74_83, e74_86, e74_89, e74_90, e74_91, e74_93, e74_96, e74_98, e74_100, e74_103, e74_104, e74_107, e74_109, e74_110, e74_111, e74_113, e74_116, e74_117, e74_120, e74_121, e74_123, e74_126, e74_127, e74_128, e74_131, e74_135, e74_137, e74_140, e74_143, e74_146, e74_149, e74_151, e74_152, e74_153, e74_154, e74_157, e74_158, e74_161, e74_162, e74_164, e74_167, e74_168, e74_169, e74_172, e74_174, e74_176, e74_179, e74_180, e74_183, e74_184, e74_186, e74_187, e74_189, e74_190, e74_192, e74_194, e74_197, e74_199, e74_200, e74_203, e74_204, e74_207, e74_208, e74_209, e74_211, e74_212, e74_215, e74_216, e74_219, e74_220, e74_221, e74_222, e74_223, e74_224, e74_227, xk_64 hX1, xk_66 hX1, xp_30 hX1, xk_68 hX1, ↓reduceIte, Nat.reduceAdd, Nat.reduceLeDiff, Nat.reduceLT, Nat.reduceEqDiff, not_false_eq_true, false_or, true_or, or_true, or_false, n0_e, n1_ne, n1_11, bI_z, bI_1, bI_fo, va_rf_some, aBk_1, aBk_0, nI_add, nI_mul, hk_si, hp_si, hl_si, hk_sp, hk_sl, hk_cp, hp_cp, hB1.1, z]
          · by_cases z : k = j
            · rw [z]; exact K1
            · exact Ks k (by omega)
        · have k0 := (kdz_0 (β := β) hi).1
          obtain ⟨h', J, e, o, f⟩ := kr_loop hV m (i + tlz β i) (j + 1) h1 (by omega) ⟨hX1, hB1, hW.on o1, t1, fun k hk => by
            by_cases z : k = j
            · rw [z, ep]; exact ⟨by rw [← ep] at *; exact K1, k0, q3⟩
            · exact ⟨Ks k (by omega), (c5 k (by omega)).2⟩, by omega, tl0.2, by show _ = sk β (pz β j + tlz β (pz β j)); rw [ep]⟩
          refine ⟨h', J, fun z3 z4 z5 z6 d => ?_, o1.trans o, f⟩
          obtain ⟨y3, y4, y5, y6, e2⟩ := e1 z3 z4 z5 z6
          refine (e2 d).trans ?_
          rw [if_neg q3]
          exact e y3 y4 y5 y6 d
end KR2
