set_option maxRecDepth 100000
/-! M: reading (23): read -/
def RDF (sd a f : Nat) : Prop := TOF sd a f ∨ CTF a f ∨ a = 460 ∨ (a = 458 ∧ (f = 68 ∨ f = 70 ∨ f = 83 ∨ f = 85))
def RDL (a : Nat) : Prop := a = 464 ∨ a = 466
section M36
variable {d lv sd : Nat} {h h' : aH} {Ω : aSg}
/-- up to the lines -/
theorem rd_begin (hI : MI2 h lv Ω) (hs : sd + lv = 1) : ∃ h' z, (∀ d, (run (d + 7) 155 0 [.ref 458, aU] [] h) = rdAt d 112 z h') ∧ OL (RDF sd) RDL h h' ∧ hi_ h' 458 68 = nI 0 ∧ MR h' (tzΩ Ω) (Nz (btz Ω) (gn Ω)) r0.1 ∧ MN h' r0.2.1 ∧ MXt h' sd T0 0 (420 * sd) (130 * sd) := by
  obtain ⟨hI, -, hG⟩ := hI
  have hM := hI.T.m
  have n2 := hI.n2
  have hV := btz_BV n2
  have hl := hI.T.live
  have s2 : sd < 2 := by omega
  -- the size
  have o1 : OL (RDF sd) RDL h (si_ h 458 70 (nI (gn Ω))) := OL.si (Or.inr (Or.inr (Or.inr ⟨rfl, by omega⟩)))
  have hM1 := hM.ol o1
  have c1 : hi_ (si_ h 458 70 (nI (gn Ω))) 458 70 = nI (gn Ω) := hi_same
  have t1 : ∀ i, i < gn Ω → hi_ (si_ h 458 70 (nI (gn Ω))) 459 i = gtp Ω i := fun i hi => (hi_ne (by omega)).trans (hI.tp i hi)
  have l1 : hi_ (si_ h 458 70 (nI (gn Ω))) 458 84 = nI lv := (hi_ne (by omega)).trans hl
  have st1 : ∀ d, (run (d + 7) 155 0 [.ref 458, aU] [] h) = rdAt d 10 (.int (nI 0)) (si_ h 458 70 (nI (gn Ω))) := fun d => by
    unfold rdAt
    simp only [e155_0, e155_1, e155_2, e155_5, e155_8, e155_9, e155_11, e155_12, e155_15, e155_18, e155_19, e155_22, e155_23, e155_24, e155_27, e155_28, e155_29, e155_29z, e155_30, e155_33, e155_36, e155_37, e155_38, e155_41, e155_42, e155_45, e155_46, e155_47, e155_50, e155_51, e155_52, e155_55, e155_56, e155_57, e155_60, e155_61, e155_62, e155_65, e155_66, e155_67, e155_68, e155_71, e155_72, e155_75, e155_76, e155_77, e155_80, e155_81, e155_82, e155_85, e155_88, e155_89, e155_92, e155_93, e155_96, e155_97, e155_100, e155_101, e155_104, e155_105, e155_108, e155_109, e155_112, e155_113, e155_116, e155_119, e155_120, e155_121, e155_124, e155_127, e155_128, e155_131, e155_134, e155_135, e155_136, e155_139, e155_142, e155_143, e155_146, e155_149, e155_150, e155_153, e155_156, e155_157, e155_160, e155_163, e155_164, e155_167, e155_168, e155_171, e155_174, e155_175, e155_178, e155_179, e155_180, e155_183, e155_186, e155_187, e155_190, e155_191, e155_192, e155_193, e155_196, e155_199, e155_200, e155_203, e155_204, e155_207, e155_208, e155_209, e155_212, e155_213, e155_214, e155_217, e155_218, e155_219, e155_220, e155_221, e155_224, e155_225, e155_228, e155_229, e155_230, e155_230z, e155_231, e155_234, e155_237, e155_238, mk_458 hM, mp_67 hM, mk_459 hM, mp_69 hM, mk_460 hM, mp_131 hM, mk_502 hM, ↓reduceIte, Nat.reduceAdd, Nat.reduceLeDiff, Nat.reduceLT, Nat.reduceEqDiff, not_false_eq_true, false_or, true_or, or_true, or_false, n0_e, n1_ne, n1_11, bI_z, bI_1, bI_fo, va_rf_some, aBk_1, aBk_0, nI_add, nI_mul, hk_si, hp_si, hl_si, hk_sp, hk_sl, hk_cp, hp_cp, hI.nn]
  have k1 : ∀ k, k < 21 → hl_ (si_ h 458 70 (nI (gn Ω))) 465 k = mKy k := hI.ky
  generalize si_ h 458 70 (nI (gn Ω)) = h1 at o1 hM1 c1 t1 l1 st1 k1
  -- the text
  obtain ⟨h2, e2, o2, r2⟩ := run_fill (F := fun d j x => rdAt d 10 (.int (nI j)) x) (b := 460) (n := gn Ω) (r := gtp Ω) (h := h1) (fun d j x hj o _ _ => by
    have hMx := hM1.on o
    have g1 : ¬ nI (gn Ω) ≤ nI j := nI_ge hj (by omega)
    have g2 : j < 2000 := by omega
    have e1 : hi_ x 459 j = gtp Ω j := (o.i (fun q => by unfold AB at q; omega)).trans (t1 j hj)
    have e2 : hi_ x 458 70 = nI (gn Ω) := (o.i (fun q => by unfold AB at q; omega)).trans c1
    have e3 := hG j hj
    unfold rdAt
    refine (e155_10).trans ?_
    simp only [e155_0, e155_1, e155_2, e155_5, e155_8, e155_9, e155_11, e155_12, e155_15, e155_18, e155_19, e155_22, e155_23, e155_24, e155_27, e155_28, e155_29, e155_29z, e155_30, e155_33, e155_36, e155_37, e155_38, e155_41, e155_42, e155_45, e155_46, e155_47, e155_50, e155_51, e155_52, e155_55, e155_56, e155_57, e155_60, e155_61, e155_62, e155_65, e155_66, e155_67, e155_68, e155_71, e155_72, e155_75, e155_76, e155_77, e155_80, e155_81, e155_82, e155_85, e155_88, e155_89, e155_92, e155_93, e155_96, e155_97, e155_100, e155_101, e155_104, e155_105, e155_108, e155_109, e155_112, e155_113, e155_116, e155_119, e155_120, e155_121, e155_124, e155_127, e155_128, e155_131, e155_134, e155_135, e155_136, e155_139, e155_142, e155_143, e155_146, e155_149, e155_150, e155_153, e155_156, e155_157, e155_160, e155_163, e155_164, e155_167, e155_168, e155_171, e155_174, e155_175, e155_178, e155_179, e155_180, e155_183, e155_186, e155_187, e155_190, e155_191, e155_192, e155_193, e155_196, e155_199, e155_200, e155_203, e155_204, e155_207, e155_208, e155_209, e155_212, e155_213, e155_214, e155_217, e155_218, e155_219, e155_220, e155_221, e155_224, e155_225, e155_228, e155_229, e155_230, e155_230z, e155_231, e155_234, e155_237, e155_238, mk_458 hMx, mp_67 hMx, mk_459 hMx, mp_69 hMx, mk_460 hMx, mp_131 hMx, mk_502 hMx, ↓reduceIte, Nat.reduceAdd, Nat.reduceLeDiff, Nat.reduceLT, Nat.reduceEqDiff, not_false_eq_true, false_or, true_or, or_true, or_false, n0_e, n1_ne, n1_11, bI_z, bI_1, bI_fo, va_rf_some, aBk_1, aBk_0, nI_add, nI_mul, hk_si, hp_si, hl_si, hk_sp, hk_sl, hk_cp, hp_cp, e2, g1, g2, e1, e3])
  have hM2 := hM1.on o2
  have ab : ∀ a f, AB 460 0 (gn Ω) a f → a = 460 := fun a f q => q.1
  have c2 : hi_ h2 458 70 = nI (gn Ω) := (o2.i (fun q => by have := ab _ _ q; omega)).trans c1
  have l2 : hi_ h2 458 84 = nI lv := (o2.i (fun q => by have := ab _ _ q; omega)).trans l1
  -- the tape is empty
  have o3 : OL (RDF sd) RDL h2 (si_ h2 458 68 (nI 0)) := OL.si (Or.inr (Or.inr (Or.inr ⟨rfl, by omega⟩)))
  have hM3 := hM2.ol o3
  have c3 : hi_ (si_ h2 458 68 (nI 0)) 458 68 = nI 0 := hi_same
  have B3 : MB (si_ h2 458 68 (nI 0)) (btz Ω) (gn Ω) := ⟨(hi_ne (by omega)).trans c2, fun i hi => by
    rw [hi_ne (by omega), r2 i hi, and255]
    unfold btz
    rw [if_pos hi]⟩
  have l3 : hi_ (si_ h2 458 68 (nI 0)) 458 84 = nI lv := (hi_ne (by omega)).trans l2
  have k3 : ∀ k, k < 21 → hl_ (si_ h2 458 68 (nI 0)) 465 k = mKy k := fun k hk => (o2.l _ _).trans (k1 k hk)
  obtain ⟨h4, e4, o4, K4⟩ := m_cut hM3 B3 hV k3
  have st3 : ∀ d, rdAt d 10 (.int (nI (gn Ω))) h2 = rdAt d 45 (.int (nI (gn Ω))) h4 := fun d => by
    have g : nI (gn Ω) ≤ nI (gn Ω) := Int32.le_refl _
    unfold rdAt
    refine (e155_10).trans ?_
    simp only [e155_0, e155_1, e155_2, e155_5, e155_8, e155_9, e155_11, e155_12, e155_15, e155_18, e155_19, e155_22, e155_23, e155_24, e155_27, e155_28, e155_29, e155_29z, e155_30, e155_33, e155_36, e155_37, e155_38, e155_41, e155_42, e155_46, e155_47, e155_50, e155_51, e155_52, e155_55, e155_56, e155_57, e155_60, e155_61, e155_62, e155_65, e155_66, e155_67, e155_68, e155_71, e155_72, e155_75, e155_76, e155_77, e155_80, e155_81, e155_82, e155_85, e155_88, e155_89, e155_92, e155_93, e155_96, e155_97, e155_100, e155_101, e155_104, e155_105, e155_108, e155_109, e155_112, e155_113, e155_116, e155_119, e155_120, e155_121, e155_124, e155_127, e155_128, e155_131, e155_134, e155_135, e155_136, e155_139, e155_142, e155_143, e155_146, e155_149, e155_150, e155_153, e155_156, e155_157, e155_160, e155_163, e155_164, e155_167, e155_168, e155_171, e155_174, e155_175, e155_178, e155_179, e155_180, e155_183, e155_186, e155_187, e155_190, e155_191, e155_192, e155_193, e155_196, e155_199, e155_200, e155_203, e155_204, e155_207, e155_208, e155_209, e155_212, e155_213, e155_214, e155_217, e155_218, e155_219, e155_220, e155_221, e155_224, e155_225, e155_228, e155_229, e155_230, e155_230z, e155_231, e155_234, e155_237, e155_238, mk_458 hM2, mp_67 hM2, mk_459 hM2, mp_69 hM2, mk_460 hM2, mp_131 hM2, mk_502 hM2, mk_458 hM3, mp_67 hM3, mk_459 hM3, mp_69 hM3, mk_460 hM3, mp_131 hM3, mk_502 hM3, ↓reduceIte, Nat.reduceAdd, Nat.reduceLeDiff, Nat.reduceLT, Nat.reduceEqDiff, not_false_eq_true, false_or, true_or, or_true, or_false, n0_e, n1_ne, n1_11, bI_z, bI_1, bI_fo, va_rf_some, aBk_1, aBk_0, nI_add, nI_mul, hk_si, hp_si, hl_si, hk_sp, hk_sl, hk_cp, hp_cp, c2, g, e4]
  generalize si_ h2 458 68 (nI 0) = h3 at o3 hM3 c3 B3 l3 k3 e4 o4 st3
  have hM4 := hM3.ol o4
  have l4 : hi_ h4 458 84 = nI lv := (o4.i (fun q => by unfold CTF at q; omega)).trans l3
  have c4 : hi_ h4 458 68 = nI 0 := (o4.i (fun q => by unfold CTF at q; omega)).trans c3
  -- the parser's state
  have ed : nI 1 - nI lv = nI sd := by rw [nI_sub (by omega)]; congr 1; omega
  have fz : ∀ f, f = 77 ∨ f = 78 ∨ f = 79 ∨ f = 81 ∨ f = 85 ∨ f = 86 → RDF sd 458 f := fun f hf => by unfold RDF TOF FP CTF; omega
  have o5 : On (fun a f => a = 458 ∧ (f = 77 ∨ f = 78 ∨ f = 79 ∨ f = 81 ∨ f = 85 ∨ f = 86)) h4 (si_ (si_ (si_ (si_ (si_ (si_ h4 458 77 (nI 0)) 458 78 (nI 0)) 458 79 (nI 0)) 458 81 (nI 0)) 458 85 (nI sd)) 458 86 (nI 0)) := (((((On.si ⟨rfl, by omega⟩).trans (On.si ⟨rfl, by omega⟩)).trans (On.si ⟨rfl, by omega⟩)).trans (On.si ⟨rfl, by omega⟩)).trans (On.si ⟨rfl, by omega⟩)).trans (On.si ⟨rfl, by omega⟩)
  have v77 : hi_ (si_ (si_ (si_ (si_ (si_ (si_ h4 458 77 (nI 0)) 458 78 (nI 0)) 458 79 (nI 0)) 458 81 (nI 0)) 458 85 (nI sd)) 458 86 (nI 0)) 458 77 = nI 0 := by rw [hi_ne (by omega), hi_ne (by omega), hi_ne (by omega), hi_ne (by omega), hi_ne (by omega)]; exact hi_same
  have v78 : hi_ (si_ (si_ (si_ (si_ (si_ (si_ h4 458 77 (nI 0)) 458 78 (nI 0)) 458 79 (nI 0)) 458 81 (nI 0)) 458 85 (nI sd)) 458 86 (nI 0)) 458 78 = nI 0 := by rw [hi_ne (by omega), hi_ne (by omega), hi_ne (by omega), hi_ne (by omega)]; exact hi_same
  have v79 : hi_ (si_ (si_ (si_ (si_ (si_ (si_ h4 458 77 (nI 0)) 458 78 (nI 0)) 458 79 (nI 0)) 458 81 (nI 0)) 458 85 (nI sd)) 458 86 (nI 0)) 458 79 = nI 0 := by rw [hi_ne (by omega), hi_ne (by omega), hi_ne (by omega)]; exact hi_same
  have v81 : hi_ (si_ (si_ (si_ (si_ (si_ (si_ h4 458 77 (nI 0)) 458 78 (nI 0)) 458 79 (nI 0)) 458 81 (nI 0)) 458 85 (nI sd)) 458 86 (nI 0)) 458 81 = nI 0 := by rw [hi_ne (by omega), hi_ne (by omega)]; exact hi_same
  have v85 : hi_ (si_ (si_ (si_ (si_ (si_ (si_ h4 458 77 (nI 0)) 458 78 (nI 0)) 458 79 (nI 0)) 458 81 (nI 0)) 458 85 (nI sd)) 458 86 (nI 0)) 458 85 = nI sd := by rw [hi_ne (by omega)]; exact hi_same
  have v86 : hi_ (si_ (si_ (si_ (si_ (si_ (si_ h4 458 77 (nI 0)) 458 78 (nI 0)) 458 79 (nI 0)) 458 81 (nI 0)) 458 85 (nI sd)) 458 86 (nI 0)) 458 86 = nI 0 := hi_same
  have hM5 := hM4.on o5
  obtain ⟨h6, e6, o6, X6, n6, w6⟩ := m_plain hM5 s2
  have st5 : ∀ d, rdAt d 45 (.int (nI (gn Ω))) h4 = rdAt d 88 (.int (nI (gn Ω))) h6 := fun d => by
    unfold rdAt
    simp only [e155_0, e155_1, e155_2, e155_5, e155_8, e155_9, e155_11, e155_12, e155_15, e155_18, e155_19, e155_22, e155_23, e155_24, e155_27, e155_28, e155_29, e155_29z, e155_30, e155_33, e155_36, e155_37, e155_38, e155_41, e155_42, e155_45, e155_46, e155_47, e155_50, e155_51, e155_52, e155_55, e155_56, e155_57, e155_60, e155_61, e155_62, e155_65, e155_66, e155_67, e155_68, e155_71, e155_72, e155_75, e155_76, e155_77, e155_80, e155_81, e155_82, e155_85, e155_89, e155_92, e155_93, e155_96, e155_97, e155_100, e155_101, e155_104, e155_105, e155_108, e155_109, e155_112, e155_113, e155_116, e155_119, e155_120, e155_121, e155_124, e155_127, e155_128, e155_131, e155_134, e155_135, e155_136, e155_139, e155_142, e155_143, e155_146, e155_149, e155_150, e155_153, e155_156, e155_157, e155_160, e155_163, e155_164, e155_167, e155_168, e155_171, e155_174, e155_175, e155_178, e155_179, e155_180, e155_183, e155_186, e155_187, e155_190, e155_191, e155_192, e155_193, e155_196, e155_199, e155_200, e155_203, e155_204, e155_207, e155_208, e155_209, e155_212, e155_213, e155_214, e155_217, e155_218, e155_219, e155_220, e155_221, e155_224, e155_225, e155_228, e155_229, e155_230, e155_230z, e155_231, e155_234, e155_237, e155_238, mk_458 hM4, mp_67 hM4, mk_459 hM4, mp_69 hM4, mk_460 hM4, mp_131 hM4, mk_502 hM4, mk_458 hM5, mp_67 hM5, mk_459 hM5, mp_69 hM5, mk_460 hM5, mp_131 hM5, mk_502 hM5, ↓reduceIte, Nat.reduceAdd, Nat.reduceLeDiff, Nat.reduceLT, not_false_eq_true, false_or, true_or, or_true, or_false, n0_e, n1_ne, n1_11, bI_z, bI_1, bI_fo, va_rf_some, aBk_1, aBk_0, nI_add, nI_mul, hk_si, hp_si, hl_si, hk_sp, hk_sl, hk_cp, hp_cp, l4, ed, e6, hi_si, Nat.reduceEqDiff, false_and, true_and, and_false, and_true]
  generalize si_ (si_ (si_ (si_ (si_ (si_ h4 458 77 (nI 0)) 458 78 (nI 0)) 458 79 (nI 0)) 458 81 (nI 0)) 458 85 (nI sd)) 458 86 (nI 0) = h5 at o5 v77 v78 v79 v81 v85 v86 hM5 e6 o6 st5
  have hM6 := hM5.on o6
  have rg : ∀ f, ¬ RG sd 458 f := fun f q => by unfold RG at q; omega
  have s6 : hi_ h6 458 85 = nI sd := (o6.i (rg _)).trans v85
  have o7 : On (fun a f => a = 458 ∧ (f = 102 ∨ f = 108)) h6 (si_ (si_ h6 458 102 (nI (130 * sd))) 458 108 (nI (420 * sd))) := (On.si ⟨rfl, Or.inl rfl⟩).trans (On.si ⟨rfl, Or.inr rfl⟩)
  have st7 : ∀ d, rdAt d 88 (.int (nI (gn Ω))) h6 = rdAt d 112 (.int (nI (gn Ω))) (si_ (si_ h6 458 102 (nI (130 * sd))) 458 108 (nI (420 * sd))) := fun d => by
    unfold rdAt
    simp only [e155_0, e155_1, e155_2, e155_5, e155_8, e155_9, e155_11, e155_12, e155_15, e155_18, e155_19, e155_22, e155_23, e155_24, e155_27, e155_28, e155_29, e155_29z, e155_30, e155_33, e155_36, e155_37, e155_38, e155_41, e155_42, e155_45, e155_46, e155_47, e155_50, e155_51, e155_52, e155_55, e155_56, e155_57, e155_60, e155_61, e155_62, e155_65, e155_66, e155_67, e155_68, e155_71, e155_72, e155_75, e155_76, e155_77, e155_80, e155_81, e155_82, e155_85, e155_88, e155_89, e155_92, e155_93, e155_96, e155_97, e155_100, e155_101, e155_104, e155_105, e155_108, e155_109, e155_113, e155_116, e155_119, e155_120, e155_121, e155_124, e155_127, e155_128, e155_131, e155_134, e155_135, e155_136, e155_139, e155_142, e155_143, e155_146, e155_149, e155_150, e155_153, e155_156, e155_157, e155_160, e155_163, e155_164, e155_167, e155_168, e155_171, e155_174, e155_175, e155_178, e155_179, e155_180, e155_183, e155_186, e155_187, e155_190, e155_191, e155_192, e155_193, e155_196, e155_199, e155_200, e155_203, e155_204, e155_207, e155_208, e155_209, e155_212, e155_213, e155_214, e155_217, e155_218, e155_219, e155_220, e155_221, e155_224, e155_225, e155_228, e155_229, e155_230, e155_230z, e155_231, e155_234, e155_237, e155_238, mk_458 hM6, mp_67 hM6, mk_459 hM6, mp_69 hM6, mk_460 hM6, mp_131 hM6, mk_502 hM6, ↓reduceIte, Nat.reduceAdd, Nat.reduceLeDiff, Nat.reduceLT, not_false_eq_true, false_or, true_or, or_true, or_false, n0_e, n1_ne, n1_11, bI_z, bI_1, bI_fo, va_rf_some, aBk_1, aBk_0, nI_add, nI_mul, hk_si, hp_si, hl_si, hk_sp, hk_sl, hk_cp, hp_cp, s6, hi_si, Nat.reduceEqDiff, false_and, true_and, and_false, and_true]
  have v102 : hi_ (si_ (si_ h6 458 102 (nI (130 * sd))) 458 108 (nI (420 * sd))) 458 102 = nI (130 * sd) := (hi_ne (by omega)).trans hi_same
  have v108 : hi_ (si_ (si_ h6 458 102 (nI (130 * sd))) 458 108 (nI (420 * sd))) 458 108 = nI (420 * sd) := hi_same
  generalize si_ (si_ h6 458 102 (nI (130 * sd))) 458 108 (nI (420 * sd)) = h7 at o7 st7 v102 v108
  have hM7 := hM6.on o7
  have e57 : ∀ f, f ≠ 102 → f ≠ 108 → hi_ h7 458 f = hi_ h5 458 f := fun f f1 f2 => (o7.i (fun q => by omega)).trans (o6.i (rg _))
  refine ⟨h7, .int (nI (gn Ω)), fun d => ((((st1 d).trans (e2 d)).trans (st3 d)).trans (st5 d)).trans (st7 d), ?_, ?_, ⟨hM7, tz_TK hV, ?_, Nat.zero_le _, ?_, ?_, ?_, by show (0 : Nat) < 10; decide, ?_, fun q => absurd rfl q⟩, ⟨Nat.zero_le _, ?_, fun k hk => absurd hk (Nat.not_lt_zero k)⟩, ⟨?_, ?_, fun k hk => ?_, v108, v102, ?_⟩⟩
  · refine ((((o1.trans ((o2.mono (fun a f q => Or.inr (Or.inr (Or.inl (ab a f q))))).OL)).trans o3).trans (o4.mono (fun a f q => Or.inr (Or.inl q)) (fun a q => Or.inl q))).trans ((o5.mono (fun a f q => by rw [q.1]; exact fz f q.2)).OL)).trans (((o6.mono (fun a f q => Or.inl (Or.inr (Or.inr (Or.inr (Or.inr q)))))).OL).trans ((o7.mono (fun a f q => Or.inl (Or.inr (Or.inl ⟨q.1, by omega⟩)))).OL))
  · rw [e57 _ (by decide) (by decide), o5.i (fun q => by omega)]; exact c4
  · intro j hj
    obtain ⟨a1, a2, a3, a4⟩ := K4 j hj
    have e47 : ∀ a f, 461 ≤ a → a ≤ 463 → hi_ h7 a f = hi_ h4 a f := fun a f g1 g2 => (o7.i (fun q => by omega)).trans ((o6.i (fun q => by unfold RG at q; omega)).trans (o5.i (fun q => by omega)))
    refine ⟨(e47 _ _ (by decide) (by decide)).trans a1, (e47 _ _ (by decide) (by decide)).trans a2, (e47 _ _ (by decide) (by decide)).trans a3, ?_⟩
    rw [o7.l, o6.l, o5.l]; exact a4
  · rw [e57 _ (by decide) (by decide)]; exact v77
  · rw [e57 _ (by decide) (by decide)]; exact v78
  · rw [e57 _ (by decide) (by decide)]; exact v79
  · rw [e57 _ (by decide) (by decide)]; exact v81
  · rw [e57 _ (by decide) (by decide)]; exact v86
  · exact X6.ag (by decide) (by decide) (fun a f q h1 h2 => o7.i (fun z => by rw [z.1] at q; exact rg _ q))
  · exact (o7.i (fun q => by omega)).trans n6
  · show hi_ h7 479 (4 * sd + k) = hi_ h7 480 (4 * sd + k)
    rw [o7.i (fun q => by omega), o7.i (fun q => by omega)]; exact w6 k hk
  · rw [e57 _ (by decide) (by decide)]; exact v85
end M36
