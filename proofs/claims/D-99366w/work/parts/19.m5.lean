set_option maxRecDepth 100000
/-! M: questions (1) -/
section M5
variable {lv d : Nat} {h h' : aH} {T : aTx} {w r : Nat → Int32}
theorem bI_nz (b : Bool) : (bI b = 0) = (b = false) := bI_z b
theorem orN_31 {n : Nat} {p : Nat → Bool} (hn : n ≤ 7) : orN n p < 2147483648 := Nat.lt_of_lt_of_le (orN_lt _ _) (Nat.le_trans (Nat.pow_le_pow_right (by decide) hn) (by decide))
theorem m_sunday (hT : MT h T lv) (hn : RA h 491 w) (s what : Int32) : ∃ h', (∀ d, (run (d + 3) 182 0 [.ref 458, .int s, .int what] [] h) = some (.returned (some (.int (qSun T w s what))), h')) ∧ On WP h h' := by
  have hM := hT.m
  unfold qSun
  cases hq : isS T s with
  | false =>
    refine ⟨h, fun d => ?_, On.refl⟩
    simp only [e182_0, e182_1, e182_2, e182_5, e182_8, e182_9, e182_10, e182_11, e182_14, e182_15_0, e182_15_1, e182_15_2, e182_15_3, e182_15_4, e182_15_5, e182_15_6, e182_15_d, e182_56, e182_57, e182_60, e182_61, e182_62, e182_65, e182_66, e182_67, e182_68, e182_69, e182_70, e182_71, e182_74, e182_75, e182_76, e182_79, e182_80, e182_81, e182_82, e182_83, e182_84, e182_85, e182_88, e182_90, e182_91, e182_92, e182_93, e182_94, e182_95, e182_98, e182_100, e182_101, e182_102, e182_103, e182_104, e182_105, e182_106, e182_109, e182_110, e182_111, e182_112, e182_115, e182_116, e182_117, e182_118, e182_121, e182_122, e182_123, mk_458 hM, mp_90 hM, mk_469 hM, mp_91 hM, mk_470 hM, mp_117 hM, mk_492 hM, ↓reduceIte, Nat.reduceAdd, Nat.reduceLeDiff, Nat.reduceLT, Nat.reduceEqDiff, not_false_eq_true, false_or, true_or, or_true, or_false, n0_e, n1_ne, n1_11, bI_1, bI_fo, va_rf_some, aBk_1, aBk_0, nI_add, nI_mul, hk_si, hp_si, hl_si, hk_sp, hk_sl, hk_cp, hp_cp, m_isSunday hT, hq, bI_z]
    rfl
  | true =>
    obtain ⟨k, hk, rfl⟩ := isS_n hT.v hq
    have h4 := hT.ns4
    rw [if_pos rfl, kk_n (by omega)]
    obtain ⟨h1, e1, o1, r1, -, -⟩ := m_copies hT hn
    have o1 : On WP h h1 := o1.mono (fun _ _ q => q.W)
    have hT1 := hT.onW o1
    have hM1 := hT1.m
    rcases sw_cases 6 6 rfl (by decide) what (qSunF T w k) with ⟨hd, e⟩ | ⟨c, hc, rfl⟩
    · refine ⟨h1, fun d => ?_, o1⟩
      rw [e]
      simp only [e182_0, e182_1, e182_2, e182_5, e182_8, e182_9, e182_10, e182_11, e182_14, e182_15_0, e182_15_1, e182_15_2, e182_15_3, e182_15_4, e182_15_5, e182_15_6, e182_15_d, e182_56, e182_57, e182_60, e182_61, e182_62, e182_65, e182_66, e182_67, e182_68, e182_69, e182_70, e182_71, e182_74, e182_75, e182_76, e182_79, e182_80, e182_81, e182_82, e182_83, e182_84, e182_85, e182_88, e182_90, e182_91, e182_92, e182_93, e182_94, e182_95, e182_98, e182_100, e182_101, e182_102, e182_103, e182_104, e182_105, e182_106, e182_109, e182_110, e182_111, e182_112, e182_115, e182_116, e182_117, e182_118, e182_121, e182_122, e182_123, mk_458 hM, mp_90 hM, mk_469 hM, mp_91 hM, mk_470 hM, mp_117 hM, mk_492 hM, ↓reduceIte, Nat.reduceAdd, Nat.reduceLeDiff, Nat.reduceLT, Nat.reduceEqDiff, not_false_eq_true, false_or, true_or, or_true, or_false, n0_e, n1_ne, n1_11, bI_1, bI_fo, va_rf_some, aBk_1, aBk_0, nI_add, nI_mul, hk_si, hp_si, hl_si, hk_sp, hk_sl, hk_cp, hp_cp, m_isSunday hT, hq, bI_z, reduceCtorEq, e1, hd]
    · rw [swf_n hc (by decide)]
      match c, hc with
      | 0, _ => refine ⟨h1, fun d => ?_, o1⟩; (simp only [e182_0, e182_1, e182_2, e182_5, e182_8, e182_9, e182_10, e182_11, e182_14, e182_15_0, e182_15_1, e182_15_2, e182_15_3, e182_15_4, e182_15_5, e182_15_6, e182_15_d, e182_56, e182_57, e182_60, e182_61, e182_62, e182_65, e182_66, e182_67, e182_68, e182_69, e182_70, e182_71, e182_74, e182_75, e182_76, e182_79, e182_80, e182_81, e182_82, e182_83, e182_84, e182_85, e182_88, e182_90, e182_91, e182_92, e182_93, e182_94, e182_95, e182_98, e182_100, e182_101, e182_102, e182_103, e182_104, e182_105, e182_106, e182_109, e182_110, e182_111, e182_112, e182_115, e182_116, e182_117, e182_118, e182_121, e182_122, e182_123, mk_458 hM, mp_90 hM, mk_469 hM, mp_91 hM, mk_470 hM, mp_117 hM, mk_492 hM, mk_458 hM1, mp_90 hM1, mk_469 hM1, mp_91 hM1, mk_470 hM1, mp_117 hM1, mk_492 hM1, ↓reduceIte, Nat.reduceAdd, Nat.reduceLeDiff, Nat.reduceLT, Nat.reduceEqDiff, not_false_eq_true, false_or, true_or, or_true, or_false, n0_e, n1_ne, n1_11, bI_1, bI_fo, va_rf_some, aBk_1, aBk_0, nI_add, nI_mul, hk_si, hp_si, hl_si, hk_sp, hk_sl, hk_cp, hp_cp, m_isSunday hT, hq, bI_z, reduceCtorEq, e1, hT1.live, hT1.s4 hk, hT1.lo hk]); rfl
      | 1, _ => refine ⟨h1, fun d => ?_, o1⟩; (simp only [e182_0, e182_1, e182_2, e182_5, e182_8, e182_9, e182_10, e182_11, e182_14, e182_15_0, e182_15_1, e182_15_2, e182_15_3, e182_15_4, e182_15_5, e182_15_6, e182_15_d, e182_56, e182_57, e182_60, e182_61, e182_62, e182_65, e182_66, e182_67, e182_68, e182_69, e182_70, e182_71, e182_74, e182_75, e182_76, e182_79, e182_80, e182_81, e182_82, e182_83, e182_84, e182_85, e182_88, e182_90, e182_91, e182_92, e182_93, e182_94, e182_95, e182_98, e182_100, e182_101, e182_102, e182_103, e182_104, e182_105, e182_106, e182_109, e182_110, e182_111, e182_112, e182_115, e182_116, e182_117, e182_118, e182_121, e182_122, e182_123, mk_458 hM, mp_90 hM, mk_469 hM, mp_91 hM, mk_470 hM, mp_117 hM, mk_492 hM, mk_458 hM1, mp_90 hM1, mk_469 hM1, mp_91 hM1, mk_470 hM1, mp_117 hM1, mk_492 hM1, ↓reduceIte, Nat.reduceAdd, Nat.reduceLeDiff, Nat.reduceLT, Nat.reduceEqDiff, not_false_eq_true, false_or, true_or, or_true, or_false, n0_e, n1_ne, n1_11, bI_1, bI_fo, va_rf_some, aBk_1, aBk_0, nI_add, nI_mul, hk_si, hp_si, hl_si, hk_sp, hk_sl, hk_cp, hp_cp, m_isSunday hT, hq, bI_z, reduceCtorEq, e1, hT1.live, hT1.s4 hk, hT1.wo hk]); rfl
      | 2, _ =>
        have h2 : 21 + k < 31 := by omega
        refine ⟨h1, fun d => ?_, o1⟩; (simp only [e182_0, e182_1, e182_2, e182_5, e182_8, e182_9, e182_10, e182_11, e182_14, e182_15_0, e182_15_1, e182_15_2, e182_15_3, e182_15_4, e182_15_5, e182_15_6, e182_15_d, e182_56, e182_57, e182_60, e182_61, e182_62, e182_65, e182_66, e182_67, e182_68, e182_69, e182_70, e182_71, e182_74, e182_75, e182_76, e182_79, e182_80, e182_81, e182_82, e182_83, e182_84, e182_85, e182_88, e182_90, e182_91, e182_92, e182_93, e182_94, e182_95, e182_98, e182_100, e182_101, e182_102, e182_103, e182_104, e182_105, e182_106, e182_109, e182_110, e182_111, e182_112, e182_115, e182_116, e182_117, e182_118, e182_121, e182_122, e182_123, mk_458 hM, mp_90 hM, mk_469 hM, mp_91 hM, mk_470 hM, mp_117 hM, mk_492 hM, mk_458 hM1, mp_90 hM1, mk_469 hM1, mp_91 hM1, mk_470 hM1, mp_117 hM1, mk_492 hM1, ↓reduceIte, Nat.reduceAdd, Nat.reduceLeDiff, Nat.reduceLT, Nat.reduceEqDiff, not_false_eq_true, false_or, true_or, or_true, or_false, n0_e, n1_ne, n1_11, bI_1, bI_fo, va_rf_some, aBk_1, aBk_0, nI_add, nI_mul, hk_si, hp_si, hl_si, hk_sp, hk_sl, hk_cp, hp_cp, m_isSunday hT, hq, bI_z, reduceCtorEq, e1, h2, r1 _ h2]); rfl
      | 3, _ =>
        have h2 : 25 + k < 31 := by omega
        refine ⟨h1, fun d => ?_, o1⟩; (simp only [e182_0, e182_1, e182_2, e182_5, e182_8, e182_9, e182_10, e182_11, e182_14, e182_15_0, e182_15_1, e182_15_2, e182_15_3, e182_15_4, e182_15_5, e182_15_6, e182_15_d, e182_56, e182_57, e182_60, e182_61, e182_62, e182_65, e182_66, e182_67, e182_68, e182_69, e182_70, e182_71, e182_74, e182_75, e182_76, e182_79, e182_80, e182_81, e182_82, e182_83, e182_84, e182_85, e182_88, e182_90, e182_91, e182_92, e182_93, e182_94, e182_95, e182_98, e182_100, e182_101, e182_102, e182_103, e182_104, e182_105, e182_106, e182_109, e182_110, e182_111, e182_112, e182_115, e182_116, e182_117, e182_118, e182_121, e182_122, e182_123, mk_458 hM, mp_90 hM, mk_469 hM, mp_91 hM, mk_470 hM, mp_117 hM, mk_492 hM, mk_458 hM1, mp_90 hM1, mk_469 hM1, mp_91 hM1, mk_470 hM1, mp_117 hM1, mk_492 hM1, ↓reduceIte, Nat.reduceAdd, Nat.reduceLeDiff, Nat.reduceLT, Nat.reduceEqDiff, not_false_eq_true, false_or, true_or, or_true, or_false, n0_e, n1_ne, n1_11, bI_1, bI_fo, va_rf_some, aBk_1, aBk_0, nI_add, nI_mul, hk_si, hp_si, hl_si, hk_sp, hk_sl, hk_cp, hp_cp, m_isSunday hT, hq, bI_z, reduceCtorEq, e1, h2, r1 _ h2]); rfl
      | 4, _ => refine ⟨h1, fun d => ?_, o1⟩; (simp only [e182_0, e182_1, e182_2, e182_5, e182_8, e182_9, e182_10, e182_11, e182_14, e182_15_0, e182_15_1, e182_15_2, e182_15_3, e182_15_4, e182_15_5, e182_15_6, e182_15_d, e182_56, e182_57, e182_60, e182_61, e182_62, e182_65, e182_66, e182_67, e182_68, e182_69, e182_70, e182_71, e182_74, e182_75, e182_76, e182_79, e182_80, e182_81, e182_82, e182_83, e182_84, e182_85, e182_88, e182_90, e182_91, e182_92, e182_93, e182_94, e182_95, e182_98, e182_100, e182_101, e182_102, e182_103, e182_104, e182_105, e182_106, e182_109, e182_110, e182_111, e182_112, e182_115, e182_116, e182_117, e182_118, e182_121, e182_122, e182_123, mk_458 hM, mp_90 hM, mk_469 hM, mp_91 hM, mk_470 hM, mp_117 hM, mk_492 hM, mk_458 hM1, mp_90 hM1, mk_469 hM1, mp_91 hM1, mk_470 hM1, mp_117 hM1, mk_492 hM1, ↓reduceIte, Nat.reduceAdd, Nat.reduceLeDiff, Nat.reduceLT, Nat.reduceEqDiff, not_false_eq_true, false_or, true_or, or_true, or_false, n0_e, n1_ne, n1_11, bI_1, bI_fo, va_rf_some, aBk_1, aBk_0, nI_add, nI_mul, hk_si, hp_si, hl_si, hk_sp, hk_sl, hk_cp, hp_cp, m_isSunday hT, hq, bI_z, reduceCtorEq, e1, m_guestBits hT1 r1]); rfl
      | 5, _ =>
        obtain ⟨h2, e2, o2⟩ := m_wearsOf hT1 r1 hk
        refine ⟨h2, fun d => ?_, o1.trans (o2.mono (fun _ _ q => q.V.W))⟩; (simp only [e182_0, e182_1, e182_2, e182_5, e182_8, e182_9, e182_10, e182_11, e182_14, e182_15_0, e182_15_1, e182_15_2, e182_15_3, e182_15_4, e182_15_5, e182_15_6, e182_15_d, e182_56, e182_57, e182_60, e182_61, e182_62, e182_65, e182_66, e182_67, e182_68, e182_69, e182_70, e182_71, e182_74, e182_75, e182_76, e182_79, e182_80, e182_81, e182_82, e182_83, e182_84, e182_85, e182_88, e182_90, e182_91, e182_92, e182_93, e182_94, e182_95, e182_98, e182_100, e182_101, e182_102, e182_103, e182_104, e182_105, e182_106, e182_109, e182_110, e182_111, e182_112, e182_115, e182_116, e182_117, e182_118, e182_121, e182_122, e182_123, mk_458 hM, mp_90 hM, mk_469 hM, mp_91 hM, mk_470 hM, mp_117 hM, mk_492 hM, mk_458 hM1, mp_90 hM1, mk_469 hM1, mp_91 hM1, mk_470 hM1, mp_117 hM1, mk_492 hM1, ↓reduceIte, Nat.reduceAdd, Nat.reduceLeDiff, Nat.reduceLT, Nat.reduceEqDiff, not_false_eq_true, false_or, true_or, or_true, or_false, n0_e, n1_ne, n1_11, bI_1, bI_fo, va_rf_some, aBk_1, aBk_0, nI_add, nI_mul, hk_si, hp_si, hl_si, hk_sp, hk_sl, hk_cp, hp_cp, m_isSunday hT, hq, bI_z, reduceCtorEq, e1, e2]); rfl
      | 6, _ =>
        obtain ⟨h2, e2, o2⟩ := m_sellsOf hT1 r1 hk
        refine ⟨h2, fun d => ?_, o1.trans (o2.mono (fun _ _ q => q.V.W))⟩; (simp only [e182_0, e182_1, e182_2, e182_5, e182_8, e182_9, e182_10, e182_11, e182_14, e182_15_0, e182_15_1, e182_15_2, e182_15_3, e182_15_4, e182_15_5, e182_15_6, e182_15_d, e182_56, e182_57, e182_60, e182_61, e182_62, e182_65, e182_66, e182_67, e182_68, e182_69, e182_70, e182_71, e182_74, e182_75, e182_76, e182_79, e182_80, e182_81, e182_82, e182_83, e182_84, e182_85, e182_88, e182_90, e182_91, e182_92, e182_93, e182_94, e182_95, e182_98, e182_100, e182_101, e182_102, e182_103, e182_104, e182_105, e182_106, e182_109, e182_110, e182_111, e182_112, e182_115, e182_116, e182_117, e182_118, e182_121, e182_122, e182_123, mk_458 hM, mp_90 hM, mk_469 hM, mp_91 hM, mk_470 hM, mp_117 hM, mk_492 hM, mk_458 hM1, mp_90 hM1, mk_469 hM1, mp_91 hM1, mk_470 hM1, mp_117 hM1, mk_492 hM1, ↓reduceIte, Nat.reduceAdd, Nat.reduceLeDiff, Nat.reduceLT, Nat.reduceEqDiff, not_false_eq_true, false_or, true_or, or_true, or_false, n0_e, n1_ne, n1_11, bI_1, bI_fo, va_rf_some, aBk_1, aBk_0, nI_add, nI_mul, hk_si, hp_si, hl_si, hk_sp, hk_sl, hk_cp, hp_cp, m_isSunday hT, hq, bI_z, reduceCtorEq, e1, e2]); rfl
theorem m_guest (hT : MT h T lv) (hn : RA h 491 w) (hw : RW T w) (g what : Int32) : ∃ h', (∀ d, (run (d + 4) 196 0 [.ref 458, .int g, .int what] [] h) = some (.returned (some (.int (qGue T w g what))), h')) ∧ On WP h h' := by
  have hM := hT.m
  unfold qGue
  cases hq : isG T g with
  | false =>
    refine ⟨h, fun d => ?_, On.refl⟩
    simp only [e196_0, e196_1, e196_2, e196_5, e196_8, e196_9, e196_10, e196_11, e196_14, e196_15_0, e196_15_1, e196_15_2, e196_15_3, e196_15_4, e196_15_5, e196_15_6, e196_15_7, e196_15_d, e196_60, e196_61, e196_62, e196_65, e196_66, e196_67, e196_70, e196_72, e196_73, e196_76, e196_77, e196_78, e196_79, e196_80, e196_81, e196_82, e196_85, e196_87, e196_88, e196_91, e196_92, e196_93, e196_94, e196_95, e196_96, e196_97, e196_100, e196_101, e196_102, e196_103, e196_104, e196_107, e196_109, e196_110, e196_111, e196_112, e196_113, e196_114, e196_117, e196_119, e196_120, e196_121, e196_122, e196_123, e196_124, e196_125, e196_128, e196_129, e196_130, e196_131, e196_134, e196_135, e196_136, mk_458 hM, mp_94 hM, mk_473 hM, mp_95 hM, mk_474 hM, mp_117 hM, mk_492 hM, ↓reduceIte, Nat.reduceAdd, Nat.reduceLeDiff, Nat.reduceLT, Nat.reduceEqDiff, not_false_eq_true, false_or, true_or, or_true, or_false, n0_e, n1_ne, n1_11, bI_1, bI_fo, va_rf_some, aBk_1, aBk_0, nI_add, nI_mul, hk_si, hp_si, hl_si, hk_sp, hk_sl, hk_cp, hp_cp, m_isGuest hT, hq, bI_z]
    rfl
  | true =>
    obtain ⟨k, hk, rfl⟩ := isG_n hT.v hq
    have h7 := hT.ng7
    rw [if_pos rfl, kk_n (by omega)]
    obtain ⟨h1, e1, o1, r1, -, -⟩ := m_copies hT hn
    have o1 : On WP h h1 := o1.mono (fun _ _ q => q.W)
    have hT1 := hT.onW o1
    have hM1 := hT1.m
    rcases sw_cases 7 7 rfl (by decide) what (qGueF T w k) with ⟨hd, e⟩ | ⟨c, hc, rfl⟩
    · refine ⟨h1, fun d => ?_, o1⟩
      rw [e]
      simp only [e196_0, e196_1, e196_2, e196_5, e196_8, e196_9, e196_10, e196_11, e196_14, e196_15_0, e196_15_1, e196_15_2, e196_15_3, e196_15_4, e196_15_5, e196_15_6, e196_15_7, e196_15_d, e196_60, e196_61, e196_62, e196_65, e196_66, e196_67, e196_70, e196_72, e196_73, e196_76, e196_77, e196_78, e196_79, e196_80, e196_81, e196_82, e196_85, e196_87, e196_88, e196_91, e196_92, e196_93, e196_94, e196_95, e196_96, e196_97, e196_100, e196_101, e196_102, e196_103, e196_104, e196_107, e196_109, e196_110, e196_111, e196_112, e196_113, e196_114, e196_117, e196_119, e196_120, e196_121, e196_122, e196_123, e196_124, e196_125, e196_128, e196_129, e196_130, e196_131, e196_134, e196_135, e196_136, mk_458 hM, mp_94 hM, mk_473 hM, mp_95 hM, mk_474 hM, mp_117 hM, mk_492 hM, ↓reduceIte, Nat.reduceAdd, Nat.reduceLeDiff, Nat.reduceLT, Nat.reduceEqDiff, not_false_eq_true, false_or, true_or, or_true, or_false, n0_e, n1_ne, n1_11, bI_1, bI_fo, va_rf_some, aBk_1, aBk_0, nI_add, nI_mul, hk_si, hp_si, hl_si, hk_sp, hk_sl, hk_cp, hp_cp, m_isGuest hT, hq, bI_z, reduceCtorEq, e1, hd]
    · rw [swf_n hc (by decide)]
      match c, hc with
      | 0, _ => refine ⟨h1, fun d => ?_, o1⟩; (simp only [e196_0, e196_1, e196_2, e196_5, e196_8, e196_9, e196_10, e196_11, e196_14, e196_15_0, e196_15_1, e196_15_2, e196_15_3, e196_15_4, e196_15_5, e196_15_6, e196_15_7, e196_15_d, e196_60, e196_61, e196_62, e196_65, e196_66, e196_67, e196_70, e196_72, e196_73, e196_76, e196_77, e196_78, e196_79, e196_80, e196_81, e196_82, e196_85, e196_87, e196_88, e196_91, e196_92, e196_93, e196_94, e196_95, e196_96, e196_97, e196_100, e196_101, e196_102, e196_103, e196_104, e196_107, e196_109, e196_110, e196_111, e196_112, e196_113, e196_114, e196_117, e196_119, e196_120, e196_121, e196_122, e196_123, e196_124, e196_125, e196_128, e196_129, e196_130, e196_131, e196_134, e196_135, e196_136, mk_458 hM, mp_94 hM, mk_473 hM, mp_95 hM, mk_474 hM, mp_117 hM, mk_492 hM, mk_458 hM1, mp_94 hM1, mk_473 hM1, mp_95 hM1, mk_474 hM1, mp_117 hM1, mk_492 hM1, ↓reduceIte, Nat.reduceAdd, Nat.reduceLeDiff, Nat.reduceLT, Nat.reduceEqDiff, not_false_eq_true, false_or, true_or, or_true, or_false, n0_e, n1_ne, n1_11, bI_1, bI_fo, va_rf_some, aBk_1, aBk_0, nI_add, nI_mul, hk_si, hp_si, hl_si, hk_sp, hk_sl, hk_cp, hp_cp, m_isGuest hT, hq, bI_z, reduceCtorEq, e1, m_fromAt hT1 hk]); rfl
      | 1, _ => refine ⟨h1, fun d => ?_, o1⟩; (simp only [e196_0, e196_1, e196_2, e196_5, e196_8, e196_9, e196_10, e196_11, e196_14, e196_15_0, e196_15_1, e196_15_2, e196_15_3, e196_15_4, e196_15_5, e196_15_6, e196_15_7, e196_15_d, e196_60, e196_61, e196_62, e196_65, e196_66, e196_67, e196_70, e196_72, e196_73, e196_76, e196_77, e196_78, e196_79, e196_80, e196_81, e196_82, e196_85, e196_87, e196_88, e196_91, e196_92, e196_93, e196_94, e196_95, e196_96, e196_97, e196_100, e196_101, e196_102, e196_103, e196_104, e196_107, e196_109, e196_110, e196_111, e196_112, e196_113, e196_114, e196_117, e196_119, e196_120, e196_121, e196_122, e196_123, e196_124, e196_125, e196_128, e196_129, e196_130, e196_131, e196_134, e196_135, e196_136, mk_458 hM, mp_94 hM, mk_473 hM, mp_95 hM, mk_474 hM, mp_117 hM, mk_492 hM, mk_458 hM1, mp_94 hM1, mk_473 hM1, mp_95 hM1, mk_474 hM1, mp_117 hM1, mk_492 hM1, ↓reduceIte, Nat.reduceAdd, Nat.reduceLeDiff, Nat.reduceLT, Nat.reduceEqDiff, not_false_eq_true, false_or, true_or, or_true, or_false, n0_e, n1_ne, n1_11, bI_1, bI_fo, va_rf_some, aBk_1, aBk_0, nI_add, nI_mul, hk_si, hp_si, hl_si, hk_sp, hk_sl, hk_cp, hp_cp, m_isGuest hT, hq, bI_z, reduceCtorEq, e1, hT1.live, hT1.g7 hk, hT1.hs hk]); rfl
      | 2, _ => refine ⟨h1, fun d => ?_, o1⟩; (simp only [e196_0, e196_1, e196_2, e196_5, e196_8, e196_9, e196_10, e196_11, e196_14, e196_15_0, e196_15_1, e196_15_2, e196_15_3, e196_15_4, e196_15_5, e196_15_6, e196_15_7, e196_15_d, e196_60, e196_61, e196_62, e196_65, e196_66, e196_67, e196_70, e196_72, e196_73, e196_76, e196_77, e196_78, e196_79, e196_80, e196_81, e196_82, e196_85, e196_87, e196_88, e196_91, e196_92, e196_93, e196_94, e196_95, e196_96, e196_97, e196_100, e196_101, e196_102, e196_103, e196_104, e196_107, e196_109, e196_110, e196_111, e196_112, e196_113, e196_114, e196_117, e196_119, e196_120, e196_121, e196_122, e196_123, e196_124, e196_125, e196_128, e196_129, e196_130, e196_131, e196_134, e196_135, e196_136, mk_458 hM, mp_94 hM, mk_473 hM, mp_95 hM, mk_474 hM, mp_117 hM, mk_492 hM, mk_458 hM1, mp_94 hM1, mk_473 hM1, mp_95 hM1, mk_474 hM1, mp_117 hM1, mk_492 hM1, ↓reduceIte, Nat.reduceAdd, Nat.reduceLeDiff, Nat.reduceLT, Nat.reduceEqDiff, not_false_eq_true, false_or, true_or, or_true, or_false, n0_e, n1_ne, n1_11, bI_1, bI_fo, va_rf_some, aBk_1, aBk_0, nI_add, nI_mul, hk_si, hp_si, hl_si, hk_sp, hk_sl, hk_cp, hp_cp, m_isGuest hT, hq, bI_z, reduceCtorEq, e1, hT1.live, hT1.g7 hk, hT1.fe hk]); rfl
      | 3, _ =>
        have h2 : k < 31 := by omega
        refine ⟨h1, fun d => ?_, o1⟩; (simp only [e196_0, e196_1, e196_2, e196_5, e196_8, e196_9, e196_10, e196_11, e196_14, e196_15_0, e196_15_1, e196_15_2, e196_15_3, e196_15_4, e196_15_5, e196_15_6, e196_15_7, e196_15_d, e196_60, e196_61, e196_62, e196_65, e196_66, e196_67, e196_70, e196_72, e196_73, e196_76, e196_77, e196_78, e196_79, e196_80, e196_81, e196_82, e196_85, e196_87, e196_88, e196_91, e196_92, e196_93, e196_94, e196_95, e196_96, e196_97, e196_100, e196_101, e196_102, e196_103, e196_104, e196_107, e196_109, e196_110, e196_111, e196_112, e196_113, e196_114, e196_117, e196_119, e196_120, e196_121, e196_122, e196_123, e196_124, e196_125, e196_128, e196_129, e196_130, e196_131, e196_134, e196_135, e196_136, mk_458 hM, mp_94 hM, mk_473 hM, mp_95 hM, mk_474 hM, mp_117 hM, mk_492 hM, mk_458 hM1, mp_94 hM1, mk_473 hM1, mp_95 hM1, mk_474 hM1, mp_117 hM1, mk_492 hM1, ↓reduceIte, Nat.reduceAdd, Nat.reduceLeDiff, Nat.reduceLT, Nat.reduceEqDiff, not_false_eq_true, false_or, true_or, or_true, or_false, n0_e, n1_ne, n1_11, bI_1, bI_fo, va_rf_some, aBk_1, aBk_0, nI_add, nI_mul, hk_si, hp_si, hl_si, hk_sp, hk_sl, hk_cp, hp_cp, m_isGuest hT, hq, bI_z, reduceCtorEq, e1, h2, r1 _ h2]); rfl
      | 4, _ =>
        have h2 : 7 + k < 31 := by omega
        refine ⟨h1, fun d => ?_, o1⟩; (simp only [e196_0, e196_1, e196_2, e196_5, e196_8, e196_9, e196_10, e196_11, e196_14, e196_15_0, e196_15_1, e196_15_2, e196_15_3, e196_15_4, e196_15_5, e196_15_6, e196_15_7, e196_15_d, e196_60, e196_61, e196_62, e196_65, e196_66, e196_67, e196_70, e196_72, e196_73, e196_76, e196_77, e196_78, e196_79, e196_80, e196_81, e196_82, e196_85, e196_87, e196_88, e196_91, e196_92, e196_93, e196_94, e196_95, e196_96, e196_97, e196_100, e196_101, e196_102, e196_103, e196_104, e196_107, e196_109, e196_110, e196_111, e196_112, e196_113, e196_114, e196_117, e196_119, e196_120, e196_121, e196_122, e196_123, e196_124, e196_125, e196_128, e196_129, e196_130, e196_131, e196_134, e196_135, e196_136, mk_458 hM, mp_94 hM, mk_473 hM, mp_95 hM, mk_474 hM, mp_117 hM, mk_492 hM, mk_458 hM1, mp_94 hM1, mk_473 hM1, mp_95 hM1, mk_474 hM1, mp_117 hM1, mk_492 hM1, ↓reduceIte, Nat.reduceAdd, Nat.reduceLeDiff, Nat.reduceLT, Nat.reduceEqDiff, not_false_eq_true, false_or, true_or, or_true, or_false, n0_e, n1_ne, n1_11, bI_1, bI_fo, va_rf_some, aBk_1, aBk_0, nI_add, nI_mul, hk_si, hp_si, hl_si, hk_sp, hk_sl, hk_cp, hp_cp, m_isGuest hT, hq, bI_z, reduceCtorEq, e1, h2, r1 _ h2]); rfl
      | 5, _ =>
        have h2 : 14 + k < 31 := by omega
        refine ⟨h1, fun d => ?_, o1⟩; (simp only [e196_0, e196_1, e196_2, e196_5, e196_8, e196_9, e196_10, e196_11, e196_14, e196_15_0, e196_15_1, e196_15_2, e196_15_3, e196_15_4, e196_15_5, e196_15_6, e196_15_7, e196_15_d, e196_60, e196_61, e196_62, e196_65, e196_66, e196_67, e196_70, e196_72, e196_73, e196_76, e196_77, e196_78, e196_79, e196_80, e196_81, e196_82, e196_85, e196_87, e196_88, e196_91, e196_92, e196_93, e196_94, e196_95, e196_96, e196_97, e196_100, e196_101, e196_102, e196_103, e196_104, e196_107, e196_109, e196_110, e196_111, e196_112, e196_113, e196_114, e196_117, e196_119, e196_120, e196_121, e196_122, e196_123, e196_124, e196_125, e196_128, e196_129, e196_130, e196_131, e196_134, e196_135, e196_136, mk_458 hM, mp_94 hM, mk_473 hM, mp_95 hM, mk_474 hM, mp_117 hM, mk_492 hM, mk_458 hM1, mp_94 hM1, mk_473 hM1, mp_95 hM1, mk_474 hM1, mp_117 hM1, mk_492 hM1, ↓reduceIte, Nat.reduceAdd, Nat.reduceLeDiff, Nat.reduceLT, Nat.reduceEqDiff, not_false_eq_true, false_or, true_or, or_true, or_false, n0_e, n1_ne, n1_11, bI_1, bI_fo, va_rf_some, aBk_1, aBk_0, nI_add, nI_mul, hk_si, hp_si, hl_si, hk_sp, hk_sl, hk_cp, hp_cp, m_isGuest hT, hq, bI_z, reduceCtorEq, e1, h2, r1 _ h2]); rfl
      | 6, _ =>
        obtain ⟨h2, e2, o2⟩ := m_paysOf hT1 r1 hw hk
        refine ⟨h2, fun d => ?_, o1.trans (o2.mono (fun _ _ q => q.V.W))⟩; (simp only [e196_0, e196_1, e196_2, e196_5, e196_8, e196_9, e196_10, e196_11, e196_14, e196_15_0, e196_15_1, e196_15_2, e196_15_3, e196_15_4, e196_15_5, e196_15_6, e196_15_7, e196_15_d, e196_60, e196_61, e196_62, e196_65, e196_66, e196_67, e196_70, e196_72, e196_73, e196_76, e196_77, e196_78, e196_79, e196_80, e196_81, e196_82, e196_85, e196_87, e196_88, e196_91, e196_92, e196_93, e196_94, e196_95, e196_96, e196_97, e196_100, e196_101, e196_102, e196_103, e196_104, e196_107, e196_109, e196_110, e196_111, e196_112, e196_113, e196_114, e196_117, e196_119, e196_120, e196_121, e196_122, e196_123, e196_124, e196_125, e196_128, e196_129, e196_130, e196_131, e196_134, e196_135, e196_136, mk_458 hM, mp_94 hM, mk_473 hM, mp_95 hM, mk_474 hM, mp_117 hM, mk_492 hM, mk_458 hM1, mp_94 hM1, mk_473 hM1, mp_95 hM1, mk_474 hM1, mp_117 hM1, mk_492 hM1, ↓reduceIte, Nat.reduceAdd, Nat.reduceLeDiff, Nat.reduceLT, Nat.reduceEqDiff, not_false_eq_true, false_or, true_or, or_true, or_false, n0_e, n1_ne, n1_11, bI_1, bI_fo, va_rf_some, aBk_1, aBk_0, nI_add, nI_mul, hk_si, hp_si, hl_si, hk_sp, hk_sl, hk_cp, hp_cp, m_isGuest hT, hq, bI_z, reduceCtorEq, e1, e2]); rfl
      | 7, _ =>
        obtain ⟨h2, e2, o2⟩ := m_restsOf hT1 r1 hw hk
        refine ⟨h2, fun d => ?_, o1.trans (o2.mono (fun _ _ q => q.V.W))⟩; (simp only [e196_0, e196_1, e196_2, e196_5, e196_8, e196_9, e196_10, e196_11, e196_14, e196_15_0, e196_15_1, e196_15_2, e196_15_3, e196_15_4, e196_15_5, e196_15_6, e196_15_7, e196_15_d, e196_60, e196_61, e196_62, e196_65, e196_66, e196_67, e196_70, e196_72, e196_73, e196_76, e196_77, e196_78, e196_79, e196_80, e196_81, e196_82, e196_85, e196_87, e196_88, e196_91, e196_92, e196_93, e196_94, e196_95, e196_96, e196_97, e196_100, e196_101, e196_102, e196_103, e196_104, e196_107, e196_109, e196_110, e196_111, e196_112, e196_113, e196_114, e196_117, e196_119, e196_120, e196_121, e196_122, e196_123, e196_124, e196_125, e196_128, e196_129, e196_130, e196_131, e196_134, e196_135, e196_136, mk_458 hM, mp_94 hM, mk_473 hM, mp_95 hM, mk_474 hM, mp_117 hM, mk_492 hM, mk_458 hM1, mp_94 hM1, mk_473 hM1, mp_95 hM1, mk_474 hM1, mp_117 hM1, mk_492 hM1, ↓reduceIte, Nat.reduceAdd, Nat.reduceLeDiff, Nat.reduceLT, Nat.reduceEqDiff, not_false_eq_true, false_or, true_or, or_true, or_false, n0_e, n1_ne, n1_11, bI_1, bI_fo, va_rf_some, aBk_1, aBk_0, nI_add, nI_mul, hk_si, hp_si, hl_si, hk_sp, hk_sl, hk_cp, hp_cp, m_isGuest hT, hq, bI_z, reduceCtorEq, e1, e2]); rfl
theorem m_at (hT : MT h T lv) (hn : RA h 491 w) (s x : Int32) : ∃ h', (∀ d, (run (d + 2) 205 0 [.ref 458, .int s, .int x] [] h) = some (.returned (some (.int (qAt T w s x))), h')) ∧ On WP h h' := by
  have hM := hT.m
  unfold qAt
  cases hq : isS T s with
  | false =>
    refine ⟨h, fun d => ?_, On.refl⟩
    simp only [e205_0, e205_1, e205_2, e205_5, e205_8, e205_9, e205_10, e205_11, e205_14, e205_15, e205_16, e205_19, e205_20, e205_21, e205_22, e205_23, e205_24, e205_25, e205_28, e205_31, e205_32, e205_33, e205_34, e205_37, e205_38, e205_39, e205_40, e205_43, mk_458 hM, mp_90 hM, mk_469 hM, ↓reduceIte, Nat.reduceAdd, Nat.reduceLeDiff, Nat.reduceLT, Nat.reduceEqDiff, not_false_eq_true, false_or, true_or, or_true, or_false, n0_e, n1_ne, n1_11, bI_1, bI_fo, va_rf_some, aBk_1, aBk_0, nI_add, nI_mul, hk_si, hp_si, hl_si, hk_sp, hk_sl, hk_cp, hp_cp, m_isSunday hT, hq, bI_z, reduceCtorEq, false_and]
  | true =>
    obtain ⟨k, hk, rfl⟩ := isS_n hT.v hq
    have h4 := hT.ns4
    rw [kk_n (by omega)]
    cases hq2 : in_ x (nI 0) (lo_ T k - nI 1) with
    | false =>
      refine ⟨h, fun d => ?_, On.refl⟩
      simp only [e205_0, e205_1, e205_2, e205_5, e205_8, e205_9, e205_10, e205_11, e205_14, e205_15, e205_16, e205_19, e205_20, e205_21, e205_22, e205_23, e205_24, e205_25, e205_28, e205_31, e205_32, e205_33, e205_34, e205_37, e205_38, e205_39, e205_40, e205_43, mk_458 hM, mp_90 hM, mk_469 hM, ↓reduceIte, Nat.reduceAdd, Nat.reduceLeDiff, Nat.reduceLT, Nat.reduceEqDiff, not_false_eq_true, false_or, true_or, or_true, or_false, n0_e, n1_ne, n1_11, bI_1, bI_fo, va_rf_some, aBk_1, aBk_0, nI_add, nI_mul, hk_si, hp_si, hl_si, hk_sp, hk_sl, hk_cp, hp_cp, m_isSunday hT, hq, bI_z, reduceCtorEq, and_false, hT.live, hT.s4 hk, hT.lo hk, m_in, hq2]
    | true =>
      obtain ⟨h1, e1, o1, r1, -, -⟩ := m_copies hT hn
      have o1 : On WP h h1 := o1.mono (fun _ _ q => q.W)
      have hT1 := hT.onW o1
      refine ⟨h1, fun d => ?_, o1⟩
      have hM1 := hT1.m
      rw [if_pos ⟨rfl, rfl⟩]
      simp only [e205_0, e205_1, e205_2, e205_5, e205_8, e205_9, e205_10, e205_11, e205_14, e205_15, e205_16, e205_19, e205_20, e205_21, e205_22, e205_23, e205_24, e205_25, e205_28, e205_31, e205_32, e205_33, e205_34, e205_37, e205_38, e205_39, e205_40, e205_43, mk_458 hM, mp_90 hM, mk_469 hM, mk_458 hM1, mp_90 hM1, mk_469 hM1, ↓reduceIte, Nat.reduceAdd, Nat.reduceLeDiff, Nat.reduceLT, Nat.reduceEqDiff, not_false_eq_true, false_or, true_or, or_true, or_false, n0_e, n1_ne, n1_11, bI_1, bI_fo, va_rf_some, aBk_1, aBk_0, nI_add, nI_mul, hk_si, hp_si, hl_si, hk_sp, hk_sl, hk_cp, hp_cp, m_isSunday hT, hq, bI_z, reduceCtorEq, hT.live, hT.s4 hk, hT.lo hk, m_in, hq2, e1, m_whoIsAt hT1 r1]
theorem m_fitBits (hT : MT h T lv) (hr : RA h 492 r) {g : Nat} (hg : g < ng_ T) : (run (d + 2) 246 0 [.ref 458, .int (nI g), aU, aU] [] h) = some (.returned (some (.int (nI (fB_ T r g)))), h) := by
  have hM := hT.m
  have h4 := hT.ns4
  simp only [e246_0, e246_1, e246_2, e246_3, e246_5, e246_6, e246_9, e246_10, e246_13, e246_14, e246_17, e246_18, e246_19, e246_20, e246_23, e246_26, e246_27, e246_28, e246_29, e246_30, e246_31, e246_32, e246_35, e246_38, e246_39, ↓reduceIte, Nat.reduceAdd, Nat.reduceLeDiff, Nat.reduceLT, Nat.reduceEqDiff, not_false_eq_true, false_or, true_or, or_true, or_false, n0_e, n1_ne, n1_11, bI_z, bI_1, bI_fo, va_rf_some, aBk_1, aBk_0, nI_add, nI_mul, hk_si, hp_si, hl_si, hk_sp, hk_sl, hk_cp, hp_cp]
  refine (run_for (F := fun j a => (run (d + 2) 246 4 [.ref 458, .int (nI g), .int (nI a), .int (nI j)] [] h)) (f := fun s a => bif fit_ T r g s then a ||| 2 ^ s else a) (a := 0) (n := ns_ T) (fun j hj => ?_)).trans ?_
  · have h1 : ¬ nI (ns_ T) ≤ nI j := nI_ge hj (by omega)
    refine (e246_4).trans ?_
    simp only [e246_0, e246_1, e246_2, e246_3, e246_5, e246_6, e246_9, e246_10, e246_13, e246_14, e246_17, e246_18, e246_19, e246_20, e246_23, e246_26, e246_27, e246_28, e246_29, e246_30, e246_31, e246_32, e246_35, e246_38, e246_39, mk_458 hM, mp_89 hM, mk_468 hM, ↓reduceIte, Nat.reduceAdd, Nat.reduceLeDiff, Nat.reduceLT, Nat.reduceEqDiff, not_false_eq_true, false_or, true_or, or_true, or_false, n0_e, n1_ne, n1_11, bI_1, bI_fo, va_rf_some, aBk_1, aBk_0, nI_add, nI_mul, hk_si, hp_si, hl_si, hk_sp, hk_sl, hk_cp, hp_cp, hT.live, hT.ns, hT.l2, h1, m_doesFit hT hr hg hj, bI_z, shl_1 j (by omega), nI_or]
    cases fit_ T r g j <;> rfl
  · refine (e246_4).trans ?_
    simp only [e246_0, e246_1, e246_2, e246_3, e246_5, e246_6, e246_9, e246_10, e246_13, e246_14, e246_17, e246_18, e246_19, e246_20, e246_23, e246_26, e246_27, e246_28, e246_29, e246_30, e246_31, e246_32, e246_35, e246_38, e246_39, mk_458 hM, mp_89 hM, mk_468 hM, ↓reduceIte, Nat.reduceAdd, Nat.reduceLeDiff, Nat.reduceLT, Nat.reduceEqDiff, not_false_eq_true, false_or, true_or, or_true, or_false, n0_e, n1_ne, n1_11, bI_z, bI_1, bI_fo, va_rf_some, aBk_1, aBk_0, nI_add, nI_mul, hk_si, hp_si, hl_si, hk_sp, hk_sl, hk_cp, hp_cp, hT.live, hT.ns, hT.l2, Int32.le_refl]
    rfl
theorem m_fitting (hT : MT h T lv) (hn : RA h 491 w) (g : Int32) : ∃ h', (∀ d, (run (d + 3) 245 0 [.ref 458, .int g] [] h) = some (.returned (some (.int (qFit T w g))), h')) ∧ On WP h h' := by
  have hM := hT.m
  unfold qFit
  cases hq : isG T g with
  | false =>
    refine ⟨h, fun d => ?_, On.refl⟩
    simp only [e245_0, e245_1, e245_2, e245_5, e245_8, e245_9, e245_10, e245_11, e245_14, e245_15, e245_16, e245_19, mk_458 hM, ↓reduceIte, Nat.reduceAdd, Nat.reduceLeDiff, Nat.reduceLT, Nat.reduceEqDiff, not_false_eq_true, false_or, true_or, or_true, or_false, n0_e, n1_ne, n1_11, bI_1, bI_fo, va_rf_some, aBk_1, aBk_0, nI_add, nI_mul, hk_si, hp_si, hl_si, hk_sp, hk_sl, hk_cp, hp_cp, m_isGuest hT, hq, bI_z, reduceCtorEq]
  | true =>
    obtain ⟨k, hk, rfl⟩ := isG_n hT.v hq
    have h7 := hT.ng7
    rw [if_pos rfl, kk_n (by omega)]
    obtain ⟨h1, e1, o1, r1, -, -⟩ := m_copies hT hn
    have o1 : On WP h h1 := o1.mono (fun _ _ q => q.W)
    have hT1 := hT.onW o1
    have hM1 := hT1.m
    refine ⟨h1, fun d => ?_, o1⟩
    simp only [e245_0, e245_1, e245_2, e245_5, e245_8, e245_9, e245_10, e245_11, e245_14, e245_15, e245_16, e245_19, mk_458 hM, mk_458 hM1, ↓reduceIte, Nat.reduceAdd, Nat.reduceLeDiff, Nat.reduceLT, Nat.reduceEqDiff, not_false_eq_true, false_or, true_or, or_true, or_false, n0_e, n1_ne, n1_11, bI_1, bI_fo, va_rf_some, aBk_1, aBk_0, nI_add, nI_mul, hk_si, hp_si, hl_si, hk_sp, hk_sl, hk_cp, hp_cp, m_isGuest hT, hq, bI_z, reduceCtorEq, e1, m_fitBits hT1 r1 hk]
theorem m_rivals (hT : MT h T lv) (g : Int32) : (run (d + 3) 244 0 [.ref 458, .int g] [] h) = some (.returned (some (.int (qRiv T g))), h) := by
  have hM := hT.m
  unfold qRiv
  cases hq : isG T g with
  | false => simp only [e244_0, e244_1, e244_2, e244_5, e244_8, e244_9, e244_10, e244_13, e244_16, e244_17, mk_458 hM, ↓reduceIte, Nat.reduceAdd, Nat.reduceLeDiff, Nat.reduceLT, Nat.reduceEqDiff, not_false_eq_true, false_or, true_or, or_true, or_false, n0_e, n1_ne, n1_11, bI_1, bI_fo, va_rf_some, aBk_1, aBk_0, nI_add, nI_mul, hk_si, hp_si, hl_si, hk_sp, hk_sl, hk_cp, hp_cp, m_isGuest hT, hq, bI_z, reduceCtorEq]
  | true =>
    obtain ⟨k, hk, rfl⟩ := isG_n hT.v hq
    have h7 := hT.ng7
    rw [if_pos rfl, kk_n (by omega)]
    simp only [e244_0, e244_1, e244_2, e244_5, e244_8, e244_9, e244_10, e244_13, e244_16, e244_17, mk_458 hM, ↓reduceIte, Nat.reduceAdd, Nat.reduceLeDiff, Nat.reduceLT, Nat.reduceEqDiff, not_false_eq_true, false_or, true_or, or_true, or_false, n0_e, n1_ne, n1_11, bI_1, bI_fo, va_rf_some, aBk_1, aBk_0, nI_add, nI_mul, hk_si, hp_si, hl_si, hk_sp, hk_sl, hk_cp, hp_cp, m_isGuest hT, hq, bI_z, reduceCtorEq, m_clashBits hT hk]
theorem m_mayGoIn (hT : MT h T lv) (hr : RA h 492 r) {g s : Nat} (hg : g < ng_ T) (hs : s < ns_ T) : (run (d + 3) 209 0 [.ref 458, .int (nI g), .int (nI s)] [] h) = some (.returned (some (.int (bI (mgi_ T r g s)))), h) := by
  have hM := hT.m
  have h7 := hT.ng7
  have h2 : 14 + g < 31 := by omega
  have hb : gB_ T r (nI s) &&& cB_ T g < 2147483648 := Nat.lt_of_le_of_lt Nat.and_le_left (orN_31 h7)
  unfold mgi_
  by_cases q1 : r (14 + g) = 0
  · cases q2 : fit_ T r g s with
    | false => simp only [e209_0, e209_1, e209_4, e209_6, e209_7, e209_8, e209_9, e209_12, e209_13, e209_14, e209_15, e209_18, e209_21, e209_22, e209_23, e209_26, e209_27, e209_28, e209_31, e209_32, e209_35, e209_36, e209_39, e209_40, mk_458 hM, mp_117 hM, mk_492 hM, ↓reduceIte, Nat.reduceAdd, Nat.reduceLeDiff, Nat.reduceLT, Nat.reduceEqDiff, not_false_eq_true, false_or, true_or, or_true, or_false, n0_e, n1_ne, n1_11, bI_1, bI_fo, va_rf_some, aBk_1, aBk_0, nI_add, nI_mul, hk_si, hp_si, hl_si, hk_sp, hk_sl, hk_cp, hp_cp, h2, hr _ h2, q1, m_doesFit hT hr hg hs, q2, bI_z, reduceCtorEq, n0_01, decide_true, Bool.and_false, Bool.false_and]; rfl
    | true =>
      by_cases q3 : gB_ T r (nI s) &&& cB_ T g = 0
      · simp only [e209_0, e209_1, e209_4, e209_6, e209_7, e209_8, e209_9, e209_12, e209_13, e209_14, e209_15, e209_18, e209_21, e209_22, e209_23, e209_26, e209_27, e209_28, e209_31, e209_32, e209_35, e209_36, e209_39, e209_40, mk_458 hM, mp_117 hM, mk_492 hM, ↓reduceIte, Nat.reduceAdd, Nat.reduceLeDiff, Nat.reduceLT, Nat.reduceEqDiff, not_false_eq_true, false_or, true_or, or_true, or_false, n0_e, n1_ne, n1_11, bI_1, bI_fo, va_rf_some, aBk_1, aBk_0, nI_add, nI_mul, hk_si, hp_si, hl_si, hk_sp, hk_sl, hk_cp, hp_cp, h2, hr _ h2, q1, m_doesFit hT hr hg hs, q2, bI_z, reduceCtorEq, n1_01, m_guestBits hT hr, m_clashBits hT hg, nI_and, nI_z hb, q3, decide_true, Bool.and_true]
        rfl
      · simp only [e209_0, e209_1, e209_4, e209_6, e209_7, e209_8, e209_9, e209_12, e209_13, e209_14, e209_15, e209_18, e209_21, e209_22, e209_23, e209_26, e209_27, e209_28, e209_31, e209_32, e209_35, e209_36, e209_39, e209_40, mk_458 hM, mp_117 hM, mk_492 hM, ↓reduceIte, Nat.reduceAdd, Nat.reduceLeDiff, Nat.reduceLT, Nat.reduceEqDiff, not_false_eq_true, false_or, true_or, or_true, or_false, n0_e, n1_ne, n1_11, bI_1, bI_fo, va_rf_some, aBk_1, aBk_0, nI_add, nI_mul, hk_si, hp_si, hl_si, hk_sp, hk_sl, hk_cp, hp_cp, h2, hr _ h2, q1, m_doesFit hT hr hg hs, q2, bI_z, reduceCtorEq, n0_01, m_guestBits hT hr, m_clashBits hT hg, nI_and, nI_z hb, q3, decide_true, decide_false, Bool.and_true, Bool.and_false]
        rfl
  · simp only [e209_0, e209_1, e209_4, e209_6, e209_7, e209_8, e209_9, e209_12, e209_13, e209_14, e209_15, e209_18, e209_21, e209_22, e209_23, e209_26, e209_27, e209_28, e209_31, e209_32, e209_35, e209_36, e209_39, e209_40, mk_458 hM, mp_117 hM, mk_492 hM, ↓reduceIte, Nat.reduceAdd, Nat.reduceLeDiff, Nat.reduceLT, Nat.reduceEqDiff, not_false_eq_true, false_or, true_or, or_true, or_false, n0_e, n1_ne, n1_11, bI_z, bI_1, bI_fo, va_rf_some, aBk_1, aBk_0, nI_add, nI_mul, hk_si, hp_si, hl_si, hk_sp, hk_sl, hk_cp, hp_cp, h2, hr _ h2, q1, n0_01, decide_false, Bool.false_and]
    rfl
theorem m_room (hT : MT h T lv) (hn : RA h 491 w) (g : Int32) : ∃ h', (∀ d, (run (d + 4) 249 0 [.ref 458, .int g, aU, aU] [] h) = some (.returned (some (.int (qRoom T w g))), h')) ∧ On WP h h' := by
  have hM := hT.m
  unfold qRoom
  cases hq : isG T g with
  | false =>
    refine ⟨h, fun d => ?_, On.refl⟩
    simp only [e249_0, e249_1, e249_2, e249_5, e249_8, e249_9, e249_10, e249_11, e249_14, e249_15, e249_18, e249_19, e249_21, e249_22, e249_23, e249_24, e249_25, e249_27, e249_28, e249_31, e249_32, e249_35, e249_36, e249_39, e249_40, e249_41, e249_42, e249_45, e249_48, e249_49, e249_50, e249_51, e249_52, e249_53, e249_54, e249_57, e249_60, e249_61, mk_458 hM, mp_89 hM, mk_468 hM, mp_117 hM, mk_492 hM, ↓reduceIte, Nat.reduceAdd, Nat.reduceLeDiff, Nat.reduceLT, Nat.reduceEqDiff, not_false_eq_true, false_or, true_or, or_true, or_false, n0_e, n1_ne, n1_11, bI_1, bI_fo, va_rf_some, aBk_1, aBk_0, nI_add, nI_mul, hk_si, hp_si, hl_si, hk_sp, hk_sl, hk_cp, hp_cp, m_isGuest hT, hq, bI_z, reduceCtorEq]
  | true =>
    obtain ⟨k, hk, rfl⟩ := isG_n hT.v hq
    have h7 := hT.ng7
    have h4 := hT.ns4
    rw [if_pos rfl, kk_n (by omega)]
    obtain ⟨h1, e1, o1, r1, -, -⟩ := m_copies hT hn
    have o1 : On WP h h1 := o1.mono (fun _ _ q => q.W)
    have hT1 := hT.onW o1
    have hM1 := hT1.m
    have o2 : On WP h1 (si_ h1 492 k (-2)) := On.si (Or.inl (Or.inr (Or.inl rfl)))
    have hT2 := hT1.onW o2
    have hM2 := hT2.m
    have r2 : RA (si_ h1 492 k (-2)) 492 (up_ w k (-2)) := r1.si
    have h2 : k < 31 := by omega
    refine ⟨si_ h1 492 k (-2), fun d => ?_, o1.trans o2⟩
    simp only [e249_0, e249_1, e249_2, e249_5, e249_8, e249_9, e249_10, e249_11, e249_14, e249_15, e249_18, e249_19, e249_21, e249_22, e249_23, e249_24, e249_25, e249_27, e249_28, e249_31, e249_32, e249_35, e249_36, e249_39, e249_40, e249_41, e249_42, e249_45, e249_48, e249_49, e249_50, e249_51, e249_52, e249_53, e249_54, e249_57, e249_60, e249_61, mk_458 hM, mp_89 hM, mk_468 hM, mp_117 hM, mk_492 hM, mk_458 hM1, mp_89 hM1, mk_468 hM1, mp_117 hM1, mk_492 hM1, ↓reduceIte, Nat.reduceAdd, Nat.reduceLeDiff, Nat.reduceLT, Nat.reduceEqDiff, not_false_eq_true, false_or, true_or, or_true, or_false, n0_e, n1_ne, n1_11, bI_1, bI_fo, va_rf_some, aBk_1, aBk_0, nI_add, nI_mul, hk_si, hp_si, hl_si, hk_sp, hk_sl, hk_cp, hp_cp, m_isGuest hT, hq, bI_z, reduceCtorEq, e1, h2]
    refine (run_for (F := fun j a => (run (d + 4) 249 26 [.ref 458, .int (nI k), .int (nI a), .int (nI j)] [] (si_ h1 492 k (-2)))) (f := fun s a => bif mgi_ T (up_ w k (-2)) k s then a ||| 2 ^ s else a) (a := 0) (n := ns_ T) (fun j hj => ?_)).trans ?_
    · have h1 : ¬ nI (ns_ T) ≤ nI j := nI_ge hj (by omega)
      refine (e249_26).trans ?_
      simp only [e249_0, e249_1, e249_2, e249_5, e249_8, e249_9, e249_10, e249_11, e249_14, e249_15, e249_18, e249_19, e249_21, e249_22, e249_23, e249_24, e249_25, e249_27, e249_28, e249_31, e249_32, e249_35, e249_36, e249_39, e249_40, e249_41, e249_42, e249_45, e249_48, e249_49, e249_50, e249_51, e249_52, e249_53, e249_54, e249_57, e249_60, e249_61, mk_458 hM2, mp_89 hM2, mk_468 hM2, mp_117 hM2, mk_492 hM2, ↓reduceIte, Nat.reduceAdd, Nat.reduceLeDiff, Nat.reduceLT, Nat.reduceEqDiff, not_false_eq_true, false_or, true_or, or_true, or_false, n0_e, n1_ne, n1_11, bI_1, bI_fo, va_rf_some, aBk_1, aBk_0, nI_add, nI_mul, hk_si, hp_si, hl_si, hk_sp, hk_sl, hk_cp, hp_cp, hT2.live, hT2.ns, hT2.l2, h1, m_mayGoIn hT2 r2 hk hj, bI_z, shl_1 j (by omega), nI_or]
      cases mgi_ T (up_ w k (-2)) k j <;> rfl
    · refine (e249_26).trans ?_
      simp only [e249_0, e249_1, e249_2, e249_5, e249_8, e249_9, e249_10, e249_11, e249_14, e249_15, e249_18, e249_19, e249_21, e249_22, e249_23, e249_24, e249_25, e249_27, e249_28, e249_31, e249_32, e249_35, e249_36, e249_39, e249_40, e249_41, e249_42, e249_45, e249_48, e249_49, e249_50, e249_51, e249_52, e249_53, e249_54, e249_57, e249_60, e249_61, mk_458 hM2, mp_89 hM2, mk_468 hM2, mp_117 hM2, mk_492 hM2, ↓reduceIte, Nat.reduceAdd, Nat.reduceLeDiff, Nat.reduceLT, Nat.reduceEqDiff, not_false_eq_true, false_or, true_or, or_true, or_false, n0_e, n1_ne, n1_11, bI_z, bI_1, bI_fo, va_rf_some, aBk_1, aBk_0, nI_add, nI_mul, hk_si, hp_si, hl_si, hk_sp, hk_sl, hk_cp, hp_cp, hT2.live, hT2.ns, hT2.l2, Int32.le_refl]
      rfl
theorem m_change (hT : MT h T lv) (hn : RA h 491 w) (hw : RW T w) (g o : Int32) : ∃ h', (∀ d, (run (d + 4) 248 0 [.ref 458, .int g, .int o] [] h) = some (.returned (some (.int (qChg T w g o))), h')) ∧ On WP h h' := by
  have hM := hT.m
  have h7 := hT.ng7
  have h4 := hT.ns4
  unfold qChg
  cases hq : isG T g with
  | false =>
    refine ⟨h, fun d => ?_, On.refl⟩
    simp only [e248_0, e248_1, e248_2, e248_5, e248_8, e248_9, e248_10, e248_13, e248_16, e248_17, e248_20, e248_21, e248_22, e248_25, e248_26, e248_29, e248_30, e248_31, e248_34, e248_35, e248_38, e248_39, e248_40, e248_41, e248_44, e248_45, e248_46, e248_49, e248_50, e248_51, e248_52, e248_55, e248_56, e248_59, e248_60, e248_62, e248_63, e248_64, e248_67, e248_68, e248_70, e248_71, e248_72, e248_73, e248_74, e248_77, e248_78, e248_79, e248_82, e248_85, e248_86, e248_87, e248_88, e248_91, e248_92, e248_93, e248_96, e248_99, e248_100, e248_103, e248_104, mk_458 hM, mp_116 hM, mk_491 hM, mp_117 hM, mk_492 hM, ↓reduceIte, Nat.reduceAdd, Nat.reduceLeDiff, Nat.reduceLT, Nat.reduceEqDiff, not_false_eq_true, false_or, true_or, or_true, or_false, n0_e, n1_ne, n1_11, bI_1, bI_fo, va_rf_some, aBk_1, aBk_0, nI_add, nI_mul, hk_si, hp_si, hl_si, hk_sp, hk_sl, hk_cp, hp_cp, m_isGuest hT, hq, bI_z, reduceCtorEq, false_and]
  | true =>
    obtain ⟨k, hk, rfl⟩ := isG_n hT.v hq
    rw [kk_n (by omega)]
    have hk' : k < 31 := by omega
    cases hq2 : isG T o with
    | false =>
      refine ⟨h, fun d => ?_, On.refl⟩
      simp only [e248_0, e248_1, e248_2, e248_5, e248_8, e248_9, e248_10, e248_13, e248_16, e248_17, e248_20, e248_21, e248_22, e248_25, e248_26, e248_29, e248_30, e248_31, e248_34, e248_35, e248_38, e248_39, e248_40, e248_41, e248_44, e248_45, e248_46, e248_49, e248_50, e248_51, e248_52, e248_55, e248_56, e248_59, e248_60, e248_62, e248_63, e248_64, e248_67, e248_68, e248_70, e248_71, e248_72, e248_73, e248_74, e248_77, e248_78, e248_79, e248_82, e248_85, e248_86, e248_87, e248_88, e248_91, e248_92, e248_93, e248_96, e248_99, e248_100, e248_103, e248_104, mk_458 hM, mp_116 hM, mk_491 hM, mp_117 hM, mk_492 hM, ↓reduceIte, Nat.reduceAdd, Nat.reduceLeDiff, Nat.reduceLT, Nat.reduceEqDiff, not_false_eq_true, false_or, true_or, or_true, or_false, n0_e, n1_ne, n1_11, bI_1, bI_fo, va_rf_some, aBk_1, aBk_0, nI_add, nI_mul, hk_si, hp_si, hl_si, hk_sp, hk_sl, hk_cp, hp_cp, m_isGuest hT, hq, hq2, bI_z, reduceCtorEq, false_and, and_false]
    | true =>
      obtain ⟨j, hj, rfl⟩ := isG_n hT.v hq2
      rw [kk_n (by omega)]
      have hj' : j < 31 := by omega
      by_cases q1 : 0 ≤ w k
      · have q1' : ¬ w k < 0 := Int32.not_lt.mpr q1
        by_cases q2 : 0 ≤ w j
        · have q2' : ¬ w j < 0 := Int32.not_lt.mpr q2
          by_cases q3 : w k = w j
          · refine ⟨h, fun d => ?_, On.refl⟩
            rw [if_neg (fun z => z.2.2.2.2 q3)]
            simp only [e248_0, e248_1, e248_2, e248_5, e248_8, e248_9, e248_10, e248_13, e248_16, e248_17, e248_20, e248_21, e248_22, e248_25, e248_26, e248_29, e248_30, e248_31, e248_34, e248_35, e248_38, e248_39, e248_40, e248_41, e248_44, e248_45, e248_46, e248_49, e248_50, e248_51, e248_52, e248_55, e248_56, e248_59, e248_60, e248_62, e248_63, e248_64, e248_67, e248_68, e248_70, e248_71, e248_72, e248_73, e248_74, e248_77, e248_78, e248_79, e248_82, e248_85, e248_86, e248_87, e248_88, e248_91, e248_92, e248_93, e248_96, e248_99, e248_100, e248_103, e248_104, mk_458 hM, mp_116 hM, mk_491 hM, mp_117 hM, mk_492 hM, ↓reduceIte, Nat.reduceAdd, Nat.reduceLeDiff, Nat.reduceLT, Nat.reduceEqDiff, not_false_eq_true, false_or, true_or, or_true, or_false, n0_e, n1_ne, n1_11, bI_1, bI_fo, va_rf_some, aBk_1, aBk_0, nI_add, nI_mul, hk_si, hp_si, hl_si, hk_sp, hk_sl, hk_cp, hp_cp, m_isGuest hT, hq, hq2, bI_z, reduceCtorEq, hn k hk', hn j hj', hk', hj', q1', q2', q3]
          · obtain ⟨s, hs, es⟩ := (hw k hk).resolve_left q1'
            obtain ⟨t, ht, et⟩ := (hw j hj).resolve_left q2'
            obtain ⟨h1, e1, o1, r1, -, -⟩ := m_copies hT hn
            have n1 : RA h1 491 w := hn.on o1 (fun f q => by unfold CP at q; omega)
            have o1 : On WP h h1 := o1.mono (fun _ _ q => q.W)
            have hT1 := hT.onW o1
            have hM1 := hT1.m
            have o2 : On WP h1 (si_ h1 492 k (-2)) := On.si (Or.inl (Or.inr (Or.inl rfl)))
            have hM2 := hM1.on o2
            have o3 : On WP h1 (si_ (si_ h1 492 k (-2)) 492 j (-2)) := o2.trans (On.si (Or.inl (Or.inr (Or.inl rfl))))
            have hT3 := hT1.onW o3
            have hM3 := hT3.m
            have r3 : RA (si_ (si_ h1 492 k (-2)) 492 j (-2)) 492 (up_ (up_ w k (-2)) j (-2)) := r1.si.si
            have n3 : RA (si_ (si_ h1 492 k (-2)) 492 j (-2)) 491 w := (n1.off (by decide)).off (by decide)
            refine ⟨si_ (si_ h1 492 k (-2)) 492 j (-2), fun d => ?_, o1.trans o3⟩
            rw [if_pos ⟨rfl, rfl, q1, q2, q3⟩]
            have a1 := m_mayGoIn (d := d) hT3 r3 hk ht
            have a2 := m_mayGoIn (d := d) hT3 r3 hj hs
            rw [← et] at a1
            rw [← es] at a2
            have c1 : kk (w k) = s := by rw [es]; exact kk_n (by omega)
            have c2 : kk (w j) = t := by rw [et]; exact kk_n (by omega)
            rw [c1, c2]
            cases b1 : mgi_ T (up_ (up_ w k (-2)) j (-2)) k t with
            | false =>
              rw [b1] at a1
              simp only [e248_0, e248_1, e248_2, e248_5, e248_8, e248_9, e248_10, e248_13, e248_16, e248_17, e248_20, e248_21, e248_22, e248_25, e248_26, e248_29, e248_30, e248_31, e248_34, e248_35, e248_38, e248_39, e248_40, e248_41, e248_44, e248_45, e248_46, e248_49, e248_50, e248_51, e248_52, e248_55, e248_56, e248_59, e248_60, e248_62, e248_63, e248_64, e248_67, e248_68, e248_70, e248_71, e248_72, e248_73, e248_74, e248_77, e248_78, e248_79, e248_82, e248_85, e248_86, e248_87, e248_88, e248_91, e248_92, e248_93, e248_96, e248_99, e248_100, e248_103, e248_104, mk_458 hM, mp_116 hM, mk_491 hM, mp_117 hM, mk_492 hM, mk_458 hM1, mp_116 hM1, mk_491 hM1, mp_117 hM1, mk_492 hM1, mk_458 hM2, mp_116 hM2, mk_491 hM2, mp_117 hM2, mk_492 hM2, mk_458 hM3, mp_116 hM3, mk_491 hM3, mp_117 hM3, mk_492 hM3, ↓reduceIte, Nat.reduceAdd, Nat.reduceLeDiff, Nat.reduceLT, Nat.reduceEqDiff, not_false_eq_true, false_or, true_or, or_true, or_false, n0_e, n1_ne, n1_11, bI_1, bI_fo, va_rf_some, aBk_1, aBk_0, nI_add, nI_mul, hk_si, hp_si, hl_si, hk_sp, hk_sl, hk_cp, hp_cp, m_isGuest hT, hq, hq2, bI_z, reduceCtorEq, hn k hk', hn j hj', n3 k hk', n3 j hj', hk', hj', q1', q2', q3, e1, a1]
              rfl
            | true =>
              rw [b1] at a1
              cases b2 : mgi_ T (up_ (up_ w k (-2)) j (-2)) j s with
              | false =>
                rw [b2] at a2
                simp only [e248_0, e248_1, e248_2, e248_5, e248_8, e248_9, e248_10, e248_13, e248_16, e248_17, e248_20, e248_21, e248_22, e248_25, e248_26, e248_29, e248_30, e248_31, e248_34, e248_35, e248_38, e248_39, e248_40, e248_41, e248_44, e248_45, e248_46, e248_49, e248_50, e248_51, e248_52, e248_55, e248_56, e248_59, e248_60, e248_62, e248_63, e248_64, e248_67, e248_68, e248_70, e248_71, e248_72, e248_73, e248_74, e248_77, e248_78, e248_79, e248_82, e248_85, e248_86, e248_87, e248_88, e248_91, e248_92, e248_93, e248_96, e248_99, e248_100, e248_103, e248_104, mk_458 hM, mp_116 hM, mk_491 hM, mp_117 hM, mk_492 hM, mk_458 hM1, mp_116 hM1, mk_491 hM1, mp_117 hM1, mk_492 hM1, mk_458 hM2, mp_116 hM2, mk_491 hM2, mp_117 hM2, mk_492 hM2, mk_458 hM3, mp_116 hM3, mk_491 hM3, mp_117 hM3, mk_492 hM3, ↓reduceIte, Nat.reduceAdd, Nat.reduceLeDiff, Nat.reduceLT, Nat.reduceEqDiff, not_false_eq_true, false_or, true_or, or_true, or_false, n0_e, n1_ne, n1_11, bI_1, bI_fo, va_rf_some, aBk_1, aBk_0, nI_add, nI_mul, hk_si, hp_si, hl_si, hk_sp, hk_sl, hk_cp, hp_cp, m_isGuest hT, hq, hq2, bI_z, reduceCtorEq, hn k hk', hn j hj', n3 k hk', n3 j hj', hk', hj', q1', q2', q3, e1, a1, a2]
                rfl
              | true =>
                rw [b2] at a2
                simp only [e248_0, e248_1, e248_2, e248_5, e248_8, e248_9, e248_10, e248_13, e248_16, e248_17, e248_20, e248_21, e248_22, e248_25, e248_26, e248_29, e248_30, e248_31, e248_34, e248_35, e248_38, e248_39, e248_40, e248_41, e248_44, e248_45, e248_46, e248_49, e248_50, e248_51, e248_52, e248_55, e248_56, e248_59, e248_60, e248_62, e248_63, e248_64, e248_67, e248_68, e248_70, e248_71, e248_72, e248_73, e248_74, e248_77, e248_78, e248_79, e248_82, e248_85, e248_86, e248_87, e248_88, e248_91, e248_92, e248_93, e248_96, e248_99, e248_100, e248_103, e248_104, mk_458 hM, mp_116 hM, mk_491 hM, mp_117 hM, mk_492 hM, mk_458 hM1, mp_116 hM1, mk_491 hM1, mp_117 hM1, mk_492 hM1, mk_458 hM2, mp_116 hM2, mk_491 hM2, mp_117 hM2, mk_492 hM2, mk_458 hM3, mp_116 hM3, mk_491 hM3, mp_117 hM3, mk_492 hM3, ↓reduceIte, Nat.reduceAdd, Nat.reduceLeDiff, Nat.reduceLT, Nat.reduceEqDiff, not_false_eq_true, false_or, true_or, or_true, or_false, n0_e, n1_ne, n1_11, bI_1, bI_fo, va_rf_some, aBk_1, aBk_0, nI_add, nI_mul, hk_si, hp_si, hl_si, hk_sp, hk_sl, hk_cp, hp_cp, m_isGuest hT, hq, hq2, bI_z, reduceCtorEq, hn k hk', hn j hj', n3 k hk', n3 j hj', hk', hj', q1', q2', q3, e1, a1, a2]
                rfl
        · have q2' : w j < 0 := Int32.not_le.mp q2
          refine ⟨h, fun d => ?_, On.refl⟩
          rw [if_neg (fun z => q2 z.2.2.2.1)]
          simp only [e248_0, e248_1, e248_2, e248_5, e248_8, e248_9, e248_10, e248_13, e248_16, e248_17, e248_20, e248_21, e248_22, e248_25, e248_26, e248_29, e248_30, e248_31, e248_34, e248_35, e248_38, e248_39, e248_40, e248_41, e248_44, e248_45, e248_46, e248_49, e248_50, e248_51, e248_52, e248_55, e248_56, e248_59, e248_60, e248_62, e248_63, e248_64, e248_67, e248_68, e248_70, e248_71, e248_72, e248_73, e248_74, e248_77, e248_78, e248_79, e248_82, e248_85, e248_86, e248_87, e248_88, e248_91, e248_92, e248_93, e248_96, e248_99, e248_100, e248_103, e248_104, mk_458 hM, mp_116 hM, mk_491 hM, mp_117 hM, mk_492 hM, ↓reduceIte, Nat.reduceAdd, Nat.reduceLeDiff, Nat.reduceLT, Nat.reduceEqDiff, not_false_eq_true, false_or, true_or, or_true, or_false, n0_e, n1_ne, n1_11, bI_1, bI_fo, va_rf_some, aBk_1, aBk_0, nI_add, nI_mul, hk_si, hp_si, hl_si, hk_sp, hk_sl, hk_cp, hp_cp, m_isGuest hT, hq, hq2, bI_z, reduceCtorEq, hn k hk', hn j hj', hk', hj', q1', q2']
      · have q1' : w k < 0 := Int32.not_le.mp q1
        refine ⟨h, fun d => ?_, On.refl⟩
        rw [if_neg (fun z => q1 z.2.2.1)]
        simp only [e248_0, e248_1, e248_2, e248_5, e248_8, e248_9, e248_10, e248_13, e248_16, e248_17, e248_20, e248_21, e248_22, e248_25, e248_26, e248_29, e248_30, e248_31, e248_34, e248_35, e248_38, e248_39, e248_40, e248_41, e248_44, e248_45, e248_46, e248_49, e248_50, e248_51, e248_52, e248_55, e248_56, e248_59, e248_60, e248_62, e248_63, e248_64, e248_67, e248_68, e248_70, e248_71, e248_72, e248_73, e248_74, e248_77, e248_78, e248_79, e248_82, e248_85, e248_86, e248_87, e248_88, e248_91, e248_92, e248_93, e248_96, e248_99, e248_100, e248_103, e248_104, mk_458 hM, mp_116 hM, mk_491 hM, mp_117 hM, mk_492 hM, ↓reduceIte, Nat.reduceAdd, Nat.reduceLeDiff, Nat.reduceLT, Nat.reduceEqDiff, not_false_eq_true, false_or, true_or, or_true, or_false, n0_e, n1_ne, n1_11, bI_1, bI_fo, va_rf_some, aBk_1, aBk_0, nI_add, nI_mul, hk_si, hp_si, hl_si, hk_sp, hk_sl, hk_cp, hp_cp, m_isGuest hT, hq, hq2, bI_z, reduceCtorEq, hn k hk', hk', q1']
theorem m_idle (hT : MT h T lv) (hn : RA h 491 w) : ∃ h', (∀ d, (run (d + 1) 251 0 [.ref 458, aU, aU] [] h) = some (.returned (some (.int (qIdl T w))), h')) ∧ On WP h h' := by
  have hM := hT.m
  have h4 := hT.ns4
  obtain ⟨h1, e1, o1, r1, -, -⟩ := m_copies hT hn
  have o1 : On WP h h1 := o1.mono (fun _ _ q => q.W)
  have hT1 := hT.onW o1
  have hM1 := hT1.m
  refine ⟨h1, fun d => ?_, o1⟩
  simp only [e251_0, e251_1, e251_4, e251_5, e251_6, e251_7, e251_9, e251_10, e251_13, e251_14, e251_17, e251_18, e251_21, e251_22, e251_25, e251_27, e251_28, e251_29, e251_30, e251_33, e251_34, e251_35, e251_38, e251_39, e251_40, e251_43, e251_44, e251_45, e251_46, e251_47, e251_48, e251_49, e251_52, e251_53, e251_54, e251_55, e251_58, e251_61, e251_62, mk_458 hM, mp_89 hM, mk_468 hM, mp_90 hM, mk_469 hM, mp_117 hM, mk_492 hM, ↓reduceIte, Nat.reduceAdd, Nat.reduceLeDiff, Nat.reduceLT, Nat.reduceEqDiff, not_false_eq_true, false_or, true_or, or_true, or_false, n0_e, n1_ne, n1_11, bI_z, bI_1, bI_fo, va_rf_some, aBk_1, aBk_0, nI_add, nI_mul, hk_si, hp_si, hl_si, hk_sp, hk_sl, hk_cp, hp_cp, e1]
  refine (run_for (F := fun j a => (run (d + 1) 251 8 [.ref 458, .int a, .int (nI j)] [] h1)) (f := fun s a => if w (25 + s) = 0 then a + (lo_ T s - hT_ T w (nI s)) else a) (a := nI 0) (n := ns_ T) (fun j hj => ?_)).trans ?_
  · have h1 : ¬ nI (ns_ T) ≤ nI j := nI_ge hj (by omega)
    have h2 : 25 + j < 31 := by omega
    refine (e251_8).trans ?_
    simp only [e251_0, e251_1, e251_4, e251_5, e251_6, e251_7, e251_9, e251_10, e251_13, e251_14, e251_17, e251_18, e251_21, e251_22, e251_25, e251_27, e251_28, e251_29, e251_30, e251_33, e251_34, e251_35, e251_38, e251_39, e251_40, e251_43, e251_44, e251_45, e251_46, e251_47, e251_48, e251_49, e251_52, e251_53, e251_54, e251_55, e251_58, e251_61, e251_62, mk_458 hM1, mp_89 hM1, mk_468 hM1, mp_90 hM1, mk_469 hM1, mp_117 hM1, mk_492 hM1, ↓reduceIte, Nat.reduceAdd, Nat.reduceLeDiff, Nat.reduceLT, Nat.reduceEqDiff, not_false_eq_true, false_or, true_or, or_true, or_false, n0_e, n1_ne, n1_11, bI_z, bI_1, bI_fo, va_rf_some, aBk_1, aBk_0, nI_add, nI_mul, hk_si, hp_si, hl_si, hk_sp, hk_sl, hk_cp, hp_cp, hT1.live, hT1.ns, hT1.l2, h1, h2, r1 _ h2, hT1.s4 hj, hT1.lo hj, m_hoursTaken hT1 r1]
    by_cases q1 : w (25 + j) = 0 <;> simp only [q1, i_lt, not_true_eq_false, not_false_eq_true, ↓reduceIte, decide_true, decide_false, cond_true, cond_false, Bool.true_and, Bool.false_and, Bool.and_true, Bool.and_false, Bool.true_or, Bool.false_or, Bool.or_true, Bool.or_false, Bool.not_true, Bool.not_false, reduceCtorEq] <;> rfl
  · refine (e251_8).trans ?_
    simp only [e251_0, e251_1, e251_4, e251_5, e251_6, e251_7, e251_9, e251_10, e251_13, e251_14, e251_17, e251_18, e251_21, e251_22, e251_25, e251_27, e251_28, e251_29, e251_30, e251_33, e251_34, e251_35, e251_38, e251_39, e251_40, e251_43, e251_44, e251_45, e251_46, e251_47, e251_48, e251_49, e251_52, e251_53, e251_54, e251_55, e251_58, e251_61, e251_62, mk_458 hM1, mp_89 hM1, mk_468 hM1, mp_90 hM1, mk_469 hM1, mp_117 hM1, mk_492 hM1, ↓reduceIte, Nat.reduceAdd, Nat.reduceLeDiff, Nat.reduceLT, Nat.reduceEqDiff, not_false_eq_true, false_or, true_or, or_true, or_false, n0_e, n1_ne, n1_11, bI_z, bI_1, bI_fo, va_rf_some, aBk_1, aBk_0, nI_add, nI_mul, hk_si, hp_si, hl_si, hk_sp, hk_sl, hk_cp, hp_cp, hT1.live, hT1.ns, hT1.l2, Int32.le_refl]
    rfl
theorem m_gap (hT : MT h T lv) (hn : RA h 491 w) (s what : Int32) : ∃ h', (∀ d, (run (d + 2) 252 0 [.ref 458, .int s, .int what, aU, aU, aU, aU] [] h) = some (.returned (some (.int (qGap T w s what))), h')) ∧ On WP h h' := by
  have hM := hT.m
  unfold qGap
  cases hq : isS T s with
  | false =>
    refine ⟨h, fun d => ?_, On.refl⟩
    simp only [e252_0, e252_1, e252_2, e252_5, e252_8, e252_9, e252_10, e252_11, e252_14, e252_17, e252_18, e252_19, e252_20, e252_23, e252_25, e252_26, e252_27, e252_29, e252_30, e252_32, e252_33, e252_37, e252_38, e252_41, e252_42, e252_43, e252_46, e252_47, e252_48, e252_49, e252_50, e252_53, e252_54, e252_55, e252_57, e252_60, e252_63, e252_64, e252_67, e252_69, e252_70, e252_71, e252_73, e252_75, e252_77, e252_80, e252_83, e252_85, e252_87, e252_89, e252_91, e252_92, e252_93, e252_94, e252_95, e252_98, e252_101, e252_102, e252_105, e252_107, e252_110, e252_111, mk_458 hM, mp_90 hM, mk_469 hM, ↓reduceIte, Nat.reduceAdd, Nat.reduceLeDiff, Nat.reduceLT, Nat.reduceEqDiff, not_false_eq_true, false_or, true_or, or_true, or_false, n0_e, n1_ne, n1_11, bI_1, bI_fo, va_rf_some, aBk_1, aBk_0, nI_add, nI_mul, hk_si, hp_si, hl_si, hk_sp, hk_sl, hk_cp, hp_cp, m_isSunday hT, hq, bI_z, reduceCtorEq, false_and]
  | true =>
    obtain ⟨k, hk, rfl⟩ := isS_n hT.v hq
    have h4 := hT.ns4
    cases hq2 : in_ what (nI 0) (nI 1) with
    | false =>
      refine ⟨h, fun d => ?_, On.refl⟩
      simp only [e252_0, e252_1, e252_2, e252_5, e252_8, e252_9, e252_10, e252_11, e252_14, e252_17, e252_18, e252_19, e252_20, e252_23, e252_25, e252_26, e252_27, e252_29, e252_30, e252_32, e252_33, e252_37, e252_38, e252_41, e252_42, e252_43, e252_46, e252_47, e252_48, e252_49, e252_50, e252_53, e252_54, e252_55, e252_57, e252_60, e252_63, e252_64, e252_67, e252_69, e252_70, e252_71, e252_73, e252_75, e252_77, e252_80, e252_83, e252_85, e252_87, e252_89, e252_91, e252_92, e252_93, e252_94, e252_95, e252_98, e252_101, e252_102, e252_105, e252_107, e252_110, e252_111, mk_458 hM, mp_90 hM, mk_469 hM, ↓reduceIte, Nat.reduceAdd, Nat.reduceLeDiff, Nat.reduceLT, Nat.reduceEqDiff, not_false_eq_true, false_or, true_or, or_true, or_false, n0_e, n1_ne, n1_11, bI_1, bI_fo, va_rf_some, aBk_1, aBk_0, nI_add, nI_mul, hk_si, hp_si, hl_si, hk_sp, hk_sl, hk_cp, hp_cp, m_isSunday hT, hq, hq2, m_in, bI_z, reduceCtorEq, and_false]
    | true =>
      rw [if_pos ⟨rfl, rfl⟩]
      obtain ⟨h1, e1, o1, r1, -, -⟩ := m_copies hT hn
      have o1 : On WP h h1 := o1.mono (fun _ _ q => q.W)
      have hT1 := hT.onW o1
      have hM1 := hT1.m
      obtain ⟨⟨l1, l2⟩, -⟩ := hT.v.2.2.2.1 k hk
      have hl : ∃ m, m ≤ 24 ∧ lo_ T k = nI m := by
        refine ⟨(lo_ T k).toInt.toNat, by omega, ?_⟩
        apply Int32.toInt_inj.mp
        rw [nI_toInt (by omega)]
        omega
      obtain ⟨m, hm, em⟩ := hl
      have lo1 : hi_ h1 469 (4 * lv + k) = nI m := (hT1.lo hk).trans em
      have ek : kk (lo_ T (kk (nI k))) = m := by rw [kk_n (by omega), em, kk_n (by omega)]
      have eg : gp_ T w (nI k) = itn m (gpF T w (nI k)) (-2, nI 0, nI 0) := by unfold gp_; rw [ek]
      rw [eg]
      refine ⟨h1, fun d => ?_, o1⟩
      simp only [e252_0, e252_1, e252_2, e252_5, e252_8, e252_9, e252_10, e252_11, e252_14, e252_17, e252_18, e252_19, e252_20, e252_23, e252_25, e252_26, e252_27, e252_29, e252_30, e252_32, e252_33, e252_37, e252_38, e252_41, e252_42, e252_43, e252_46, e252_47, e252_48, e252_49, e252_50, e252_53, e252_54, e252_55, e252_57, e252_60, e252_63, e252_64, e252_67, e252_69, e252_70, e252_71, e252_73, e252_75, e252_77, e252_80, e252_83, e252_85, e252_87, e252_89, e252_91, e252_92, e252_93, e252_94, e252_95, e252_98, e252_101, e252_102, e252_105, e252_107, e252_110, e252_111, mk_458 hM, mp_90 hM, mk_469 hM, ↓reduceIte, Nat.reduceAdd, Nat.reduceLeDiff, Nat.reduceLT, Nat.reduceEqDiff, not_false_eq_true, false_or, true_or, or_true, or_false, n0_e, n1_ne, n1_11, bI_1, bI_fo, va_rf_some, aBk_1, aBk_0, nI_add, nI_mul, hk_si, hp_si, hl_si, hk_sp, hk_sl, hk_cp, hp_cp, m_isSunday hT, hq, hq2, m_in, bI_z, reduceCtorEq, e1]
      refine (run_for (F := fun j (a : Int32 × Int32 × Int32) => (run (d + 2) 252 35 [.ref 458, .int (nI k), .int what, .int a.1, .int a.2.1, .int a.2.2, .int (nI j)] [] h1)) (f := gpF T w (nI k)) (a := (-2, nI 0, nI 0)) (n := m) (fun j hj => ?_)).trans ?_
      · have h1 : ¬ nI m ≤ nI j := nI_ge hj (by omega)
        generalize itn j (gpF T w (nI k)) (-2, nI 0, nI 0) = a
        obtain ⟨b, mo, n⟩ := a
        refine (e252_35).trans ?_
        unfold gpF
        by_cases c1 : who_ T w (nI k) (nI j) < 0
        · by_cases c2 : n + nI 1 ≤ mo
          · have c2' : ¬ mo < n + nI 1 := Int32.not_lt.mpr c2
            simp only [e252_0, e252_1, e252_2, e252_5, e252_8, e252_9, e252_10, e252_11, e252_14, e252_17, e252_18, e252_19, e252_20, e252_23, e252_25, e252_26, e252_27, e252_29, e252_30, e252_32, e252_33, e252_37, e252_38, e252_41, e252_42, e252_43, e252_46, e252_47, e252_48, e252_49, e252_50, e252_53, e252_54, e252_55, e252_57, e252_60, e252_63, e252_64, e252_67, e252_69, e252_70, e252_71, e252_73, e252_75, e252_77, e252_80, e252_83, e252_85, e252_87, e252_89, e252_91, e252_92, e252_93, e252_94, e252_95, e252_98, e252_101, e252_102, e252_105, e252_107, e252_110, e252_111, mk_458 hM1, mp_90 hM1, mk_469 hM1, ↓reduceIte, Nat.reduceAdd, Nat.reduceLeDiff, Nat.reduceLT, Nat.reduceEqDiff, not_false_eq_true, false_or, true_or, or_true, or_false, n0_e, n1_ne, n1_11, bI_z, bI_1, bI_fo, va_rf_some, aBk_1, aBk_0, nI_add, nI_mul, hk_si, hp_si, hl_si, hk_sp, hk_sl, hk_cp, hp_cp, hT1.live, hT1.s4 hk, lo1, h1, m_whoIsAt hT1 r1, c1, c2, c2']
          · have c2' : mo < n + nI 1 := Int32.not_le.mp c2
            simp only [e252_0, e252_1, e252_2, e252_5, e252_8, e252_9, e252_10, e252_11, e252_14, e252_17, e252_18, e252_19, e252_20, e252_23, e252_25, e252_26, e252_27, e252_29, e252_30, e252_32, e252_33, e252_37, e252_38, e252_41, e252_42, e252_43, e252_46, e252_47, e252_48, e252_49, e252_50, e252_53, e252_54, e252_55, e252_57, e252_60, e252_63, e252_64, e252_67, e252_69, e252_70, e252_71, e252_73, e252_75, e252_77, e252_80, e252_83, e252_85, e252_87, e252_89, e252_91, e252_92, e252_93, e252_94, e252_95, e252_98, e252_101, e252_102, e252_105, e252_107, e252_110, e252_111, mk_458 hM1, mp_90 hM1, mk_469 hM1, ↓reduceIte, Nat.reduceAdd, Nat.reduceLeDiff, Nat.reduceLT, Nat.reduceEqDiff, not_false_eq_true, false_or, true_or, or_true, or_false, n0_e, n1_ne, n1_11, bI_z, bI_1, bI_fo, va_rf_some, aBk_1, aBk_0, nI_add, nI_mul, hk_si, hp_si, hl_si, hk_sp, hk_sl, hk_cp, hp_cp, hT1.live, hT1.s4 hk, lo1, h1, m_whoIsAt hT1 r1, c1, c2, c2']
        · by_cases c2 : nI 0 ≤ mo
          · have c2' : ¬ mo < nI 0 := Int32.not_lt.mpr c2
            simp only [e252_0, e252_1, e252_2, e252_5, e252_8, e252_9, e252_10, e252_11, e252_14, e252_17, e252_18, e252_19, e252_20, e252_23, e252_25, e252_26, e252_27, e252_29, e252_30, e252_32, e252_33, e252_37, e252_38, e252_41, e252_42, e252_43, e252_46, e252_47, e252_48, e252_49, e252_50, e252_53, e252_54, e252_55, e252_57, e252_60, e252_63, e252_64, e252_67, e252_69, e252_70, e252_71, e252_73, e252_75, e252_77, e252_80, e252_83, e252_85, e252_87, e252_89, e252_91, e252_92, e252_93, e252_94, e252_95, e252_98, e252_101, e252_102, e252_105, e252_107, e252_110, e252_111, mk_458 hM1, mp_90 hM1, mk_469 hM1, ↓reduceIte, Nat.reduceAdd, Nat.reduceLeDiff, Nat.reduceLT, Nat.reduceEqDiff, not_false_eq_true, false_or, true_or, or_true, or_false, n0_e, n1_ne, n1_11, bI_z, bI_1, bI_fo, va_rf_some, aBk_1, aBk_0, nI_add, nI_mul, hk_si, hp_si, hl_si, hk_sp, hk_sl, hk_cp, hp_cp, hT1.live, hT1.s4 hk, lo1, h1, m_whoIsAt hT1 r1, c1, c2, c2']
          · have c2' : mo < nI 0 := Int32.not_le.mp c2
            simp only [e252_0, e252_1, e252_2, e252_5, e252_8, e252_9, e252_10, e252_11, e252_14, e252_17, e252_18, e252_19, e252_20, e252_23, e252_25, e252_26, e252_27, e252_29, e252_30, e252_32, e252_33, e252_37, e252_38, e252_41, e252_42, e252_43, e252_46, e252_47, e252_48, e252_49, e252_50, e252_53, e252_54, e252_55, e252_57, e252_60, e252_63, e252_64, e252_67, e252_69, e252_70, e252_71, e252_73, e252_75, e252_77, e252_80, e252_83, e252_85, e252_87, e252_89, e252_91, e252_92, e252_93, e252_94, e252_95, e252_98, e252_101, e252_102, e252_105, e252_107, e252_110, e252_111, mk_458 hM1, mp_90 hM1, mk_469 hM1, ↓reduceIte, Nat.reduceAdd, Nat.reduceLeDiff, Nat.reduceLT, Nat.reduceEqDiff, not_false_eq_true, false_or, true_or, or_true, or_false, n0_e, n1_ne, n1_11, bI_z, bI_1, bI_fo, va_rf_some, aBk_1, aBk_0, nI_add, nI_mul, hk_si, hp_si, hl_si, hk_sp, hk_sl, hk_cp, hp_cp, hT1.live, hT1.s4 hk, lo1, h1, m_whoIsAt hT1 r1, c1, c2, c2']
      · generalize itn m (gpF T w (nI k)) (-2, nI 0, nI 0) = a
        obtain ⟨b, mo, n⟩ := a
        refine (e252_35).trans ?_
        obtain ⟨c, hc, rfl⟩ := in_n (by decide) hq2
        match c, hc with
        | 0, _ => simp only [e252_0, e252_1, e252_2, e252_5, e252_8, e252_9, e252_10, e252_11, e252_14, e252_17, e252_18, e252_19, e252_20, e252_23, e252_25, e252_26, e252_27, e252_29, e252_30, e252_32, e252_33, e252_37, e252_38, e252_41, e252_42, e252_43, e252_46, e252_47, e252_48, e252_49, e252_50, e252_53, e252_54, e252_55, e252_57, e252_60, e252_63, e252_64, e252_67, e252_69, e252_70, e252_71, e252_73, e252_75, e252_77, e252_80, e252_83, e252_85, e252_87, e252_89, e252_91, e252_92, e252_93, e252_94, e252_95, e252_98, e252_101, e252_102, e252_105, e252_107, e252_110, e252_111, mk_458 hM1, mp_90 hM1, mk_469 hM1, ↓reduceIte, Nat.reduceAdd, Nat.reduceLeDiff, Nat.reduceLT, Nat.reduceEqDiff, not_false_eq_true, false_or, true_or, or_true, or_false, n1_ne, n1_11, bI_z, bI_1, bI_fo, va_rf_some, aBk_1, aBk_0, nI_add, nI_mul, hk_si, hp_si, hl_si, hk_sp, hk_sl, hk_cp, hp_cp, hT1.live, hT1.s4 hk, lo1, Int32.le_refl, n0_e]
        | 1, _ => simp only [e252_0, e252_1, e252_2, e252_5, e252_8, e252_9, e252_10, e252_11, e252_14, e252_17, e252_18, e252_19, e252_20, e252_23, e252_25, e252_26, e252_27, e252_29, e252_30, e252_32, e252_33, e252_37, e252_38, e252_41, e252_42, e252_43, e252_46, e252_47, e252_48, e252_49, e252_50, e252_53, e252_54, e252_55, e252_57, e252_60, e252_63, e252_64, e252_67, e252_69, e252_70, e252_71, e252_73, e252_75, e252_77, e252_80, e252_83, e252_85, e252_87, e252_89, e252_91, e252_92, e252_93, e252_94, e252_95, e252_98, e252_101, e252_102, e252_105, e252_107, e252_110, e252_111, mk_458 hM1, mp_90 hM1, mk_469 hM1, ↓reduceIte, Nat.reduceAdd, Nat.reduceLeDiff, Nat.reduceLT, not_false_eq_true, false_or, true_or, or_true, or_false, n0_e, n1_11, bI_z, bI_1, bI_fo, va_rf_some, aBk_1, aBk_0, nI_add, nI_mul, hk_si, hp_si, hl_si, hk_sp, hk_sl, hk_cp, hp_cp, hT1.live, hT1.s4 hk, lo1, Int32.le_refl, n1_ne, nI_eqL, Nat.reduceEqDiff]
end M5
