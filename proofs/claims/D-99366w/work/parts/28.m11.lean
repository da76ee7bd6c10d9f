set_option maxRecDepth 100000
/-! M: fewest, colours, tangles -/
section M11
variable {lv d : Nat} {h h' : aH} {T : aTx} {w r : Nat → Int32}
theorem m_areAllIn (hT : MT h T lv) (hv : VL h T w) {those of : Nat} (ht : those < 2 ^ ns_ T) (ho : of < 2 ^ ng_ T) (ha : ∀ t, t < those → ∀ k, k < 2 ^ ng_ T → hi_ h 498 (128 * t + k) = bI (enL T w (ss_ t) k)) :
    (run (d + 2) 239 0 [.ref 458, .int (nI those), .int (nI of), aU, aU] [] h) = some (.returned (some (.int (bI (enL T w (ss_ those) of)))), h) := by
  have hM := hT.m
  have h4 := hT.ns4
  have h7 := hT.ng7
  have h128 := p2_7 hT
  have h16 := p2_4 hT
  by_cases q0 : those = 0
  · subst q0
    have e : enL T w (ss_ 0) of = decide (of = 0) := rfl
    rw [e]
    by_cases q : of = 0
    · subst q
      simp only [e239_0, e239_1, e239_4, e239_5, e239_8, e239_9, e239_12, e239_13, e239_14, e239_15, e239_18, e239_19, e239_20, e239_24, e239_25, e239_28, e239_29, e239_30, e239_32, e239_33, e239_36, e239_39, e239_40, e239_43, e239_46, e239_47, e239_48, e239_49, e239_50, e239_51, e239_52, e239_53, e239_54, e239_55, e239_57, e239_58, e239_59, e239_60, e239_61, e239_62, e239_65, e239_66, e239_67, e239_70, e239_73, e239_74, ↓reduceIte, Nat.reduceAdd, Nat.reduceLeDiff, Nat.reduceLT, Nat.reduceEqDiff, not_false_eq_true, false_or, true_or, or_true, or_false, n1_ne, n1_11, bI_z, bI_1, bI_fo, va_rf_some, aBk_1, aBk_0, nI_add, nI_mul, hk_si, hp_si, hl_si, hk_sp, hk_sl, hk_cp, hp_cp, n0_e, n1_01]
      rfl
    · have hz : (nI of = 0) = False := by rw [nI_z (by omega)]; exact eq_false q
      simp only [e239_0, e239_1, e239_4, e239_5, e239_8, e239_9, e239_12, e239_13, e239_14, e239_15, e239_18, e239_19, e239_20, e239_24, e239_25, e239_28, e239_29, e239_30, e239_32, e239_33, e239_36, e239_39, e239_40, e239_43, e239_46, e239_47, e239_48, e239_49, e239_50, e239_51, e239_52, e239_53, e239_54, e239_55, e239_57, e239_58, e239_59, e239_60, e239_61, e239_62, e239_65, e239_66, e239_67, e239_70, e239_73, e239_74, ↓reduceIte, Nat.reduceAdd, Nat.reduceLeDiff, Nat.reduceLT, Nat.reduceEqDiff, not_false_eq_true, false_or, true_or, or_true, or_false, n1_ne, n1_11, bI_z, bI_1, bI_fo, va_rf_some, aBk_1, aBk_0, nI_add, nI_mul, hk_si, hp_si, hl_si, hk_sp, hk_sl, hk_cp, hp_cp, n0_e, n0_01, hz, q, decide_false]
      rfl
  · obtain ⟨es, hl4, hdl⟩ := ss_rec those (by omega) q0
    have el := fun d => m_lowestOf (d := d) (h := h) q0 (show those < 128 by omega)
    have hb := (low_s q0 (show those < 128 by omega)).2.1
    have hls : low_ those < ns_ T := bit_lt ht hb
    have hz : (nI those = 0) = False := by rw [nI_z (by omega)]; exact eq_false q0
    rw [es, enL]
    generalize low_ those = s at hl4 hdl el hb hls ⊢
    have hp : 2 ^ s < 2 ^ 31 := Nat.pow_lt_pow_right (by decide) (by omega)
    simp only [e239_0, e239_1, e239_4, e239_5, e239_8, e239_9, e239_12, e239_13, e239_14, e239_15, e239_18, e239_19, e239_20, e239_24, e239_25, e239_28, e239_29, e239_30, e239_32, e239_33, e239_36, e239_39, e239_40, e239_43, e239_46, e239_47, e239_48, e239_49, e239_50, e239_51, e239_52, e239_53, e239_54, e239_55, e239_57, e239_58, e239_59, e239_60, e239_61, e239_62, e239_65, e239_66, e239_67, e239_70, e239_73, e239_74, mk_458 hM, mp_126 hM, mk_498 hM, ↓reduceIte, Nat.reduceAdd, Nat.reduceLeDiff, Nat.reduceLT, Nat.reduceEqDiff, not_false_eq_true, false_or, true_or, or_true, or_false, n0_e, n1_ne, n1_11, bI_z, bI_1, bI_fo, va_rf_some, aBk_1, aBk_0, nI_add, nI_mul, hk_si, hp_si, hl_si, hk_sp, hk_sl, hk_cp, hp_cp, hz, el]
    refine (run_find (F := fun j => (run (d + 2) 239 22 [.ref 458, .int (nI those), .int (nI of), .int (nI s), .int (nI j)] [] h)) (R := fun j => some (.returned (some (.int (nI 1))), h)) (P := fun set => cb_ T w s set of && enL T w (ss_ (dif those (2 ^ s))) (dif of set)) (n := of + 1) (fun j hj => ?_)).trans ?_
    · have g1 : ¬ nI of < nI j := nI_nlt (by omega) (by omega)
      have hd2 : dif of j < 2 ^ ng_ T := dif_lt ho
      have g2 : 128 * dif those (2 ^ s) + dif of j < 2048 := by omega
      have f1 := ha _ hdl _ hd2
      have ec := fun d => m_canBe (d := d) hT hv hls (show j < 2 ^ ng_ T by omega) ho
      refine (e239_22).trans ?_
      cases q : cb_ T w s j of with
      | false => simp only [e239_0, e239_1, e239_4, e239_5, e239_8, e239_9, e239_12, e239_13, e239_14, e239_15, e239_18, e239_19, e239_20, e239_24, e239_25, e239_28, e239_29, e239_30, e239_32, e239_33, e239_36, e239_39, e239_40, e239_43, e239_46, e239_47, e239_48, e239_49, e239_50, e239_51, e239_52, e239_53, e239_54, e239_55, e239_57, e239_58, e239_59, e239_60, e239_61, e239_62, e239_65, e239_66, e239_67, e239_70, e239_73, e239_74, mk_458 hM, mp_126 hM, mk_498 hM, ↓reduceIte, Nat.reduceAdd, Nat.reduceLeDiff, Nat.reduceLT, Nat.reduceEqDiff, not_false_eq_true, false_or, true_or, or_true, or_false, n0_e, n1_ne, n1_11, bI_1, bI_fo, va_rf_some, aBk_1, aBk_0, nI_add, nI_mul, hk_si, hp_si, hl_si, hk_sp, hk_sl, hk_cp, hp_cp, g1, ec, q, bI_z, reduceCtorEq, Bool.false_and]
      | true =>
        cases q2 : enL T w (ss_ (dif those (2 ^ s))) (dif of j) with
        | false =>
          rw [q2] at f1
          simp only [e239_0, e239_1, e239_4, e239_5, e239_8, e239_9, e239_12, e239_13, e239_14, e239_15, e239_18, e239_19, e239_20, e239_24, e239_25, e239_28, e239_29, e239_30, e239_32, e239_33, e239_36, e239_39, e239_40, e239_43, e239_46, e239_47, e239_48, e239_49, e239_50, e239_51, e239_52, e239_53, e239_54, e239_55, e239_57, e239_58, e239_59, e239_60, e239_61, e239_62, e239_65, e239_66, e239_67, e239_70, e239_73, e239_74, mk_458 hM, mp_126 hM, mk_498 hM, ↓reduceIte, Nat.reduceAdd, Nat.reduceLeDiff, Nat.reduceLT, Nat.reduceEqDiff, not_false_eq_true, false_or, true_or, or_true, or_false, n0_e, n1_ne, n1_11, bI_1, bI_fo, va_rf_some, aBk_1, aBk_0, nI_add, nI_mul, hk_si, hp_si, hl_si, hk_sp, hk_sl, hk_cp, hp_cp, g1, ec, q, bI_z, reduceCtorEq, shl_1 s (show s < 32 by omega), nI_dif hp (show those < 2 ^ 31 by omega), nI_dif (show j < 2 ^ 31 by omega) (show of < 2 ^ 31 by omega), g2, f1, Bool.and_false]
        | true =>
          rw [q2] at f1
          simp only [e239_0, e239_1, e239_4, e239_5, e239_8, e239_9, e239_12, e239_13, e239_14, e239_15, e239_18, e239_19, e239_20, e239_24, e239_25, e239_28, e239_29, e239_30, e239_32, e239_33, e239_36, e239_39, e239_40, e239_43, e239_46, e239_47, e239_48, e239_49, e239_50, e239_51, e239_52, e239_53, e239_54, e239_55, e239_57, e239_58, e239_59, e239_60, e239_61, e239_62, e239_65, e239_66, e239_67, e239_70, e239_73, e239_74, mk_458 hM, mp_126 hM, mk_498 hM, ↓reduceIte, Nat.reduceAdd, Nat.reduceLeDiff, Nat.reduceLT, Nat.reduceEqDiff, not_false_eq_true, false_or, true_or, or_true, or_false, n0_e, n1_ne, n1_11, bI_1, bI_fo, va_rf_some, aBk_1, aBk_0, nI_add, nI_mul, hk_si, hp_si, hl_si, hk_sp, hk_sl, hk_cp, hp_cp, g1, ec, q, bI_z, reduceCtorEq, shl_1 s (show s < 32 by omega), nI_dif hp (show those < 2 ^ 31 by omega), nI_dif (show j < 2 ^ 31 by omega) (show of < 2 ^ 31 by omega), g2, f1, Bool.and_self, n1_01]
    · cases fnd (fun set => cb_ T w s set of && enL T w (ss_ (dif those (2 ^ s))) (dif of set)) (of + 1) 0 with
      | some j => rfl
      | none =>
        have g1 : nI of < nI (of + 1) := nI_lt (by omega) (by omega)
        dsimp only
        refine (e239_22).trans ?_
        simp only [e239_0, e239_1, e239_4, e239_5, e239_8, e239_9, e239_12, e239_13, e239_14, e239_15, e239_18, e239_19, e239_20, e239_24, e239_25, e239_28, e239_29, e239_30, e239_32, e239_33, e239_36, e239_39, e239_40, e239_43, e239_46, e239_47, e239_48, e239_49, e239_50, e239_51, e239_52, e239_53, e239_54, e239_55, e239_57, e239_58, e239_59, e239_60, e239_61, e239_62, e239_65, e239_66, e239_67, e239_70, e239_73, e239_74, mk_458 hM, mp_126 hM, mk_498 hM, ↓reduceIte, Nat.reduceAdd, Nat.reduceLeDiff, Nat.reduceLT, Nat.reduceEqDiff, not_false_eq_true, false_or, true_or, or_true, or_false, n0_e, n1_ne, n1_11, bI_z, bI_1, bI_fo, va_rf_some, aBk_1, aBk_0, nI_add, nI_mul, hk_si, hp_si, hl_si, hk_sp, hk_sl, hk_cp, hp_cp, g1, n0_01]
        rfl
theorem fw_c (j : Nat) : itn j (fwF T w) (-2) = -2 ∨ ∃ k, k < j ∧ itn j (fwF T w) (-2) = nI k := by
  induction j with
  | zero => exact Or.inl rfl
  | succ j ih =>
    rw [itn]
    generalize itn j (fwF T w) (-2) = b at ih ⊢
    unfold fwF
    split
    · exact Or.inr ⟨j, by omega, rfl⟩
    · rcases ih with e | ⟨k, hk, e⟩
      · exact Or.inl e
      · exact Or.inr ⟨k, by omega, e⟩
theorem m_fewest (hT : MT h T lv) (hn : RA h 491 w) (hd : D01 T w) (what : Int32) : ∃ h', (∀ d, (run (d + 5) 238 0 [.ref 458, .int what, aU, aU, aU, aU] [] h) = some (.returned (some (.int (qFewM T w what))), h')) ∧ On WP h h' := by
  have hM := hT.m
  have h4 := hT.ns4
  have h7 := hT.ng7
  have h128 := p2_7 hT
  have h16 := p2_4 hT
  have w8 : ∀ a f, AA 498 a f → WP a f := fun a f q => by
    have q : a = 498 := q
    unfold WP; omega
  unfold qFewM
  cases hq : in_ what (nI 0) (nI 1) with
  | false =>
    refine ⟨h, fun d => ?_, On.refl⟩
    simp only [e238_0, e238_1, e238_2, e238_3, e238_6, e238_9, e238_10, e238_11, e238_12, e238_15, e238_16, e238_19, e238_20, e238_22, e238_23, e238_24, e238_28, e238_29, e238_30, e238_33, e238_34, e238_37, e238_38, e238_39, e238_42, e238_43, e238_47, e238_48, e238_49, e238_52, e238_53, e238_56, e238_57, e238_58, e238_61, e238_62, e238_65, e238_68, e238_70, e238_71, e238_73, e238_74, e238_75, e238_77, e238_79, e238_82, e238_82z, e238_83, e238_86, e238_89, e238_90, e238_93, e238_96, e238_98, e238_99, e238_100, e238_101, e238_102, e238_105, e238_106, e238_109, e238_111, e238_114, e238_115, e238_118, e238_121, e238_123, e238_124, e238_127, e238_130, e238_131, e238_134, e238_135, e238_136, e238_139, e238_140, e238_143, e238_144, e238_147, mk_458 hM, mp_89 hM, mk_468 hM, mp_92 hM, mk_471 hM, mp_126 hM, mk_498 hM, ↓reduceIte, Nat.reduceAdd, Nat.reduceLeDiff, Nat.reduceLT, Nat.reduceEqDiff, not_false_eq_true, false_or, true_or, or_true, or_false, n0_e, n1_ne, n1_11, bI_1, bI_fo, va_rf_some, aBk_1, aBk_0, nI_add, nI_mul, hk_si, hp_si, hl_si, hk_sp, hk_sl, hk_cp, hp_cp, m_in, hq, bI_z, reduceCtorEq]
  | true =>
    rw [if_pos rfl]
    obtain ⟨h1, e1, o1, r1, v1⟩ := m_fillsValues hT hn hd
    have hT1 := hT.onW o1
    have hM1 := hT1.m
    have hL : lB_ T w < 2 ^ ng_ T := orN_lt _ _
    obtain ⟨y, e, eb, oy, -⟩ := run_invd (F := fun d j (x : (Int32 × Value) × aH) => (run (d + 5) 238 26 [.ref 458, .int what, .int (nI (lB_ T w)), .int x.1.1, .int (nI j), x.1.2] [] x.2)) (I := fun j x => x.1.1 = itn j (fwF T w) (-2) ∧ On (AA 498) h1 x.2 ∧ ∀ t, t < j → ∀ k, k < 2 ^ ng_ T → hi_ x.2 498 (128 * t + k) = bI (enL T w (ss_ t) k)) (n := 2 ^ ns_ T) (x := ((-2, aU), h1)) ⟨rfl, On.refl, fun t ht => absurd ht (Nat.not_lt_zero t)⟩ (fun j x hj hI => by
      obtain ⟨⟨b, v⟩, x⟩ := x
      obtain ⟨eb, o, ax⟩ := hI
      have eb : b = itn j (fwF T w) (-2) := eb
      have o : On (AA 498) h1 x := o
      have ax : ∀ t, t < j → ∀ k, k < 2 ^ ng_ T → hi_ x 498 (128 * t + k) = bI (enL T w (ss_ t) k) := ax
      have hTx := hT1.on o w8
      have hMx := hTx.m
      have g1 : ¬ nI (2 ^ ns_ T) ≤ nI j := nI_ge hj (by omega)
      obtain ⟨z, ez, oz, az, bz⟩ := run_invd (F := fun d i x => (run (d + 5) 238 45 [.ref 458, .int what, .int (nI (lB_ T w)), .int b, .int (nI j), .int (nI i)] [] x)) (I := fun i x => On (AA 498) h1 x ∧ (∀ t, t < j → ∀ k, k < 2 ^ ng_ T → hi_ x 498 (128 * t + k) = bI (enL T w (ss_ t) k)) ∧ ∀ k, k < i → hi_ x 498 (128 * j + k) = bI (enL T w (ss_ j) k)) (n := 2 ^ ng_ T) (x := x) ⟨o, ax, fun k hk => absurd hk (Nat.not_lt_zero k)⟩ (fun i x hi hI => by
        obtain ⟨o, ax, bx⟩ := hI
        have hTx := hT1.on o w8
        have hMx := hTx.m
        have vx : VL x T w := v1.on o (fun f => AA.ne (by decide))
        have g2 : ¬ nI (2 ^ ng_ T) ≤ nI i := nI_ge hi (by omega)
        have g3 : 128 * j + i < 2048 := by omega
        have ea := fun d => m_areAllIn (d := d) hTx vx hj hi ax
        refine ⟨si_ x 498 (128 * j + i) (bI (enL T w (ss_ j) i)), fun d => ?_, o.trans (On.sa), ?_, ?_⟩
        · refine (e238_45).trans ?_
          simp only [e238_0, e238_1, e238_2, e238_3, e238_6, e238_9, e238_10, e238_11, e238_12, e238_15, e238_16, e238_19, e238_20, e238_22, e238_23, e238_24, e238_28, e238_29, e238_30, e238_33, e238_34, e238_37, e238_38, e238_39, e238_42, e238_43, e238_47, e238_48, e238_49, e238_52, e238_53, e238_56, e238_57, e238_58, e238_61, e238_62, e238_65, e238_68, e238_70, e238_71, e238_73, e238_74, e238_75, e238_77, e238_79, e238_82, e238_82z, e238_83, e238_86, e238_89, e238_90, e238_93, e238_96, e238_98, e238_99, e238_100, e238_101, e238_102, e238_105, e238_106, e238_109, e238_111, e238_114, e238_115, e238_118, e238_121, e238_123, e238_124, e238_127, e238_130, e238_131, e238_134, e238_135, e238_136, e238_139, e238_140, e238_143, e238_144, e238_147, mk_458 hMx, mp_89 hMx, mk_468 hMx, mp_92 hMx, mk_471 hMx, mp_126 hMx, mk_498 hMx, ↓reduceIte, Nat.reduceAdd, Nat.reduceLeDiff, Nat.reduceLT, Nat.reduceEqDiff, not_false_eq_true, false_or, true_or, or_true, or_false, n0_e, n1_ne, n1_11, bI_z, bI_1, bI_fo, va_rf_some, aBk_1, aBk_0, nI_add, nI_mul, hk_si, hp_si, hl_si, hk_sp, hk_sl, hk_cp, hp_cp, hTx.live, hTx.ng, hTx.l2, shl_1 _ (show ng_ T < 32 by omega), g2, g3, ea, bI_01]
        · intro t ht k hk
          rw [hi_si, if_neg (by omega)]
          exact ax t ht k hk
        · intro k hk
          rw [hi_si]
          by_cases q : k = i
          · rw [if_pos ⟨rfl, by omega⟩, q]
          · rw [if_neg (by omega)]; exact bx k (by omega))
      have hTz := hT1.on oz w8
      have hMz := hTz.m
      have g4 : 128 * j + lB_ T w < 2048 := by omega
      have f1 := bz _ hL
      refine ⟨((fwF T w j b, .int (nI (2 ^ ng_ T))), z), fun d => ?_, ?_, oz, ?_⟩
      · refine (e238_26).trans ?_
        simp only [e238_0, e238_1, e238_2, e238_3, e238_6, e238_9, e238_10, e238_11, e238_12, e238_15, e238_16, e238_19, e238_20, e238_22, e238_23, e238_24, e238_28, e238_29, e238_30, e238_33, e238_34, e238_37, e238_38, e238_39, e238_42, e238_43, e238_47, e238_48, e238_49, e238_52, e238_53, e238_56, e238_57, e238_58, e238_61, e238_62, e238_65, e238_68, e238_70, e238_71, e238_73, e238_74, e238_75, e238_77, e238_79, e238_82, e238_82z, e238_83, e238_86, e238_89, e238_90, e238_93, e238_96, e238_98, e238_99, e238_100, e238_101, e238_102, e238_105, e238_106, e238_109, e238_111, e238_114, e238_115, e238_118, e238_121, e238_123, e238_124, e238_127, e238_130, e238_131, e238_134, e238_135, e238_136, e238_139, e238_140, e238_143, e238_144, e238_147, mk_458 hMx, mp_89 hMx, mk_468 hMx, mp_92 hMx, mk_471 hMx, mp_126 hMx, mk_498 hMx, ↓reduceIte, Nat.reduceAdd, Nat.reduceLeDiff, Nat.reduceLT, Nat.reduceEqDiff, not_false_eq_true, false_or, true_or, or_true, or_false, n0_e, n1_ne, n1_11, bI_z, bI_1, bI_fo, va_rf_some, aBk_1, aBk_0, nI_add, nI_mul, hk_si, hp_si, hl_si, hk_sp, hk_sl, hk_cp, hp_cp, hTx.live, hTx.ns, hTx.l2, shl_1 _ (show ns_ T < 32 by omega), g1]
        refine (ez d).trans ?_
        refine (e238_45).trans ?_
        unfold fwF
        cases q : enL T w (ss_ j) (lB_ T w) with
        | false =>
          rw [q] at f1
          simp only [e238_0, e238_1, e238_2, e238_3, e238_6, e238_9, e238_10, e238_11, e238_12, e238_15, e238_16, e238_19, e238_20, e238_22, e238_23, e238_24, e238_28, e238_29, e238_30, e238_33, e238_34, e238_37, e238_38, e238_39, e238_42, e238_43, e238_47, e238_48, e238_49, e238_52, e238_53, e238_56, e238_57, e238_58, e238_61, e238_62, e238_65, e238_68, e238_70, e238_71, e238_73, e238_74, e238_75, e238_77, e238_79, e238_82, e238_82z, e238_83, e238_86, e238_89, e238_90, e238_93, e238_96, e238_98, e238_99, e238_100, e238_101, e238_102, e238_105, e238_106, e238_109, e238_111, e238_114, e238_115, e238_118, e238_121, e238_123, e238_124, e238_127, e238_130, e238_131, e238_134, e238_135, e238_136, e238_139, e238_140, e238_143, e238_144, e238_147, mk_458 hMz, mp_89 hMz, mk_468 hMz, mp_92 hMz, mk_471 hMz, mp_126 hMz, mk_498 hMz, ↓reduceIte, Nat.reduceAdd, Nat.reduceLeDiff, Nat.reduceLT, Nat.reduceEqDiff, not_false_eq_true, false_or, true_or, or_true, or_false, n0_e, n1_ne, n1_11, bI_1, bI_fo, va_rf_some, aBk_1, aBk_0, nI_add, nI_mul, hk_si, hp_si, hl_si, hk_sp, hk_sl, hk_cp, hp_cp, hTz.live, hTz.ng, hTz.l2, shl_1 _ (show ng_ T < 32 by omega), Int32.le_refl, g4, f1, bI_z, reduceCtorEq, false_and]
        | true =>
          rw [q] at f1
          by_cases q2 : b < 0
          · simp only [e238_0, e238_1, e238_2, e238_3, e238_6, e238_9, e238_10, e238_11, e238_12, e238_15, e238_16, e238_19, e238_20, e238_22, e238_23, e238_24, e238_28, e238_29, e238_30, e238_33, e238_34, e238_37, e238_38, e238_39, e238_42, e238_43, e238_47, e238_48, e238_49, e238_52, e238_53, e238_56, e238_57, e238_58, e238_61, e238_62, e238_65, e238_68, e238_70, e238_71, e238_73, e238_74, e238_75, e238_77, e238_79, e238_82, e238_82z, e238_83, e238_86, e238_89, e238_90, e238_93, e238_96, e238_98, e238_99, e238_100, e238_101, e238_102, e238_105, e238_106, e238_109, e238_111, e238_114, e238_115, e238_118, e238_121, e238_123, e238_124, e238_127, e238_130, e238_131, e238_134, e238_135, e238_136, e238_139, e238_140, e238_143, e238_144, e238_147, mk_458 hMz, mp_89 hMz, mk_468 hMz, mp_92 hMz, mk_471 hMz, mp_126 hMz, mk_498 hMz, ↓reduceIte, Nat.reduceAdd, Nat.reduceLeDiff, Nat.reduceLT, Nat.reduceEqDiff, not_false_eq_true, false_or, or_true, or_false, n0_e, n1_ne, n1_11, bI_1, bI_fo, va_rf_some, aBk_1, aBk_0, nI_add, nI_mul, hk_si, hp_si, hl_si, hk_sp, hk_sl, hk_cp, hp_cp, hTz.live, hTz.ng, hTz.l2, shl_1 _ (show ng_ T < 32 by omega), Int32.le_refl, g4, f1, bI_z, reduceCtorEq, true_and, q2, true_or]
          · by_cases q3 : bc_ (nI j) < bc_ b
            · have q3' : ¬ bc_ b ≤ bc_ (nI j) := Int32.not_le.mpr q3
              simp only [e238_0, e238_1, e238_2, e238_3, e238_6, e238_9, e238_10, e238_11, e238_12, e238_15, e238_16, e238_19, e238_20, e238_22, e238_23, e238_24, e238_28, e238_29, e238_30, e238_33, e238_34, e238_37, e238_38, e238_39, e238_42, e238_43, e238_47, e238_48, e238_49, e238_52, e238_53, e238_56, e238_57, e238_58, e238_61, e238_62, e238_65, e238_68, e238_70, e238_71, e238_73, e238_74, e238_75, e238_77, e238_79, e238_82, e238_82z, e238_83, e238_86, e238_89, e238_90, e238_93, e238_96, e238_98, e238_99, e238_100, e238_101, e238_102, e238_105, e238_106, e238_109, e238_111, e238_114, e238_115, e238_118, e238_121, e238_123, e238_124, e238_127, e238_130, e238_131, e238_134, e238_135, e238_136, e238_139, e238_140, e238_143, e238_144, e238_147, mk_458 hMz, mp_89 hMz, mk_468 hMz, mp_92 hMz, mk_471 hMz, mp_126 hMz, mk_498 hMz, ↓reduceIte, Nat.reduceAdd, Nat.reduceLeDiff, Nat.reduceLT, Nat.reduceEqDiff, not_false_eq_true, false_or, true_or, or_false, n0_e, n1_ne, n1_11, bI_1, bI_fo, va_rf_some, aBk_1, aBk_0, nI_add, nI_mul, hk_si, hp_si, hl_si, hk_sp, hk_sl, hk_cp, hp_cp, hTz.live, hTz.ng, hTz.l2, shl_1 _ (show ng_ T < 32 by omega), Int32.le_refl, g4, f1, bI_z, reduceCtorEq, true_and, q2, q3, q3', or_true, m_bits]
            · have q3' : bc_ b ≤ bc_ (nI j) := Int32.not_lt.mp q3
              simp only [e238_0, e238_1, e238_2, e238_3, e238_6, e238_9, e238_10, e238_11, e238_12, e238_15, e238_16, e238_19, e238_20, e238_22, e238_23, e238_24, e238_28, e238_29, e238_30, e238_33, e238_34, e238_37, e238_38, e238_39, e238_42, e238_43, e238_47, e238_48, e238_49, e238_52, e238_53, e238_56, e238_57, e238_58, e238_61, e238_62, e238_65, e238_68, e238_70, e238_71, e238_73, e238_74, e238_75, e238_77, e238_79, e238_82, e238_82z, e238_83, e238_86, e238_89, e238_90, e238_93, e238_96, e238_98, e238_99, e238_100, e238_101, e238_102, e238_105, e238_106, e238_109, e238_111, e238_114, e238_115, e238_118, e238_121, e238_123, e238_124, e238_127, e238_130, e238_131, e238_134, e238_135, e238_136, e238_139, e238_140, e238_143, e238_144, e238_147, mk_458 hMz, mp_89 hMz, mk_468 hMz, mp_92 hMz, mk_471 hMz, mp_126 hMz, mk_498 hMz, ↓reduceIte, Nat.reduceAdd, Nat.reduceLeDiff, Nat.reduceLT, Nat.reduceEqDiff, not_false_eq_true, false_or, true_or, or_true, or_false, n0_e, n1_ne, n1_11, bI_1, bI_fo, va_rf_some, aBk_1, aBk_0, nI_add, nI_mul, hk_si, hp_si, hl_si, hk_sp, hk_sl, hk_cp, hp_cp, hTz.live, hTz.ng, hTz.l2, shl_1 _ (show ng_ T < 32 by omega), Int32.le_refl, g4, f1, bI_z, reduceCtorEq, true_and, q2, q3, q3', or_self, m_bits]
      · show _ = fwF T w j (itn j (fwF T w) (-2))
        rw [← eb]
      · intro t ht k hk
        by_cases q : t = j
        · rw [q]; exact bz k hk
        · exact az t (by omega) k hk)
    obtain ⟨⟨b, v⟩, y⟩ := y
    have eb : b = fwB T w := eb
    have oy : On (AA 498) h1 y := oy
    have hTy := hT1.on oy w8
    have hMy := hTy.m
    rw [← eb]
    refine ⟨y, fun d => ?_, o1.trans (oy.mono w8)⟩
    simp only [e238_0, e238_1, e238_2, e238_3, e238_6, e238_9, e238_10, e238_11, e238_12, e238_15, e238_16, e238_19, e238_20, e238_22, e238_23, e238_24, e238_28, e238_29, e238_30, e238_33, e238_34, e238_37, e238_38, e238_39, e238_42, e238_43, e238_47, e238_48, e238_49, e238_52, e238_53, e238_56, e238_57, e238_58, e238_61, e238_62, e238_65, e238_68, e238_70, e238_71, e238_73, e238_74, e238_75, e238_77, e238_79, e238_82, e238_82z, e238_83, e238_86, e238_89, e238_90, e238_93, e238_96, e238_98, e238_99, e238_100, e238_101, e238_102, e238_105, e238_106, e238_109, e238_111, e238_114, e238_115, e238_118, e238_121, e238_123, e238_124, e238_127, e238_130, e238_131, e238_134, e238_135, e238_136, e238_139, e238_140, e238_143, e238_144, e238_147, mk_458 hM, mp_89 hM, mk_468 hM, mp_92 hM, mk_471 hM, mp_126 hM, mk_498 hM, mk_458 hM1, mp_89 hM1, mk_468 hM1, mp_92 hM1, mk_471 hM1, mp_126 hM1, mk_498 hM1, ↓reduceIte, Nat.reduceAdd, Nat.reduceLeDiff, Nat.reduceLT, Nat.reduceEqDiff, not_false_eq_true, false_or, true_or, or_true, or_false, n0_e, n1_ne, n1_11, bI_1, bI_fo, va_rf_some, aBk_1, aBk_0, nI_add, nI_mul, hk_si, hp_si, hl_si, hk_sp, hk_sl, hk_cp, hp_cp, m_in, hq, bI_z, reduceCtorEq, e1, m_livingBits hT1 r1]
    refine (e d).trans ?_
    refine (e238_26).trans ?_
    obtain ⟨c, hc, rfl⟩ := in_n (by decide) hq
    have hcc : c = 0 ∨ c = 1 := by omega
    by_cases q2 : b < 0
    · rw [if_pos (Or.inl q2)]
      simp only [e238_0, e238_1, e238_2, e238_3, e238_6, e238_9, e238_10, e238_11, e238_12, e238_15, e238_16, e238_19, e238_20, e238_22, e238_23, e238_24, e238_28, e238_29, e238_30, e238_33, e238_34, e238_37, e238_38, e238_39, e238_42, e238_43, e238_47, e238_48, e238_49, e238_52, e238_53, e238_56, e238_57, e238_58, e238_61, e238_62, e238_65, e238_68, e238_70, e238_71, e238_73, e238_74, e238_75, e238_77, e238_79, e238_82, e238_82z, e238_83, e238_86, e238_89, e238_90, e238_93, e238_96, e238_98, e238_99, e238_100, e238_101, e238_102, e238_105, e238_106, e238_109, e238_111, e238_114, e238_115, e238_118, e238_121, e238_123, e238_124, e238_127, e238_130, e238_131, e238_134, e238_135, e238_136, e238_139, e238_140, e238_143, e238_144, e238_147, mk_458 hMy, mp_89 hMy, mk_468 hMy, mp_92 hMy, mk_471 hMy, mp_126 hMy, mk_498 hMy, ↓reduceIte, Nat.reduceAdd, Nat.reduceLeDiff, Nat.reduceLT, Nat.reduceEqDiff, not_false_eq_true, false_or, true_or, or_true, or_false, n0_e, n1_ne, n1_11, bI_z, bI_1, bI_fo, va_rf_some, aBk_1, aBk_0, nI_add, nI_mul, hk_si, hp_si, hl_si, hk_sp, hk_sl, hk_cp, hp_cp, hTy.live, hTy.ns, hTy.l2, shl_1 _ (show ns_ T < 32 by omega), Int32.le_refl, q2]
    · rcases hcc with rfl | rfl
      · rw [if_neg (fun z => z.elim q2 (by decide))]
        simp only [e238_0, e238_1, e238_2, e238_3, e238_6, e238_9, e238_10, e238_11, e238_12, e238_15, e238_16, e238_19, e238_20, e238_22, e238_23, e238_24, e238_28, e238_29, e238_30, e238_33, e238_34, e238_37, e238_38, e238_39, e238_42, e238_43, e238_47, e238_48, e238_49, e238_52, e238_53, e238_56, e238_57, e238_58, e238_61, e238_62, e238_65, e238_68, e238_70, e238_71, e238_73, e238_74, e238_75, e238_77, e238_79, e238_82, e238_82z, e238_83, e238_86, e238_89, e238_90, e238_93, e238_96, e238_98, e238_99, e238_100, e238_101, e238_102, e238_105, e238_106, e238_109, e238_111, e238_114, e238_115, e238_118, e238_121, e238_123, e238_124, e238_127, e238_130, e238_131, e238_134, e238_135, e238_136, e238_139, e238_140, e238_143, e238_144, e238_147, mk_458 hMy, mp_89 hMy, mk_468 hMy, mp_92 hMy, mk_471 hMy, mp_126 hMy, mk_498 hMy, ↓reduceIte, Nat.reduceAdd, Nat.reduceLeDiff, Nat.reduceLT, not_false_eq_true, false_or, true_or, or_true, or_false, n0_e, n1_ne, n1_11, bI_z, bI_1, bI_fo, va_rf_some, aBk_1, aBk_0, nI_add, nI_mul, hk_si, hp_si, hl_si, hk_sp, hk_sl, hk_cp, hp_cp, hTy.live, hTy.ns, hTy.l2, shl_1 _ (show ns_ T < 32 by omega), Int32.le_refl, q2, nI_eqL, Nat.reduceEqDiff, m_bits]
      · rw [if_pos (Or.inr rfl)]
        simp only [e238_0, e238_1, e238_2, e238_3, e238_6, e238_9, e238_10, e238_11, e238_12, e238_15, e238_16, e238_19, e238_20, e238_22, e238_23, e238_24, e238_28, e238_29, e238_30, e238_33, e238_34, e238_37, e238_38, e238_39, e238_42, e238_43, e238_47, e238_48, e238_49, e238_52, e238_53, e238_56, e238_57, e238_58, e238_61, e238_62, e238_65, e238_68, e238_70, e238_71, e238_73, e238_74, e238_75, e238_77, e238_79, e238_82, e238_82z, e238_83, e238_86, e238_89, e238_90, e238_93, e238_96, e238_98, e238_99, e238_100, e238_101, e238_102, e238_105, e238_106, e238_109, e238_111, e238_114, e238_115, e238_118, e238_121, e238_123, e238_124, e238_127, e238_130, e238_131, e238_134, e238_135, e238_136, e238_139, e238_140, e238_143, e238_144, e238_147, mk_458 hMy, mp_89 hMy, mk_468 hMy, mp_92 hMy, mk_471 hMy, mp_126 hMy, mk_498 hMy, ↓reduceIte, Nat.reduceAdd, Nat.reduceLeDiff, Nat.reduceLT, Nat.reduceEqDiff, not_false_eq_true, false_or, true_or, or_true, or_false, n0_e, n1_ne, n1_11, bI_z, bI_1, bI_fo, va_rf_some, aBk_1, aBk_0, nI_add, nI_mul, hk_si, hp_si, hl_si, hk_sp, hk_sl, hk_cp, hp_cp, hTy.live, hTy.ns, hTy.l2, shl_1 _ (show ns_ T < 32 by omega), Int32.le_refl, q2]
theorem m_isCalm (hT : MT h T lv) {set : Nat} (ht : set < 2 ^ ng_ T) : (run (d + 3) 241 0 [.ref 458, .int (nI set), aU] [] h) = some (.returned (some (.int (bI (calm T set)))), h) := by
  have hM := hT.m
  have h7 := hT.ng7
  have h128 := p2_7 hT
  simp only [e241_0, e241_1, e241_3, e241_4, e241_7, e241_8, e241_11, e241_12, e241_15, e241_16, e241_17, e241_18, e241_19, e241_20, e241_21, e241_24, e241_25, e241_26, e241_27, e241_30, e241_31, e241_34, e241_35, e241_36, e241_39, e241_42, e241_43, ↓reduceIte, Nat.reduceAdd, Nat.reduceLeDiff, Nat.reduceLT, Nat.reduceEqDiff, not_false_eq_true, false_or, true_or, or_true, or_false, n0_e, n1_ne, n1_11, bI_z, bI_1, bI_fo, va_rf_some, aBk_1, aBk_0, nI_add, nI_mul, hk_si, hp_si, hl_si, hk_sp, hk_sl, hk_cp, hp_cp]
  refine (run_find (F := fun j => (run (d + 3) 241 2 [.ref 458, .int (nI set), .int (nI j)] [] h)) (R := fun j => some (.returned (some (.int (nI 0))), h)) (P := fun g => set.testBit g && !decide (set &&& cB_ T g = 0)) (n := ng_ T) (fun j hj => ?_)).trans ?_
  · have g1 : ¬ nI (ng_ T) ≤ nI j := nI_ge hj (by omega)
    have hb : set &&& cB_ T j < 2147483648 := Nat.lt_of_le_of_lt Nat.and_le_left (by omega)
    refine (e241_2).trans ?_
    cases q : set.testBit j with
    | false => simp only [e241_0, e241_1, e241_3, e241_4, e241_7, e241_8, e241_11, e241_12, e241_15, e241_16, e241_17, e241_18, e241_19, e241_20, e241_21, e241_24, e241_25, e241_26, e241_27, e241_30, e241_31, e241_34, e241_35, e241_36, e241_39, e241_42, e241_43, mk_458 hM, mp_92 hM, mk_471 hM, ↓reduceIte, Nat.reduceAdd, Nat.reduceLeDiff, Nat.reduceLT, Nat.reduceEqDiff, not_false_eq_true, false_or, true_or, or_true, or_false, n0_e, n1_ne, n1_11, bI_z, bI_1, bI_fo, va_rf_some, aBk_1, aBk_0, nI_add, nI_mul, hk_si, hp_si, hl_si, hk_sp, hk_sl, hk_cp, hp_cp, hT.live, hT.ng, hT.l2, g1, nI_shr (show set < 2 ^ 31 by omega) (show j < 32 by omega), bit_and1, q, reduceCtorEq, Bool.false_and]
    | true =>
      by_cases q2 : set &&& cB_ T j = 0
      · simp only [e241_0, e241_1, e241_3, e241_4, e241_7, e241_8, e241_11, e241_12, e241_15, e241_16, e241_17, e241_18, e241_19, e241_20, e241_21, e241_24, e241_25, e241_26, e241_27, e241_30, e241_31, e241_34, e241_35, e241_36, e241_39, e241_42, e241_43, mk_458 hM, mp_92 hM, mk_471 hM, ↓reduceIte, Nat.reduceAdd, Nat.reduceLeDiff, Nat.reduceLT, Nat.reduceEqDiff, not_false_eq_true, false_or, true_or, or_true, or_false, n0_e, n1_ne, n1_11, bI_z, bI_1, bI_fo, va_rf_some, aBk_1, aBk_0, nI_add, nI_mul, hk_si, hp_si, hl_si, hk_sp, hk_sl, hk_cp, hp_cp, hT.live, hT.ng, hT.l2, g1, nI_shr (show set < 2 ^ 31 by omega) (show j < 32 by omega), bit_and1, q, reduceCtorEq, m_clashBits hT hj, nI_and set (cB_ T j), nI_z hb, q2, decide_true, Bool.not_true, Bool.and_false]
      · simp only [e241_0, e241_1, e241_3, e241_4, e241_7, e241_8, e241_11, e241_12, e241_15, e241_16, e241_17, e241_18, e241_19, e241_20, e241_21, e241_24, e241_25, e241_26, e241_27, e241_30, e241_31, e241_34, e241_35, e241_36, e241_39, e241_42, e241_43, mk_458 hM, mp_92 hM, mk_471 hM, ↓reduceIte, Nat.reduceAdd, Nat.reduceLeDiff, Nat.reduceLT, Nat.reduceEqDiff, not_false_eq_true, false_or, true_or, or_true, or_false, n0_e, n1_ne, n1_11, bI_z, bI_1, bI_fo, va_rf_some, aBk_1, aBk_0, nI_add, nI_mul, hk_si, hp_si, hl_si, hk_sp, hk_sl, hk_cp, hp_cp, hT.live, hT.ng, hT.l2, g1, nI_shr (show set < 2 ^ 31 by omega) (show j < 32 by omega), bit_and1, q, reduceCtorEq, m_clashBits hT hj, nI_and set (cB_ T j), nI_z hb, q2, decide_false, Bool.not_false, Bool.and_true, n0_01]
  · cases hf : fnd (fun g => set.testBit g && !decide (set &&& cB_ T g = 0)) (ng_ T) 0 with
    | some j =>
      obtain ⟨h1, h2, h3, -⟩ := fnd_some _ _ _ hf
      simp only [Bool.and_eq_true, Bool.not_eq_true', decide_eq_false_iff_not] at h3
      have : calm T set = false := by
        apply Bool.eq_false_iff.mpr
        intro hc
        exact h3.2 ((decide_eq_true_iff.mp hc) j (by omega) h3.1)
      rw [this]
      rfl
    | none =>
      have : calm T set = true := by
        refine decide_eq_true_iff.mpr (fun g hg hb => ?_)
        have := fnd_none _ _ hf g (by omega) (by omega)
        simpa [hb] using this
      rw [this]
      dsimp only
      refine (e241_2).trans ?_
      simp only [e241_0, e241_1, e241_3, e241_4, e241_7, e241_8, e241_11, e241_12, e241_15, e241_16, e241_17, e241_18, e241_19, e241_20, e241_21, e241_24, e241_25, e241_26, e241_27, e241_30, e241_31, e241_34, e241_35, e241_36, e241_39, e241_42, e241_43, mk_458 hM, mp_92 hM, mk_471 hM, ↓reduceIte, Nat.reduceAdd, Nat.reduceLeDiff, Nat.reduceLT, Nat.reduceEqDiff, not_false_eq_true, false_or, true_or, or_true, or_false, n0_e, n1_ne, n1_11, bI_z, bI_1, bI_fo, va_rf_some, aBk_1, aBk_0, nI_add, nI_mul, hk_si, hp_si, hl_si, hk_sp, hk_sl, hk_cp, hp_cp, hT.live, hT.ng, hT.l2, Int32.le_refl, n1_01]
      rfl
theorem m_isTangle (hT : MT h T lv) {set : Nat} (ht : set < 2 ^ ng_ T) : (run (d + 3) 243 0 [.ref 458, .int (nI set), aU] [] h) = some (.returned (some (.int (bI (tgl T set)))), h) := by
  have hM := hT.m
  have h7 := hT.ng7
  have h128 := p2_7 hT
  simp only [e243_0, e243_1, e243_3, e243_4, e243_7, e243_8, e243_11, e243_12, e243_15, e243_16, e243_17, e243_18, e243_19, e243_20, e243_21, e243_24, e243_25, e243_26, e243_27, e243_28, e243_29, e243_30, e243_31, e243_32, e243_33, e243_36, e243_39, e243_42, e243_43, e243_44, e243_47, e243_50, e243_51, ↓reduceIte, Nat.reduceAdd, Nat.reduceLeDiff, Nat.reduceLT, Nat.reduceEqDiff, not_false_eq_true, false_or, true_or, or_true, or_false, n0_e, n1_ne, n1_11, bI_z, bI_1, bI_fo, va_rf_some, aBk_1, aBk_0, nI_add, nI_mul, hk_si, hp_si, hl_si, hk_sp, hk_sl, hk_cp, hp_cp]
  refine (run_find (F := fun j => (run (d + 3) 243 2 [.ref 458, .int (nI set), .int (nI j)] [] h)) (R := fun j => some (.returned (some (.int (nI 0))), h)) (P := fun g => set.testBit g && !decide (dif (dif set (2 ^ g)) (cB_ T g) = 0)) (n := ng_ T) (fun j hj => ?_)).trans ?_
  · have g1 : ¬ nI (ng_ T) ≤ nI j := nI_ge hj (by omega)
    have hp : 2 ^ j < 2 ^ 31 := Nat.pow_lt_pow_right (by decide) (by omega)
    have hd : dif set (2 ^ j) < 2 ^ 31 := dif_lt (by omega)
    have hc : cB_ T j < 2 ^ 31 := orN_31 h7
    refine (e243_2).trans ?_
    cases q : set.testBit j with
    | false => simp only [e243_0, e243_1, e243_3, e243_4, e243_7, e243_8, e243_11, e243_12, e243_15, e243_16, e243_17, e243_18, e243_19, e243_20, e243_21, e243_24, e243_25, e243_26, e243_27, e243_28, e243_29, e243_30, e243_31, e243_32, e243_33, e243_36, e243_39, e243_42, e243_43, e243_44, e243_47, e243_50, e243_51, mk_458 hM, mp_92 hM, mk_471 hM, ↓reduceIte, Nat.reduceAdd, Nat.reduceLeDiff, Nat.reduceLT, Nat.reduceEqDiff, not_false_eq_true, false_or, true_or, or_true, or_false, n0_e, n1_ne, n1_11, bI_z, bI_1, bI_fo, va_rf_some, aBk_1, aBk_0, nI_add, nI_mul, hk_si, hp_si, hl_si, hk_sp, hk_sl, hk_cp, hp_cp, hT.live, hT.ng, hT.l2, g1, nI_shr (show set < 2 ^ 31 by omega) (show j < 32 by omega), bit_and1, q, reduceCtorEq, Bool.false_and]
    | true =>
      by_cases q2 : dif (dif set (2 ^ j)) (cB_ T j) = 0
      · simp only [e243_0, e243_1, e243_3, e243_4, e243_7, e243_8, e243_11, e243_12, e243_15, e243_16, e243_17, e243_18, e243_19, e243_20, e243_21, e243_24, e243_25, e243_26, e243_27, e243_28, e243_29, e243_30, e243_31, e243_32, e243_33, e243_36, e243_39, e243_42, e243_43, e243_44, e243_47, e243_50, e243_51, mk_458 hM, mp_92 hM, mk_471 hM, ↓reduceIte, Nat.reduceAdd, Nat.reduceLeDiff, Nat.reduceLT, Nat.reduceEqDiff, not_false_eq_true, false_or, true_or, or_true, or_false, n0_e, n1_ne, n1_11, bI_1, bI_fo, va_rf_some, aBk_1, aBk_0, nI_add, nI_mul, hk_si, hp_si, hl_si, hk_sp, hk_sl, hk_cp, hp_cp, hT.live, hT.ng, hT.l2, g1, nI_shr (show set < 2 ^ 31 by omega) (show j < 32 by omega), bit_and1, q, reduceCtorEq, shl_1 j (show j < 32 by omega), nI_dif hp (show set < 2 ^ 31 by omega), m_clashBits hT hj, m_isPart hd hc, q2, decide_true, bI_z, Bool.not_true, Bool.and_false]
      · simp only [e243_0, e243_1, e243_3, e243_4, e243_7, e243_8, e243_11, e243_12, e243_15, e243_16, e243_17, e243_18, e243_19, e243_20, e243_21, e243_24, e243_25, e243_26, e243_27, e243_28, e243_29, e243_30, e243_31, e243_32, e243_33, e243_36, e243_39, e243_42, e243_43, e243_44, e243_47, e243_50, e243_51, mk_458 hM, mp_92 hM, mk_471 hM, ↓reduceIte, Nat.reduceAdd, Nat.reduceLeDiff, Nat.reduceLT, Nat.reduceEqDiff, not_false_eq_true, false_or, true_or, or_true, or_false, n0_e, n1_ne, n1_11, bI_1, bI_fo, va_rf_some, aBk_1, aBk_0, nI_add, nI_mul, hk_si, hp_si, hl_si, hk_sp, hk_sl, hk_cp, hp_cp, hT.live, hT.ng, hT.l2, g1, nI_shr (show set < 2 ^ 31 by omega) (show j < 32 by omega), bit_and1, q, reduceCtorEq, shl_1 j (show j < 32 by omega), nI_dif hp (show set < 2 ^ 31 by omega), m_clashBits hT hj, m_isPart hd hc, q2, decide_false, bI_z, Bool.not_false, Bool.and_true, n0_01]
  · cases hf : fnd (fun g => set.testBit g && !decide (dif (dif set (2 ^ g)) (cB_ T g) = 0)) (ng_ T) 0 with
    | some j =>
      obtain ⟨h1, h2, h3, -⟩ := fnd_some _ _ _ hf
      simp only [Bool.and_eq_true, Bool.not_eq_true', decide_eq_false_iff_not] at h3
      have : tgl T set = false := by
        apply Bool.eq_false_iff.mpr
        intro hc
        exact h3.2 ((decide_eq_true_iff.mp hc) j (by omega) h3.1)
      rw [this]
      rfl
    | none =>
      have : tgl T set = true := by
        refine decide_eq_true_iff.mpr (fun g hg hb => ?_)
        have := fnd_none _ _ hf g (by omega) (by omega)
        simpa [hb] using this
      rw [this]
      dsimp only
      refine (e243_2).trans ?_
      simp only [e243_0, e243_1, e243_3, e243_4, e243_7, e243_8, e243_11, e243_12, e243_15, e243_16, e243_17, e243_18, e243_19, e243_20, e243_21, e243_24, e243_25, e243_26, e243_27, e243_28, e243_29, e243_30, e243_31, e243_32, e243_33, e243_36, e243_39, e243_42, e243_43, e243_44, e243_47, e243_50, e243_51, mk_458 hM, mp_92 hM, mk_471 hM, ↓reduceIte, Nat.reduceAdd, Nat.reduceLeDiff, Nat.reduceLT, Nat.reduceEqDiff, not_false_eq_true, false_or, true_or, or_true, or_false, n0_e, n1_ne, n1_11, bI_z, bI_1, bI_fo, va_rf_some, aBk_1, aBk_0, nI_add, nI_mul, hk_si, hp_si, hl_si, hk_sp, hk_sl, hk_cp, hp_cp, hT.live, hT.ng, hT.l2, Int32.le_refl, n1_01]
      rfl
theorem tg_b {L : Nat} : ∀ j, itn j (tgF T L) 0 ≤ j := by
  intro j
  induction j with
  | zero => exact Nat.le_refl 0
  | succ j ih =>
    rw [itn]
    generalize itn j (tgF T L) 0 = b at ih ⊢
    unfold tgF
    split <;> omega
theorem m_tangle (hT : MT h T lv) (hn : RA h 491 w) (what : Int32) : ∃ h', (∀ d, (run (d + 4) 242 0 [.ref 458, .int what, aU, aU, aU] [] h) = some (.returned (some (.int (qTanM T w what))), h')) ∧ On WP h h' := by
  have hM := hT.m
  have h7 := hT.ng7
  have h128 := p2_7 hT
  unfold qTanM
  cases hq : in_ what (nI 0) (nI 1) with
  | false =>
    refine ⟨h, fun d => ?_, On.refl⟩
    simp only [e242_0, e242_1, e242_2, e242_3, e242_6, e242_9, e242_10, e242_11, e242_12, e242_15, e242_16, e242_17, e242_18, e242_21, e242_22, e242_23, e242_27, e242_28, e242_31, e242_33, e242_34, e242_37, e242_40, e242_42, e242_45, e242_46, e242_49, e242_52, e242_53, e242_55, e242_58, e242_61, e242_63, e242_64, e242_67, e242_70, e242_71, e242_74, e242_75, e242_78, e242_81, e242_82, mk_458 hM, ↓reduceIte, Nat.reduceAdd, Nat.reduceLeDiff, Nat.reduceLT, Nat.reduceEqDiff, not_false_eq_true, false_or, true_or, or_true, or_false, n0_e, n1_ne, n1_11, bI_1, bI_fo, va_rf_some, aBk_1, aBk_0, nI_add, nI_mul, hk_si, hp_si, hl_si, hk_sp, hk_sl, hk_cp, hp_cp, m_in, hq, bI_z, reduceCtorEq]
  | true =>
    rw [if_pos rfl]
    obtain ⟨h1, e1, o1, r1, -, -⟩ := m_copies hT hn
    have o1 : On WP h h1 := o1.mono (fun _ _ q => q.W)
    have hT1 := hT.onW o1
    have hM1 := hT1.m
    have hL : lB_ T w < 2 ^ ng_ T := orN_lt _ _
    refine ⟨h1, fun d => ?_, o1⟩
    unfold tgM
    simp only [e242_0, e242_1, e242_2, e242_3, e242_6, e242_9, e242_10, e242_11, e242_12, e242_15, e242_16, e242_17, e242_18, e242_21, e242_22, e242_23, e242_27, e242_28, e242_31, e242_33, e242_34, e242_37, e242_40, e242_42, e242_45, e242_46, e242_49, e242_52, e242_53, e242_55, e242_58, e242_61, e242_63, e242_64, e242_67, e242_70, e242_71, e242_74, e242_75, e242_78, e242_81, e242_82, mk_458 hM, mk_458 hM1, ↓reduceIte, Nat.reduceAdd, Nat.reduceLeDiff, Nat.reduceLT, Nat.reduceEqDiff, not_false_eq_true, false_or, true_or, or_true, or_false, n0_e, n1_ne, n1_11, bI_1, bI_fo, va_rf_some, aBk_1, aBk_0, nI_add, nI_mul, hk_si, hp_si, hl_si, hk_sp, hk_sl, hk_cp, hp_cp, m_in, hq, bI_z, reduceCtorEq, e1, m_livingBits hT1 r1]
    generalize lB_ T w = L at hL ⊢
    refine (run_for (F := fun j b => (run (d + 4) 242 25 [.ref 458, .int what, .int (nI b), .int (nI L), .int (nI j)] [] h1)) (f := tgF T L) (a := 0) (n := L + 1) (fun j hj => ?_)).trans ?_
    · have g1 : ¬ nI L < nI j := nI_nlt (by omega) (by omega)
      have et := fun d => m_isTangle (d := d) hT1 (show j < 2 ^ ng_ T by omega)
      generalize itn j (tgF T L) 0 = b
      unfold tgF
      refine (e242_25).trans ?_
      by_cases q : dif j L = 0
      · by_cases q2 : bc_ (nI b) < bc_ (nI j)
        · have q2' : ¬ bc_ (nI j) ≤ bc_ (nI b) := Int32.not_le.mpr q2
          cases q3 : tgl T j with
          | false => simp only [e242_0, e242_1, e242_2, e242_3, e242_6, e242_9, e242_10, e242_11, e242_12, e242_15, e242_16, e242_17, e242_18, e242_21, e242_22, e242_23, e242_27, e242_28, e242_31, e242_33, e242_34, e242_37, e242_40, e242_42, e242_45, e242_46, e242_49, e242_52, e242_53, e242_55, e242_58, e242_61, e242_63, e242_64, e242_67, e242_70, e242_71, e242_74, e242_75, e242_78, e242_81, e242_82, mk_458 hM1, ↓reduceIte, Nat.reduceAdd, Nat.reduceLeDiff, Nat.reduceLT, Nat.reduceEqDiff, not_false_eq_true, false_or, true_or, or_true, or_false, n0_e, n1_ne, n1_11, bI_1, bI_fo, va_rf_some, aBk_1, aBk_0, nI_add, nI_mul, hk_si, hp_si, hl_si, hk_sp, hk_sl, hk_cp, hp_cp, g1, m_isPart (show j < 2 ^ 31 by omega) (show L < 2 ^ 31 by omega), q, decide_true, bI_z, reduceCtorEq, m_bits, q2, q2', et, q3, and_false]
          | true => simp only [e242_0, e242_1, e242_2, e242_3, e242_6, e242_9, e242_10, e242_11, e242_12, e242_15, e242_16, e242_17, e242_18, e242_21, e242_22, e242_23, e242_27, e242_28, e242_31, e242_33, e242_34, e242_37, e242_40, e242_42, e242_45, e242_46, e242_49, e242_52, e242_53, e242_55, e242_58, e242_61, e242_63, e242_64, e242_67, e242_70, e242_71, e242_74, e242_75, e242_78, e242_81, e242_82, mk_458 hM1, ↓reduceIte, Nat.reduceAdd, Nat.reduceLeDiff, Nat.reduceLT, Nat.reduceEqDiff, not_false_eq_true, false_or, true_or, or_true, or_false, n0_e, n1_ne, n1_11, bI_1, bI_fo, va_rf_some, aBk_1, aBk_0, nI_add, nI_mul, hk_si, hp_si, hl_si, hk_sp, hk_sl, hk_cp, hp_cp, g1, m_isPart (show j < 2 ^ 31 by omega) (show L < 2 ^ 31 by omega), q, decide_true, bI_z, reduceCtorEq, m_bits, q2, q2', et, q3, and_self]
        · have q2' : bc_ (nI j) ≤ bc_ (nI b) := Int32.not_lt.mp q2
          simp only [e242_0, e242_1, e242_2, e242_3, e242_6, e242_9, e242_10, e242_11, e242_12, e242_15, e242_16, e242_17, e242_18, e242_21, e242_22, e242_23, e242_27, e242_28, e242_31, e242_33, e242_34, e242_37, e242_40, e242_42, e242_45, e242_46, e242_49, e242_52, e242_53, e242_55, e242_58, e242_61, e242_63, e242_64, e242_67, e242_70, e242_71, e242_74, e242_75, e242_78, e242_81, e242_82, mk_458 hM1, ↓reduceIte, Nat.reduceAdd, Nat.reduceLeDiff, Nat.reduceLT, Nat.reduceEqDiff, not_false_eq_true, false_or, true_or, or_true, or_false, n0_e, n1_ne, n1_11, bI_1, bI_fo, va_rf_some, aBk_1, aBk_0, nI_add, nI_mul, hk_si, hp_si, hl_si, hk_sp, hk_sl, hk_cp, hp_cp, g1, m_isPart (show j < 2 ^ 31 by omega) (show L < 2 ^ 31 by omega), q, decide_true, bI_z, reduceCtorEq, m_bits, q2, q2', false_and, and_false]
      · simp only [e242_0, e242_1, e242_2, e242_3, e242_6, e242_9, e242_10, e242_11, e242_12, e242_15, e242_16, e242_17, e242_18, e242_21, e242_22, e242_23, e242_27, e242_28, e242_31, e242_33, e242_34, e242_37, e242_40, e242_42, e242_45, e242_46, e242_49, e242_52, e242_53, e242_55, e242_58, e242_61, e242_63, e242_64, e242_67, e242_70, e242_71, e242_74, e242_75, e242_78, e242_81, e242_82, mk_458 hM1, ↓reduceIte, Nat.reduceAdd, Nat.reduceLeDiff, Nat.reduceLT, Nat.reduceEqDiff, not_false_eq_true, false_or, true_or, or_true, or_false, n0_e, n1_ne, n1_11, bI_1, bI_fo, va_rf_some, aBk_1, aBk_0, nI_add, nI_mul, hk_si, hp_si, hl_si, hk_sp, hk_sl, hk_cp, hp_cp, g1, m_isPart (show j < 2 ^ 31 by omega) (show L < 2 ^ 31 by omega), q, decide_false, bI_z, false_and]
    · have g1 : nI L < nI (L + 1) := nI_lt (by omega) (by omega)
      obtain ⟨c, hc, rfl⟩ := in_n (by decide) hq
      have hcc : c = 0 ∨ c = 1 := by omega
      refine (e242_25).trans ?_
      rcases hcc with rfl | rfl
      · simp only [e242_0, e242_1, e242_2, e242_3, e242_6, e242_9, e242_10, e242_11, e242_12, e242_15, e242_16, e242_17, e242_18, e242_21, e242_22, e242_23, e242_27, e242_28, e242_31, e242_33, e242_34, e242_37, e242_40, e242_42, e242_45, e242_46, e242_49, e242_52, e242_53, e242_55, e242_58, e242_61, e242_63, e242_64, e242_67, e242_70, e242_71, e242_74, e242_75, e242_78, e242_81, e242_82, ↓reduceIte, Nat.reduceAdd, Nat.reduceLeDiff, Nat.reduceLT, Nat.reduceEqDiff, not_false_eq_true, false_or, true_or, or_true, or_false, n1_ne, n1_11, bI_z, bI_1, bI_fo, va_rf_some, aBk_1, aBk_0, nI_add, nI_mul, hk_si, hp_si, hl_si, hk_sp, hk_sl, hk_cp, hp_cp, g1, n0_e, m_bits]
      · simp only [e242_0, e242_1, e242_2, e242_3, e242_6, e242_9, e242_10, e242_11, e242_12, e242_15, e242_16, e242_17, e242_18, e242_21, e242_22, e242_23, e242_27, e242_28, e242_31, e242_33, e242_34, e242_37, e242_40, e242_42, e242_45, e242_46, e242_49, e242_52, e242_53, e242_55, e242_58, e242_61, e242_63, e242_64, e242_67, e242_70, e242_71, e242_74, e242_75, e242_78, e242_81, e242_82, ↓reduceIte, Nat.reduceAdd, Nat.reduceLeDiff, Nat.reduceLT, not_false_eq_true, false_or, true_or, or_true, or_false, n0_e, n1_11, bI_z, bI_1, bI_fo, va_rf_some, aBk_1, aBk_0, nI_add, nI_mul, hk_si, hp_si, hl_si, hk_sp, hk_sl, hk_cp, hp_cp, g1, n1_ne, nI_eqL, Nat.reduceEqDiff]
theorem m_colours (hT : MT h T lv) (hn : RA h 491 w) : ∃ h', (∀ d, (run (d + 4) 240 0 [.ref 458, aU, aU] [] h) = some (.returned (some (.int (qColM T w))), h')) ∧ On WP h h' := by
  have hM := hT.m
  have h7 := hT.ng7
  have h128 := p2_7 hT
  have hp1 : 1 ≤ 2 ^ ng_ T := Nat.one_le_two_pow
  have w9 : ∀ a f, AA 499 a f → WP a f := fun a f q => by
    have q : a = 499 := q
    unfold WP; omega
  obtain ⟨h1, e1, o1, r1, -, -⟩ := m_copies hT hn
  have o1 : On WP h h1 := o1.mono (fun _ _ q => q.W)
  have hT1 := hT.onW o1
  have hM1 := hT1.m
  have hL : lB_ T w < 2 ^ ng_ T := orN_lt _ _
  have t0 : ∀ n k, n ≤ k → coT T n k = 0 := by
    intro n
    induction n with
    | zero => intro k _; rfl
    | succ n ih =>
      intro k hk
      show up_ (coT T n) n (coV T (coT T n) n) k = 0
      unfold up_
      rw [if_neg (by omega)]
      exact ih k (by omega)
  have oA : On (AA 499) h1 (si_ h1 499 0 (nI 0)) := On.sa
  have hMA := hM1.on oA
  obtain ⟨y, e, oy, cy⟩ := run_invd (F := fun d j (x : Value × aH) => (run (d + 4) 240 13 [.ref 458, .int (nI (j + 1)), x.1] [] x.2)) (I := fun j x => On (AA 499) h1 x.2 ∧ ∀ k, k < j + 1 → hi_ x.2 499 k = coT T (j + 1) k) (n := 2 ^ ng_ T - 1) (x := (aU, si_ h1 499 0 (nI 0))) ⟨oA, fun k hk => by
      have : k = 0 := by omega
      subst this
      rw [hi_si, if_pos ⟨rfl, rfl⟩]
      rfl⟩ (fun j x hj hI => by
    obtain ⟨v, x⟩ := x
    obtain ⟨o, cx⟩ := hI
    have o : On (AA 499) h1 x := o
    have cx : ∀ k, k < j + 1 → hi_ x 499 k = coT T (j + 1) k := cx
    have hTx := hT1.on o w9
    have hMx := hTx.m
    have g1 : ¬ nI (2 ^ ng_ T) ≤ nI (j + 1) := nI_ge (by omega) (by omega)
    have g2 : j + 1 < 128 := by omega
    have oB : On (AA 499) h1 (si_ x 499 (j + 1) (nI 7)) := o.trans (On.sa)
    have hTB := hT1.on oB w9
    have hMB := hTB.m
    obtain ⟨z, ez, oz, cz, bz⟩ := run_invd (F := fun d i x => (run (d + 4) 240 38 [.ref 458, .int (nI (j + 1)), .int (nI (i + 1))] [] x)) (I := fun i x => On (AA 499) h1 x ∧ (∀ k, k < j + 1 → hi_ x 499 k = coT T (j + 1) k) ∧ hi_ x 499 (j + 1) = itn i (fun i b => if dif (i + 1) (j + 1) = 0 ∧ coT T (j + 1) (dif (j + 1) (i + 1)) + nI 1 < b ∧ calm T (i + 1) = true then coT T (j + 1) (dif (j + 1) (i + 1)) + nI 1 else b) (nI 7)) (n := j + 1) (x := si_ x 499 (j + 1) (nI 7)) ⟨oB, fun k hk => by rw [hi_si, if_neg (by omega)]; exact cx k hk, by rw [hi_si, if_pos ⟨rfl, rfl⟩]; rfl⟩ (fun i x hi hI => by
      obtain ⟨o, cx, bx⟩ := hI
      have hTx := hT1.on o w9
      have hMx := hTx.m
      rw [itn]
      generalize itn i (fun i b => if dif (i + 1) (j + 1) = 0 ∧ coT T (j + 1) (dif (j + 1) (i + 1)) + nI 1 < b ∧ calm T (i + 1) = true then coT T (j + 1) (dif (j + 1) (i + 1)) + nI 1 else b) (nI 7) = b at bx ⊢
      have g3 : ¬ nI (j + 1) < nI (i + 1) := nI_nlt (by omega) (by omega)
      have ec := fun d => m_isCalm (d := d) hTx (show i + 1 < 2 ^ ng_ T by omega)
      have ep := fun d h => m_isPart (d := d) (h := h) (show i + 1 < 2 ^ 31 by omega) (show j + 1 < 2 ^ 31 by omega)
      by_cases q : dif (i + 1) (j + 1) = 0
      · have hdl : dif (j + 1) (i + 1) < j + 1 := by
          refine Nat.lt_of_le_of_ne dif_le (fun e => ?_)
          have hz : (i + 1) = 0 := by
            apply Nat.eq_of_testBit_eq
            intro n
            have e1 := congrArg (fun x => x.testBit n) e
            have e2 := congrArg (fun x => x.testBit n) q
            simp only [dif_bit, Nat.zero_testBit] at e1 e2
            rw [Nat.zero_testBit]
            revert e1 e2
            cases (i + 1).testBit n <;> cases (j + 1).testBit n <;> simp
          omega
        have g4 : dif (j + 1) (i + 1) < 128 := by omega
        have f1 := cx _ hdl
        by_cases q2 : coT T (j + 1) (dif (j + 1) (i + 1)) + nI 1 < b
        · have q2' : ¬ b ≤ coT T (j + 1) (dif (j + 1) (i + 1)) + nI 1 := Int32.not_le.mpr q2
          cases q3 : calm T (i + 1) with
          | false =>
            refine ⟨x, fun d => ?_, o, cx, ?_⟩
            · refine (e240_38).trans ?_
              simp only [e240_0, e240_1, e240_4, e240_5, e240_8, e240_9, e240_10, e240_11, e240_12, e240_14, e240_15, e240_16, e240_19, e240_20, e240_23, e240_24, e240_25, e240_28, e240_29, e240_32, e240_33, e240_35, e240_36, e240_37, e240_39, e240_40, e240_43, e240_44, e240_45, e240_48, e240_51, e240_52, e240_55, e240_56, e240_57, e240_58, e240_59, e240_60, e240_61, e240_62, e240_63, e240_64, e240_67, e240_68, e240_69, e240_72, e240_73, e240_74, e240_77, e240_80, e240_81, e240_84, e240_85, e240_86, e240_89, e240_90, e240_91, e240_92, e240_93, e240_94, e240_95, e240_96, e240_97, e240_98, e240_101, e240_104, e240_107, e240_110, e240_111, e240_114, e240_115, e240_118, e240_119, mk_458 hMx, mp_92 hMx, mk_471 hMx, mp_127 hMx, mk_499 hMx, ↓reduceIte, Nat.reduceAdd, Nat.reduceLeDiff, Nat.reduceLT, Nat.reduceEqDiff, not_false_eq_true, false_or, true_or, or_true, or_false, n0_e, n1_ne, n1_11, bI_1, bI_fo, va_rf_some, aBk_1, aBk_0, nI_add, nI_mul, hk_si, hp_si, hl_si, hk_sp, hk_sl, hk_cp, hp_cp, g3, ep, q, decide_true, bI_z, reduceCtorEq, nI_dif (show i + 1 < 2 ^ 31 by omega) (show j + 1 < 2 ^ 31 by omega), g4, f1, g2, bx, q2', ec, q3]
            · rw [if_neg (fun z => by have := z.2.2; cases this)]; exact bx
          | true =>
            refine ⟨si_ x 499 (j + 1) (coT T (j + 1) (dif (j + 1) (i + 1)) + nI 1), fun d => ?_, o.trans (On.sa), fun k hk => by rw [hi_si, if_neg (by omega)]; exact cx k hk, ?_⟩
            · refine (e240_38).trans ?_
              simp only [e240_0, e240_1, e240_4, e240_5, e240_8, e240_9, e240_10, e240_11, e240_12, e240_14, e240_15, e240_16, e240_19, e240_20, e240_23, e240_24, e240_25, e240_28, e240_29, e240_32, e240_33, e240_35, e240_36, e240_37, e240_39, e240_40, e240_43, e240_44, e240_45, e240_48, e240_51, e240_52, e240_55, e240_56, e240_57, e240_58, e240_59, e240_60, e240_61, e240_62, e240_63, e240_64, e240_67, e240_68, e240_69, e240_72, e240_73, e240_74, e240_77, e240_80, e240_81, e240_84, e240_85, e240_86, e240_89, e240_90, e240_91, e240_92, e240_93, e240_94, e240_95, e240_96, e240_97, e240_98, e240_101, e240_104, e240_107, e240_110, e240_111, e240_114, e240_115, e240_118, e240_119, mk_458 hMx, mp_92 hMx, mk_471 hMx, mp_127 hMx, mk_499 hMx, ↓reduceIte, Nat.reduceAdd, Nat.reduceLeDiff, Nat.reduceLT, Nat.reduceEqDiff, not_false_eq_true, false_or, true_or, or_true, or_false, n0_e, n1_ne, n1_11, bI_1, bI_fo, va_rf_some, aBk_1, aBk_0, nI_add, nI_mul, hk_si, hp_si, hl_si, hk_sp, hk_sl, hk_cp, hp_cp, g3, ep, q, decide_true, bI_z, reduceCtorEq, nI_dif (show i + 1 < 2 ^ 31 by omega) (show j + 1 < 2 ^ 31 by omega), g4, f1, g2, bx, q2', ec, q3]
            · rw [if_pos ⟨q, q2, rfl⟩, hi_si, if_pos ⟨rfl, rfl⟩]
        · have q2' : b ≤ coT T (j + 1) (dif (j + 1) (i + 1)) + nI 1 := Int32.not_lt.mp q2
          refine ⟨x, fun d => ?_, o, cx, ?_⟩
          · refine (e240_38).trans ?_
            simp only [e240_0, e240_1, e240_4, e240_5, e240_8, e240_9, e240_10, e240_11, e240_12, e240_14, e240_15, e240_16, e240_19, e240_20, e240_23, e240_24, e240_25, e240_28, e240_29, e240_32, e240_33, e240_35, e240_36, e240_37, e240_39, e240_40, e240_43, e240_44, e240_45, e240_48, e240_51, e240_52, e240_55, e240_56, e240_57, e240_58, e240_59, e240_60, e240_61, e240_62, e240_63, e240_64, e240_67, e240_68, e240_69, e240_72, e240_73, e240_74, e240_77, e240_80, e240_81, e240_84, e240_85, e240_86, e240_89, e240_90, e240_91, e240_92, e240_93, e240_94, e240_95, e240_96, e240_97, e240_98, e240_101, e240_104, e240_107, e240_110, e240_111, e240_114, e240_115, e240_118, e240_119, mk_458 hMx, mp_92 hMx, mk_471 hMx, mp_127 hMx, mk_499 hMx, ↓reduceIte, Nat.reduceAdd, Nat.reduceLeDiff, Nat.reduceLT, Nat.reduceEqDiff, not_false_eq_true, false_or, true_or, or_true, or_false, n0_e, n1_ne, n1_11, bI_1, bI_fo, va_rf_some, aBk_1, aBk_0, nI_add, nI_mul, hk_si, hp_si, hl_si, hk_sp, hk_sl, hk_cp, hp_cp, g3, ep, q, decide_true, bI_z, reduceCtorEq, nI_dif (show i + 1 < 2 ^ 31 by omega) (show j + 1 < 2 ^ 31 by omega), g4, f1, g2, bx, q2']
          · rw [if_neg (fun z => q2 z.2.1)]; exact bx
      · refine ⟨x, fun d => ?_, o, cx, ?_⟩
        · refine (e240_38).trans ?_
          simp only [e240_0, e240_1, e240_4, e240_5, e240_8, e240_9, e240_10, e240_11, e240_12, e240_14, e240_15, e240_16, e240_19, e240_20, e240_23, e240_24, e240_25, e240_28, e240_29, e240_32, e240_33, e240_35, e240_36, e240_37, e240_39, e240_40, e240_43, e240_44, e240_45, e240_48, e240_51, e240_52, e240_55, e240_56, e240_57, e240_58, e240_59, e240_60, e240_61, e240_62, e240_63, e240_64, e240_67, e240_68, e240_69, e240_72, e240_73, e240_74, e240_77, e240_80, e240_81, e240_84, e240_85, e240_86, e240_89, e240_90, e240_91, e240_92, e240_93, e240_94, e240_95, e240_96, e240_97, e240_98, e240_101, e240_104, e240_107, e240_110, e240_111, e240_114, e240_115, e240_118, e240_119, mk_458 hMx, mp_92 hMx, mk_471 hMx, mp_127 hMx, mk_499 hMx, ↓reduceIte, Nat.reduceAdd, Nat.reduceLeDiff, Nat.reduceLT, Nat.reduceEqDiff, not_false_eq_true, false_or, true_or, or_true, or_false, n0_e, n1_ne, n1_11, bI_1, bI_fo, va_rf_some, aBk_1, aBk_0, nI_add, nI_mul, hk_si, hp_si, hl_si, hk_sp, hk_sl, hk_cp, hp_cp, g3, ep, q, decide_false, bI_z]
        · rw [if_neg (fun z => q z.1)]; exact bx)
    have hTz := hT1.on oz w9
    have hMz := hTz.m
    refine ⟨(.int (nI (j + 1 + 1)), z), fun d => ?_, oz, fun k hk => ?_⟩
    · have g5 : nI (j + 1) < nI (j + 1 + 1) := nI_lt (by omega) (by omega)
      refine (e240_13).trans ?_
      simp only [e240_0, e240_1, e240_4, e240_5, e240_8, e240_9, e240_10, e240_11, e240_12, e240_14, e240_15, e240_16, e240_19, e240_20, e240_23, e240_24, e240_25, e240_28, e240_29, e240_32, e240_33, e240_35, e240_36, e240_37, e240_39, e240_40, e240_43, e240_44, e240_45, e240_48, e240_51, e240_52, e240_55, e240_56, e240_57, e240_58, e240_59, e240_60, e240_61, e240_62, e240_63, e240_64, e240_67, e240_68, e240_69, e240_72, e240_73, e240_74, e240_77, e240_80, e240_81, e240_84, e240_85, e240_86, e240_89, e240_90, e240_91, e240_92, e240_93, e240_94, e240_95, e240_96, e240_97, e240_98, e240_101, e240_104, e240_107, e240_110, e240_111, e240_114, e240_115, e240_118, e240_119, mk_458 hMx, mp_92 hMx, mk_471 hMx, mp_127 hMx, mk_499 hMx, mk_458 hMB, mp_92 hMB, mk_471 hMB, mp_127 hMB, mk_499 hMB, ↓reduceIte, Nat.reduceAdd, Nat.reduceLeDiff, Nat.reduceLT, Nat.reduceEqDiff, not_false_eq_true, false_or, true_or, or_true, or_false, n0_e, n1_ne, n1_11, bI_z, bI_1, bI_fo, va_rf_some, aBk_1, aBk_0, nI_add, nI_mul, hk_si, hp_si, hl_si, hk_sp, hk_sl, hk_cp, hp_cp, hTx.live, hTx.ng, hTx.l2, shl_1 _ (show ng_ T < 32 by omega), g1, g2]
      refine (ez d).trans ?_
      refine (e240_38).trans ?_
      simp only [e240_0, e240_1, e240_4, e240_5, e240_8, e240_9, e240_10, e240_11, e240_12, e240_14, e240_15, e240_16, e240_19, e240_20, e240_23, e240_24, e240_25, e240_28, e240_29, e240_32, e240_33, e240_35, e240_36, e240_37, e240_39, e240_40, e240_43, e240_44, e240_45, e240_48, e240_51, e240_52, e240_55, e240_56, e240_57, e240_58, e240_59, e240_60, e240_61, e240_62, e240_63, e240_64, e240_67, e240_68, e240_69, e240_72, e240_73, e240_74, e240_77, e240_80, e240_81, e240_84, e240_85, e240_86, e240_89, e240_90, e240_91, e240_92, e240_93, e240_94, e240_95, e240_96, e240_97, e240_98, e240_101, e240_104, e240_107, e240_110, e240_111, e240_114, e240_115, e240_118, e240_119, mk_458 hMz, mp_92 hMz, mk_471 hMz, mp_127 hMz, mk_499 hMz, ↓reduceIte, Nat.reduceAdd, Nat.reduceLeDiff, Nat.reduceLT, Nat.reduceEqDiff, not_false_eq_true, false_or, true_or, or_true, or_false, n0_e, n1_ne, n1_11, bI_z, bI_1, bI_fo, va_rf_some, aBk_1, aBk_0, nI_add, nI_mul, hk_si, hp_si, hl_si, hk_sp, hk_sl, hk_cp, hp_cp, g5]
    · show hi_ z 499 k = up_ (coT T (j + 1)) (j + 1) (coV T (coT T (j + 1)) (j + 1)) k
      unfold up_
      by_cases q : k = j + 1
      · rw [if_pos q, q, bz]
        unfold coV
        rw [if_neg (by omega)]
      · rw [if_neg q]
        exact cz k (by omega))
  obtain ⟨v, y⟩ := y
  have oy : On (AA 499) h1 y := oy
  have hTy := hT1.on oy w9
  have hMy := hTy.m
  rw [Nat.sub_add_cancel hp1] at e cy
  have cy : ∀ k, k < 2 ^ ng_ T → hi_ y 499 k = coT T (2 ^ ng_ T) k := cy
  have ry : RA y 492 w := r1.on oy (fun f => AA.ne (by decide))
  have g6 : lB_ T w < 128 := by omega
  refine ⟨y, fun d => ?_, o1.trans (oy.mono w9)⟩
  simp only [e240_0, e240_1, e240_4, e240_5, e240_8, e240_9, e240_10, e240_11, e240_12, e240_14, e240_15, e240_16, e240_19, e240_20, e240_23, e240_24, e240_25, e240_28, e240_29, e240_32, e240_33, e240_35, e240_36, e240_37, e240_39, e240_40, e240_43, e240_44, e240_45, e240_48, e240_51, e240_52, e240_55, e240_56, e240_57, e240_58, e240_59, e240_60, e240_61, e240_62, e240_63, e240_64, e240_67, e240_68, e240_69, e240_72, e240_73, e240_74, e240_77, e240_80, e240_81, e240_84, e240_85, e240_86, e240_89, e240_90, e240_91, e240_92, e240_93, e240_94, e240_95, e240_96, e240_97, e240_98, e240_101, e240_104, e240_107, e240_110, e240_111, e240_114, e240_115, e240_118, e240_119, mk_458 hM, mp_92 hM, mk_471 hM, mp_127 hM, mk_499 hM, mk_458 hM1, mp_92 hM1, mk_471 hM1, mp_127 hM1, mk_499 hM1, ↓reduceIte, Nat.reduceAdd, Nat.reduceLeDiff, Nat.reduceLT, Nat.reduceEqDiff, not_false_eq_true, false_or, true_or, or_true, or_false, n0_e, n1_ne, n1_11, bI_z, bI_1, bI_fo, va_rf_some, aBk_1, aBk_0, nI_add, nI_mul, hk_si, hp_si, hl_si, hk_sp, hk_sl, hk_cp, hp_cp, e1]
  refine (e d).trans ?_
  refine (e240_13).trans ?_
  simp only [e240_0, e240_1, e240_4, e240_5, e240_8, e240_9, e240_10, e240_11, e240_12, e240_14, e240_15, e240_16, e240_19, e240_20, e240_23, e240_24, e240_25, e240_28, e240_29, e240_32, e240_33, e240_35, e240_36, e240_37, e240_39, e240_40, e240_43, e240_44, e240_45, e240_48, e240_51, e240_52, e240_55, e240_56, e240_57, e240_58, e240_59, e240_60, e240_61, e240_62, e240_63, e240_64, e240_67, e240_68, e240_69, e240_72, e240_73, e240_74, e240_77, e240_80, e240_81, e240_84, e240_85, e240_86, e240_89, e240_90, e240_91, e240_92, e240_93, e240_94, e240_95, e240_96, e240_97, e240_98, e240_101, e240_104, e240_107, e240_110, e240_111, e240_114, e240_115, e240_118, e240_119, mk_458 hMy, mp_92 hMy, mk_471 hMy, mp_127 hMy, mk_499 hMy, ↓reduceIte, Nat.reduceAdd, Nat.reduceLeDiff, Nat.reduceLT, Nat.reduceEqDiff, not_false_eq_true, false_or, true_or, or_true, or_false, n0_e, n1_ne, n1_11, bI_z, bI_1, bI_fo, va_rf_some, aBk_1, aBk_0, nI_add, nI_mul, hk_si, hp_si, hl_si, hk_sp, hk_sl, hk_cp, hp_cp, hTy.live, hTy.ng, hTy.l2, shl_1 _ (show ng_ T < 32 by omega), Int32.le_refl, m_livingBits hTy ry, g6, cy _ hL]
  rfl
end M11
