set_option maxRecDepth 100000
/-! M: lettings -/
section M10
variable {lv d : Nat} {h h' : aH} {T : aTx} {w r : Nat → Int32}
theorem AA.ne {a b f : Nat} (hn : a ≠ b) : ¬ AA b a f := hn
theorem m_lowestOf {set : Nat} (h0 : ¬ set = 0) (hs : set < 128) : (run (d) 230 0 [.int (nI set), aU] [] h) = some (.returned (some (.int (nI (low_ set)))), h) := by
  simp only [e230_0, e230_1, e230_3, e230_4, e230_5, e230_6, e230_7, e230_10, e230_13, e230_16, e230_17, ↓reduceIte, Nat.reduceAdd, Nat.reduceLeDiff, Nat.reduceLT, Nat.reduceEqDiff, not_false_eq_true, false_or, true_or, or_true, or_false, n0_e, n1_ne, n1_11, bI_z, bI_1, bI_fo, va_rf_some, aBk_1, aBk_0, nI_add, nI_mul, hk_si, hp_si, hl_si, hk_sp, hk_sl, hk_cp, hp_cp]
  refine (run_find (F := fun j => (run (d) 230 2 [.int (nI set), .int (nI j)] [] h)) (R := fun j => some (.returned (some (.int (nI j))), h)) (P := fun k => set.testBit k) (n := 7) (fun j hj => ?_)).trans ?_
  · refine (e230_2).trans ?_
    cases hb : set.testBit j with
    | true => simp only [e230_0, e230_1, e230_3, e230_4, e230_5, e230_6, e230_7, e230_10, e230_13, e230_16, e230_17, ↓reduceIte, Nat.reduceAdd, Nat.reduceLeDiff, Nat.reduceLT, Nat.reduceEqDiff, not_false_eq_true, false_or, true_or, or_true, or_false, n0_e, n1_ne, n1_11, bI_z, bI_1, bI_fo, va_rf_some, aBk_1, aBk_0, nI_add, nI_mul, hk_si, hp_si, hl_si, hk_sp, hk_sl, hk_cp, hp_cp, nI_shr (show set < 2 ^ 31 by omega) (show j < 32 by omega), bit_and0, hb, reduceCtorEq]
    | false => simp only [e230_0, e230_1, e230_3, e230_4, e230_5, e230_6, e230_7, e230_10, e230_13, e230_16, e230_17, ↓reduceIte, Nat.reduceAdd, Nat.reduceLeDiff, Nat.reduceLT, Nat.reduceEqDiff, not_false_eq_true, false_or, true_or, or_true, or_false, n0_e, n1_ne, n1_11, bI_z, bI_1, bI_fo, va_rf_some, aBk_1, aBk_0, nI_add, nI_mul, hk_si, hp_si, hl_si, hk_sp, hk_sl, hk_cp, hp_cp, nI_shr (show set < 2 ^ 31 by omega) (show j < 32 by omega), bit_and0, hb, reduceCtorEq]
  · rw [low_f h0 hs]
theorem m_isPart {set of : Nat} (hs : set < 2 ^ 31) (ho : of < 2 ^ 31) : (run (d) 234 0 [.int (nI set), .int (nI of)] [] h) = some (.returned (some (.int (bI (decide (dif set of = 0))))), h) := by
  have hb : dif set of < 2147483648 := dif_lt (n := 31) hs
  by_cases q : dif set of = 0
  · simp only [e234_0, e234_1, e234_2, e234_3, e234_4, e234_5, e234_8, e234_9, e234_12, e234_13, ↓reduceIte, Nat.reduceAdd, Nat.reduceLeDiff, Nat.reduceLT, Nat.reduceEqDiff, not_false_eq_true, false_or, true_or, or_true, or_false, n0_e, n1_ne, n1_11, bI_z, bI_1, bI_fo, va_rf_some, aBk_1, aBk_0, nI_add, nI_mul, hk_si, hp_si, hl_si, hk_sp, hk_sl, hk_cp, hp_cp, nI_dif ho hs, nI_z hb, q, n1_01, decide_true]
    rfl
  · simp only [e234_0, e234_1, e234_2, e234_3, e234_4, e234_5, e234_8, e234_9, e234_12, e234_13, ↓reduceIte, Nat.reduceAdd, Nat.reduceLeDiff, Nat.reduceLT, Nat.reduceEqDiff, not_false_eq_true, false_or, true_or, or_true, or_false, n0_e, n1_ne, n1_11, bI_z, bI_1, bI_fo, va_rf_some, aBk_1, aBk_0, nI_add, nI_mul, hk_si, hp_si, hl_si, hk_sp, hk_sl, hk_cp, hp_cp, nI_dif ho hs, nI_z hb, q, n0_01, decide_false]
    rfl
theorem p2_7 (hT : MT h T lv) : 2 ^ ng_ T ≤ 128 := Nat.pow_le_pow_right (n := 2) (by decide) hT.ng7
theorem p2_4 (hT : MT h T lv) : 2 ^ ns_ T ≤ 16 := Nat.pow_le_pow_right (n := 2) (by decide) hT.ns4
/-- the dead are told by 0 and 1 -/
def D01 (T : aTx) (w : Nat → Int32) : Prop := ∀ g, g < ng_ T → w (14 + g) = 0 ∨ w (14 + g) = nI 1
theorem m_valueAt (hT : MT h T lv) (hr : RA h 492 w) (hd : D01 T w) {s set : Nat} (hs : s < ns_ T) (ht : set < 2 ^ ng_ T) (hv : ∀ k, k < set → hi_ h 496 (128 * s + k) = pv_ T w s k) : ∃ h', (∀ d, (run (d + 3) 229 0 [.ref 458, .int (nI s), .int (nI set), aU, aU] [] h) = some (.returned (some (.int (pv_ T w s set))), h')) ∧ On EP h h' := by
  have hM := hT.m
  have h7 := hT.ng7
  have h4 := hT.ns4
  have h128 := p2_7 hT
  by_cases q0 : set = 0
  · subst q0
    refine ⟨h, fun d => ?_, On.refl⟩
    rw [pv_0]
    simp only [e229_0, e229_1, e229_4, e229_5, e229_6, e229_7, e229_10, e229_11, e229_12, e229_15, e229_18, e229_19, e229_20, e229_21, e229_22, e229_23, e229_24, e229_25, e229_26, e229_27, e229_28, e229_29, e229_31, e229_33, e229_36, e229_37, e229_40, e229_42, e229_43, e229_44, e229_45, e229_46, e229_49, e229_50, e229_51, e229_52, e229_55, e229_58, e229_59, e229_60, e229_61, e229_64, e229_65, e229_68, e229_69, e229_70, e229_72, e229_73, e229_74, e229_75, e229_76, e229_79, e229_80, ↓reduceIte, Nat.reduceAdd, Nat.reduceLeDiff, Nat.reduceLT, Nat.reduceEqDiff, not_false_eq_true, false_or, true_or, or_true, or_false, n1_ne, n1_11, bI_z, bI_1, bI_fo, va_rf_some, aBk_1, aBk_0, nI_add, nI_mul, hk_si, hp_si, hl_si, hk_sp, hk_sl, hk_cp, hp_cp, n0_e]
  · obtain ⟨g7, hb, -⟩ := low_s q0 (by omega)
    have el := fun d => m_lowestOf (d := d) (h := h) q0 (show set < 128 by omega)
    generalize low_ set = g at g7 hb el
    have hg : g < ng_ T := bit_lt ht hb
    have hz : (nI set = 0) = False := by rw [nI_z (by omega)]; exact eq_false q0
    have hdl := dif_ltb hb
    have ev := hv _ hdl
    have hi : 128 * s + dif set (2 ^ g) < 512 := by omega
    have h14 : 14 + g < 31 := by omega
    have hp : 2 ^ g < 2 ^ 31 := Nat.pow_lt_pow_right (by decide) (by omega)
    have hset : set < 2 ^ 31 := by omega
    have hcb : set &&& cB_ T g < 2147483648 := Nat.lt_of_le_of_lt Nat.and_le_left (by omega)
    rw [pv_rec hT.v hd hg hb]
    by_cases q1 : pv_ T w s (dif set (2 ^ g)) < 0
    · rw [if_pos (Or.inl q1)]
      refine ⟨h, fun d => ?_, On.refl⟩
      simp only [e229_0, e229_1, e229_4, e229_5, e229_6, e229_7, e229_10, e229_11, e229_12, e229_15, e229_18, e229_19, e229_20, e229_21, e229_22, e229_23, e229_24, e229_25, e229_26, e229_27, e229_28, e229_29, e229_31, e229_33, e229_36, e229_37, e229_40, e229_42, e229_43, e229_44, e229_45, e229_46, e229_49, e229_50, e229_51, e229_52, e229_55, e229_58, e229_59, e229_60, e229_61, e229_64, e229_65, e229_68, e229_69, e229_70, e229_72, e229_73, e229_74, e229_75, e229_76, e229_79, e229_80, mk_458 hM, mp_117 hM, mk_492 hM, mp_124 hM, mk_496 hM, ↓reduceIte, Nat.reduceAdd, Nat.reduceLeDiff, Nat.reduceLT, Nat.reduceEqDiff, not_false_eq_true, false_or, true_or, or_true, or_false, n0_e, n1_ne, n1_11, bI_z, bI_1, bI_fo, va_rf_some, aBk_1, aBk_0, nI_add, nI_mul, hk_si, hp_si, hl_si, hk_sp, hk_sl, hk_cp, hp_cp, hz, el, shl_1 g (show g < 32 by omega), nI_dif hp hset, hi, ev, q1]
    · by_cases q2 : w (14 + g) = nI 1
      · rw [if_pos (Or.inr (Or.inl q2))]
        refine ⟨h, fun d => ?_, On.refl⟩
        simp only [e229_0, e229_1, e229_4, e229_5, e229_6, e229_7, e229_10, e229_11, e229_12, e229_15, e229_18, e229_19, e229_20, e229_21, e229_22, e229_23, e229_24, e229_25, e229_26, e229_27, e229_28, e229_29, e229_31, e229_33, e229_36, e229_37, e229_40, e229_42, e229_43, e229_44, e229_45, e229_46, e229_49, e229_50, e229_51, e229_52, e229_55, e229_58, e229_59, e229_60, e229_61, e229_64, e229_65, e229_68, e229_69, e229_70, e229_72, e229_73, e229_74, e229_75, e229_76, e229_79, e229_80, mk_458 hM, mp_117 hM, mk_492 hM, mp_124 hM, mk_496 hM, ↓reduceIte, Nat.reduceAdd, Nat.reduceLeDiff, Nat.reduceLT, Nat.reduceEqDiff, not_false_eq_true, false_or, true_or, or_true, or_false, n0_e, n1_ne, n1_11, bI_z, bI_1, bI_fo, va_rf_some, aBk_1, aBk_0, nI_add, nI_mul, hk_si, hp_si, hl_si, hk_sp, hk_sl, hk_cp, hp_cp, hz, el, shl_1 g (show g < 32 by omega), nI_dif hp hset, hi, ev, q1, h14, hr _ h14, q2]
      · cases q3 : fit_ T w g s with
        | false =>
          rw [if_pos (Or.inr (Or.inr (Or.inl rfl)))]
          refine ⟨h, fun d => ?_, On.refl⟩
          simp only [e229_0, e229_1, e229_4, e229_5, e229_6, e229_7, e229_10, e229_11, e229_12, e229_15, e229_18, e229_19, e229_20, e229_21, e229_22, e229_23, e229_24, e229_25, e229_26, e229_27, e229_28, e229_29, e229_31, e229_33, e229_36, e229_37, e229_40, e229_42, e229_43, e229_44, e229_45, e229_46, e229_49, e229_50, e229_51, e229_52, e229_55, e229_58, e229_59, e229_60, e229_61, e229_64, e229_65, e229_68, e229_69, e229_70, e229_72, e229_73, e229_74, e229_75, e229_76, e229_79, e229_80, mk_458 hM, mp_117 hM, mk_492 hM, mp_124 hM, mk_496 hM, ↓reduceIte, Nat.reduceAdd, Nat.reduceLeDiff, Nat.reduceLT, Nat.reduceEqDiff, not_false_eq_true, false_or, true_or, or_true, or_false, n0_e, n1_ne, n1_11, bI_1, bI_fo, va_rf_some, aBk_1, aBk_0, nI_add, nI_mul, hk_si, hp_si, hl_si, hk_sp, hk_sl, hk_cp, hp_cp, hz, el, shl_1 g (show g < 32 by omega), nI_dif hp hset, hi, ev, q1, h14, hr _ h14, q2, m_doesFit hT hr hg hs, q3, bI_z]
        | true =>
          by_cases q4 : set &&& cB_ T g = 0
          · rw [if_neg (fun z => by
              rcases z with z | z | z | z
              · exact q1 z
              · exact q2 z
              · cases z
              · exact z q4)]
            obtain ⟨h2, e2, o2⟩ := m_paysAt hT hr (o := nI 0) hg hs
            refine ⟨h2, fun d => ?_, o2⟩
            simp only [e229_0, e229_1, e229_4, e229_5, e229_6, e229_7, e229_10, e229_11, e229_12, e229_15, e229_18, e229_19, e229_20, e229_21, e229_22, e229_23, e229_24, e229_25, e229_26, e229_27, e229_28, e229_29, e229_31, e229_33, e229_36, e229_37, e229_40, e229_42, e229_43, e229_44, e229_45, e229_46, e229_49, e229_50, e229_51, e229_52, e229_55, e229_58, e229_59, e229_60, e229_61, e229_64, e229_65, e229_68, e229_69, e229_70, e229_72, e229_73, e229_74, e229_75, e229_76, e229_79, e229_80, mk_458 hM, mp_117 hM, mk_492 hM, mp_124 hM, mk_496 hM, ↓reduceIte, Nat.reduceAdd, Nat.reduceLeDiff, Nat.reduceLT, Nat.reduceEqDiff, not_false_eq_true, false_or, true_or, or_true, or_false, n0_e, n1_ne, n1_11, bI_1, bI_fo, va_rf_some, aBk_1, aBk_0, nI_add, nI_mul, hk_si, hp_si, hl_si, hk_sp, hk_sl, hk_cp, hp_cp, hz, el, shl_1 g (show g < 32 by omega), nI_dif hp hset, hi, ev, q1, h14, hr _ h14, q2, m_doesFit hT hr hg hs, q3, bI_z, reduceCtorEq, m_clashBits hT hg, nI_and, nI_z hcb, q4, e2]
          · rw [if_pos (Or.inr (Or.inr (Or.inr q4)))]
            refine ⟨h, fun d => ?_, On.refl⟩
            simp only [e229_0, e229_1, e229_4, e229_5, e229_6, e229_7, e229_10, e229_11, e229_12, e229_15, e229_18, e229_19, e229_20, e229_21, e229_22, e229_23, e229_24, e229_25, e229_26, e229_27, e229_28, e229_29, e229_31, e229_33, e229_36, e229_37, e229_40, e229_42, e229_43, e229_44, e229_45, e229_46, e229_49, e229_50, e229_51, e229_52, e229_55, e229_58, e229_59, e229_60, e229_61, e229_64, e229_65, e229_68, e229_69, e229_70, e229_72, e229_73, e229_74, e229_75, e229_76, e229_79, e229_80, mk_458 hM, mp_117 hM, mk_492 hM, mp_124 hM, mk_496 hM, ↓reduceIte, Nat.reduceAdd, Nat.reduceLeDiff, Nat.reduceLT, Nat.reduceEqDiff, not_false_eq_true, false_or, true_or, or_true, or_false, n0_e, n1_ne, n1_11, bI_1, bI_fo, va_rf_some, aBk_1, aBk_0, nI_add, nI_mul, hk_si, hp_si, hl_si, hk_sp, hk_sl, hk_cp, hp_cp, hz, el, shl_1 g (show g < 32 by omega), nI_dif hp hset, hi, ev, q1, h14, hr _ h14, q2, m_doesFit hT hr hg hs, q3, bI_z, reduceCtorEq, m_clashBits hT hg, nI_and, nI_z hcb, q4]
/-- what laying values writes -/
def LVP (a f : Nat) : Prop := EP a f ∨ a = 496
theorem LVP.W {a f : Nat} (q : LVP a f) : WP a f := by
  rcases q with q | q
  · exact q.V.W
  · unfold WP; omega
/-- the values are laid -/
def VL (h : aH) (T : aTx) (w : Nat → Int32) : Prop := ∀ s, s < ns_ T → ∀ k, k < 2 ^ ng_ T → hi_ h 496 (128 * s + k) = pv_ T w s k
theorem m_fillsValues (hT : MT h T lv) (hn : RA h 491 w) (hd : D01 T w) : ∃ h', (∀ d, (run (d + 4) 228 0 [.ref 458, aU, aU] [] h) = some (.returned none, h')) ∧ On WP h h' ∧ RA h' 492 w ∧ VL h' T w := by
  have hM := hT.m
  have h7 := hT.ng7
  have h4 := hT.ns4
  have h128 := p2_7 hT
  obtain ⟨h1, e1, o1, r1, -, -⟩ := m_copies hT hn
  have o1 : On WP h h1 := o1.mono (fun _ _ q => q.W)
  have hT1 := hT.onW o1
  have hM1 := hT1.m
  obtain ⟨y, e, oy, vy⟩ := run_invd (F := fun d j (x : Value × aH) => (run (d + 4) 228 6 [.ref 458, .int (nI j), x.1] [] x.2)) (I := fun j x => On LVP h1 x.2 ∧ ∀ s, s < j → ∀ k, k < 2 ^ ng_ T → hi_ x.2 496 (128 * s + k) = pv_ T w s k) (n := ns_ T) (x := (aU, h1)) ⟨On.refl, fun s hs => absurd hs (Nat.not_lt_zero s)⟩ (fun j x hj hI => by
    obtain ⟨v, x⟩ := x
    obtain ⟨o, vx⟩ := hI
    have o : On LVP h1 x := o
    have vx : ∀ s, s < j → ∀ k, k < 2 ^ ng_ T → hi_ x 496 (128 * s + k) = pv_ T w s k := vx
    have hTx := hT1.on o (fun _ _ q => q.W)
    have hMx := hTx.m
    have g1 : ¬ nI (ns_ T) ≤ nI j := nI_ge hj (by omega)
    obtain ⟨z, ez, oz, vz⟩ := run_invd (F := fun d i x => (run (d + 4) 228 21 [.ref 458, .int (nI j), .int (nI i)] [] x)) (I := fun i x => On LVP h1 x ∧ (∀ s, s < j → ∀ k, k < 2 ^ ng_ T → hi_ x 496 (128 * s + k) = pv_ T w s k) ∧ ∀ k, k < i → hi_ x 496 (128 * j + k) = pv_ T w j k) (n := 2 ^ ng_ T) (x := x) ⟨o, vx, fun k hk => absurd hk (Nat.not_lt_zero k)⟩ (fun i x hi hI => by
      obtain ⟨o, vx, vi⟩ := hI
      have hTx := hT1.on o (fun _ _ q => q.W)
      have hMx := hTx.m
      have rx : RA x 492 w := r1.on o (fun f q => by unfold LVP EP PP at q; omega)
      obtain ⟨y, e, oy⟩ := m_valueAt hTx rx hd hj hi vi
      have hMy := hMx.on oy
      have g2 : ¬ nI (2 ^ ng_ T) ≤ nI i := nI_ge hi (by omega)
      have g3 : 128 * j + i < 512 := by omega
      have ey : ∀ f, hi_ y 496 f = hi_ x 496 f := fun f => oy.i (fun q => by unfold EP PP at q; omega)
      refine ⟨si_ y 496 (128 * j + i) (pv_ T w j i), fun d => ?_, (o.trans (oy.mono (fun _ _ q => Or.inl q))).trans (On.si (Or.inr rfl)), ?_, ?_⟩
      · refine (e228_21).trans ?_
        simp only [e228_0, e228_1, e228_4, e228_5, e228_7, e228_8, e228_11, e228_12, e228_15, e228_16, e228_19, e228_20, e228_22, e228_23, e228_24, e228_27, e228_28, e228_31, e228_32, e228_33, e228_36, e228_37, e228_40, e228_43, e228_44, e228_45, e228_46, e228_47, e228_48, e228_49, e228_50, e228_53, e228_54, e228_57, e228_60, e228_63, e228_66, mk_458 hMx, mp_89 hMx, mk_468 hMx, mp_92 hMx, mk_471 hMx, mp_124 hMx, mk_496 hMx, mk_458 hMy, mp_89 hMy, mk_468 hMy, mp_92 hMy, mk_471 hMy, mp_124 hMy, mk_496 hMy, ↓reduceIte, Nat.reduceAdd, Nat.reduceLeDiff, Nat.reduceLT, Nat.reduceEqDiff, not_false_eq_true, false_or, true_or, or_true, or_false, n0_e, n1_ne, n1_11, bI_z, bI_1, bI_fo, va_rf_some, aBk_1, aBk_0, nI_add, nI_mul, hk_si, hp_si, hl_si, hk_sp, hk_sl, hk_cp, hp_cp, hTx.live, hTx.ng, hTx.l2, shl_1 _ (show ng_ T < 32 by omega), g2, g3, e]
      · intro s hs k hk
        rw [hi_si, if_neg (by omega), ey]
        exact vx s hs k hk
      · intro k hk
        rw [hi_si]
        by_cases q : k = i
        · rw [if_pos ⟨rfl, by omega⟩, q]
        · rw [if_neg (by omega), ey]; exact vi k (by omega))
    obtain ⟨vz1, vz2⟩ := vz
    have hTz := hT1.on oz (fun _ _ q => q.W)
    have hMz := hTz.m
    refine ⟨(.int (nI (2 ^ ng_ T)), z), fun d => ?_, oz, ?_⟩
    · refine (e228_6).trans ?_
      simp only [e228_0, e228_1, e228_4, e228_5, e228_7, e228_8, e228_11, e228_12, e228_15, e228_16, e228_19, e228_20, e228_22, e228_23, e228_24, e228_27, e228_28, e228_31, e228_32, e228_33, e228_36, e228_37, e228_40, e228_43, e228_44, e228_45, e228_46, e228_47, e228_48, e228_49, e228_50, e228_53, e228_54, e228_57, e228_60, e228_63, e228_66, mk_458 hMx, mp_89 hMx, mk_468 hMx, mp_92 hMx, mk_471 hMx, mp_124 hMx, mk_496 hMx, ↓reduceIte, Nat.reduceAdd, Nat.reduceLeDiff, Nat.reduceLT, Nat.reduceEqDiff, not_false_eq_true, false_or, true_or, or_true, or_false, n0_e, n1_ne, n1_11, bI_z, bI_1, bI_fo, va_rf_some, aBk_1, aBk_0, nI_add, nI_mul, hk_si, hp_si, hl_si, hk_sp, hk_sl, hk_cp, hp_cp, hTx.live, hTx.ns, hTx.l2, g1]
      refine (ez d).trans ?_
      refine (e228_21).trans ?_
      simp only [e228_0, e228_1, e228_4, e228_5, e228_7, e228_8, e228_11, e228_12, e228_15, e228_16, e228_19, e228_20, e228_22, e228_23, e228_24, e228_27, e228_28, e228_31, e228_32, e228_33, e228_36, e228_37, e228_40, e228_43, e228_44, e228_45, e228_46, e228_47, e228_48, e228_49, e228_50, e228_53, e228_54, e228_57, e228_60, e228_63, e228_66, mk_458 hMz, mp_89 hMz, mk_468 hMz, mp_92 hMz, mk_471 hMz, mp_124 hMz, mk_496 hMz, ↓reduceIte, Nat.reduceAdd, Nat.reduceLeDiff, Nat.reduceLT, Nat.reduceEqDiff, not_false_eq_true, false_or, true_or, or_true, or_false, n0_e, n1_ne, n1_11, bI_z, bI_1, bI_fo, va_rf_some, aBk_1, aBk_0, nI_add, nI_mul, hk_si, hp_si, hl_si, hk_sp, hk_sl, hk_cp, hp_cp, hTz.live, hTz.ng, hTz.l2, shl_1 _ (show ng_ T < 32 by omega), Int32.le_refl]
    · intro s hs k hk
      by_cases q : s = j
      · rw [q]; exact vz2 k hk
      · exact vz1 s (by omega) k hk)
  obtain ⟨v, y⟩ := y
  have oy : On LVP h1 y := oy
  have vy : ∀ s, s < ns_ T → ∀ k, k < 2 ^ ng_ T → hi_ y 496 (128 * s + k) = pv_ T w s k := vy
  have hTy := hT1.on oy (fun _ _ q => q.W)
  have hMy := hTy.m
  refine ⟨y, fun d => ?_, o1.trans (oy.mono (fun _ _ q => q.W)), r1.on oy (fun f q => by unfold LVP EP PP at q; omega), vy⟩
  simp only [e228_0, e228_1, e228_4, e228_5, e228_7, e228_8, e228_11, e228_12, e228_15, e228_16, e228_19, e228_20, e228_22, e228_23, e228_24, e228_27, e228_28, e228_31, e228_32, e228_33, e228_36, e228_37, e228_40, e228_43, e228_44, e228_45, e228_46, e228_47, e228_48, e228_49, e228_50, e228_53, e228_54, e228_57, e228_60, e228_63, e228_66, mk_458 hM, mp_89 hM, mk_468 hM, mp_92 hM, mk_471 hM, mp_124 hM, mk_496 hM, ↓reduceIte, Nat.reduceAdd, Nat.reduceLeDiff, Nat.reduceLT, Nat.reduceEqDiff, not_false_eq_true, false_or, true_or, or_true, or_false, n0_e, n1_ne, n1_11, bI_z, bI_1, bI_fo, va_rf_some, aBk_1, aBk_0, nI_add, nI_mul, hk_si, hp_si, hl_si, hk_sp, hk_sl, hk_cp, hp_cp, e1]
  refine (e d).trans ?_
  refine (e228_6).trans ?_
  simp only [e228_0, e228_1, e228_4, e228_5, e228_7, e228_8, e228_11, e228_12, e228_15, e228_16, e228_19, e228_20, e228_22, e228_23, e228_24, e228_27, e228_28, e228_31, e228_32, e228_33, e228_36, e228_37, e228_40, e228_43, e228_44, e228_45, e228_46, e228_47, e228_48, e228_49, e228_50, e228_53, e228_54, e228_57, e228_60, e228_63, e228_66, mk_458 hMy, mp_89 hMy, mk_468 hMy, mp_92 hMy, mk_471 hMy, mp_124 hMy, mk_496 hMy, ↓reduceIte, Nat.reduceAdd, Nat.reduceLeDiff, Nat.reduceLT, Nat.reduceEqDiff, not_false_eq_true, false_or, true_or, or_true, or_false, n0_e, n1_ne, n1_11, bI_z, bI_1, bI_fo, va_rf_some, aBk_1, aBk_0, nI_add, nI_mul, hk_si, hp_si, hl_si, hk_sp, hk_sl, hk_cp, hp_cp, hTy.live, hTy.ns, hTy.l2, Int32.le_refl]
theorem m_alone (hT : MT h T lv) (hn : RA h 491 w) (hd : D01 T w) (s what : Int32) : ∃ h', (∀ d, (run (d + 5) 227 0 [.ref 458, .int s, .int what, aU, aU] [] h) = some (.returned (some (.int (qAln T w s what))), h')) ∧ On WP h h' := by
  have hM := hT.m
  have h7 := hT.ng7
  have h4 := hT.ns4
  have h128 := p2_7 hT
  have hp1 : 1 ≤ 2 ^ ng_ T := Nat.one_le_two_pow
  unfold qAln
  cases hq : isS T s with
  | false =>
    refine ⟨h, fun d => ?_, On.refl⟩
    simp only [e227_0, e227_1, e227_2, e227_5, e227_8, e227_9, e227_10, e227_11, e227_14, e227_17, e227_18, e227_19, e227_20, e227_23, e227_24, e227_25, e227_26, e227_30, e227_31, e227_32, e227_35, e227_36, e227_39, e227_40, e227_41, e227_44, e227_45, e227_48, e227_51, e227_52, e227_53, e227_55, e227_56, e227_57, e227_58, e227_61, e227_64, e227_65, e227_66, e227_67, e227_68, e227_69, e227_72, e227_74, e227_75, e227_78, e227_81, e227_82, e227_85, e227_86, e227_89, e227_92, e227_93, e227_94, e227_95, e227_96, e227_97, e227_100, e227_101, mk_458 hM, mp_92 hM, mk_471 hM, mp_124 hM, mk_496 hM, ↓reduceIte, Nat.reduceAdd, Nat.reduceLeDiff, Nat.reduceLT, Nat.reduceEqDiff, not_false_eq_true, false_or, true_or, or_true, or_false, n0_e, n1_ne, n1_11, bI_1, bI_fo, va_rf_some, aBk_1, aBk_0, nI_add, nI_mul, hk_si, hp_si, hl_si, hk_sp, hk_sl, hk_cp, hp_cp, m_isSunday hT, hq, bI_z, reduceCtorEq, false_and]
  | true =>
    obtain ⟨k, hk, rfl⟩ := isS_n hT.v hq
    rw [kk_n (by omega)]
    cases hq2 : in_ what (nI 0) (nI 1) with
    | false =>
      refine ⟨h, fun d => ?_, On.refl⟩
      simp only [e227_0, e227_1, e227_2, e227_5, e227_8, e227_9, e227_10, e227_11, e227_14, e227_17, e227_18, e227_19, e227_20, e227_23, e227_24, e227_25, e227_26, e227_30, e227_31, e227_32, e227_35, e227_36, e227_39, e227_40, e227_41, e227_44, e227_45, e227_48, e227_51, e227_52, e227_53, e227_55, e227_56, e227_57, e227_58, e227_61, e227_64, e227_65, e227_66, e227_67, e227_68, e227_69, e227_72, e227_74, e227_75, e227_78, e227_81, e227_82, e227_85, e227_86, e227_89, e227_92, e227_93, e227_94, e227_95, e227_96, e227_97, e227_100, e227_101, mk_458 hM, mp_92 hM, mk_471 hM, mp_124 hM, mk_496 hM, ↓reduceIte, Nat.reduceAdd, Nat.reduceLeDiff, Nat.reduceLT, Nat.reduceEqDiff, not_false_eq_true, false_or, true_or, or_true, or_false, n0_e, n1_ne, n1_11, bI_1, bI_fo, va_rf_some, aBk_1, aBk_0, nI_add, nI_mul, hk_si, hp_si, hl_si, hk_sp, hk_sl, hk_cp, hp_cp, m_isSunday hT, hq, hq2, m_in, bI_z, reduceCtorEq, and_false]
    | true =>
      rw [if_pos ⟨rfl, rfl⟩]
      obtain ⟨h1, e1, o1, r1, v1⟩ := m_fillsValues hT hn hd
      have hT1 := hT.onW o1
      have hM1 := hT1.m
      have hbest : ∀ j, j ≤ 2 ^ ng_ T - 1 → itn j (fun k' b => if pv_ T w k (k' + 1) ≤ pv_ T w k b then b else k' + 1) 0 ≤ j := by
        intro j
        induction j with
        | zero => intro _; exact Nat.le_refl 0
        | succ j ih =>
          intro hj
          rw [itn]
          split
          · have := ih (by omega); omega
          · omega
      refine ⟨h1, fun d => ?_, o1⟩
      simp only [e227_0, e227_1, e227_2, e227_5, e227_8, e227_9, e227_10, e227_11, e227_14, e227_17, e227_18, e227_19, e227_20, e227_23, e227_24, e227_25, e227_26, e227_30, e227_31, e227_32, e227_35, e227_36, e227_39, e227_40, e227_41, e227_44, e227_45, e227_48, e227_51, e227_52, e227_53, e227_55, e227_56, e227_57, e227_58, e227_61, e227_64, e227_65, e227_66, e227_67, e227_68, e227_69, e227_72, e227_74, e227_75, e227_78, e227_81, e227_82, e227_85, e227_86, e227_89, e227_92, e227_93, e227_94, e227_95, e227_96, e227_97, e227_100, e227_101, mk_458 hM, mp_92 hM, mk_471 hM, mp_124 hM, mk_496 hM, ↓reduceIte, Nat.reduceAdd, Nat.reduceLeDiff, Nat.reduceLT, Nat.reduceEqDiff, not_false_eq_true, false_or, true_or, or_true, or_false, n0_e, n1_ne, n1_11, bI_1, bI_fo, va_rf_some, aBk_1, aBk_0, nI_add, nI_mul, hk_si, hp_si, hl_si, hk_sp, hk_sl, hk_cp, hp_cp, m_isSunday hT, hq, hq2, m_in, bI_z, reduceCtorEq, e1]
      refine (run_for (F := fun j b => (run (d + 5) 227 28 [.ref 458, .int (nI k), .int what, .int (nI b), .int (nI (j + 1))] [] h1)) (f := fun k' b => if pv_ T w k (k' + 1) ≤ pv_ T w k b then b else k' + 1) (a := 0) (n := 2 ^ ng_ T - 1) (fun j hj => ?_)).trans ?_
      · have hb := hbest j (by omega)
        generalize itn j (fun k' b => if pv_ T w k (k' + 1) ≤ pv_ T w k b then b else k' + 1) 0 = b at hb ⊢
        have g1 : ¬ nI (2 ^ ng_ T) ≤ nI (j + 1) := nI_ge (by omega) (by omega)
        have g2 : 128 * k + (j + 1) < 512 := by omega
        have g3 : 128 * k + b < 512 := by omega
        have f1 := v1 k hk (j + 1) (by omega)
        have f2 := v1 k hk b (by omega)
        refine (e227_28).trans ?_
        by_cases q : pv_ T w k (j + 1) ≤ pv_ T w k b
        · simp only [e227_0, e227_1, e227_2, e227_5, e227_8, e227_9, e227_10, e227_11, e227_14, e227_17, e227_18, e227_19, e227_20, e227_23, e227_24, e227_25, e227_26, e227_30, e227_31, e227_32, e227_35, e227_36, e227_39, e227_40, e227_41, e227_44, e227_45, e227_48, e227_51, e227_52, e227_53, e227_55, e227_56, e227_57, e227_58, e227_61, e227_64, e227_65, e227_66, e227_67, e227_68, e227_69, e227_72, e227_74, e227_75, e227_78, e227_81, e227_82, e227_85, e227_86, e227_89, e227_92, e227_93, e227_94, e227_95, e227_96, e227_97, e227_100, e227_101, mk_458 hM1, mp_92 hM1, mk_471 hM1, mp_124 hM1, mk_496 hM1, ↓reduceIte, Nat.reduceAdd, Nat.reduceLeDiff, Nat.reduceLT, Nat.reduceEqDiff, not_false_eq_true, false_or, true_or, or_true, or_false, n0_e, n1_ne, n1_11, bI_z, bI_1, bI_fo, va_rf_some, aBk_1, aBk_0, nI_add, nI_mul, hk_si, hp_si, hl_si, hk_sp, hk_sl, hk_cp, hp_cp, hT1.live, hT1.ng, hT1.l2, shl_1 _ (show ng_ T < 32 by omega), g1, g2, g3, f1, f2, q]
        · simp only [e227_0, e227_1, e227_2, e227_5, e227_8, e227_9, e227_10, e227_11, e227_14, e227_17, e227_18, e227_19, e227_20, e227_23, e227_24, e227_25, e227_26, e227_30, e227_31, e227_32, e227_35, e227_36, e227_39, e227_40, e227_41, e227_44, e227_45, e227_48, e227_51, e227_52, e227_53, e227_55, e227_56, e227_57, e227_58, e227_61, e227_64, e227_65, e227_66, e227_67, e227_68, e227_69, e227_72, e227_74, e227_75, e227_78, e227_81, e227_82, e227_85, e227_86, e227_89, e227_92, e227_93, e227_94, e227_95, e227_96, e227_97, e227_100, e227_101, mk_458 hM1, mp_92 hM1, mk_471 hM1, mp_124 hM1, mk_496 hM1, ↓reduceIte, Nat.reduceAdd, Nat.reduceLeDiff, Nat.reduceLT, Nat.reduceEqDiff, not_false_eq_true, false_or, true_or, or_true, or_false, n0_e, n1_ne, n1_11, bI_z, bI_1, bI_fo, va_rf_some, aBk_1, aBk_0, nI_add, nI_mul, hk_si, hp_si, hl_si, hk_sp, hk_sl, hk_cp, hp_cp, hT1.live, hT1.ng, hT1.l2, shl_1 _ (show ng_ T < 32 by omega), g1, g2, g3, f1, f2, q]
      · have hb := hbest (2 ^ ng_ T - 1) (Nat.le_refl _)
        have eb : al_ T w k = itn (2 ^ ng_ T - 1) (fun k' b => if pv_ T w k (k' + 1) ≤ pv_ T w k b then b else k' + 1) 0 := rfl
        rw [← eb] at hb ⊢
        have g3 : 128 * k + al_ T w k < 512 := by omega
        have f2 := v1 k hk (al_ T w k) (by omega)
        rw [Nat.sub_add_cancel hp1]
        obtain ⟨c, hc, rfl⟩ := in_n (by decide) hq2
        have hcc : c = 0 ∨ c = 1 := by omega
        refine (e227_28).trans ?_
        rcases hcc with rfl | rfl
        · simp only [e227_0, e227_1, e227_2, e227_5, e227_8, e227_9, e227_10, e227_11, e227_14, e227_17, e227_18, e227_19, e227_20, e227_23, e227_24, e227_25, e227_26, e227_30, e227_31, e227_32, e227_35, e227_36, e227_39, e227_40, e227_41, e227_44, e227_45, e227_48, e227_51, e227_52, e227_53, e227_55, e227_56, e227_57, e227_58, e227_61, e227_64, e227_65, e227_66, e227_67, e227_68, e227_69, e227_72, e227_74, e227_75, e227_78, e227_81, e227_82, e227_85, e227_86, e227_89, e227_92, e227_93, e227_94, e227_95, e227_96, e227_97, e227_100, e227_101, mk_458 hM1, mp_92 hM1, mk_471 hM1, mp_124 hM1, mk_496 hM1, ↓reduceIte, Nat.reduceAdd, Nat.reduceLeDiff, Nat.reduceLT, Nat.reduceEqDiff, not_false_eq_true, false_or, true_or, or_true, or_false, n1_ne, n1_11, bI_z, bI_1, bI_fo, va_rf_some, aBk_1, aBk_0, nI_add, nI_mul, hk_si, hp_si, hl_si, hk_sp, hk_sl, hk_cp, hp_cp, hT1.live, hT1.ng, hT1.l2, shl_1 _ (show ng_ T < 32 by omega), Int32.le_refl, g3, f2, n0_e]
        · simp only [e227_0, e227_1, e227_2, e227_5, e227_8, e227_9, e227_10, e227_11, e227_14, e227_17, e227_18, e227_19, e227_20, e227_23, e227_24, e227_25, e227_26, e227_30, e227_31, e227_32, e227_35, e227_36, e227_39, e227_40, e227_41, e227_44, e227_45, e227_48, e227_51, e227_52, e227_53, e227_55, e227_56, e227_57, e227_58, e227_61, e227_64, e227_65, e227_66, e227_67, e227_68, e227_69, e227_72, e227_74, e227_75, e227_78, e227_81, e227_82, e227_85, e227_86, e227_89, e227_92, e227_93, e227_94, e227_95, e227_96, e227_97, e227_100, e227_101, mk_458 hM1, mp_92 hM1, mk_471 hM1, mp_124 hM1, mk_496 hM1, ↓reduceIte, Nat.reduceAdd, Nat.reduceLeDiff, Nat.reduceLT, not_false_eq_true, false_or, true_or, or_true, or_false, n0_e, n1_11, bI_z, bI_1, bI_fo, va_rf_some, aBk_1, aBk_0, nI_add, nI_mul, hk_si, hp_si, hl_si, hk_sp, hk_sl, hk_cp, hp_cp, hT1.live, hT1.ng, hT1.l2, shl_1 _ (show ng_ T < 32 by omega), Int32.le_refl, n1_ne, nI_eqL, Nat.reduceEqDiff]
theorem m_canBe (hT : MT h T lv) (hv : VL h T w) {s set of : Nat} (hs : s < ns_ T) (ht : set < 2 ^ ng_ T) (ho : of < 2 ^ ng_ T) : (run (d + 1) 233 0 [.ref 458, .int (nI s), .int (nI set), .int (nI of)] [] h) = some (.returned (some (.int (bI (cb_ T w s set of)))), h) := by
  have hM := hT.m
  have h4 := hT.ns4
  have h128 := p2_7 hT
  have g1 : 128 * s + set < 512 := by omega
  unfold cb_
  by_cases q : dif set of = 0
  · by_cases q2 : 0 ≤ pv_ T w s set
    · have q2' : ¬ pv_ T w s set < 0 := Int32.not_lt.mpr q2
      simp only [e233_0, e233_1, e233_2, e233_5, e233_8, e233_9, e233_12, e233_15, e233_16, e233_17, e233_18, e233_19, e233_20, e233_23, e233_24, e233_27, e233_28, mk_458 hM, mp_124 hM, mk_496 hM, ↓reduceIte, Nat.reduceAdd, Nat.reduceLeDiff, Nat.reduceLT, Nat.reduceEqDiff, not_false_eq_true, false_or, true_or, or_true, or_false, n0_e, n1_ne, n1_11, bI_1, bI_fo, va_rf_some, aBk_1, aBk_0, nI_add, nI_mul, hk_si, hp_si, hl_si, hk_sp, hk_sl, hk_cp, hp_cp, m_isPart (show set < 2 ^ 31 by omega) (show of < 2 ^ 31 by omega), q, decide_true, bI_z, reduceCtorEq, g1, hv s hs set ht, q2, q2', n1_01, Bool.and_self]
      rfl
    · have q2' : pv_ T w s set < 0 := Int32.not_le.mp q2
      simp only [e233_0, e233_1, e233_2, e233_5, e233_8, e233_9, e233_12, e233_15, e233_16, e233_17, e233_18, e233_19, e233_20, e233_23, e233_24, e233_27, e233_28, mk_458 hM, mp_124 hM, mk_496 hM, ↓reduceIte, Nat.reduceAdd, Nat.reduceLeDiff, Nat.reduceLT, Nat.reduceEqDiff, not_false_eq_true, false_or, true_or, or_true, or_false, n0_e, n1_ne, n1_11, bI_1, bI_fo, va_rf_some, aBk_1, aBk_0, nI_add, nI_mul, hk_si, hp_si, hl_si, hk_sp, hk_sl, hk_cp, hp_cp, m_isPart (show set < 2 ^ 31 by omega) (show of < 2 ^ 31 by omega), q, decide_true, decide_false, bI_z, reduceCtorEq, g1, hv s hs set ht, q2, q2', n0_01, Bool.and_false]
      rfl
  · simp only [e233_0, e233_1, e233_2, e233_5, e233_8, e233_9, e233_12, e233_15, e233_16, e233_17, e233_18, e233_19, e233_20, e233_23, e233_24, e233_27, e233_28, mk_458 hM, mp_124 hM, mk_496 hM, ↓reduceIte, Nat.reduceAdd, Nat.reduceLeDiff, Nat.reduceLT, Nat.reduceEqDiff, not_false_eq_true, false_or, true_or, or_true, or_false, n0_e, n1_ne, n1_11, bI_1, bI_fo, va_rf_some, aBk_1, aBk_0, nI_add, nI_mul, hk_si, hp_si, hl_si, hk_sp, hk_sl, hk_cp, hp_cp, m_isPart (show set < 2 ^ 31 by omega) (show of < 2 ^ 31 by omega), q, decide_false, bI_z, n0_01, Bool.false_and]
    rfl
theorem m_bestWith (hT : MT h T lv) (hv : VL h T w) {s set of : Nat} (hs : s < ns_ T) (ht : set < 2 ^ ng_ T) (ho : of < 2 ^ ng_ T) (hm : ∀ k, k < 2 ^ ng_ T → hi_ h 497 (128 * s + k) = mo_ T w s k) : (run (d) 235 0 [.ref 458, .int (nI s), .int (nI set), .int (nI of)] [] h) = some (.returned (some (.int (pv_ T w s set + mo_ T w s (dif of set)))), h) := by
  have hM := hT.m
  have h4 := hT.ns4
  have h128 := p2_7 hT
  have g1 : 128 * s + set < 512 := by omega
  have hdl : dif of set < 2 ^ ng_ T := dif_lt ho
  have g2 : 128 * s + dif of set < 640 := by omega
  simp only [e235_0, e235_1, e235_4, e235_7, e235_8, e235_9, e235_10, e235_11, e235_12, e235_13, e235_16, e235_19, e235_20, e235_21, e235_22, e235_23, e235_24, e235_25, e235_26, e235_27, e235_28, e235_29, mk_458 hM, mp_124 hM, mk_496 hM, mp_125 hM, mk_497 hM, ↓reduceIte, Nat.reduceAdd, Nat.reduceLeDiff, Nat.reduceLT, Nat.reduceEqDiff, not_false_eq_true, false_or, true_or, or_true, or_false, n0_e, n1_ne, n1_11, bI_z, bI_1, bI_fo, va_rf_some, aBk_1, aBk_0, nI_add, nI_mul, hk_si, hp_si, hl_si, hk_sp, hk_sl, hk_cp, hp_cp, g1, g2, hv s hs set ht, nI_dif (show set < 2 ^ 31 by omega) (show of < 2 ^ 31 by omega), hm _ hdl]
/-- what laying the best writes, and how it lies -/
def ML (h : aH) (T : aTx) (w : Nat → Int32) (n : Nat) : Prop := ∀ s, s ≤ n → ∀ k, k < 2 ^ ng_ T → hi_ h 497 (128 * s + k) = mo_ T w s k
theorem VL.on {S : Nat → Nat → Prop} (hv : VL h T w) (o : On S h h') (hS : ∀ f, ¬ S 496 f) : VL h' T w := fun s hs k hk => (o.i (hS _)).trans (hv s hs k hk)
theorem m_fillsBest (hT : MT h T lv) (hn : RA h 491 w) (hd : D01 T w) : ∃ h', (∀ d, (run (d + 5) 232 0 [.ref 458, aU, aU, aU, aU] [] h) = some (.returned none, h')) ∧ On WP h h' ∧ RA h' 492 w ∧ VL h' T w ∧ ML h' T w (ns_ T) := by
  have hM := hT.m
  have h7 := hT.ng7
  have h4 := hT.ns4
  have h128 := p2_7 hT
  obtain ⟨h1, e1, o1, r1, v1⟩ := m_fillsValues hT hn hd
  have hT1 := hT.onW o1
  have hM1 := hT1.m
  have w7 : ∀ a f, AA 497 a f → WP a f := fun a f q => by
    have q : a = 497 := q
    unfold WP; omega
  refine Exists.elim (run_fill (F := fun d j x => (run (d + 5) 232 6 [.ref 458, .int (nI j), aU, aU, aU] [] x)) (b := 497) (n := 128) (r := fun _ => nI 0) (h := h1) (fun d j x hj o _ _ => ?_)) (fun h2 hh => ?_)
  · have hMx := hM1.on o
    have g1 : ¬ nI 128 ≤ nI j := nI_ge hj (by decide)
    have g2 : j < 640 := by omega
    refine (e232_6).trans ?_
    simp only [e232_0, e232_1, e232_4, e232_5, e232_7, e232_10, e232_13, e232_14, e232_17, e232_18, e232_19, e232_20, e232_23, e232_26, e232_27, e232_29, e232_30, e232_33, e232_34, e232_37, e232_38, e232_41, e232_42, e232_44, e232_45, e232_46, e232_49, e232_50, e232_53, e232_54, e232_55, e232_58, e232_59, e232_60, e232_61, e232_65, e232_66, e232_69, e232_70, e232_71, e232_73, e232_74, e232_77, e232_80, e232_81, e232_82, e232_84, e232_85, e232_88, e232_89, e232_92, e232_93, e232_94, e232_96, e232_97, e232_100, e232_101, e232_104, e232_107, e232_108, e232_111, e232_114, e232_115, e232_116, e232_119, e232_120, e232_121, e232_122, e232_123, e232_124, e232_127, e232_130, e232_133, e232_136, mk_458 hMx, mp_89 hMx, mk_468 hMx, mp_92 hMx, mk_471 hMx, mp_125 hMx, mk_497 hMx, ↓reduceIte, Nat.reduceAdd, Nat.reduceLeDiff, Nat.reduceLT, Nat.reduceEqDiff, not_false_eq_true, false_or, true_or, or_true, or_false, n0_e, n1_ne, n1_11, bI_z, bI_1, bI_fo, va_rf_some, aBk_1, aBk_0, nI_add, nI_mul, hk_si, hp_si, hl_si, hk_sp, hk_sl, hk_cp, hp_cp, g1, g2]
  obtain ⟨e2, o2, f2⟩ := hh
  have o2 : On (AA 497) h1 h2 := o2.mono (fun a f q => q.1)
  have hM2 := hM1.on o2
  have m0 : ML h2 T w 0 := fun s hs k hk => by
    have : s = 0 := by omega
    subst this
    rw [Nat.mul_zero, Nat.zero_add]
    exact f2 k (by omega)
  obtain ⟨y, e, oy, my⟩ := run_invd (F := fun d j (x : (Value × Value × Value) × aH) => (run (d + 5) 232 28 [.ref 458, .int (nI j), x.1.1, x.1.2.1, x.1.2.2] [] x.2)) (I := fun j x => On (AA 497) h1 x.2 ∧ ML x.2 T w j) (n := ns_ T) (x := ((aU, aU, aU), h2)) ⟨o2, m0⟩ (fun j x hj hI => by
    obtain ⟨⟨v2, v3, v4⟩, x⟩ := x
    obtain ⟨o, mx⟩ := hI
    have o : On (AA 497) h1 x := o
    have mx : ML x T w j := mx
    have hTx := hT1.on o w7
    have hMx := hTx.m
    have g1 : ¬ nI (ns_ T) ≤ nI j := nI_ge hj (by omega)
    obtain ⟨z, ez, oz, mz1, mz2⟩ := run_invd (F := fun d i (x : (Value × Value) × aH) => (run (d + 5) 232 43 [.ref 458, .int (nI j), .int (nI i), x.1.1, x.1.2] [] x.2)) (I := fun i x => On (AA 497) h1 x.2 ∧ ML x.2 T w j ∧ ∀ k, k < i → hi_ x.2 497 (128 * (j + 1) + k) = mo_ T w (j + 1) k) (n := 2 ^ ng_ T) (x := ((v3, v4), x)) ⟨o, mx, fun k hk => absurd hk (Nat.not_lt_zero k)⟩ (fun i x hi hI => by
      obtain ⟨⟨v3, v4⟩, x⟩ := x
      obtain ⟨o, mx, mi⟩ := hI
      have o : On (AA 497) h1 x := o
      have mx : ML x T w j := mx
      have mi : ∀ k, k < i → hi_ x 497 (128 * (j + 1) + k) = mo_ T w (j + 1) k := mi
      have hTx := hT1.on o w7
      have hMx := hTx.m
      have vx : VL x T w := v1.on o (fun f => AA.ne (by decide))
      have g2 : ¬ nI (2 ^ ng_ T) ≤ nI i := nI_ge hi (by omega)
      have g3 : 128 * j + 128 + i < 640 := by omega
      have inner : ∀ d, (run (d + 5) 232 63 [.ref 458, .int (nI j), .int (nI i), .int (nI 0), .int (nI 0)] [] x) = (run (d + 5) 232 63 [.ref 458, .int (nI j), .int (nI i), .int (mo_ T w (j + 1) i), .int (nI (i + 1))] [] x) := fun d => by
        rw [mo_]
        refine run_for (F := fun c b => (run (d + 5) 232 63 [.ref 458, .int (nI j), .int (nI i), .int b, .int (nI c)] [] x)) (f := fun set b => if cb_ T w j set i = true ∧ b < pv_ T w j set + mo_ T w j (dif i set) then pv_ T w j set + mo_ T w j (dif i set) else b) (a := nI 0) (n := i + 1) (fun c hc => ?_)
        have g4 : ¬ nI i < nI c := nI_nlt (by omega) (by omega)
        have ec := fun d => m_canBe (d := d) hTx vx hj (show c < 2 ^ ng_ T by omega) hi
        have eb := fun d => m_bestWith (d := d) hTx vx hj (show c < 2 ^ ng_ T by omega) hi (fun k hk => mx j (Nat.le_refl j) k hk)
        generalize itn c (fun set b => if cb_ T w j set i = true ∧ b < pv_ T w j set + mo_ T w j (dif i set) then pv_ T w j set + mo_ T w j (dif i set) else b) (nI 0) = b
        refine (e232_63).trans ?_
        cases q : cb_ T w j c i with
        | false => simp only [e232_0, e232_1, e232_4, e232_5, e232_7, e232_10, e232_13, e232_14, e232_17, e232_18, e232_19, e232_20, e232_23, e232_26, e232_27, e232_29, e232_30, e232_33, e232_34, e232_37, e232_38, e232_41, e232_42, e232_44, e232_45, e232_46, e232_49, e232_50, e232_53, e232_54, e232_55, e232_58, e232_59, e232_60, e232_61, e232_65, e232_66, e232_69, e232_70, e232_71, e232_73, e232_74, e232_77, e232_80, e232_81, e232_82, e232_84, e232_85, e232_88, e232_89, e232_92, e232_93, e232_94, e232_96, e232_97, e232_100, e232_101, e232_104, e232_107, e232_108, e232_111, e232_114, e232_115, e232_116, e232_119, e232_120, e232_121, e232_122, e232_123, e232_124, e232_127, e232_130, e232_133, e232_136, mk_458 hMx, mp_89 hMx, mk_468 hMx, mp_92 hMx, mk_471 hMx, mp_125 hMx, mk_497 hMx, ↓reduceIte, Nat.reduceAdd, Nat.reduceLeDiff, Nat.reduceLT, Nat.reduceEqDiff, not_false_eq_true, false_or, true_or, or_true, or_false, n0_e, n1_ne, n1_11, bI_1, bI_fo, va_rf_some, aBk_1, aBk_0, nI_add, nI_mul, hk_si, hp_si, hl_si, hk_sp, hk_sl, hk_cp, hp_cp, g4, ec, q, bI_z, reduceCtorEq, false_and]
        | true =>
          by_cases q2 : b < pv_ T w j c + mo_ T w j (dif i c)
          · have q2' : ¬ pv_ T w j c + mo_ T w j (dif i c) ≤ b := Int32.not_le.mpr q2
            simp only [e232_0, e232_1, e232_4, e232_5, e232_7, e232_10, e232_13, e232_14, e232_17, e232_18, e232_19, e232_20, e232_23, e232_26, e232_27, e232_29, e232_30, e232_33, e232_34, e232_37, e232_38, e232_41, e232_42, e232_44, e232_45, e232_46, e232_49, e232_50, e232_53, e232_54, e232_55, e232_58, e232_59, e232_60, e232_61, e232_65, e232_66, e232_69, e232_70, e232_71, e232_73, e232_74, e232_77, e232_80, e232_81, e232_82, e232_84, e232_85, e232_88, e232_89, e232_92, e232_93, e232_94, e232_96, e232_97, e232_100, e232_101, e232_104, e232_107, e232_108, e232_111, e232_114, e232_115, e232_116, e232_119, e232_120, e232_121, e232_122, e232_123, e232_124, e232_127, e232_130, e232_133, e232_136, mk_458 hMx, mp_89 hMx, mk_468 hMx, mp_92 hMx, mk_471 hMx, mp_125 hMx, mk_497 hMx, ↓reduceIte, Nat.reduceAdd, Nat.reduceLeDiff, Nat.reduceLT, Nat.reduceEqDiff, not_false_eq_true, false_or, true_or, or_true, or_false, n0_e, n1_ne, n1_11, bI_1, bI_fo, va_rf_some, aBk_1, aBk_0, nI_add, nI_mul, hk_si, hp_si, hl_si, hk_sp, hk_sl, hk_cp, hp_cp, g4, ec, eb, q, bI_z, reduceCtorEq, true_and, q2, q2']
          · have q2' : pv_ T w j c + mo_ T w j (dif i c) ≤ b := Int32.not_lt.mp q2
            simp only [e232_0, e232_1, e232_4, e232_5, e232_7, e232_10, e232_13, e232_14, e232_17, e232_18, e232_19, e232_20, e232_23, e232_26, e232_27, e232_29, e232_30, e232_33, e232_34, e232_37, e232_38, e232_41, e232_42, e232_44, e232_45, e232_46, e232_49, e232_50, e232_53, e232_54, e232_55, e232_58, e232_59, e232_60, e232_61, e232_65, e232_66, e232_69, e232_70, e232_71, e232_73, e232_74, e232_77, e232_80, e232_81, e232_82, e232_84, e232_85, e232_88, e232_89, e232_92, e232_93, e232_94, e232_96, e232_97, e232_100, e232_101, e232_104, e232_107, e232_108, e232_111, e232_114, e232_115, e232_116, e232_119, e232_120, e232_121, e232_122, e232_123, e232_124, e232_127, e232_130, e232_133, e232_136, mk_458 hMx, mp_89 hMx, mk_468 hMx, mp_92 hMx, mk_471 hMx, mp_125 hMx, mk_497 hMx, ↓reduceIte, Nat.reduceAdd, Nat.reduceLeDiff, Nat.reduceLT, Nat.reduceEqDiff, not_false_eq_true, false_or, true_or, or_true, or_false, n0_e, n1_ne, n1_11, bI_1, bI_fo, va_rf_some, aBk_1, aBk_0, nI_add, nI_mul, hk_si, hp_si, hl_si, hk_sp, hk_sl, hk_cp, hp_cp, g4, ec, eb, q, bI_z, reduceCtorEq, true_and, q2, q2']
      refine ⟨((.int (mo_ T w (j + 1) i), .int (nI (i + 1))), si_ x 497 (128 * j + 128 + i) (mo_ T w (j + 1) i)), fun d => ?_, o.trans (On.sa), ?_, ?_⟩
      · have g5 : nI i < nI (i + 1) := nI_lt (by omega) (by omega)
        refine (e232_43).trans ?_
        simp only [e232_0, e232_1, e232_4, e232_5, e232_7, e232_10, e232_13, e232_14, e232_17, e232_18, e232_19, e232_20, e232_23, e232_26, e232_27, e232_29, e232_30, e232_33, e232_34, e232_37, e232_38, e232_41, e232_42, e232_44, e232_45, e232_46, e232_49, e232_50, e232_53, e232_54, e232_55, e232_58, e232_59, e232_60, e232_61, e232_65, e232_66, e232_69, e232_70, e232_71, e232_73, e232_74, e232_77, e232_80, e232_81, e232_82, e232_84, e232_85, e232_88, e232_89, e232_92, e232_93, e232_94, e232_96, e232_97, e232_100, e232_101, e232_104, e232_107, e232_108, e232_111, e232_114, e232_115, e232_116, e232_119, e232_120, e232_121, e232_122, e232_123, e232_124, e232_127, e232_130, e232_133, e232_136, mk_458 hMx, mp_89 hMx, mk_468 hMx, mp_92 hMx, mk_471 hMx, mp_125 hMx, mk_497 hMx, ↓reduceIte, Nat.reduceAdd, Nat.reduceLeDiff, Nat.reduceLT, Nat.reduceEqDiff, not_false_eq_true, false_or, true_or, or_true, or_false, n0_e, n1_ne, n1_11, bI_z, bI_1, bI_fo, va_rf_some, aBk_1, aBk_0, nI_add, nI_mul, hk_si, hp_si, hl_si, hk_sp, hk_sl, hk_cp, hp_cp, hTx.live, hTx.ng, hTx.l2, shl_1 _ (show ng_ T < 32 by omega), g2]
        refine (inner d).trans ?_
        refine (e232_63).trans ?_
        simp only [e232_0, e232_1, e232_4, e232_5, e232_7, e232_10, e232_13, e232_14, e232_17, e232_18, e232_19, e232_20, e232_23, e232_26, e232_27, e232_29, e232_30, e232_33, e232_34, e232_37, e232_38, e232_41, e232_42, e232_44, e232_45, e232_46, e232_49, e232_50, e232_53, e232_54, e232_55, e232_58, e232_59, e232_60, e232_61, e232_65, e232_66, e232_69, e232_70, e232_71, e232_73, e232_74, e232_77, e232_80, e232_81, e232_82, e232_84, e232_85, e232_88, e232_89, e232_92, e232_93, e232_94, e232_96, e232_97, e232_100, e232_101, e232_104, e232_107, e232_108, e232_111, e232_114, e232_115, e232_116, e232_119, e232_120, e232_121, e232_122, e232_123, e232_124, e232_127, e232_130, e232_133, e232_136, mk_458 hMx, mp_89 hMx, mk_468 hMx, mp_92 hMx, mk_471 hMx, mp_125 hMx, mk_497 hMx, ↓reduceIte, Nat.reduceAdd, Nat.reduceLeDiff, Nat.reduceLT, Nat.reduceEqDiff, not_false_eq_true, false_or, true_or, or_true, or_false, n0_e, n1_ne, n1_11, bI_z, bI_1, bI_fo, va_rf_some, aBk_1, aBk_0, nI_add, nI_mul, hk_si, hp_si, hl_si, hk_sp, hk_sl, hk_cp, hp_cp, g5, g3]
      · intro s hs k hk
        rw [hi_si, if_neg (by omega)]
        exact mx s hs k hk
      · intro k hk
        rw [hi_si]
        by_cases q : k = i
        · rw [if_pos ⟨rfl, by omega⟩, q]
        · rw [if_neg (by omega)]; exact mi k (by omega))
    obtain ⟨⟨u3, u4⟩, z⟩ := z
    have oz : On (AA 497) h1 z := oz
    have mz1 : ML z T w j := mz1
    have mz2 : ∀ k, k < 2 ^ ng_ T → hi_ z 497 (128 * (j + 1) + k) = mo_ T w (j + 1) k := mz2
    have hTz := hT1.on oz w7
    have hMz := hTz.m
    refine ⟨((.int (nI (2 ^ ng_ T)), u3, u4), z), fun d => ?_, oz, ?_⟩
    · refine (e232_28).trans ?_
      simp only [e232_0, e232_1, e232_4, e232_5, e232_7, e232_10, e232_13, e232_14, e232_17, e232_18, e232_19, e232_20, e232_23, e232_26, e232_27, e232_29, e232_30, e232_33, e232_34, e232_37, e232_38, e232_41, e232_42, e232_44, e232_45, e232_46, e232_49, e232_50, e232_53, e232_54, e232_55, e232_58, e232_59, e232_60, e232_61, e232_65, e232_66, e232_69, e232_70, e232_71, e232_73, e232_74, e232_77, e232_80, e232_81, e232_82, e232_84, e232_85, e232_88, e232_89, e232_92, e232_93, e232_94, e232_96, e232_97, e232_100, e232_101, e232_104, e232_107, e232_108, e232_111, e232_114, e232_115, e232_116, e232_119, e232_120, e232_121, e232_122, e232_123, e232_124, e232_127, e232_130, e232_133, e232_136, mk_458 hMx, mp_89 hMx, mk_468 hMx, mp_92 hMx, mk_471 hMx, mp_125 hMx, mk_497 hMx, ↓reduceIte, Nat.reduceAdd, Nat.reduceLeDiff, Nat.reduceLT, Nat.reduceEqDiff, not_false_eq_true, false_or, true_or, or_true, or_false, n0_e, n1_ne, n1_11, bI_z, bI_1, bI_fo, va_rf_some, aBk_1, aBk_0, nI_add, nI_mul, hk_si, hp_si, hl_si, hk_sp, hk_sl, hk_cp, hp_cp, hTx.live, hTx.ns, hTx.l2, g1]
      refine (ez d).trans ?_
      refine (e232_43).trans ?_
      simp only [e232_0, e232_1, e232_4, e232_5, e232_7, e232_10, e232_13, e232_14, e232_17, e232_18, e232_19, e232_20, e232_23, e232_26, e232_27, e232_29, e232_30, e232_33, e232_34, e232_37, e232_38, e232_41, e232_42, e232_44, e232_45, e232_46, e232_49, e232_50, e232_53, e232_54, e232_55, e232_58, e232_59, e232_60, e232_61, e232_65, e232_66, e232_69, e232_70, e232_71, e232_73, e232_74, e232_77, e232_80, e232_81, e232_82, e232_84, e232_85, e232_88, e232_89, e232_92, e232_93, e232_94, e232_96, e232_97, e232_100, e232_101, e232_104, e232_107, e232_108, e232_111, e232_114, e232_115, e232_116, e232_119, e232_120, e232_121, e232_122, e232_123, e232_124, e232_127, e232_130, e232_133, e232_136, mk_458 hMz, mp_89 hMz, mk_468 hMz, mp_92 hMz, mk_471 hMz, mp_125 hMz, mk_497 hMz, ↓reduceIte, Nat.reduceAdd, Nat.reduceLeDiff, Nat.reduceLT, Nat.reduceEqDiff, not_false_eq_true, false_or, true_or, or_true, or_false, n0_e, n1_ne, n1_11, bI_z, bI_1, bI_fo, va_rf_some, aBk_1, aBk_0, nI_add, nI_mul, hk_si, hp_si, hl_si, hk_sp, hk_sl, hk_cp, hp_cp, hTz.live, hTz.ng, hTz.l2, shl_1 _ (show ng_ T < 32 by omega), Int32.le_refl]
    · intro s hs k hk
      by_cases q : s = j + 1
      · rw [q]; exact mz2 k hk
      · exact mz1 s (by omega) k hk)
  obtain ⟨⟨v2, v3, v4⟩, y⟩ := y
  have oy : On (AA 497) h1 y := oy
  have my : ML y T w (ns_ T) := my
  have hTy := hT1.on oy w7
  have hMy := hTy.m
  refine ⟨y, fun d => ?_, o1.trans (oy.mono w7), r1.on oy (fun f => AA.ne (by decide)), v1.on oy (fun f => AA.ne (by decide)), my⟩
  simp only [e232_0, e232_1, e232_4, e232_5, e232_7, e232_10, e232_13, e232_14, e232_17, e232_18, e232_19, e232_20, e232_23, e232_26, e232_27, e232_29, e232_30, e232_33, e232_34, e232_37, e232_38, e232_41, e232_42, e232_44, e232_45, e232_46, e232_49, e232_50, e232_53, e232_54, e232_55, e232_58, e232_59, e232_60, e232_61, e232_65, e232_66, e232_69, e232_70, e232_71, e232_73, e232_74, e232_77, e232_80, e232_81, e232_82, e232_84, e232_85, e232_88, e232_89, e232_92, e232_93, e232_94, e232_96, e232_97, e232_100, e232_101, e232_104, e232_107, e232_108, e232_111, e232_114, e232_115, e232_116, e232_119, e232_120, e232_121, e232_122, e232_123, e232_124, e232_127, e232_130, e232_133, e232_136, mk_458 hM, mp_89 hM, mk_468 hM, mp_92 hM, mk_471 hM, mp_125 hM, mk_497 hM, ↓reduceIte, Nat.reduceAdd, Nat.reduceLeDiff, Nat.reduceLT, Nat.reduceEqDiff, not_false_eq_true, false_or, true_or, or_true, or_false, n0_e, n1_ne, n1_11, bI_z, bI_1, bI_fo, va_rf_some, aBk_1, aBk_0, nI_add, nI_mul, hk_si, hp_si, hl_si, hk_sp, hk_sl, hk_cp, hp_cp, e1]
  refine (e2 d).trans ?_
  refine (e232_6).trans ?_
  simp only [e232_0, e232_1, e232_4, e232_5, e232_7, e232_10, e232_13, e232_14, e232_17, e232_18, e232_19, e232_20, e232_23, e232_26, e232_27, e232_29, e232_30, e232_33, e232_34, e232_37, e232_38, e232_41, e232_42, e232_44, e232_45, e232_46, e232_49, e232_50, e232_53, e232_54, e232_55, e232_58, e232_59, e232_60, e232_61, e232_65, e232_66, e232_69, e232_70, e232_71, e232_73, e232_74, e232_77, e232_80, e232_81, e232_82, e232_84, e232_85, e232_88, e232_89, e232_92, e232_93, e232_94, e232_96, e232_97, e232_100, e232_101, e232_104, e232_107, e232_108, e232_111, e232_114, e232_115, e232_116, e232_119, e232_120, e232_121, e232_122, e232_123, e232_124, e232_127, e232_130, e232_133, e232_136, mk_458 hM2, mp_89 hM2, mk_468 hM2, mp_92 hM2, mk_471 hM2, mp_125 hM2, mk_497 hM2, ↓reduceIte, Nat.reduceAdd, Nat.reduceLeDiff, Nat.reduceLT, Nat.reduceEqDiff, not_false_eq_true, false_or, true_or, or_true, or_false, n0_e, n1_ne, n1_11, bI_z, bI_1, bI_fo, va_rf_some, aBk_1, aBk_0, nI_add, nI_mul, hk_si, hp_si, hl_si, hk_sp, hk_sl, hk_cp, hp_cp, Int32.le_refl]
  refine (e d).trans ?_
  refine (e232_28).trans ?_
  simp only [e232_0, e232_1, e232_4, e232_5, e232_7, e232_10, e232_13, e232_14, e232_17, e232_18, e232_19, e232_20, e232_23, e232_26, e232_27, e232_29, e232_30, e232_33, e232_34, e232_37, e232_38, e232_41, e232_42, e232_44, e232_45, e232_46, e232_49, e232_50, e232_53, e232_54, e232_55, e232_58, e232_59, e232_60, e232_61, e232_65, e232_66, e232_69, e232_70, e232_71, e232_73, e232_74, e232_77, e232_80, e232_81, e232_82, e232_84, e232_85, e232_88, e232_89, e232_92, e232_93, e232_94, e232_96, e232_97, e232_100, e232_101, e232_104, e232_107, e232_108, e232_111, e232_114, e232_115, e232_116, e232_119, e232_120, e232_121, e232_122, e232_123, e232_124, e232_127, e232_130, e232_133, e232_136, mk_458 hMy, mp_89 hMy, mk_468 hMy, mp_92 hMy, mk_471 hMy, mp_125 hMy, mk_497 hMy, ↓reduceIte, Nat.reduceAdd, Nat.reduceLeDiff, Nat.reduceLT, Nat.reduceEqDiff, not_false_eq_true, false_or, true_or, or_true, or_false, n0_e, n1_ne, n1_11, bI_z, bI_1, bI_fo, va_rf_some, aBk_1, aBk_0, nI_add, nI_mul, hk_si, hp_si, hl_si, hk_sp, hk_sl, hk_cp, hp_cp, hTy.live, hTy.ns, hTy.l2, Int32.le_refl]
theorem m_leastFor (hT : MT h T lv) (hv : VL h T w) (hm : ML h T w (ns_ T)) {s of : Nat} (hs : s < ns_ T) (ho : of < 2 ^ ng_ T) : (run (d + 2) 237 0 [.ref 458, .int (nI s), .int (nI of), aU] [] h) = some (.returned (some (.int (nI (lf_ T w s of)))), h) := by
  have hM := hT.m
  have h4 := hT.ns4
  have h128 := p2_7 hT
  simp only [e237_0, e237_1, e237_3, e237_4, e237_5, e237_6, e237_9, e237_12, e237_13, e237_14, e237_15, e237_16, e237_19, e237_20, e237_23, e237_26, e237_27, e237_28, e237_31, e237_32, e237_33, e237_34, e237_35, e237_38, e237_41, e237_44, e237_45, ↓reduceIte, Nat.reduceAdd, Nat.reduceLeDiff, Nat.reduceLT, Nat.reduceEqDiff, not_false_eq_true, false_or, true_or, or_true, or_false, n0_e, n1_ne, n1_11, bI_z, bI_1, bI_fo, va_rf_some, aBk_1, aBk_0, nI_add, nI_mul, hk_si, hp_si, hl_si, hk_sp, hk_sl, hk_cp, hp_cp]
  refine (run_find (F := fun j => (run (d + 2) 237 2 [.ref 458, .int (nI s), .int (nI of), .int (nI j)] [] h)) (R := fun j => some (.returned (some (.int (nI j))), h)) (P := lfP T w s of) (n := of + 1) (fun j hj => ?_)).trans ?_
  · have ec := fun d => m_canBe (d := d) hT hv hs (show j < 2 ^ ng_ T by omega) ho
    have eb := fun d => m_bestWith (d := d) hT hv hs (show j < 2 ^ ng_ T by omega) ho (fun k hk => hm s (by omega) k hk)
    have g1 : 128 * s + 128 + of < 640 := by omega
    have f1 : hi_ h 497 (128 * s + 128 + of) = mo_ T w (s + 1) of := hm (s + 1) (by omega) of ho
    unfold lfP
    refine (e237_2).trans ?_
    cases q : cb_ T w s j of with
    | false => simp only [e237_0, e237_1, e237_3, e237_4, e237_5, e237_6, e237_9, e237_12, e237_13, e237_14, e237_15, e237_16, e237_19, e237_20, e237_23, e237_26, e237_27, e237_28, e237_31, e237_32, e237_33, e237_34, e237_35, e237_38, e237_41, e237_44, e237_45, mk_458 hM, mp_125 hM, mk_497 hM, ↓reduceIte, Nat.reduceAdd, Nat.reduceLeDiff, Nat.reduceLT, Nat.reduceEqDiff, not_false_eq_true, false_or, true_or, or_true, or_false, n0_e, n1_ne, n1_11, bI_1, bI_fo, va_rf_some, aBk_1, aBk_0, nI_add, nI_mul, hk_si, hp_si, hl_si, hk_sp, hk_sl, hk_cp, hp_cp, ec, q, bI_z, reduceCtorEq, Bool.false_and]
    | true =>
      by_cases q2 : pv_ T w s j + mo_ T w s (dif of j) = mo_ T w (s + 1) of
      · simp only [e237_0, e237_1, e237_3, e237_4, e237_5, e237_6, e237_9, e237_12, e237_13, e237_14, e237_15, e237_16, e237_19, e237_20, e237_23, e237_26, e237_27, e237_28, e237_31, e237_32, e237_33, e237_34, e237_35, e237_38, e237_41, e237_44, e237_45, mk_458 hM, mp_125 hM, mk_497 hM, ↓reduceIte, Nat.reduceAdd, Nat.reduceLeDiff, Nat.reduceLT, Nat.reduceEqDiff, not_false_eq_true, false_or, true_or, or_true, or_false, n0_e, n1_ne, n1_11, bI_1, bI_fo, va_rf_some, aBk_1, aBk_0, nI_add, nI_mul, hk_si, hp_si, hl_si, hk_sp, hk_sl, hk_cp, hp_cp, ec, eb, q, bI_z, reduceCtorEq, g1, f1, q2, decide_true, Bool.and_self]
      · simp only [e237_0, e237_1, e237_3, e237_4, e237_5, e237_6, e237_9, e237_12, e237_13, e237_14, e237_15, e237_16, e237_19, e237_20, e237_23, e237_26, e237_27, e237_28, e237_31, e237_32, e237_33, e237_34, e237_35, e237_38, e237_41, e237_44, e237_45, mk_458 hM, mp_125 hM, mk_497 hM, ↓reduceIte, Nat.reduceAdd, Nat.reduceLeDiff, Nat.reduceLT, Nat.reduceEqDiff, not_false_eq_true, false_or, true_or, or_true, or_false, n0_e, n1_ne, n1_11, bI_1, bI_fo, va_rf_some, aBk_1, aBk_0, nI_add, nI_mul, hk_si, hp_si, hl_si, hk_sp, hk_sl, hk_cp, hp_cp, ec, eb, q, bI_z, reduceCtorEq, g1, f1, q2, decide_false, Bool.and_false]
  · rw [lf_f]
theorem lets_b {i : Nat} : ∀ j, itn j (fun k of => dif of (lf_ T w (ns_ T - 1 - k) of)) (lB_ T w) < 2 ^ ng_ T := by
  intro j
  induction j with
  | zero => exact orN_lt _ _
  | succ j ih => exact dif_lt ih
theorem m_letting (hT : MT h T lv) (hn : RA h 491 w) (hd : D01 T w) (i : Int32) : ∃ h', (∀ d, (run (d + 6) 231 0 [.ref 458, .int i, aU, aU] [] h) = some (.returned (some (.int (qLetM T w i))), h')) ∧ On WP h h' := by
  have hM := hT.m
  have h7 := hT.ng7
  have h4 := hT.ns4
  have h128 := p2_7 hT
  unfold qLetM
  by_cases q : i = -1
  · rw [if_pos q]
    obtain ⟨h1, e1, o1, r1, v1, m1⟩ := m_fillsBest hT hn hd
    have hT1 := hT.onW o1
    have hM1 := hT1.m
    have hl : lB_ T w < 2 ^ ng_ T := orN_lt _ _
    have g1 : 128 * ns_ T + lB_ T w < 640 := by omega
    refine ⟨h1, fun d => ?_, o1⟩
    simp only [e231_0, e231_1, e231_2, e231_5, e231_6, e231_7, e231_10, e231_13, e231_14, e231_15, e231_16, e231_19, e231_20, e231_23, e231_24, e231_25, e231_26, e231_29, e231_30, e231_33, e231_36, e231_37, e231_40, e231_41, e231_44, e231_45, e231_46, e231_47, e231_48, e231_49, e231_50, e231_51, e231_54, e231_55, e231_58, e231_59, e231_60, e231_61, e231_63, e231_64, e231_67, e231_68, e231_69, e231_70, e231_71, e231_74, e231_75, e231_76, e231_77, e231_78, e231_81, e231_84, e231_85, e231_86, e231_87, e231_90, mk_458 hM, mp_89 hM, mk_468 hM, mp_125 hM, mk_497 hM, mk_458 hM1, mp_89 hM1, mk_468 hM1, mp_125 hM1, mk_497 hM1, ↓reduceIte, Nat.reduceAdd, Nat.reduceLeDiff, Nat.reduceLT, Nat.reduceEqDiff, not_false_eq_true, false_or, true_or, or_true, or_false, n0_e, n1_ne, n1_11, bI_z, bI_1, bI_fo, va_rf_some, aBk_1, aBk_0, nI_add, nI_mul, hk_si, hp_si, hl_si, hk_sp, hk_sl, hk_cp, hp_cp, q, e1, m_livingBits hT1 r1, hT1.live, hT1.ns, hT1.l2, g1, m1 _ (Nat.le_refl _) _ hl]
  · rw [if_neg q]
    cases hq : isS T i with
    | false =>
      refine ⟨h, fun d => ?_, On.refl⟩
      simp only [e231_0, e231_1, e231_2, e231_5, e231_6, e231_7, e231_10, e231_13, e231_14, e231_15, e231_16, e231_19, e231_20, e231_23, e231_24, e231_25, e231_26, e231_29, e231_30, e231_33, e231_36, e231_37, e231_40, e231_41, e231_44, e231_45, e231_46, e231_47, e231_48, e231_49, e231_50, e231_51, e231_54, e231_55, e231_58, e231_59, e231_60, e231_61, e231_63, e231_64, e231_67, e231_68, e231_69, e231_70, e231_71, e231_74, e231_75, e231_76, e231_77, e231_78, e231_81, e231_84, e231_85, e231_86, e231_87, e231_90, mk_458 hM, mp_89 hM, mk_468 hM, mp_125 hM, mk_497 hM, ↓reduceIte, Nat.reduceAdd, Nat.reduceLeDiff, Nat.reduceLT, Nat.reduceEqDiff, not_false_eq_true, false_or, true_or, or_true, or_false, n0_e, n1_ne, n1_11, bI_1, bI_fo, va_rf_some, aBk_1, aBk_0, nI_add, nI_mul, hk_si, hp_si, hl_si, hk_sp, hk_sl, hk_cp, hp_cp, q, m_isSunday hT, hq, bI_z, reduceCtorEq]
    | true =>
      obtain ⟨k, hk, rfl⟩ := isS_n hT.v hq
      rw [if_pos rfl, kk_n (by omega)]
      obtain ⟨h1, e1, o1, r1, v1, m1⟩ := m_fillsBest hT hn hd
      have hT1 := hT.onW o1
      have hM1 := hT1.m
      refine ⟨h1, fun d => ?_, o1⟩
      have es : nI (ns_ T) - nI 1 = nI (ns_ T - 1 - 0) := nI_sub (by omega)
      simp only [e231_0, e231_1, e231_2, e231_5, e231_6, e231_7, e231_10, e231_13, e231_14, e231_15, e231_16, e231_19, e231_20, e231_23, e231_24, e231_25, e231_26, e231_29, e231_30, e231_33, e231_36, e231_37, e231_40, e231_41, e231_44, e231_45, e231_46, e231_47, e231_48, e231_49, e231_50, e231_51, e231_54, e231_55, e231_58, e231_59, e231_60, e231_61, e231_63, e231_64, e231_67, e231_68, e231_69, e231_70, e231_71, e231_74, e231_75, e231_76, e231_77, e231_78, e231_81, e231_84, e231_85, e231_86, e231_87, e231_90, mk_458 hM, mp_89 hM, mk_468 hM, mp_125 hM, mk_497 hM, mk_458 hM1, mp_89 hM1, mk_468 hM1, mp_125 hM1, mk_497 hM1, ↓reduceIte, Nat.reduceAdd, Nat.reduceLeDiff, Nat.reduceLT, Nat.reduceEqDiff, not_false_eq_true, false_or, true_or, or_true, or_false, n0_e, n1_ne, n1_11, bI_1, bI_fo, va_rf_some, aBk_1, aBk_0, nI_add, nI_mul, hk_si, hp_si, hl_si, hk_sp, hk_sl, hk_cp, hp_cp, q, m_isSunday hT, hq, bI_z, reduceCtorEq, e1, m_livingBits hT1 r1, hT1.live, hT1.ns, hT1.l2, es]
      refine (run_for (F := fun j of => (run (d + 6) 231 62 [.ref 458, .int (nI k), .int (nI of), .int (nI (ns_ T - 1 - j))] [] h1)) (f := fun j of => dif of (lf_ T w (ns_ T - 1 - j) of)) (a := lB_ T w) (n := ns_ T - 1 - k) (fun j hj => ?_)).trans ?_
      · have hb := lets_b (T := T) (w := w) (i := k) j
        generalize itn j (fun k of => dif of (lf_ T w (ns_ T - 1 - k) of)) (lB_ T w) = of at hb ⊢
        have g1 : ¬ nI (ns_ T - 1 - j) ≤ nI k := nI_ge (by omega) (by omega)
        have hlf := (lf_s (T := T) (w := w) (ns_ T - 1 - j) of).1
        have ed : nI (ns_ T - 1 - j) + (-1 : Int32) = nI (ns_ T - 1 - (j + 1)) := by
          rw [show ns_ T - 1 - j = (ns_ T - 1 - (j + 1)) + 1 by omega, nI_m1]
        refine (e231_62).trans ?_
        simp only [e231_0, e231_1, e231_2, e231_5, e231_6, e231_7, e231_10, e231_13, e231_14, e231_15, e231_16, e231_19, e231_20, e231_23, e231_24, e231_25, e231_26, e231_29, e231_30, e231_33, e231_36, e231_37, e231_40, e231_41, e231_44, e231_45, e231_46, e231_47, e231_48, e231_49, e231_50, e231_51, e231_54, e231_55, e231_58, e231_59, e231_60, e231_61, e231_63, e231_64, e231_67, e231_68, e231_69, e231_70, e231_71, e231_74, e231_75, e231_76, e231_77, e231_78, e231_81, e231_84, e231_85, e231_86, e231_87, e231_90, mk_458 hM1, mp_89 hM1, mk_468 hM1, mp_125 hM1, mk_497 hM1, ↓reduceIte, Nat.reduceAdd, Nat.reduceLeDiff, Nat.reduceLT, Nat.reduceEqDiff, not_false_eq_true, false_or, true_or, or_true, or_false, n0_e, n1_ne, n1_11, bI_z, bI_1, bI_fo, va_rf_some, aBk_1, aBk_0, nI_add, nI_mul, hk_si, hp_si, hl_si, hk_sp, hk_sl, hk_cp, hp_cp, g1, m_leastFor hT1 v1 m1 (show ns_ T - 1 - j < ns_ T by omega) hb, nI_dif (show lf_ T w (ns_ T - 1 - j) of < 2 ^ 31 by omega) (show of < 2 ^ 31 by omega), ed]
      · have hb := lets_b (T := T) (w := w) (i := k) (ns_ T - 1 - k)
        have e : itn (ns_ T - 1 - k) (fun k of => dif of (lf_ T w (ns_ T - 1 - k) of)) (lB_ T w) = lets_ T w k := rfl
        rw [e] at hb ⊢
        rw [show ns_ T - 1 - (ns_ T - 1 - k) = k by omega]
        refine (e231_62).trans ?_
        simp only [e231_0, e231_1, e231_2, e231_5, e231_6, e231_7, e231_10, e231_13, e231_14, e231_15, e231_16, e231_19, e231_20, e231_23, e231_24, e231_25, e231_26, e231_29, e231_30, e231_33, e231_36, e231_37, e231_40, e231_41, e231_44, e231_45, e231_46, e231_47, e231_48, e231_49, e231_50, e231_51, e231_54, e231_55, e231_58, e231_59, e231_60, e231_61, e231_63, e231_64, e231_67, e231_68, e231_69, e231_70, e231_71, e231_74, e231_75, e231_76, e231_77, e231_78, e231_81, e231_84, e231_85, e231_86, e231_87, e231_90, mk_458 hM1, mp_89 hM1, mk_468 hM1, mp_125 hM1, mk_497 hM1, ↓reduceIte, Nat.reduceAdd, Nat.reduceLeDiff, Nat.reduceLT, Nat.reduceEqDiff, not_false_eq_true, false_or, true_or, or_true, or_false, n0_e, n1_ne, n1_11, bI_z, bI_1, bI_fo, va_rf_some, aBk_1, aBk_0, nI_add, nI_mul, hk_si, hp_si, hl_si, hk_sp, hk_sl, hk_cp, hp_cp, Int32.le_refl, m_leastFor hT1 v1 m1 hk hb]
end M10
