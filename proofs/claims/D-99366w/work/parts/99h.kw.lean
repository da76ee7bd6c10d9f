set_option maxRecDepth 100000
/-! X: reading (22): a word looked up; signs; tokens laid -/
section KW
variable {d n : Nat} {h h' : aH} {β : Nat → Nat}
theorem ci_ok {i m : Nat} (hi : i < m) (hm : m < 100) : (run (d + 1) 279 0 [.int (nI i), .int (nI m)] [] h) = some (.returned none, h) := by
  have e1 : ¬ nI i < 0 := nI_pos (by omega)
  have e2 : nI i < nI m := nI_lt hi (by omega)
  have c : ∀ d, (run (d) 288 0 [.int (nI i), .int (nI m), .ref 48] [] h) = some (.returned (some (.int (nI i))), h) := fun d => by
    simp only [e288_0, e288_1, e288_4, e288_5, e288_6, e288_9, e288_10, e288_11, e288_16, e288_17, ↓reduceIte, Nat.reduceAdd, Nat.reduceLeDiff, Nat.reduceLT, Nat.reduceEqDiff, not_false_eq_true, false_or, true_or, or_true, or_false, n0_e, n1_ne, n1_11, bI_z, bI_1, bI_fo, va_rf_some, aBk_1, aBk_0, nI_add, nI_mul, hk_si, hp_si, hl_si, hk_sp, hk_sl, hk_cp, hp_cp, e1, e2]
  simp only [e279_0, e279_1, e279_2, e279_5, e279_8, e279_9, ↓reduceIte, Nat.reduceAdd, Nat.reduceLeDiff, Nat.reduceLT, Nat.reduceEqDiff, not_false_eq_true, false_or, true_or, or_true, or_false, n0_e, n1_ne, n1_11, bI_z, bI_1, bI_fo, va_rf_some, aBk_1, aBk_0, nI_add, nI_mul, hk_si, hp_si, hl_si, hk_sp, hk_sl, hk_cp, hp_cp, c]
theorem w_length (hW : WDx h) {k : Nat} (hk : k < 21) : (run (d + 1) 275 0 [.ref (2 + k)] [] h) = some (.returned (some (.int (nI (wd k).length))), h) := by
  obtain ⟨w1, w2, w3, w4, -⟩ := hW k hk
  have l6 := (wd_ok k hk).1
  have n101 : (100 : Nat) ≤ 101 := by decide
  have i0 : (nI 0).toInt8.toInt32 = nI 0 := by decide
  have c : ∀ d, (run (d) 276 0 [.ref (2 + k)] [] h) = some (.returned (some (.int (nI 0))), h) := fun d => by
    simp only [e276_0, e276_3, e276_6, e276_7, e276_10, e276_13, e276_14, ↓reduceIte, Nat.reduceAdd, Nat.reduceLeDiff, Nat.reduceLT, Nat.reduceEqDiff, not_false_eq_true, false_or, true_or, or_true, or_false, n0_e, n1_ne, n1_11, bI_z, bI_1, bI_fo, va_rf_some, aBk_1, aBk_0, nI_add, nI_mul, hk_si, hp_si, hl_si, hk_sp, hk_sl, hk_cp, hp_cp, w1, w2, i0]
  have s0 : shr_ (nI (wd k).length) (nI 0) = nI (wd k).length := by rw [nI_shr (by omega) (by decide)]; rfl
  simp only [e275_0, e275_1, e275_4, e275_5, e275_6, e275_9, e275_10, ↓reduceIte, Nat.reduceAdd, Nat.reduceLeDiff, Nat.reduceLT, Nat.reduceEqDiff, not_false_eq_true, false_or, true_or, or_true, or_false, n0_e, n1_ne, n1_11, bI_z, bI_1, bI_fo, aBk_1, aBk_0, nI_add, nI_mul, hk_si, hp_si, hl_si, hk_sp, hk_sl, hk_cp, hp_cp, w1, w3, w4, n101, c, s0, va_rf_some]
theorem w_charAt (hW : WDx h) {k i : Nat} (hk : k < 21) (hi : i < (wd k).length) : (run (d + 4) 277 0 [.ref (2 + k), .int (nI i)] [] h) = some (.returned (some (.int (nI (wdc k i)))), h) := by
  obtain ⟨w1, w2, w3, w4, w5⟩ := hW k hk
  obtain ⟨l6, -, -, l7⟩ := wd_ok k hk
  have l8 := of_decide_eq_true (l7 i hi)
  have n101 : (100 : Nat) ≤ 101 := by decide
  have mb : (wd k).length ≤ 2147483647 := by omega
  have l1 : ∀ d, (run (d) 278 0 [.ref (2 + k)] [] h) = some (.returned (some (.int (nI 1))), h) := fun d => by
    simp only [e278_0, e278_3, e278_6, e278_7, e278_10, e278_13, e278_14, e278_17, e278_18, ↓reduceIte, Nat.reduceAdd, Nat.reduceLeDiff, Nat.reduceLT, Nat.reduceEqDiff, not_false_eq_true, false_or, true_or, or_true, or_false, n0_e, n1_ne, n1_11, bI_z, bI_1, bI_fo, va_rf_some, aBk_1, aBk_0, nI_add, nI_mul, hk_si, hp_si, hl_si, hk_sp, hk_sl, hk_cp, hp_cp, w1, w2]
  have ci := fun d => ci_ok (h := h) (d := d) hi (by omega)
  have a255 : nI (wdc k i) &&& nI 255 = nI (wdc k i) := by
    rw [nI_and]
    congr 1
    have : (255 : Nat) = 2 ^ 8 - 1 := rfl
    rw [this, Nat.and_two_pow_sub_one_eq_mod, Nat.mod_eq_of_lt (by omega)]
  have u1 := u16_c (wdc k i) (by omega)
  have c1 : ∀ d, (run (d + 2) 284 0 [.ref (24 + k), .int (nI i)] [] h) = some (.returned (some (.int (nI (wdc k i)))), h) := fun d => by
    simp only [e284_0, e284_1, e284_2, e284_3, e284_6, e284_7, e284_8, e284_9, e284_12, e284_13, e284_14, ↓reduceIte, Nat.reduceAdd, Nat.reduceLeDiff, Nat.reduceLT, Nat.reduceEqDiff, not_false_eq_true, false_or, true_or, or_true, or_false, n0_e, n1_ne, n1_11, bI_z, bI_1, bI_fo, va_rf_some, aBk_1, aBk_0, nI_add, nI_mul, hk_si, hp_si, hl_si, hk_sp, hk_sl, hk_cp, hp_cp, w4, n101, ci, hi, mb, w5 i hi, a255, u1]
  simp only [e277_0, e277_1, e277_4, e277_7, e277_8, e277_11, e277_12, e277_15, e277_16, e277_17, e277_20, e277_21, e277_24, ↓reduceIte, Nat.reduceAdd, Nat.reduceLeDiff, Nat.reduceLT, Nat.reduceEqDiff, not_false_eq_true, false_or, true_or, or_true, or_false, n0_e, n1_ne, n1_11, bI_z, bI_1, bI_fo, aBk_1, aBk_0, nI_add, nI_mul, hk_si, hp_si, hl_si, hk_sp, hk_sl, hk_cp, hp_cp, w1, l1, w3, c1, u1, va_rf_some]
/-- one word tried -/
theorem kw_one (hX : XS h) (hV : BV β n) (hB : XBt h β n) (hW : WDx h) {a m w : Nat} (hw : w < 21) (ham : a + m ≤ n) (hm : 0 < m) {z4 z5 : Value} : ∃ y5, (run (d + 5) 77 2 [.ref 66, .int (nI a), .int (nI (a + m)), .int (nI w), z4, z5] [] h) = (run (d + 5) 77 83 [.ref 66, .int (nI a), .int (nI (a + m)), .int (nI w), .int (nI (if wmt β a m w = true then 1 else 0)), .int y5] [] h) := by
  have hn := hV.1
  have g1 : ¬ nI 21 ≤ nI w := nI_ge hw (by decide)
  have pw := xp_words hX hw
  rw [aWs_2 w hw] at pw
  have n110 : (110 : Nat) ≤ 110 := by decide
  have n100 : (100 : Nat) ≤ 110 := by decide
  have ln := fun d => w_length (d := d) hW hw
  have kw := (hW w hw).1
  have sm : nI (a + m) - nI a = nI m := by rw [nI_sub (by omega)]; congr 1; omega
  obtain ⟨l6, -, -, l7⟩ := wd_ok w hw
  have em : (nI (wd w).length = nI m) = ((wd w).length = m) := nI_eqL (by omega) (by omega)
  by_cases q : (wd w).length = m
  · have em' : (nI (wd w).length = nI m) = True := by rw [em]; exact eq_true q
    have key : (run (d + 5) 77 36 [.ref 66, .int (nI a), .int (nI (a + m)), .int (nI w), .int (nI 1), .int (nI (a + 0))] [] h) = _ := run_find (F := fun j => (run (d + 5) 77 36 [.ref 66, .int (nI a), .int (nI (a + m)), .int (nI w), .int (nI 1), .int (nI (a + j))] [] h)) (R := fun j => (run (d + 5) 77 36 [.ref 66, .int (nI a), .int (nI (a + m)), .int (nI w), .int (nI 0), .int (nI (a + j + 1))] [] h)) (P := fun i => decide (wdc w i ≠ β (a + i))) (n := m) (fun j hj => by
      have k1 : ¬ nI (a + m) ≤ nI (a + j) := nI_ge (by omega) (by omega)
      have k2 : a + j < 2000 := by omega
      have sj : nI (a + j) - nI a = nI j := by rw [nI_sub (by omega)]; congr 1; omega
      have ch := fun d => w_charAt (d := d) hW (k := w) (i := j) hw (by omega)
      have b := hV.2.1 (a + j)
      have tp := hB.2 (a + j) (by omega)
      have l8 := of_decide_eq_true (l7 j (by omega))
      have ee := sb_eqI' (b := β (a + j)) (c := wdc w j) b (by omega)
      refine (e77_36).trans ?_
      by_cases z : wdc w j = β (a + j)
      · have ee' : (nI (wdc w j) = sb (β (a + j))) = True := by rw [ee]; exact eq_true z.symm
        have z2 : decide (wdc w j ≠ β (a + j)) = false := decide_eq_false (fun y => y z)
        simp only [e77_0, e77_1, e77_3, e77_4, e77_7, e77_8, e77_11, e77_12, e77_15, e77_16, e77_17, e77_20, e77_21, e77_22, e77_23, e77_26, e77_27, e77_30, e77_31, e77_33, e77_34, e77_38, e77_39, e77_42, e77_44, e77_47, e77_48, e77_51, e77_52, e77_53, e77_55, e77_56, e77_57, e77_60, e77_61, e77_64, e77_66, e77_67, e77_70, e77_71, e77_74, e77_75, e77_77, e77_80, e77_83, e77_85, e77_88, e77_89, e77_90, e77_93, e77_96, e77_97, xk_64 hX, xk_66 hX, xp_29 hX, xk_67 hX, xp_30 hX, xk_68 hX, ↓reduceIte, Nat.reduceAdd, Nat.reduceLeDiff, Nat.reduceLT, Nat.reduceEqDiff, not_false_eq_true, false_or, true_or, or_true, or_false, n0_e, n1_ne, n1_11, bI_z, bI_1, bI_fo, aBk_1, aBk_0, nI_add, nI_mul, hk_si, hp_si, hl_si, hk_sp, hk_sl, hk_cp, hp_cp, k1, pw, hw, n110, sj, kw, ch, k2, tp, ee', z2, reduceCtorEq, va_rf_some, Nat.add_assoc]
      · have ee' : (nI (wdc w j) = sb (β (a + j))) = False := by rw [ee]; exact eq_false (fun y => z y.symm)
        have z2 : decide (wdc w j ≠ β (a + j)) = true := decide_eq_true z
        simp only [e77_0, e77_1, e77_3, e77_4, e77_7, e77_8, e77_11, e77_12, e77_15, e77_16, e77_17, e77_20, e77_21, e77_22, e77_23, e77_26, e77_27, e77_30, e77_31, e77_33, e77_34, e77_38, e77_39, e77_42, e77_44, e77_47, e77_48, e77_51, e77_52, e77_53, e77_55, e77_56, e77_57, e77_60, e77_61, e77_64, e77_66, e77_67, e77_70, e77_71, e77_74, e77_75, e77_77, e77_80, e77_83, e77_85, e77_88, e77_89, e77_90, e77_93, e77_96, e77_97, xk_64 hX, xk_66 hX, xp_29 hX, xk_67 hX, xp_30 hX, xk_68 hX, ↓reduceIte, Nat.reduceAdd, Nat.reduceLeDiff, Nat.reduceLT, Nat.reduceEqDiff, not_false_eq_true, false_or, true_or, or_true, or_false, n0_e, n1_ne, n1_11, bI_z, bI_1, bI_fo, aBk_1, aBk_0, nI_add, nI_mul, hk_si, hp_si, hl_si, hk_sp, hk_sl, hk_cp, hp_cp, k1, pw, hw, n110, sj, kw, ch, k2, tp, ee', z2, va_rf_some, Nat.add_assoc])
    have st : (run (d + 5) 77 2 [.ref 66, .int (nI a), .int (nI (a + m)), .int (nI w), z4, z5] [] h) = (run (d + 5) 77 36 [.ref 66, .int (nI a), .int (nI (a + m)), .int (nI w), .int (nI 1), .int (nI (a + 0))] [] h) := by
      refine (e77_2).trans ?_
      simp only [e77_0, e77_1, e77_3, e77_4, e77_7, e77_8, e77_11, e77_12, e77_15, e77_16, e77_17, e77_20, e77_21, e77_22, e77_23, e77_26, e77_27, e77_30, e77_31, e77_33, e77_34, e77_38, e77_39, e77_42, e77_44, e77_47, e77_48, e77_51, e77_52, e77_53, e77_55, e77_56, e77_57, e77_60, e77_61, e77_64, e77_66, e77_67, e77_70, e77_71, e77_74, e77_75, e77_77, e77_80, e77_83, e77_85, e77_88, e77_89, e77_90, e77_93, e77_96, e77_97, xk_64 hX, xk_66 hX, xp_29 hX, xk_67 hX, xp_30 hX, xk_68 hX, ↓reduceIte, Nat.reduceAdd, Nat.reduceLeDiff, Nat.reduceLT, Nat.reduceEqDiff, not_false_eq_true, false_or, true_or, or_true, or_false, n0_e, n1_ne, n1_11, bI_z, bI_1, bI_fo, aBk_1, aBk_0, nI_add, nI_mul, hk_si, hp_si, hl_si, hk_sp, hk_sl, hk_cp, hp_cp, g1, pw, hw, n110, n100, kw, ln, sm, em', va_rf_some, Nat.add_zero]
    have ew : wmt β a m w = (fnd (fun i => decide (wdc w i ≠ β (a + i))) m 0).isNone := by
      unfold wmt eqW
      rw [decide_eq_true q, Bool.true_and, q]
    cases hf : fnd (fun i => decide (wdc w i ≠ β (a + i))) m 0 with
    | some j =>
      rw [hf] at key ew
      have hj := (fnd_some _ _ _ hf).2.1
      rw [ew]
      refine ⟨nI (a + j + 1), (st.trans key).trans ?_⟩
      dsimp only
      refine (e77_36).trans ?_
      by_cases z : nI (a + m) ≤ nI (a + j + 1)
      · simp only [e77_0, e77_1, e77_3, e77_4, e77_7, e77_8, e77_11, e77_12, e77_15, e77_16, e77_17, e77_20, e77_21, e77_22, e77_23, e77_26, e77_27, e77_30, e77_31, e77_33, e77_34, e77_38, e77_39, e77_42, e77_44, e77_47, e77_48, e77_51, e77_52, e77_53, e77_55, e77_56, e77_57, e77_60, e77_61, e77_64, e77_66, e77_67, e77_70, e77_71, e77_74, e77_75, e77_77, e77_80, e77_85, e77_88, e77_89, e77_90, e77_93, e77_96, e77_97, xk_64 hX, xk_66 hX, xp_29 hX, xk_67 hX, xp_30 hX, xk_68 hX, ↓reduceIte, Nat.reduceAdd, Nat.reduceLeDiff, Nat.reduceLT, Nat.reduceEqDiff, not_false_eq_true, false_or, true_or, or_true, or_false, n0_e, n1_ne, n1_11, bI_z, bI_1, bI_fo, va_rf_some, aBk_1, aBk_0, nI_add, nI_mul, hk_si, hp_si, hl_si, hk_sp, hk_sl, hk_cp, hp_cp, z, reduceCtorEq, Option.isNone_some]
      · simp only [e77_0, e77_1, e77_3, e77_4, e77_7, e77_8, e77_11, e77_12, e77_15, e77_16, e77_17, e77_20, e77_21, e77_22, e77_23, e77_26, e77_27, e77_30, e77_31, e77_33, e77_34, e77_38, e77_39, e77_42, e77_44, e77_47, e77_48, e77_51, e77_52, e77_53, e77_55, e77_56, e77_57, e77_60, e77_61, e77_64, e77_66, e77_67, e77_70, e77_71, e77_74, e77_75, e77_77, e77_80, e77_85, e77_88, e77_89, e77_90, e77_93, e77_96, e77_97, xk_64 hX, xk_66 hX, xp_29 hX, xk_67 hX, xp_30 hX, xk_68 hX, ↓reduceIte, Nat.reduceAdd, Nat.reduceLeDiff, Nat.reduceLT, Nat.reduceEqDiff, not_false_eq_true, false_or, true_or, or_true, or_false, n0_e, n1_ne, n1_11, bI_z, bI_1, bI_fo, va_rf_some, aBk_1, aBk_0, nI_add, nI_mul, hk_si, hp_si, hl_si, hk_sp, hk_sl, hk_cp, hp_cp, z, reduceCtorEq, Option.isNone_some]
    | none =>
      rw [hf] at key ew
      rw [ew]
      refine ⟨nI (a + m), (st.trans key).trans ?_⟩
      dsimp only
      have z : nI (a + m) ≤ nI (a + m) := Int32.le_refl _
      refine (e77_36).trans ?_
      simp only [e77_0, e77_1, e77_3, e77_4, e77_7, e77_8, e77_11, e77_12, e77_15, e77_16, e77_17, e77_20, e77_21, e77_22, e77_23, e77_26, e77_27, e77_30, e77_31, e77_33, e77_34, e77_38, e77_39, e77_42, e77_44, e77_47, e77_48, e77_51, e77_52, e77_53, e77_55, e77_56, e77_57, e77_60, e77_61, e77_64, e77_66, e77_67, e77_70, e77_71, e77_74, e77_75, e77_77, e77_80, e77_85, e77_88, e77_89, e77_90, e77_93, e77_96, e77_97, xk_64 hX, xk_66 hX, xp_29 hX, xk_67 hX, xp_30 hX, xk_68 hX, ↓reduceIte, Nat.reduceAdd, Nat.reduceLeDiff, Nat.reduceLT, Nat.reduceEqDiff, not_false_eq_true, false_or, true_or, or_true, or_false, n0_e, n1_ne, n1_11, bI_z, bI_1, bI_fo, va_rf_some, aBk_1, aBk_0, nI_add, nI_mul, hk_si, hp_si, hl_si, hk_sp, hk_sl, hk_cp, hp_cp, z, Option.isNone_none]
  · have em' : (nI (wd w).length = nI m) = False := by rw [em]; exact eq_false q
    have ew : wmt β a m w = false := by unfold wmt eqW; rw [decide_eq_false q, Bool.false_and]
    have k1 : ¬ nI (a + m) ≤ nI a := nI_ge (by omega) (by omega)
    rw [ew]
    refine ⟨nI a, ?_⟩
    refine (e77_2).trans ?_
    simp only [e77_0, e77_1, e77_3, e77_4, e77_7, e77_8, e77_11, e77_12, e77_15, e77_16, e77_17, e77_20, e77_21, e77_22, e77_23, e77_26, e77_27, e77_30, e77_31, e77_33, e77_34, e77_38, e77_39, e77_42, e77_44, e77_47, e77_48, e77_51, e77_52, e77_53, e77_55, e77_56, e77_57, e77_60, e77_61, e77_64, e77_66, e77_67, e77_70, e77_71, e77_74, e77_75, e77_77, e77_80, e77_85, e77_88, e77_89, e77_90, e77_93, e77_96, e77_97, xk_64 hX, xk_66 hX, xp_29 hX, xk_67 hX, xp_30 hX, xk_68 hX, ↓reduceIte, Nat.reduceAdd, Nat.reduceLeDiff, Nat.reduceLT, Nat.reduceEqDiff, not_false_eq_true, false_or, true_or, or_true, or_false, n0_e, n1_ne, n1_11, bI_z, bI_1, bI_fo, aBk_1, aBk_0, nI_add, nI_mul, hk_si, hp_si, hl_si, hk_sp, hk_sl, hk_cp, hp_cp, g1, pw, hw, n110, n100, kw, ln, sm, em', va_rf_some]
    refine (e77_36).trans ?_
    simp only [e77_0, e77_1, e77_3, e77_4, e77_7, e77_8, e77_11, e77_12, e77_15, e77_16, e77_17, e77_20, e77_21, e77_22, e77_23, e77_26, e77_27, e77_30, e77_31, e77_33, e77_34, e77_38, e77_39, e77_42, e77_44, e77_47, e77_48, e77_51, e77_52, e77_53, e77_55, e77_56, e77_57, e77_60, e77_61, e77_64, e77_66, e77_67, e77_70, e77_71, e77_74, e77_75, e77_77, e77_80, e77_85, e77_88, e77_89, e77_90, e77_93, e77_96, e77_97, xk_64 hX, xk_66 hX, xp_29 hX, xk_67 hX, xp_30 hX, xk_68 hX, ↓reduceIte, Nat.reduceAdd, Nat.reduceLeDiff, Nat.reduceLT, Nat.reduceEqDiff, not_false_eq_true, false_or, true_or, or_true, or_false, n0_e, n1_ne, n1_11, bI_z, bI_1, bI_fo, va_rf_some, aBk_1, aBk_0, nI_add, nI_mul, hk_si, hp_si, hl_si, hk_sp, hk_sl, hk_cp, hp_cp, k1, reduceCtorEq]
theorem k_word (hX : XS h) (hV : BV β n) (hB : XBt h β n) (hW : WDx h) {a m : Nat} (ham : a + m ≤ n) (hm : 0 < m) : (run (d + 5) 77 0 [.ref 66, .int (nI a), .int (nI (a + m)), aU, aU, aU] [] h) = some (.returned (some (.int (opI (wordX β a m)))), h) := by
  have n100 : (100 : Nat) ≤ 110 := by decide
  have L : ∀ k w, w + k = 21 → ∀ z4 z5, (run (d + 5) 77 2 [.ref 66, .int (nI a), .int (nI (a + m)), .int (nI w), z4, z5] [] h) = some (.returned (some (.int (opI (fnd (wmt β a m) k w)))), h) := by
    intro k
    induction k with
    | zero =>
      intro w hw z4 z5
      have : w = 21 := by omega
      subst this
      have g : nI 21 ≤ nI 21 := Int32.le_refl _
      refine (e77_2).trans ?_
      simp only [e77_0, e77_1, e77_3, e77_4, e77_7, e77_8, e77_11, e77_12, e77_15, e77_16, e77_17, e77_20, e77_21, e77_22, e77_23, e77_26, e77_27, e77_30, e77_31, e77_33, e77_34, e77_38, e77_39, e77_42, e77_44, e77_47, e77_48, e77_51, e77_52, e77_53, e77_55, e77_56, e77_57, e77_60, e77_61, e77_64, e77_66, e77_67, e77_70, e77_71, e77_74, e77_75, e77_77, e77_80, e77_83, e77_85, e77_88, e77_89, e77_90, e77_93, e77_96, e77_97, xk_64 hX, xk_66 hX, xp_29 hX, xk_67 hX, xp_30 hX, xk_68 hX, ↓reduceIte, Nat.reduceAdd, Nat.reduceLeDiff, Nat.reduceLT, Nat.reduceEqDiff, not_false_eq_true, false_or, true_or, or_true, or_false, n0_e, n1_ne, n1_11, bI_z, bI_1, bI_fo, aBk_1, aBk_0, nI_add, nI_mul, hk_si, hp_si, hl_si, hk_sp, hk_sl, hk_cp, hp_cp, g, n100, va_rf_some]
      rfl
    | succ k ih =>
      intro w hw z4 z5
      obtain ⟨y5, e⟩ := kw_one (d := d) (z4 := z4) (z5 := z5) hX hV hB hW (w := w) (by omega) ham hm
      refine e.trans ?_
      rw [fnd]
      cases hq : wmt β a m w with
      | true =>
        simp only [e77_83, e77_85, e77_88, e77_89, e77_90, e77_93, ↓reduceIte, Nat.reduceAdd, Nat.reduceLeDiff, Nat.reduceLT, Nat.reduceEqDiff, not_false_eq_true, false_or, true_or, or_true, or_false, n0_e, n1_ne, n1_11, bI_z, bI_1, bI_fo, va_rf_some, aBk_1, aBk_0, nI_add, nI_mul, hk_si, hp_si, hl_si, hk_sp, hk_sl, hk_cp, hp_cp, reduceCtorEq]
        rfl
      | false =>
        have I := ih (w + 1) (by omega) (.int (nI 0)) (.int y5)
        simp only [e77_83, e77_85, e77_88, e77_89, e77_90, e77_93, ↓reduceIte, Nat.reduceAdd, Nat.reduceLeDiff, Nat.reduceLT, Nat.reduceEqDiff, not_false_eq_true, false_or, true_or, or_true, or_false, n0_e, n1_ne, n1_11, bI_z, bI_1, bI_fo, va_rf_some, aBk_1, aBk_0, nI_add, nI_mul, hk_si, hp_si, hl_si, hk_sp, hk_sl, hk_cp, hp_cp, reduceCtorEq, I, cond_false]
  simp only [e77_0, e77_1, e77_3, e77_4, e77_7, e77_8, e77_11, e77_12, e77_15, e77_16, e77_17, e77_20, e77_21, e77_22, e77_23, e77_26, e77_27, e77_30, e77_31, e77_33, e77_34, e77_36, e77_38, e77_39, e77_42, e77_44, e77_47, e77_48, e77_51, e77_52, e77_53, e77_55, e77_56, e77_57, e77_60, e77_61, e77_64, e77_66, e77_67, e77_70, e77_71, e77_74, e77_75, e77_77, e77_80, e77_83, e77_85, e77_88, e77_89, e77_90, e77_93, e77_96, e77_97, ↓reduceIte, Nat.reduceAdd, Nat.reduceLeDiff, Nat.reduceLT, Nat.reduceEqDiff, not_false_eq_true, false_or, true_or, or_true, or_false, n0_e, n1_ne, n1_11, bI_z, bI_1, bI_fo, va_rf_some, aBk_1, aBk_0, nI_add, nI_mul, hk_si, hp_si, hl_si, hk_sp, hk_sl, hk_cp, hp_cp]
  exact L 21 0 rfl aU aU
end KW
