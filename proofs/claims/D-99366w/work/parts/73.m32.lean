set_option maxRecDepth 100000
/-! M: reading (19): bytes, tokens laid -/
theorem nI_64 {m : Nat} (hm : m < 2147483648) : (nI m).toInt64 = lN m := by
  apply Int64.toInt_inj.mp
  rw [Int32.toInt_toInt64, nI_toInt hm, lN_toInt hm]
/-- M holds bytes -/
def MB (h : aH) (β : Nat → Nat) (n : Nat) : Prop := hi_ h 458 70 = nI n ∧ ∀ i, i < n → hi_ h 460 i &&& nI 255 = nI (β i)
/-- what cut writes -/
def CTF (a f : Nat) : Prop := (a = 458 ∧ f = 76) ∨ (461 ≤ a ∧ a ≤ 463)
def CTL (a : Nat) : Prop := a = 464
section M32
variable {d n : Nat} {h h' : aH} {β : Nat → Nat}
theorem MB.ol (hB : MB h β n) (o : OL CTF CTL h h') : MB h' β n := ⟨(o.i (fun q => by unfold CTF at q; omega)).trans hB.1, fun i hi => by rw [o.i (fun q => by unfold CTF at q; omega)]; exact hB.2 i hi⟩
theorem m_byteAt (hM : MS h) (hB : MB h β n) (hV : BV β n) {i : Nat} (hi : i < 100000) : (run (d) 157 0 [.ref 458, .int (nI i)] [] h) = some (.returned (some (.int (nI (β i)))), h) := by
  have hn := hV.1
  by_cases q : i < n
  · have g1 : ¬ nI n ≤ nI i := nI_ge q (by omega)
    have g2 : i < 2000 := by omega
    simp only [e157_0, e157_1, e157_2, e157_5, e157_8, e157_9, e157_12, e157_13, e157_14, e157_17, e157_18, e157_21, e157_22, mk_458 hM, mp_69 hM, mk_460 hM, ↓reduceIte, Nat.reduceAdd, Nat.reduceLeDiff, Nat.reduceLT, Nat.reduceEqDiff, not_false_eq_true, false_or, true_or, or_true, or_false, n0_e, n1_ne, n1_11, bI_z, bI_1, bI_fo, va_rf_some, aBk_1, aBk_0, nI_add, nI_mul, hk_si, hp_si, hl_si, hk_sp, hk_sl, hk_cp, hp_cp, hB.1, g1, g2, hB.2 i q]
  · have g1 : nI n ≤ nI i := by rw [nI_leL (by omega) (by omega)]; omega
    rw [hV.2.2 i (by omega)]
    simp only [e157_0, e157_1, e157_2, e157_5, e157_8, e157_9, e157_12, e157_13, e157_14, e157_17, e157_18, e157_21, e157_22, mk_458 hM, mp_69 hM, mk_460 hM, ↓reduceIte, Nat.reduceAdd, Nat.reduceLeDiff, Nat.reduceLT, Nat.reduceEqDiff, not_false_eq_true, false_or, true_or, or_true, or_false, n0_e, n1_ne, n1_11, bI_z, bI_1, bI_fo, va_rf_some, aBk_1, aBk_0, nI_add, nI_mul, hk_si, hp_si, hl_si, hk_sp, hk_sl, hk_cp, hp_cp, hB.1, g1]
theorem m_isDigit {c : Nat} (hc : c < 256) : (run (d) 160 0 [.int (nI c)] [] h) = some (.returned (some (.int (bI (isD c)))), h) := by
  have e1 : (nI c < nI 48) = (c < 48) := nI_ltL (by omega) (by decide)
  have e2 : (nI 57 < nI c) = (57 < c) := nI_ltL (by decide) (by omega)
  unfold isD
  by_cases q1 : c < 48
  · rw [decide_eq_false (by omega)]
    simp only [e160_0, e160_1, e160_3, e160_6, e160_7, e160_9, e160_12, e160_13, e160_16, e160_17, ↓reduceIte, Nat.reduceAdd, Nat.reduceLeDiff, Nat.reduceLT, Nat.reduceEqDiff, not_false_eq_true, false_or, true_or, or_true, or_false, n0_e, n1_ne, n1_11, bI_z, bI_1, bI_fo, va_rf_some, aBk_1, aBk_0, nI_add, nI_mul, hk_si, hp_si, hl_si, hk_sp, hk_sl, hk_cp, hp_cp, e1, e2, q1]
    rfl
  · by_cases q2 : 57 < c
    · rw [decide_eq_false (by omega)]
      simp only [e160_0, e160_1, e160_3, e160_6, e160_7, e160_9, e160_12, e160_13, e160_16, e160_17, ↓reduceIte, Nat.reduceAdd, Nat.reduceLeDiff, Nat.reduceLT, Nat.reduceEqDiff, not_false_eq_true, false_or, true_or, or_true, or_false, n0_e, n1_ne, n1_11, bI_z, bI_1, bI_fo, va_rf_some, aBk_1, aBk_0, nI_add, nI_mul, hk_si, hp_si, hl_si, hk_sp, hk_sl, hk_cp, hp_cp, e1, e2, q1, q2]
      rfl
    · rw [decide_eq_true (by omega)]
      simp only [e160_0, e160_1, e160_3, e160_6, e160_7, e160_9, e160_12, e160_13, e160_16, e160_17, ↓reduceIte, Nat.reduceAdd, Nat.reduceLeDiff, Nat.reduceLT, Nat.reduceEqDiff, not_false_eq_true, false_or, true_or, or_true, or_false, n0_e, n1_ne, n1_11, bI_z, bI_1, bI_fo, va_rf_some, aBk_1, aBk_0, nI_add, nI_mul, hk_si, hp_si, hl_si, hk_sp, hk_sl, hk_cp, hp_cp, e1, e2, q1, q2]
      rfl
theorem m_isLetter {c : Nat} (hc : c < 256) : (run (d) 159 0 [.int (nI c)] [] h) = some (.returned (some (.int (bI (isL c)))), h) := by
  have e1 : (nI c < nI 97) = (c < 97) := nI_ltL (by omega) (by decide)
  have e2 : (nI 122 < nI c) = (122 < c) := nI_ltL (by decide) (by omega)
  unfold isL
  by_cases q1 : c < 97
  · rw [decide_eq_false (by omega)]
    simp only [e159_0, e159_1, e159_3, e159_6, e159_7, e159_9, e159_12, e159_13, e159_16, e159_17, ↓reduceIte, Nat.reduceAdd, Nat.reduceLeDiff, Nat.reduceLT, Nat.reduceEqDiff, not_false_eq_true, false_or, true_or, or_true, or_false, n0_e, n1_ne, n1_11, bI_z, bI_1, bI_fo, va_rf_some, aBk_1, aBk_0, nI_add, nI_mul, hk_si, hp_si, hl_si, hk_sp, hk_sl, hk_cp, hp_cp, e1, e2, q1]
    rfl
  · by_cases q2 : 122 < c
    · rw [decide_eq_false (by omega)]
      simp only [e159_0, e159_1, e159_3, e159_6, e159_7, e159_9, e159_12, e159_13, e159_16, e159_17, ↓reduceIte, Nat.reduceAdd, Nat.reduceLeDiff, Nat.reduceLT, Nat.reduceEqDiff, not_false_eq_true, false_or, true_or, or_true, or_false, n0_e, n1_ne, n1_11, bI_z, bI_1, bI_fo, va_rf_some, aBk_1, aBk_0, nI_add, nI_mul, hk_si, hp_si, hl_si, hk_sp, hk_sl, hk_cp, hp_cp, e1, e2, q1, q2]
      rfl
    · rw [decide_eq_true (by omega)]
      simp only [e159_0, e159_1, e159_3, e159_6, e159_7, e159_9, e159_12, e159_13, e159_16, e159_17, ↓reduceIte, Nat.reduceAdd, Nat.reduceLeDiff, Nat.reduceLT, Nat.reduceEqDiff, not_false_eq_true, false_or, true_or, or_true, or_false, n0_e, n1_ne, n1_11, bI_z, bI_1, bI_fo, va_rf_some, aBk_1, aBk_0, nI_add, nI_mul, hk_si, hp_si, hl_si, hk_sp, hk_sl, hk_cp, hp_cp, e1, e2, q1, q2]
      rfl
theorem m_appends {v c : Nat} (hc : isL c = true) : (run (d) 149 0 [.long (lN v), aU, .int (nI c)] [] h) = some (.returned (some (.long (lN (27 * v + (c - 96))))), h) := by
  have hc := of_decide_eq_true hc
  have e0 : (nI c = 0) = False := by rw [nI_z (by omega)]; exact eq_false (by omega)
  have e1 : nI c - nI 97 = nI (c - 97) := nI_sub hc.1
  have e2 : (nI (c - 97 + 1)).toInt64 = lN (c - 96) := by rw [nI_64 (by omega)]; congr 1; omega
  simp only [e149_0, e149_1, e149_4, e149_5, e149_8, e149_11, e149_12, e149_13, e149_14, e149_16, e149_17, e149_18, e149_19, e149_20, e149_21, ↓reduceIte, Nat.reduceAdd, Nat.reduceLeDiff, Nat.reduceLT, Nat.reduceEqDiff, not_false_eq_true, false_or, true_or, or_true, or_false, n0_e, n1_ne, n1_11, bI_z, bI_1, bI_fo, va_rf_some, aBk_1, aBk_0, nI_add, nI_mul, hk_si, hp_si, hl_si, hk_sp, hk_sl, hk_cp, hp_cp, e0, e1, e2, lN_mul, lN_add]
/-- a token laid -/
def tkA (h : aH) (j k w v : Nat) (m : Int64) : aH := si_ (sl_ (si_ (si_ (si_ h 461 j (nI k)) 462 j (nI w)) 463 j (nI v)) 464 j m) 458 76 (nI (j + 1))
theorem m_token (hM : MS h) {j k w v : Nat} {m : Int64} (hj : j < 403) (ht : hi_ h 458 76 = nI j) : (run (d) 158 0 [.ref 458, .int (nI k), .int (nI w), .int (nI v), .long m, aU] [] h) = some (.returned none, tkA h j k w v m) := by
  simp only [e158_0, e158_1, e158_4, e158_5, e158_8, e158_9, e158_10, e158_11, e158_14, e158_15, e158_18, e158_19, e158_20, e158_21, e158_24, e158_25, e158_28, e158_29, e158_30, e158_31, e158_34, e158_35, e158_38, e158_40, e158_41, e158_42, e158_43, e158_46, e158_47, e158_48, e158_51, mk_458 hM, mp_71 hM, mk_461 hM, mp_72 hM, mk_462 hM, mp_73 hM, mk_463 hM, mp_74 hM, mk_464 hM, ↓reduceIte, Nat.reduceAdd, Nat.reduceLeDiff, Nat.reduceLT, not_false_eq_true, false_or, true_or, or_true, or_false, n0_e, n1_ne, n1_11, bI_z, bI_1, bI_fo, va_rf_some, aBk_1, aBk_0, nI_add, nI_mul, hk_si, hp_si, hl_si, hk_sp, hk_sl, hk_cp, hp_cp, ht, hj, hi_sl, hp_sl, hi_si, Nat.reduceEqDiff, false_and, true_and, and_false, and_true]
  rfl
theorem tkA_on {j k w v : Nat} {m : Int64} : OL CTF CTL h (tkA h j k w v m) := ((((OL.si (S := CTF) (L := CTL) (Or.inr ⟨by decide, by decide⟩)).trans (OL.si (S := CTF) (Or.inr ⟨by decide, by decide⟩))).trans (OL.si (S := CTF) (Or.inr ⟨by decide, by decide⟩))).trans (OL.sl (L := CTL) rfl)).trans (OL.si (S := CTF) (Or.inl ⟨rfl, rfl⟩))
theorem tkA_at {j k w v : Nat} {m : Int64} : hi_ (tkA h j k w v m) 461 j = nI k ∧ hi_ (tkA h j k w v m) 462 j = nI w ∧ hi_ (tkA h j k w v m) 463 j = nI v ∧ hl_ (tkA h j k w v m) 464 j = m ∧ hi_ (tkA h j k w v m) 458 76 = nI (j + 1) := by
  unfold tkA
  refine ⟨?_, ?_, ?_, ?_, hi_same⟩
  · rw [hi_ne (by omega), hi_sl, hi_ne (by omega), hi_ne (by omega)]; exact hi_same
  · rw [hi_ne (by omega), hi_sl, hi_ne (by omega)]; exact hi_same
  · rw [hi_ne (by omega), hi_sl]; exact hi_same
  · rw [hl_si]; exact hl_sl_self
theorem tkA_off {j k w v i : Nat} {m : Int64} (hi : i ≠ j) : hi_ (tkA h j k w v m) 461 i = hi_ h 461 i ∧ hi_ (tkA h j k w v m) 462 i = hi_ h 462 i ∧ hi_ (tkA h j k w v m) 463 i = hi_ h 463 i ∧ hl_ (tkA h j k w v m) 464 i = hl_ h 464 i := by
  unfold tkA
  refine ⟨?_, ?_, ?_, ?_⟩
  · rw [hi_ne (by omega), hi_sl, hi_ne (by omega), hi_ne (by omega), hi_ne (by omega)]
  · rw [hi_ne (by omega), hi_sl, hi_ne (by omega), hi_ne (by omega), hi_ne (by omega)]
  · rw [hi_ne (by omega), hi_sl, hi_ne (by omega), hi_ne (by omega), hi_ne (by omega)]
  · rw [hl_si, hl_sl, if_neg (by omega)]; rfl
theorem m_sign (hM : MS h) {j c i : Nat} {x : Int32} (hj : j < 403) (ht : hi_ h 458 76 = nI j) (hc : c < 256) : (run (d + 1) 161 0 [.ref 458, .int (nI i), .int (nI c), .int x, aU] [] h) = some (.returned (some (.int (nI 1))), tkA h j (sgz c) i 0 (lN 0)) := by
  have mt := fun (d k : Nat) => m_token (d := d) (k := k) (w := i) (v := 0) (m := lN 0) hM hj ht
  have e59 : (nI c = nI 59) = (c = 59) := nI_eqL (by omega) (by decide)
  have e61 : (nI c = nI 61) = (c = 61) := nI_eqL (by omega) (by decide)
  have e40 : (nI c = nI 40) = (c = 40) := nI_eqL (by omega) (by decide)
  have e41 : (nI c = nI 41) = (c = 41) := nI_eqL (by omega) (by decide)
  have e43 : (nI c = nI 43) = (c = 43) := nI_eqL (by omega) (by decide)
  have e45 : (nI c = nI 45) = (c = 45) := nI_eqL (by omega) (by decide)
  have e42 : (nI c = nI 42) = (c = 42) := nI_eqL (by omega) (by decide)
  have e47 : (nI c = nI 47) = (c = 47) := nI_eqL (by omega) (by decide)
  have e60 : (nI c = nI 60) = (c = 60) := nI_eqL (by omega) (by decide)
  unfold sgz
  by_cases q : c = 59 ∨ c = 61 ∨ c = 40 ∨ c = 41 ∨ c = 43 ∨ c = 45 ∨ c = 42 ∨ c = 47 ∨ c = 60
  · rcases q with q | q | q | q | q | q | q | q | q <;> subst q <;>
      simp only [e161_0, e161_1, e161_3, e161_6, e161_7, e161_10, e161_11, e161_13, e161_16, e161_17, e161_20, e161_21, e161_23, e161_26, e161_28, e161_31, e161_32, e161_34, e161_37, e161_39, e161_42, e161_43, e161_45, e161_46, e161_48, e161_51, e161_53, e161_55, e161_56, e161_58, e161_61, e161_63, e161_65, e161_66, e161_68, e161_71, e161_73, e161_75, e161_76, e161_78, e161_81, e161_83, e161_85, e161_86, e161_88, e161_91, e161_93, e161_95, e161_96, e161_98, e161_99, e161_100, e161_101, e161_104, e161_105, mk_458 hM, ↓reduceIte, Nat.reduceAdd, Nat.reduceLeDiff, Nat.reduceLT, Nat.reduceEqDiff, not_false_eq_true, false_or, true_or, or_true, or_false, n0_e, n1_ne, n1_11, bI_z, bI_1, bI_fo, va_rf_some, aBk_1, aBk_0, nI_add, nI_mul, hk_si, hp_si, hl_si, hk_sp, hk_sl, hk_cp, hp_cp, e59, e61, e40, e41, e43, e45, e42, e47, e60, mt]
  · have q1 : ¬ c = 59 := by omega
    have q2 : ¬ c = 61 := by omega
    have q3 : ¬ c = 40 := by omega
    have q4 : ¬ c = 41 := by omega
    have q5 : ¬ c = 43 := by omega
    have q6 : ¬ c = 45 := by omega
    have q7 : ¬ c = 42 := by omega
    have q8 : ¬ c = 47 := by omega
    have q9 : ¬ c = 60 := by omega
    simp only [e161_0, e161_1, e161_3, e161_6, e161_7, e161_10, e161_11, e161_13, e161_16, e161_17, e161_20, e161_21, e161_23, e161_26, e161_28, e161_31, e161_32, e161_34, e161_37, e161_39, e161_42, e161_43, e161_45, e161_46, e161_48, e161_51, e161_53, e161_55, e161_56, e161_58, e161_61, e161_63, e161_65, e161_66, e161_68, e161_71, e161_73, e161_75, e161_76, e161_78, e161_81, e161_83, e161_85, e161_86, e161_88, e161_91, e161_93, e161_95, e161_96, e161_98, e161_99, e161_100, e161_101, e161_104, e161_105, mk_458 hM, ↓reduceIte, Nat.reduceAdd, Nat.reduceLeDiff, Nat.reduceLT, Nat.reduceEqDiff, not_false_eq_true, false_or, true_or, or_true, or_false, n0_e, n1_ne, n1_11, bI_z, bI_1, bI_fo, va_rf_some, aBk_1, aBk_0, nI_add, nI_mul, hk_si, hp_si, hl_si, hk_sp, hk_sl, hk_cp, hp_cp, e59, e61, e40, e41, e43, e45, e42, e47, e60, q1, q2, q3, q4, q5, q6, q7, q8, q9, mt]
end M32
