set_option maxRecDepth 100000
/-! M's constructor (1): its arrays -/
def mAF (i : Nat) : Nat := ([67, 69, 71, 72, 73, 74, 75, 87, 88, 89, 90, 91, 92, 93, 94, 95, 96, 97, 98, 99, 100, 101, 103, 104, 105, 106, 107, 109, 110, 111, 113, 114, 116, 117, 120, 121, 123, 124, 125, 126, 127, 129, 130, 131, 132] : List Nat).getD i 0
def mAR (i : Nat) : Nat × Nat := ([(101, 2000), (101, 2000), (100, 403), (100, 403), (100, 403), (104, 403), (104, 21), (104, 11), (100, 11), (100, 2), (100, 8), (100, 8), (100, 2), (100, 14), (100, 14), (100, 14), (100, 14), (100, 2), (100, 2), (100, 2), (100, 8), (100, 8), (103, 260), (100, 260), (100, 260), (100, 260), (100, 260), (100, 840), (100, 840), (100, 64), (100, 9), (100, 400), (100, 31), (100, 31), (100, 7), (100, 4), (100, 1240), (100, 512), (100, 640), (103, 2048), (100, 128), (100, 20), (103, 20), (103, 3), (100, 93)] : List (Nat × Nat)).getD i (0, 0)
/-- what is free is empty -/
def FZ0 (h : aH) : Prop := ∀ a, hz_ h ≤ a → hk_ h a = (99, 0) ∧ ∀ f, hp_ h a f = none ∧ hi_ h a f = 0
/-- the first k arrays of M stand; nothing is written in them -/
def MLk (h : aH) (k : Nat) : Prop := hz_ h = 459 + k ∧ FZ0 h ∧ hk_ h 458 = (10, 0) ∧ (∀ i, i < k → hk_ h (459 + i) = mAR i ∧ hp_ h 458 (mAF i) = some (459 + i)) ∧ ∀ a f, 458 ≤ a → ¬ (a = 458 ∧ f = 83) → hi_ h a f = 0
theorem mAF_i : ∀ i, i < 45 → ∀ j, j < 45 → mAF i = mAF j → i = j := by decide
theorem MLk.nx {h : aH} {k : Nat} (hM : MLk h k) (hk : k < 45) : MLk (sp_ (nw_ h (mAR k).1 (mAR k).2 (mAR k).2) 458 (mAF k) (some (hz_ h))) (k + 1) := by
  obtain ⟨h1, h2, h3, h4, h5⟩ := hM
  refine ⟨by show hz_ h + 1 = _; omega, fun a ha => ?_, ?_, fun i hi => ⟨?_, ?_⟩, h5⟩
  · have ha : hz_ h + 1 ≤ a := ha
    obtain ⟨k1, k2⟩ := h2 a (by omega)
    refine ⟨?_, fun f => ⟨?_, (k2 f).2⟩⟩
    · show (if a = hz_ h then _ else hk_ h a) = _
      rw [if_neg (by omega)]; exact k1
    · show (if a = 458 ∧ f = mAF k then _ else hp_ h a f) = _
      rw [if_neg (by omega)]; exact (k2 f).1
  · show (if 458 = hz_ h then _ else hk_ h 458) = _
    rw [if_neg (by omega)]; exact h3
  · show (if 459 + i = hz_ h then ((mAR k).1, (mAR k).2) else hk_ h (459 + i)) = _
    by_cases q : i = k
    · rw [if_pos (by omega), q]
    · rw [if_neg (by omega)]; exact (h4 i (by omega)).1
  · show (if 458 = 458 ∧ mAF i = mAF k then some (hz_ h) else hp_ h 458 (mAF i)) = _
    by_cases q : i = k
    · rw [if_pos ⟨rfl, by rw [q]⟩, q, h1]
    · rw [if_neg (fun z => q (mAF_i i (by omega) k hk z.2))]; exact (h4 i (by omega)).2
theorem mi_0 {d : Nat} {h : aH} (hk : hk_ h 458 = (10, 0)) (hz : hz_ h = 459 + 0) : run (d + 2) 146 4 [.ref 458] [] h = run (d + 2) 146 13 [.ref 458] [] (sp_ (nw_ h 101 2000 2000) 458 67 (some (hz_ h))) := by
  have k1 : hk_ (nw_ h 101 2000 2000) 458 = (10, 0) := (if_neg (by omega)).trans hk
  have m : (2000 : Nat) ≤ 1000000 := by decide
  simp only [e146_4, e146_5, e146_8, e146_10, e146_10n, ↓reduceIte, Nat.reduceAdd, Nat.reduceLeDiff, Nat.reduceLT, Nat.reduceEqDiff, not_false_eq_true, false_or, true_or, or_true, or_false, n0_e, n1_ne, n1_11, bI_z, bI_1, bI_fo, va_rf_some, aBk_1, aBk_0, nI_add, nI_mul, hk_si, hp_si, hl_si, hk_sp, hk_sl, hk_cp, hp_cp, hk, k1, m]
theorem mi_1 {d : Nat} {h : aH} (hk : hk_ h 458 = (10, 0)) (hz : hz_ h = 459 + 1) : run (d + 2) 146 13 [.ref 458] [] h = run (d + 2) 146 22 [.ref 458] [] (sp_ (nw_ h 101 2000 2000) 458 69 (some (hz_ h))) := by
  have k1 : hk_ (nw_ h 101 2000 2000) 458 = (10, 0) := (if_neg (by omega)).trans hk
  have m : (2000 : Nat) ≤ 1000000 := by decide
  simp only [e146_13, e146_14, e146_17, e146_19, e146_19n, ↓reduceIte, Nat.reduceAdd, Nat.reduceLeDiff, Nat.reduceLT, Nat.reduceEqDiff, not_false_eq_true, false_or, true_or, or_true, or_false, n0_e, n1_ne, n1_11, bI_z, bI_1, bI_fo, va_rf_some, aBk_1, aBk_0, nI_add, nI_mul, hk_si, hp_si, hl_si, hk_sp, hk_sl, hk_cp, hp_cp, hk, k1, m]
theorem mi_2 {d : Nat} {h : aH} (hk : hk_ h 458 = (10, 0)) (hz : hz_ h = 459 + 2) : run (d + 2) 146 22 [.ref 458] [] h = run (d + 2) 146 31 [.ref 458] [] (sp_ (nw_ h 100 403 403) 458 71 (some (hz_ h))) := by
  have k1 : hk_ (nw_ h 100 403 403) 458 = (10, 0) := (if_neg (by omega)).trans hk
  have m : (403 : Nat) ≤ 1000000 := by decide
  simp only [e146_22, e146_23, e146_26, e146_28, e146_28n, ↓reduceIte, Nat.reduceAdd, Nat.reduceLeDiff, Nat.reduceLT, Nat.reduceEqDiff, not_false_eq_true, false_or, true_or, or_true, or_false, n0_e, n1_ne, n1_11, bI_z, bI_1, bI_fo, va_rf_some, aBk_1, aBk_0, nI_add, nI_mul, hk_si, hp_si, hl_si, hk_sp, hk_sl, hk_cp, hp_cp, hk, k1, m]
theorem mi_3 {d : Nat} {h : aH} (hk : hk_ h 458 = (10, 0)) (hz : hz_ h = 459 + 3) : run (d + 2) 146 31 [.ref 458] [] h = run (d + 2) 146 40 [.ref 458] [] (sp_ (nw_ h 100 403 403) 458 72 (some (hz_ h))) := by
  have k1 : hk_ (nw_ h 100 403 403) 458 = (10, 0) := (if_neg (by omega)).trans hk
  have m : (403 : Nat) ≤ 1000000 := by decide
  simp only [e146_31, e146_32, e146_35, e146_37, e146_37n, ↓reduceIte, Nat.reduceAdd, Nat.reduceLeDiff, Nat.reduceLT, Nat.reduceEqDiff, not_false_eq_true, false_or, true_or, or_true, or_false, n0_e, n1_ne, n1_11, bI_z, bI_1, bI_fo, va_rf_some, aBk_1, aBk_0, nI_add, nI_mul, hk_si, hp_si, hl_si, hk_sp, hk_sl, hk_cp, hp_cp, hk, k1, m]
theorem mi_4 {d : Nat} {h : aH} (hk : hk_ h 458 = (10, 0)) (hz : hz_ h = 459 + 4) : run (d + 2) 146 40 [.ref 458] [] h = run (d + 2) 146 49 [.ref 458] [] (sp_ (nw_ h 100 403 403) 458 73 (some (hz_ h))) := by
  have k1 : hk_ (nw_ h 100 403 403) 458 = (10, 0) := (if_neg (by omega)).trans hk
  have m : (403 : Nat) ≤ 1000000 := by decide
  simp only [e146_40, e146_41, e146_44, e146_46, e146_46n, ↓reduceIte, Nat.reduceAdd, Nat.reduceLeDiff, Nat.reduceLT, Nat.reduceEqDiff, not_false_eq_true, false_or, true_or, or_true, or_false, n0_e, n1_ne, n1_11, bI_z, bI_1, bI_fo, va_rf_some, aBk_1, aBk_0, nI_add, nI_mul, hk_si, hp_si, hl_si, hk_sp, hk_sl, hk_cp, hp_cp, hk, k1, m]
theorem mi_5 {d : Nat} {h : aH} (hk : hk_ h 458 = (10, 0)) (hz : hz_ h = 459 + 5) : run (d + 2) 146 49 [.ref 458] [] h = run (d + 2) 146 58 [.ref 458] [] (sp_ (nw_ h 104 403 403) 458 74 (some (hz_ h))) := by
  have k1 : hk_ (nw_ h 104 403 403) 458 = (10, 0) := (if_neg (by omega)).trans hk
  have m : (403 : Nat) ≤ 1000000 := by decide
  simp only [e146_49, e146_50, e146_53, e146_55, e146_55n, ↓reduceIte, Nat.reduceAdd, Nat.reduceLeDiff, Nat.reduceLT, Nat.reduceEqDiff, not_false_eq_true, false_or, true_or, or_true, or_false, n0_e, n1_ne, n1_11, bI_z, bI_1, bI_fo, va_rf_some, aBk_1, aBk_0, nI_add, nI_mul, hk_si, hp_si, hl_si, hk_sp, hk_sl, hk_cp, hp_cp, hk, k1, m]
theorem mi_6 {d : Nat} {h : aH} (hk : hk_ h 458 = (10, 0)) (hz : hz_ h = 459 + 6) : run (d + 2) 146 58 [.ref 458] [] h = run (d + 2) 146 66 [.ref 458] [] (sp_ (nw_ h 104 21 21) 458 75 (some (hz_ h))) := by
  have k1 : hk_ (nw_ h 104 21 21) 458 = (10, 0) := (if_neg (by omega)).trans hk
  have m : (21 : Nat) ≤ 1000000 := by decide
  simp only [e146_58, e146_59, e146_61, e146_63, e146_63n, ↓reduceIte, Nat.reduceAdd, Nat.reduceLeDiff, Nat.reduceLT, Nat.reduceEqDiff, not_false_eq_true, false_or, true_or, or_true, or_false, n0_e, n1_ne, n1_11, bI_z, bI_1, bI_fo, va_rf_some, aBk_1, aBk_0, nI_add, nI_mul, hk_si, hp_si, hl_si, hk_sp, hk_sl, hk_cp, hp_cp, hk, k1, m]
theorem mi_7 {d : Nat} {h : aH} (hk : hk_ h 458 = (10, 0)) (hz : hz_ h = 459 + 7) : run (d + 2) 146 71 [.ref 458] [] h = run (d + 2) 146 79 [.ref 458] [] (sp_ (nw_ h 104 11 11) 458 87 (some (hz_ h))) := by
  have k1 : hk_ (nw_ h 104 11 11) 458 = (10, 0) := (if_neg (by omega)).trans hk
  have m : (11 : Nat) ≤ 1000000 := by decide
  simp only [e146_71, e146_72, e146_74, e146_76, e146_76n, ↓reduceIte, Nat.reduceAdd, Nat.reduceLeDiff, Nat.reduceLT, Nat.reduceEqDiff, not_false_eq_true, false_or, true_or, or_true, or_false, n0_e, n1_ne, n1_11, bI_z, bI_1, bI_fo, va_rf_some, aBk_1, aBk_0, nI_add, nI_mul, hk_si, hp_si, hl_si, hk_sp, hk_sl, hk_cp, hp_cp, hk, k1, m]
theorem mi_8 {d : Nat} {h : aH} (hk : hk_ h 458 = (10, 0)) (hz : hz_ h = 459 + 8) : run (d + 2) 146 79 [.ref 458] [] h = run (d + 2) 146 87 [.ref 458] [] (sp_ (nw_ h 100 11 11) 458 88 (some (hz_ h))) := by
  have k1 : hk_ (nw_ h 100 11 11) 458 = (10, 0) := (if_neg (by omega)).trans hk
  have m : (11 : Nat) ≤ 1000000 := by decide
  simp only [e146_79, e146_80, e146_82, e146_84, e146_84n, ↓reduceIte, Nat.reduceAdd, Nat.reduceLeDiff, Nat.reduceLT, Nat.reduceEqDiff, not_false_eq_true, false_or, true_or, or_true, or_false, n0_e, n1_ne, n1_11, bI_z, bI_1, bI_fo, va_rf_some, aBk_1, aBk_0, nI_add, nI_mul, hk_si, hp_si, hl_si, hk_sp, hk_sl, hk_cp, hp_cp, hk, k1, m]
theorem mi_9 {d : Nat} {h : aH} (hk : hk_ h 458 = (10, 0)) (hz : hz_ h = 459 + 9) : run (d + 2) 146 87 [.ref 458] [] h = run (d + 2) 146 94 [.ref 458] [] (sp_ (nw_ h 100 2 2) 458 89 (some (hz_ h))) := by
  have k1 : hk_ (nw_ h 100 2 2) 458 = (10, 0) := (if_neg (by omega)).trans hk
  have m : (2 : Nat) ≤ 1000000 := by decide
  simp only [e146_87, e146_88, e146_89, e146_91, e146_91n, ↓reduceIte, Nat.reduceAdd, Nat.reduceLeDiff, Nat.reduceLT, Nat.reduceEqDiff, not_false_eq_true, false_or, true_or, or_true, or_false, n0_e, n1_ne, n1_11, bI_z, bI_1, bI_fo, va_rf_some, aBk_1, aBk_0, nI_add, nI_mul, hk_si, hp_si, hl_si, hk_sp, hk_sl, hk_cp, hp_cp, hk, k1, m]
theorem mi_10 {d : Nat} {h : aH} (hk : hk_ h 458 = (10, 0)) (hz : hz_ h = 459 + 10) : run (d + 2) 146 94 [.ref 458] [] h = run (d + 2) 146 102 [.ref 458] [] (sp_ (nw_ h 100 8 8) 458 90 (some (hz_ h))) := by
  have k1 : hk_ (nw_ h 100 8 8) 458 = (10, 0) := (if_neg (by omega)).trans hk
  have m : (8 : Nat) ≤ 1000000 := by decide
  simp only [e146_94, e146_95, e146_97, e146_99, e146_99n, ↓reduceIte, Nat.reduceAdd, Nat.reduceLeDiff, Nat.reduceLT, Nat.reduceEqDiff, not_false_eq_true, false_or, true_or, or_true, or_false, n0_e, n1_ne, n1_11, bI_z, bI_1, bI_fo, va_rf_some, aBk_1, aBk_0, nI_add, nI_mul, hk_si, hp_si, hl_si, hk_sp, hk_sl, hk_cp, hp_cp, hk, k1, m]
theorem mi_11 {d : Nat} {h : aH} (hk : hk_ h 458 = (10, 0)) (hz : hz_ h = 459 + 11) : run (d + 2) 146 102 [.ref 458] [] h = run (d + 2) 146 110 [.ref 458] [] (sp_ (nw_ h 100 8 8) 458 91 (some (hz_ h))) := by
  have k1 : hk_ (nw_ h 100 8 8) 458 = (10, 0) := (if_neg (by omega)).trans hk
  have m : (8 : Nat) ≤ 1000000 := by decide
  simp only [e146_102, e146_103, e146_105, e146_107, e146_107n, ↓reduceIte, Nat.reduceAdd, Nat.reduceLeDiff, Nat.reduceLT, Nat.reduceEqDiff, not_false_eq_true, false_or, true_or, or_true, or_false, n0_e, n1_ne, n1_11, bI_z, bI_1, bI_fo, va_rf_some, aBk_1, aBk_0, nI_add, nI_mul, hk_si, hp_si, hl_si, hk_sp, hk_sl, hk_cp, hp_cp, hk, k1, m]
theorem mi_12 {d : Nat} {h : aH} (hk : hk_ h 458 = (10, 0)) (hz : hz_ h = 459 + 12) : run (d + 2) 146 110 [.ref 458] [] h = run (d + 2) 146 117 [.ref 458] [] (sp_ (nw_ h 100 2 2) 458 92 (some (hz_ h))) := by
  have k1 : hk_ (nw_ h 100 2 2) 458 = (10, 0) := (if_neg (by omega)).trans hk
  have m : (2 : Nat) ≤ 1000000 := by decide
  simp only [e146_110, e146_111, e146_112, e146_114, e146_114n, ↓reduceIte, Nat.reduceAdd, Nat.reduceLeDiff, Nat.reduceLT, Nat.reduceEqDiff, not_false_eq_true, false_or, true_or, or_true, or_false, n0_e, n1_ne, n1_11, bI_z, bI_1, bI_fo, va_rf_some, aBk_1, aBk_0, nI_add, nI_mul, hk_si, hp_si, hl_si, hk_sp, hk_sl, hk_cp, hp_cp, hk, k1, m]
theorem mi_13 {d : Nat} {h : aH} (hk : hk_ h 458 = (10, 0)) (hz : hz_ h = 459 + 13) : run (d + 2) 146 117 [.ref 458] [] h = run (d + 2) 146 125 [.ref 458] [] (sp_ (nw_ h 100 14 14) 458 93 (some (hz_ h))) := by
  have k1 : hk_ (nw_ h 100 14 14) 458 = (10, 0) := (if_neg (by omega)).trans hk
  have m : (14 : Nat) ≤ 1000000 := by decide
  simp only [e146_117, e146_118, e146_120, e146_122, e146_122n, ↓reduceIte, Nat.reduceAdd, Nat.reduceLeDiff, Nat.reduceLT, Nat.reduceEqDiff, not_false_eq_true, false_or, true_or, or_true, or_false, n0_e, n1_ne, n1_11, bI_z, bI_1, bI_fo, va_rf_some, aBk_1, aBk_0, nI_add, nI_mul, hk_si, hp_si, hl_si, hk_sp, hk_sl, hk_cp, hp_cp, hk, k1, m]
theorem mi_14 {d : Nat} {h : aH} (hk : hk_ h 458 = (10, 0)) (hz : hz_ h = 459 + 14) : run (d + 2) 146 125 [.ref 458] [] h = run (d + 2) 146 133 [.ref 458] [] (sp_ (nw_ h 100 14 14) 458 94 (some (hz_ h))) := by
  have k1 : hk_ (nw_ h 100 14 14) 458 = (10, 0) := (if_neg (by omega)).trans hk
  have m : (14 : Nat) ≤ 1000000 := by decide
  simp only [e146_125, e146_126, e146_128, e146_130, e146_130n, ↓reduceIte, Nat.reduceAdd, Nat.reduceLeDiff, Nat.reduceLT, Nat.reduceEqDiff, not_false_eq_true, false_or, true_or, or_true, or_false, n0_e, n1_ne, n1_11, bI_z, bI_1, bI_fo, va_rf_some, aBk_1, aBk_0, nI_add, nI_mul, hk_si, hp_si, hl_si, hk_sp, hk_sl, hk_cp, hp_cp, hk, k1, m]
theorem mi_15 {d : Nat} {h : aH} (hk : hk_ h 458 = (10, 0)) (hz : hz_ h = 459 + 15) : run (d + 2) 146 133 [.ref 458] [] h = run (d + 2) 146 141 [.ref 458] [] (sp_ (nw_ h 100 14 14) 458 95 (some (hz_ h))) := by
  have k1 : hk_ (nw_ h 100 14 14) 458 = (10, 0) := (if_neg (by omega)).trans hk
  have m : (14 : Nat) ≤ 1000000 := by decide
  simp only [e146_133, e146_134, e146_136, e146_138, e146_138n, ↓reduceIte, Nat.reduceAdd, Nat.reduceLeDiff, Nat.reduceLT, Nat.reduceEqDiff, not_false_eq_true, false_or, true_or, or_true, or_false, n0_e, n1_ne, n1_11, bI_z, bI_1, bI_fo, va_rf_some, aBk_1, aBk_0, nI_add, nI_mul, hk_si, hp_si, hl_si, hk_sp, hk_sl, hk_cp, hp_cp, hk, k1, m]
theorem mi_16 {d : Nat} {h : aH} (hk : hk_ h 458 = (10, 0)) (hz : hz_ h = 459 + 16) : run (d + 2) 146 141 [.ref 458] [] h = run (d + 2) 146 149 [.ref 458] [] (sp_ (nw_ h 100 14 14) 458 96 (some (hz_ h))) := by
  have k1 : hk_ (nw_ h 100 14 14) 458 = (10, 0) := (if_neg (by omega)).trans hk
  have m : (14 : Nat) ≤ 1000000 := by decide
  simp only [e146_141, e146_142, e146_144, e146_146, e146_146n, ↓reduceIte, Nat.reduceAdd, Nat.reduceLeDiff, Nat.reduceLT, Nat.reduceEqDiff, not_false_eq_true, false_or, true_or, or_true, or_false, n0_e, n1_ne, n1_11, bI_z, bI_1, bI_fo, va_rf_some, aBk_1, aBk_0, nI_add, nI_mul, hk_si, hp_si, hl_si, hk_sp, hk_sl, hk_cp, hp_cp, hk, k1, m]
theorem mi_17 {d : Nat} {h : aH} (hk : hk_ h 458 = (10, 0)) (hz : hz_ h = 459 + 17) : run (d + 2) 146 149 [.ref 458] [] h = run (d + 2) 146 156 [.ref 458] [] (sp_ (nw_ h 100 2 2) 458 97 (some (hz_ h))) := by
  have k1 : hk_ (nw_ h 100 2 2) 458 = (10, 0) := (if_neg (by omega)).trans hk
  have m : (2 : Nat) ≤ 1000000 := by decide
  simp only [e146_149, e146_150, e146_151, e146_153, e146_153n, ↓reduceIte, Nat.reduceAdd, Nat.reduceLeDiff, Nat.reduceLT, Nat.reduceEqDiff, not_false_eq_true, false_or, true_or, or_true, or_false, n0_e, n1_ne, n1_11, bI_z, bI_1, bI_fo, va_rf_some, aBk_1, aBk_0, nI_add, nI_mul, hk_si, hp_si, hl_si, hk_sp, hk_sl, hk_cp, hp_cp, hk, k1, m]
theorem mi_18 {d : Nat} {h : aH} (hk : hk_ h 458 = (10, 0)) (hz : hz_ h = 459 + 18) : run (d + 2) 146 156 [.ref 458] [] h = run (d + 2) 146 163 [.ref 458] [] (sp_ (nw_ h 100 2 2) 458 98 (some (hz_ h))) := by
  have k1 : hk_ (nw_ h 100 2 2) 458 = (10, 0) := (if_neg (by omega)).trans hk
  have m : (2 : Nat) ≤ 1000000 := by decide
  simp only [e146_156, e146_157, e146_158, e146_160, e146_160n, ↓reduceIte, Nat.reduceAdd, Nat.reduceLeDiff, Nat.reduceLT, Nat.reduceEqDiff, not_false_eq_true, false_or, true_or, or_true, or_false, n0_e, n1_ne, n1_11, bI_z, bI_1, bI_fo, va_rf_some, aBk_1, aBk_0, nI_add, nI_mul, hk_si, hp_si, hl_si, hk_sp, hk_sl, hk_cp, hp_cp, hk, k1, m]
theorem mi_19 {d : Nat} {h : aH} (hk : hk_ h 458 = (10, 0)) (hz : hz_ h = 459 + 19) : run (d + 2) 146 163 [.ref 458] [] h = run (d + 2) 146 170 [.ref 458] [] (sp_ (nw_ h 100 2 2) 458 99 (some (hz_ h))) := by
  have k1 : hk_ (nw_ h 100 2 2) 458 = (10, 0) := (if_neg (by omega)).trans hk
  have m : (2 : Nat) ≤ 1000000 := by decide
  simp only [e146_163, e146_164, e146_165, e146_167, e146_167n, ↓reduceIte, Nat.reduceAdd, Nat.reduceLeDiff, Nat.reduceLT, Nat.reduceEqDiff, not_false_eq_true, false_or, true_or, or_true, or_false, n0_e, n1_ne, n1_11, bI_z, bI_1, bI_fo, va_rf_some, aBk_1, aBk_0, nI_add, nI_mul, hk_si, hp_si, hl_si, hk_sp, hk_sl, hk_cp, hp_cp, hk, k1, m]
theorem mi_20 {d : Nat} {h : aH} (hk : hk_ h 458 = (10, 0)) (hz : hz_ h = 459 + 20) : run (d + 2) 146 170 [.ref 458] [] h = run (d + 2) 146 178 [.ref 458] [] (sp_ (nw_ h 100 8 8) 458 100 (some (hz_ h))) := by
  have k1 : hk_ (nw_ h 100 8 8) 458 = (10, 0) := (if_neg (by omega)).trans hk
  have m : (8 : Nat) ≤ 1000000 := by decide
  simp only [e146_170, e146_171, e146_173, e146_175, e146_175n, ↓reduceIte, Nat.reduceAdd, Nat.reduceLeDiff, Nat.reduceLT, Nat.reduceEqDiff, not_false_eq_true, false_or, true_or, or_true, or_false, n0_e, n1_ne, n1_11, bI_z, bI_1, bI_fo, va_rf_some, aBk_1, aBk_0, nI_add, nI_mul, hk_si, hp_si, hl_si, hk_sp, hk_sl, hk_cp, hp_cp, hk, k1, m]
theorem mi_21 {d : Nat} {h : aH} (hk : hk_ h 458 = (10, 0)) (hz : hz_ h = 459 + 21) : run (d + 2) 146 178 [.ref 458] [] h = run (d + 2) 146 186 [.ref 458] [] (sp_ (nw_ h 100 8 8) 458 101 (some (hz_ h))) := by
  have k1 : hk_ (nw_ h 100 8 8) 458 = (10, 0) := (if_neg (by omega)).trans hk
  have m : (8 : Nat) ≤ 1000000 := by decide
  simp only [e146_178, e146_179, e146_181, e146_183, e146_183n, ↓reduceIte, Nat.reduceAdd, Nat.reduceLeDiff, Nat.reduceLT, Nat.reduceEqDiff, not_false_eq_true, false_or, true_or, or_true, or_false, n0_e, n1_ne, n1_11, bI_z, bI_1, bI_fo, va_rf_some, aBk_1, aBk_0, nI_add, nI_mul, hk_si, hp_si, hl_si, hk_sp, hk_sl, hk_cp, hp_cp, hk, k1, m]
theorem mi_22 {d : Nat} {h : aH} (hk : hk_ h 458 = (10, 0)) (hz : hz_ h = 459 + 22) : run (d + 2) 146 186 [.ref 458] [] h = run (d + 2) 146 195 [.ref 458] [] (sp_ (nw_ h 103 260 260) 458 103 (some (hz_ h))) := by
  have k1 : hk_ (nw_ h 103 260 260) 458 = (10, 0) := (if_neg (by omega)).trans hk
  have m : (260 : Nat) ≤ 1000000 := by decide
  simp only [e146_186, e146_187, e146_190, e146_192, e146_192n, ↓reduceIte, Nat.reduceAdd, Nat.reduceLeDiff, Nat.reduceLT, Nat.reduceEqDiff, not_false_eq_true, false_or, true_or, or_true, or_false, n0_e, n1_ne, n1_11, bI_z, bI_1, bI_fo, va_rf_some, aBk_1, aBk_0, nI_add, nI_mul, hk_si, hp_si, hl_si, hk_sp, hk_sl, hk_cp, hp_cp, hk, k1, m]
theorem mi_23 {d : Nat} {h : aH} (hk : hk_ h 458 = (10, 0)) (hz : hz_ h = 459 + 23) : run (d + 2) 146 195 [.ref 458] [] h = run (d + 2) 146 204 [.ref 458] [] (sp_ (nw_ h 100 260 260) 458 104 (some (hz_ h))) := by
  have k1 : hk_ (nw_ h 100 260 260) 458 = (10, 0) := (if_neg (by omega)).trans hk
  have m : (260 : Nat) ≤ 1000000 := by decide
  simp only [e146_195, e146_196, e146_199, e146_201, e146_201n, ↓reduceIte, Nat.reduceAdd, Nat.reduceLeDiff, Nat.reduceLT, Nat.reduceEqDiff, not_false_eq_true, false_or, true_or, or_true, or_false, n0_e, n1_ne, n1_11, bI_z, bI_1, bI_fo, va_rf_some, aBk_1, aBk_0, nI_add, nI_mul, hk_si, hp_si, hl_si, hk_sp, hk_sl, hk_cp, hp_cp, hk, k1, m]
theorem mi_24 {d : Nat} {h : aH} (hk : hk_ h 458 = (10, 0)) (hz : hz_ h = 459 + 24) : run (d + 2) 146 204 [.ref 458] [] h = run (d + 2) 146 213 [.ref 458] [] (sp_ (nw_ h 100 260 260) 458 105 (some (hz_ h))) := by
  have k1 : hk_ (nw_ h 100 260 260) 458 = (10, 0) := (if_neg (by omega)).trans hk
  have m : (260 : Nat) ≤ 1000000 := by decide
  simp only [e146_204, e146_205, e146_208, e146_210, e146_210n, ↓reduceIte, Nat.reduceAdd, Nat.reduceLeDiff, Nat.reduceLT, Nat.reduceEqDiff, not_false_eq_true, false_or, true_or, or_true, or_false, n0_e, n1_ne, n1_11, bI_z, bI_1, bI_fo, va_rf_some, aBk_1, aBk_0, nI_add, nI_mul, hk_si, hp_si, hl_si, hk_sp, hk_sl, hk_cp, hp_cp, hk, k1, m]
theorem mi_25 {d : Nat} {h : aH} (hk : hk_ h 458 = (10, 0)) (hz : hz_ h = 459 + 25) : run (d + 2) 146 213 [.ref 458] [] h = run (d + 2) 146 222 [.ref 458] [] (sp_ (nw_ h 100 260 260) 458 106 (some (hz_ h))) := by
  have k1 : hk_ (nw_ h 100 260 260) 458 = (10, 0) := (if_neg (by omega)).trans hk
  have m : (260 : Nat) ≤ 1000000 := by decide
  simp only [e146_213, e146_214, e146_217, e146_219, e146_219n, ↓reduceIte, Nat.reduceAdd, Nat.reduceLeDiff, Nat.reduceLT, Nat.reduceEqDiff, not_false_eq_true, false_or, true_or, or_true, or_false, n0_e, n1_ne, n1_11, bI_z, bI_1, bI_fo, va_rf_some, aBk_1, aBk_0, nI_add, nI_mul, hk_si, hp_si, hl_si, hk_sp, hk_sl, hk_cp, hp_cp, hk, k1, m]
theorem mi_26 {d : Nat} {h : aH} (hk : hk_ h 458 = (10, 0)) (hz : hz_ h = 459 + 26) : run (d + 2) 146 222 [.ref 458] [] h = run (d + 2) 146 231 [.ref 458] [] (sp_ (nw_ h 100 260 260) 458 107 (some (hz_ h))) := by
  have k1 : hk_ (nw_ h 100 260 260) 458 = (10, 0) := (if_neg (by omega)).trans hk
  have m : (260 : Nat) ≤ 1000000 := by decide
  simp only [e146_222, e146_223, e146_226, e146_228, e146_228n, ↓reduceIte, Nat.reduceAdd, Nat.reduceLeDiff, Nat.reduceLT, Nat.reduceEqDiff, not_false_eq_true, false_or, true_or, or_true, or_false, n0_e, n1_ne, n1_11, bI_z, bI_1, bI_fo, va_rf_some, aBk_1, aBk_0, nI_add, nI_mul, hk_si, hp_si, hl_si, hk_sp, hk_sl, hk_cp, hp_cp, hk, k1, m]
theorem mi_27 {d : Nat} {h : aH} (hk : hk_ h 458 = (10, 0)) (hz : hz_ h = 459 + 27) : run (d + 2) 146 231 [.ref 458] [] h = run (d + 2) 146 240 [.ref 458] [] (sp_ (nw_ h 100 840 840) 458 109 (some (hz_ h))) := by
  have k1 : hk_ (nw_ h 100 840 840) 458 = (10, 0) := (if_neg (by omega)).trans hk
  have m : (840 : Nat) ≤ 1000000 := by decide
  simp only [e146_231, e146_232, e146_235, e146_237, e146_237n, ↓reduceIte, Nat.reduceAdd, Nat.reduceLeDiff, Nat.reduceLT, Nat.reduceEqDiff, not_false_eq_true, false_or, true_or, or_true, or_false, n0_e, n1_ne, n1_11, bI_z, bI_1, bI_fo, va_rf_some, aBk_1, aBk_0, nI_add, nI_mul, hk_si, hp_si, hl_si, hk_sp, hk_sl, hk_cp, hp_cp, hk, k1, m]
theorem mi_28 {d : Nat} {h : aH} (hk : hk_ h 458 = (10, 0)) (hz : hz_ h = 459 + 28) : run (d + 2) 146 240 [.ref 458] [] h = run (d + 2) 146 249 [.ref 458] [] (sp_ (nw_ h 100 840 840) 458 110 (some (hz_ h))) := by
  have k1 : hk_ (nw_ h 100 840 840) 458 = (10, 0) := (if_neg (by omega)).trans hk
  have m : (840 : Nat) ≤ 1000000 := by decide
  simp only [e146_240, e146_241, e146_244, e146_246, e146_246n, ↓reduceIte, Nat.reduceAdd, Nat.reduceLeDiff, Nat.reduceLT, Nat.reduceEqDiff, not_false_eq_true, false_or, true_or, or_true, or_false, n0_e, n1_ne, n1_11, bI_z, bI_1, bI_fo, va_rf_some, aBk_1, aBk_0, nI_add, nI_mul, hk_si, hp_si, hl_si, hk_sp, hk_sl, hk_cp, hp_cp, hk, k1, m]
theorem mi_29 {d : Nat} {h : aH} (hk : hk_ h 458 = (10, 0)) (hz : hz_ h = 459 + 29) : run (d + 2) 146 249 [.ref 458] [] h = run (d + 2) 146 257 [.ref 458] [] (sp_ (nw_ h 100 64 64) 458 111 (some (hz_ h))) := by
  have k1 : hk_ (nw_ h 100 64 64) 458 = (10, 0) := (if_neg (by omega)).trans hk
  have m : (64 : Nat) ≤ 1000000 := by decide
  simp only [e146_249, e146_250, e146_252, e146_254, e146_254n, ↓reduceIte, Nat.reduceAdd, Nat.reduceLeDiff, Nat.reduceLT, Nat.reduceEqDiff, not_false_eq_true, false_or, true_or, or_true, or_false, n0_e, n1_ne, n1_11, bI_z, bI_1, bI_fo, va_rf_some, aBk_1, aBk_0, nI_add, nI_mul, hk_si, hp_si, hl_si, hk_sp, hk_sl, hk_cp, hp_cp, hk, k1, m]
theorem mi_30 {d : Nat} {h : aH} (hk : hk_ h 458 = (10, 0)) (hz : hz_ h = 459 + 30) : run (d + 2) 146 257 [.ref 458] [] h = run (d + 2) 146 265 [.ref 458] [] (sp_ (nw_ h 100 9 9) 458 113 (some (hz_ h))) := by
  have k1 : hk_ (nw_ h 100 9 9) 458 = (10, 0) := (if_neg (by omega)).trans hk
  have m : (9 : Nat) ≤ 1000000 := by decide
  simp only [e146_257, e146_258, e146_260, e146_262, e146_262n, ↓reduceIte, Nat.reduceAdd, Nat.reduceLeDiff, Nat.reduceLT, Nat.reduceEqDiff, not_false_eq_true, false_or, true_or, or_true, or_false, n0_e, n1_ne, n1_11, bI_z, bI_1, bI_fo, va_rf_some, aBk_1, aBk_0, nI_add, nI_mul, hk_si, hp_si, hl_si, hk_sp, hk_sl, hk_cp, hp_cp, hk, k1, m]
theorem mi_31 {d : Nat} {h : aH} (hk : hk_ h 458 = (10, 0)) (hz : hz_ h = 459 + 31) : run (d + 2) 146 265 [.ref 458] [] h = run (d + 2) 146 274 [.ref 458] [] (sp_ (nw_ h 100 400 400) 458 114 (some (hz_ h))) := by
  have k1 : hk_ (nw_ h 100 400 400) 458 = (10, 0) := (if_neg (by omega)).trans hk
  have m : (400 : Nat) ≤ 1000000 := by decide
  simp only [e146_265, e146_266, e146_269, e146_271, e146_271n, ↓reduceIte, Nat.reduceAdd, Nat.reduceLeDiff, Nat.reduceLT, Nat.reduceEqDiff, not_false_eq_true, false_or, true_or, or_true, or_false, n0_e, n1_ne, n1_11, bI_z, bI_1, bI_fo, va_rf_some, aBk_1, aBk_0, nI_add, nI_mul, hk_si, hp_si, hl_si, hk_sp, hk_sl, hk_cp, hp_cp, hk, k1, m]
theorem mi_32 {d : Nat} {h : aH} (hk : hk_ h 458 = (10, 0)) (hz : hz_ h = 459 + 32) : run (d + 2) 146 274 [.ref 458] [] h = run (d + 2) 146 282 [.ref 458] [] (sp_ (nw_ h 100 31 31) 458 116 (some (hz_ h))) := by
  have k1 : hk_ (nw_ h 100 31 31) 458 = (10, 0) := (if_neg (by omega)).trans hk
  have m : (31 : Nat) ≤ 1000000 := by decide
  simp only [e146_274, e146_275, e146_277, e146_279, e146_279n, ↓reduceIte, Nat.reduceAdd, Nat.reduceLeDiff, Nat.reduceLT, Nat.reduceEqDiff, not_false_eq_true, false_or, true_or, or_true, or_false, n0_e, n1_ne, n1_11, bI_z, bI_1, bI_fo, va_rf_some, aBk_1, aBk_0, nI_add, nI_mul, hk_si, hp_si, hl_si, hk_sp, hk_sl, hk_cp, hp_cp, hk, k1, m]
theorem mi_33 {d : Nat} {h : aH} (hk : hk_ h 458 = (10, 0)) (hz : hz_ h = 459 + 33) : run (d + 2) 146 282 [.ref 458] [] h = run (d + 2) 146 290 [.ref 458] [] (sp_ (nw_ h 100 31 31) 458 117 (some (hz_ h))) := by
  have k1 : hk_ (nw_ h 100 31 31) 458 = (10, 0) := (if_neg (by omega)).trans hk
  have m : (31 : Nat) ≤ 1000000 := by decide
  simp only [e146_282, e146_283, e146_285, e146_287, e146_287n, ↓reduceIte, Nat.reduceAdd, Nat.reduceLeDiff, Nat.reduceLT, Nat.reduceEqDiff, not_false_eq_true, false_or, true_or, or_true, or_false, n0_e, n1_ne, n1_11, bI_z, bI_1, bI_fo, va_rf_some, aBk_1, aBk_0, nI_add, nI_mul, hk_si, hp_si, hl_si, hk_sp, hk_sl, hk_cp, hp_cp, hk, k1, m]
theorem mi_34 {d : Nat} {h : aH} (hk : hk_ h 458 = (10, 0)) (hz : hz_ h = 459 + 34) : run (d + 2) 146 290 [.ref 458] [] h = run (d + 2) 146 298 [.ref 458] [] (sp_ (nw_ h 100 7 7) 458 120 (some (hz_ h))) := by
  have k1 : hk_ (nw_ h 100 7 7) 458 = (10, 0) := (if_neg (by omega)).trans hk
  have m : (7 : Nat) ≤ 1000000 := by decide
  simp only [e146_290, e146_291, e146_293, e146_295, e146_295n, ↓reduceIte, Nat.reduceAdd, Nat.reduceLeDiff, Nat.reduceLT, Nat.reduceEqDiff, not_false_eq_true, false_or, true_or, or_true, or_false, n0_e, n1_ne, n1_11, bI_z, bI_1, bI_fo, va_rf_some, aBk_1, aBk_0, nI_add, nI_mul, hk_si, hp_si, hl_si, hk_sp, hk_sl, hk_cp, hp_cp, hk, k1, m]
theorem mi_35 {d : Nat} {h : aH} (hk : hk_ h 458 = (10, 0)) (hz : hz_ h = 459 + 35) : run (d + 2) 146 298 [.ref 458] [] h = run (d + 2) 146 305 [.ref 458] [] (sp_ (nw_ h 100 4 4) 458 121 (some (hz_ h))) := by
  have k1 : hk_ (nw_ h 100 4 4) 458 = (10, 0) := (if_neg (by omega)).trans hk
  have m : (4 : Nat) ≤ 1000000 := by decide
  simp only [e146_298, e146_299, e146_300, e146_302, e146_302n, ↓reduceIte, Nat.reduceAdd, Nat.reduceLeDiff, Nat.reduceLT, Nat.reduceEqDiff, not_false_eq_true, false_or, true_or, or_true, or_false, n0_e, n1_ne, n1_11, bI_z, bI_1, bI_fo, va_rf_some, aBk_1, aBk_0, nI_add, nI_mul, hk_si, hp_si, hl_si, hk_sp, hk_sl, hk_cp, hp_cp, hk, k1, m]
theorem mi_36 {d : Nat} {h : aH} (hk : hk_ h 458 = (10, 0)) (hz : hz_ h = 459 + 36) : run (d + 2) 146 305 [.ref 458] [] h = run (d + 2) 146 314 [.ref 458] [] (sp_ (nw_ h 100 1240 1240) 458 123 (some (hz_ h))) := by
  have k1 : hk_ (nw_ h 100 1240 1240) 458 = (10, 0) := (if_neg (by omega)).trans hk
  have m : (1240 : Nat) ≤ 1000000 := by decide
  simp only [e146_305, e146_306, e146_309, e146_311, e146_311n, ↓reduceIte, Nat.reduceAdd, Nat.reduceLeDiff, Nat.reduceLT, Nat.reduceEqDiff, not_false_eq_true, false_or, true_or, or_true, or_false, n0_e, n1_ne, n1_11, bI_z, bI_1, bI_fo, va_rf_some, aBk_1, aBk_0, nI_add, nI_mul, hk_si, hp_si, hl_si, hk_sp, hk_sl, hk_cp, hp_cp, hk, k1, m]
theorem mi_37 {d : Nat} {h : aH} (hk : hk_ h 458 = (10, 0)) (hz : hz_ h = 459 + 37) : run (d + 2) 146 314 [.ref 458] [] h = run (d + 2) 146 323 [.ref 458] [] (sp_ (nw_ h 100 512 512) 458 124 (some (hz_ h))) := by
  have k1 : hk_ (nw_ h 100 512 512) 458 = (10, 0) := (if_neg (by omega)).trans hk
  have m : (512 : Nat) ≤ 1000000 := by decide
  simp only [e146_314, e146_315, e146_318, e146_320, e146_320n, ↓reduceIte, Nat.reduceAdd, Nat.reduceLeDiff, Nat.reduceLT, Nat.reduceEqDiff, not_false_eq_true, false_or, true_or, or_true, or_false, n0_e, n1_ne, n1_11, bI_z, bI_1, bI_fo, va_rf_some, aBk_1, aBk_0, nI_add, nI_mul, hk_si, hp_si, hl_si, hk_sp, hk_sl, hk_cp, hp_cp, hk, k1, m]
theorem mi_38 {d : Nat} {h : aH} (hk : hk_ h 458 = (10, 0)) (hz : hz_ h = 459 + 38) : run (d + 2) 146 323 [.ref 458] [] h = run (d + 2) 146 332 [.ref 458] [] (sp_ (nw_ h 100 640 640) 458 125 (some (hz_ h))) := by
  have k1 : hk_ (nw_ h 100 640 640) 458 = (10, 0) := (if_neg (by omega)).trans hk
  have m : (640 : Nat) ≤ 1000000 := by decide
  simp only [e146_323, e146_324, e146_327, e146_329, e146_329n, ↓reduceIte, Nat.reduceAdd, Nat.reduceLeDiff, Nat.reduceLT, Nat.reduceEqDiff, not_false_eq_true, false_or, true_or, or_true, or_false, n0_e, n1_ne, n1_11, bI_z, bI_1, bI_fo, va_rf_some, aBk_1, aBk_0, nI_add, nI_mul, hk_si, hp_si, hl_si, hk_sp, hk_sl, hk_cp, hp_cp, hk, k1, m]
theorem mi_39 {d : Nat} {h : aH} (hk : hk_ h 458 = (10, 0)) (hz : hz_ h = 459 + 39) : run (d + 2) 146 332 [.ref 458] [] h = run (d + 2) 146 341 [.ref 458] [] (sp_ (nw_ h 103 2048 2048) 458 126 (some (hz_ h))) := by
  have k1 : hk_ (nw_ h 103 2048 2048) 458 = (10, 0) := (if_neg (by omega)).trans hk
  have m : (2048 : Nat) ≤ 1000000 := by decide
  simp only [e146_332, e146_333, e146_336, e146_338, e146_338n, ↓reduceIte, Nat.reduceAdd, Nat.reduceLeDiff, Nat.reduceLT, Nat.reduceEqDiff, not_false_eq_true, false_or, true_or, or_true, or_false, n0_e, n1_ne, n1_11, bI_z, bI_1, bI_fo, va_rf_some, aBk_1, aBk_0, nI_add, nI_mul, hk_si, hp_si, hl_si, hk_sp, hk_sl, hk_cp, hp_cp, hk, k1, m]
theorem mi_40 {d : Nat} {h : aH} (hk : hk_ h 458 = (10, 0)) (hz : hz_ h = 459 + 40) : run (d + 2) 146 341 [.ref 458] [] h = run (d + 2) 146 350 [.ref 458] [] (sp_ (nw_ h 100 128 128) 458 127 (some (hz_ h))) := by
  have k1 : hk_ (nw_ h 100 128 128) 458 = (10, 0) := (if_neg (by omega)).trans hk
  have m : (128 : Nat) ≤ 1000000 := by decide
  simp only [e146_341, e146_342, e146_345, e146_347, e146_347n, ↓reduceIte, Nat.reduceAdd, Nat.reduceLeDiff, Nat.reduceLT, Nat.reduceEqDiff, not_false_eq_true, false_or, true_or, or_true, or_false, n0_e, n1_ne, n1_11, bI_z, bI_1, bI_fo, va_rf_some, aBk_1, aBk_0, nI_add, nI_mul, hk_si, hp_si, hl_si, hk_sp, hk_sl, hk_cp, hp_cp, hk, k1, m]
theorem mi_41 {d : Nat} {h : aH} (hk : hk_ h 458 = (10, 0)) (hz : hz_ h = 459 + 41) : run (d + 2) 146 350 [.ref 458] [] h = run (d + 2) 146 358 [.ref 458] [] (sp_ (nw_ h 100 20 20) 458 129 (some (hz_ h))) := by
  have k1 : hk_ (nw_ h 100 20 20) 458 = (10, 0) := (if_neg (by omega)).trans hk
  have m : (20 : Nat) ≤ 1000000 := by decide
  simp only [e146_350, e146_351, e146_353, e146_355, e146_355n, ↓reduceIte, Nat.reduceAdd, Nat.reduceLeDiff, Nat.reduceLT, Nat.reduceEqDiff, not_false_eq_true, false_or, true_or, or_true, or_false, n0_e, n1_ne, n1_11, bI_z, bI_1, bI_fo, va_rf_some, aBk_1, aBk_0, nI_add, nI_mul, hk_si, hp_si, hl_si, hk_sp, hk_sl, hk_cp, hp_cp, hk, k1, m]
theorem mi_42 {d : Nat} {h : aH} (hk : hk_ h 458 = (10, 0)) (hz : hz_ h = 459 + 42) : run (d + 2) 146 358 [.ref 458] [] h = run (d + 2) 146 366 [.ref 458] [] (sp_ (nw_ h 103 20 20) 458 130 (some (hz_ h))) := by
  have k1 : hk_ (nw_ h 103 20 20) 458 = (10, 0) := (if_neg (by omega)).trans hk
  have m : (20 : Nat) ≤ 1000000 := by decide
  simp only [e146_358, e146_359, e146_361, e146_363, e146_363n, ↓reduceIte, Nat.reduceAdd, Nat.reduceLeDiff, Nat.reduceLT, Nat.reduceEqDiff, not_false_eq_true, false_or, true_or, or_true, or_false, n0_e, n1_ne, n1_11, bI_z, bI_1, bI_fo, va_rf_some, aBk_1, aBk_0, nI_add, nI_mul, hk_si, hp_si, hl_si, hk_sp, hk_sl, hk_cp, hp_cp, hk, k1, m]
theorem mi_43 {d : Nat} {h : aH} (hk : hk_ h 458 = (10, 0)) (hz : hz_ h = 459 + 43) : run (d + 2) 146 366 [.ref 458] [] h = run (d + 2) 146 373 [.ref 458] [] (sp_ (nw_ h 103 3 3) 458 131 (some (hz_ h))) := by
  have k1 : hk_ (nw_ h 103 3 3) 458 = (10, 0) := (if_neg (by omega)).trans hk
  have m : (3 : Nat) ≤ 1000000 := by decide
  simp only [e146_366, e146_367, e146_368, e146_370, e146_370n, ↓reduceIte, Nat.reduceAdd, Nat.reduceLeDiff, Nat.reduceLT, Nat.reduceEqDiff, not_false_eq_true, false_or, true_or, or_true, or_false, n0_e, n1_ne, n1_11, bI_z, bI_1, bI_fo, va_rf_some, aBk_1, aBk_0, nI_add, nI_mul, hk_si, hp_si, hl_si, hk_sp, hk_sl, hk_cp, hp_cp, hk, k1, m]
theorem mi_44 {d : Nat} {h : aH} (hk : hk_ h 458 = (10, 0)) (hz : hz_ h = 459 + 44) : run (d + 2) 146 373 [.ref 458] [] h = run (d + 2) 146 381 [.ref 458] [] (sp_ (nw_ h 100 93 93) 458 132 (some (hz_ h))) := by
  have k1 : hk_ (nw_ h 100 93 93) 458 = (10, 0) := (if_neg (by omega)).trans hk
  have m : (93 : Nat) ≤ 1000000 := by decide
  simp only [e146_373, e146_374, e146_376, e146_378, e146_378n, ↓reduceIte, Nat.reduceAdd, Nat.reduceLeDiff, Nat.reduceLT, Nat.reduceEqDiff, not_false_eq_true, false_or, true_or, or_true, or_false, n0_e, n1_ne, n1_11, bI_z, bI_1, bI_fo, va_rf_some, aBk_1, aBk_0, nI_add, nI_mul, hk_si, hp_si, hl_si, hk_sp, hk_sl, hk_cp, hp_cp, hk, k1, m]
theorem mi_arrays {h : aH} (hM : MLk h 0) : ∃ h', (∀ d, run (d + 2) 146 4 [.ref 458] [] h = run (d + 2) 146 381 [.ref 458] [] h') ∧ MLk h' 45 ∧ hi_ h' 458 83 = -1 ∧ (∀ a, a < 458 → hk_ h' a = hk_ h a ∧ ∀ f, hp_ h' a f = hp_ h a f ∧ hi_ h' a f = hi_ h a f) ∧ (∀ a f, hl_ h' a f = hl_ h a f) ∧ hu_ h' ≤ hu_ h + 20000 := by
  have M0 := hM
  have L0 : ∀ a, a < 458 → hk_ h a = hk_ h a ∧ ∀ f, hp_ h a f = hp_ h a f ∧ hi_ h a f = hi_ h a f := fun _ _ => ⟨rfl, fun _ => ⟨rfl, rfl⟩⟩
  have U0 : hu_ h ≤ hu_ h + 0 := Nat.le_refl _
  have Q0 : ∀ a f, hl_ h a f = hl_ h a f := fun _ _ => rfl
  have E0 : ∀ d, run (d + 2) 146 4 [.ref 458] [] h = run (d + 2) 146 4 [.ref 458] [] h := fun _ => rfl
  have M1 : MLk (sp_ (nw_ h 101 2000 2000) 458 67 (some (hz_ h))) 1 := M0.nx (by decide)
  have E1 := fun d => (E0 d).trans (mi_0 (d := d) M0.2.2.1 M0.1)
  have L1 : ∀ a, a < 458 → hk_ (sp_ (nw_ h 101 2000 2000) 458 67 (some (hz_ h))) a = hk_ h a ∧ ∀ f, hp_ (sp_ (nw_ h 101 2000 2000) 458 67 (some (hz_ h))) a f = hp_ h a f ∧ hi_ (sp_ (nw_ h 101 2000 2000) 458 67 (some (hz_ h))) a f = hi_ h a f := fun a ha => ⟨(if_neg (by have := M0.1; omega)).trans (L0 a ha).1, fun f => ⟨(if_neg (by omega)).trans ((L0 a ha).2 f).1, ((L0 a ha).2 f).2⟩⟩
  have U1 : hu_ (sp_ (nw_ h 101 2000 2000) 458 67 (some (hz_ h))) ≤ hu_ h + 2000 := by show hu_ h + 2000 ≤ _; omega
  have Q1 : ∀ a f, hl_ (sp_ (nw_ h 101 2000 2000) 458 67 (some (hz_ h))) a f = hl_ h a f := Q0
  generalize sp_ (nw_ h 101 2000 2000) 458 67 (some (hz_ h)) = g1 at M1 E1 L1 U1 Q1
  clear M0 E0 L0 U0 Q0
  have M2 : MLk (sp_ (nw_ g1 101 2000 2000) 458 69 (some (hz_ g1))) 2 := M1.nx (by decide)
  have E2 := fun d => (E1 d).trans (mi_1 (d := d) M1.2.2.1 M1.1)
  have L2 : ∀ a, a < 458 → hk_ (sp_ (nw_ g1 101 2000 2000) 458 69 (some (hz_ g1))) a = hk_ h a ∧ ∀ f, hp_ (sp_ (nw_ g1 101 2000 2000) 458 69 (some (hz_ g1))) a f = hp_ h a f ∧ hi_ (sp_ (nw_ g1 101 2000 2000) 458 69 (some (hz_ g1))) a f = hi_ h a f := fun a ha => ⟨(if_neg (by have := M1.1; omega)).trans (L1 a ha).1, fun f => ⟨(if_neg (by omega)).trans ((L1 a ha).2 f).1, ((L1 a ha).2 f).2⟩⟩
  have U2 : hu_ (sp_ (nw_ g1 101 2000 2000) 458 69 (some (hz_ g1))) ≤ hu_ h + 4000 := by show hu_ g1 + 2000 ≤ _; omega
  have Q2 : ∀ a f, hl_ (sp_ (nw_ g1 101 2000 2000) 458 69 (some (hz_ g1))) a f = hl_ h a f := Q1
  generalize sp_ (nw_ g1 101 2000 2000) 458 69 (some (hz_ g1)) = g2 at M2 E2 L2 U2 Q2
  clear M1 E1 L1 U1 Q1
  have M3 : MLk (sp_ (nw_ g2 100 403 403) 458 71 (some (hz_ g2))) 3 := M2.nx (by decide)
  have E3 := fun d => (E2 d).trans (mi_2 (d := d) M2.2.2.1 M2.1)
  have L3 : ∀ a, a < 458 → hk_ (sp_ (nw_ g2 100 403 403) 458 71 (some (hz_ g2))) a = hk_ h a ∧ ∀ f, hp_ (sp_ (nw_ g2 100 403 403) 458 71 (some (hz_ g2))) a f = hp_ h a f ∧ hi_ (sp_ (nw_ g2 100 403 403) 458 71 (some (hz_ g2))) a f = hi_ h a f := fun a ha => ⟨(if_neg (by have := M2.1; omega)).trans (L2 a ha).1, fun f => ⟨(if_neg (by omega)).trans ((L2 a ha).2 f).1, ((L2 a ha).2 f).2⟩⟩
  have U3 : hu_ (sp_ (nw_ g2 100 403 403) 458 71 (some (hz_ g2))) ≤ hu_ h + 4403 := by show hu_ g2 + 403 ≤ _; omega
  have Q3 : ∀ a f, hl_ (sp_ (nw_ g2 100 403 403) 458 71 (some (hz_ g2))) a f = hl_ h a f := Q2
  generalize sp_ (nw_ g2 100 403 403) 458 71 (some (hz_ g2)) = g3 at M3 E3 L3 U3 Q3
  clear M2 E2 L2 U2 Q2
  have M4 : MLk (sp_ (nw_ g3 100 403 403) 458 72 (some (hz_ g3))) 4 := M3.nx (by decide)
  have E4 := fun d => (E3 d).trans (mi_3 (d := d) M3.2.2.1 M3.1)
  have L4 : ∀ a, a < 458 → hk_ (sp_ (nw_ g3 100 403 403) 458 72 (some (hz_ g3))) a = hk_ h a ∧ ∀ f, hp_ (sp_ (nw_ g3 100 403 403) 458 72 (some (hz_ g3))) a f = hp_ h a f ∧ hi_ (sp_ (nw_ g3 100 403 403) 458 72 (some (hz_ g3))) a f = hi_ h a f := fun a ha => ⟨(if_neg (by have := M3.1; omega)).trans (L3 a ha).1, fun f => ⟨(if_neg (by omega)).trans ((L3 a ha).2 f).1, ((L3 a ha).2 f).2⟩⟩
  have U4 : hu_ (sp_ (nw_ g3 100 403 403) 458 72 (some (hz_ g3))) ≤ hu_ h + 4806 := by show hu_ g3 + 403 ≤ _; omega
  have Q4 : ∀ a f, hl_ (sp_ (nw_ g3 100 403 403) 458 72 (some (hz_ g3))) a f = hl_ h a f := Q3
  generalize sp_ (nw_ g3 100 403 403) 458 72 (some (hz_ g3)) = g4 at M4 E4 L4 U4 Q4
  clear M3 E3 L3 U3 Q3
  have M5 : MLk (sp_ (nw_ g4 100 403 403) 458 73 (some (hz_ g4))) 5 := M4.nx (by decide)
  have E5 := fun d => (E4 d).trans (mi_4 (d := d) M4.2.2.1 M4.1)
  have L5 : ∀ a, a < 458 → hk_ (sp_ (nw_ g4 100 403 403) 458 73 (some (hz_ g4))) a = hk_ h a ∧ ∀ f, hp_ (sp_ (nw_ g4 100 403 403) 458 73 (some (hz_ g4))) a f = hp_ h a f ∧ hi_ (sp_ (nw_ g4 100 403 403) 458 73 (some (hz_ g4))) a f = hi_ h a f := fun a ha => ⟨(if_neg (by have := M4.1; omega)).trans (L4 a ha).1, fun f => ⟨(if_neg (by omega)).trans ((L4 a ha).2 f).1, ((L4 a ha).2 f).2⟩⟩
  have U5 : hu_ (sp_ (nw_ g4 100 403 403) 458 73 (some (hz_ g4))) ≤ hu_ h + 5209 := by show hu_ g4 + 403 ≤ _; omega
  have Q5 : ∀ a f, hl_ (sp_ (nw_ g4 100 403 403) 458 73 (some (hz_ g4))) a f = hl_ h a f := Q4
  generalize sp_ (nw_ g4 100 403 403) 458 73 (some (hz_ g4)) = g5 at M5 E5 L5 U5 Q5
  clear M4 E4 L4 U4 Q4
  have M6 : MLk (sp_ (nw_ g5 104 403 403) 458 74 (some (hz_ g5))) 6 := M5.nx (by decide)
  have E6 := fun d => (E5 d).trans (mi_5 (d := d) M5.2.2.1 M5.1)
  have L6 : ∀ a, a < 458 → hk_ (sp_ (nw_ g5 104 403 403) 458 74 (some (hz_ g5))) a = hk_ h a ∧ ∀ f, hp_ (sp_ (nw_ g5 104 403 403) 458 74 (some (hz_ g5))) a f = hp_ h a f ∧ hi_ (sp_ (nw_ g5 104 403 403) 458 74 (some (hz_ g5))) a f = hi_ h a f := fun a ha => ⟨(if_neg (by have := M5.1; omega)).trans (L5 a ha).1, fun f => ⟨(if_neg (by omega)).trans ((L5 a ha).2 f).1, ((L5 a ha).2 f).2⟩⟩
  have U6 : hu_ (sp_ (nw_ g5 104 403 403) 458 74 (some (hz_ g5))) ≤ hu_ h + 5612 := by show hu_ g5 + 403 ≤ _; omega
  have Q6 : ∀ a f, hl_ (sp_ (nw_ g5 104 403 403) 458 74 (some (hz_ g5))) a f = hl_ h a f := Q5
  generalize sp_ (nw_ g5 104 403 403) 458 74 (some (hz_ g5)) = g6 at M6 E6 L6 U6 Q6
  clear M5 E5 L5 U5 Q5
  have M7 : MLk (sp_ (nw_ g6 104 21 21) 458 75 (some (hz_ g6))) 7 := M6.nx (by decide)
  have E7 := fun d => (E6 d).trans (mi_6 (d := d) M6.2.2.1 M6.1)
  have L7 : ∀ a, a < 458 → hk_ (sp_ (nw_ g6 104 21 21) 458 75 (some (hz_ g6))) a = hk_ h a ∧ ∀ f, hp_ (sp_ (nw_ g6 104 21 21) 458 75 (some (hz_ g6))) a f = hp_ h a f ∧ hi_ (sp_ (nw_ g6 104 21 21) 458 75 (some (hz_ g6))) a f = hi_ h a f := fun a ha => ⟨(if_neg (by have := M6.1; omega)).trans (L6 a ha).1, fun f => ⟨(if_neg (by omega)).trans ((L6 a ha).2 f).1, ((L6 a ha).2 f).2⟩⟩
  have U7 : hu_ (sp_ (nw_ g6 104 21 21) 458 75 (some (hz_ g6))) ≤ hu_ h + 5633 := by show hu_ g6 + 21 ≤ _; omega
  have Q7 : ∀ a f, hl_ (sp_ (nw_ g6 104 21 21) 458 75 (some (hz_ g6))) a f = hl_ h a f := Q6
  generalize sp_ (nw_ g6 104 21 21) 458 75 (some (hz_ g6)) = g7 at M7 E7 L7 U7 Q7
  clear M6 E6 L6 U6 Q6
  have M8 : MLk (si_ g7 458 83 (-1)) 7 := ⟨M7.1, fun a ha => ⟨(M7.2.1 a ha).1, fun f => ⟨((M7.2.1 a ha).2 f).1, (hi_ne (by have := M7.1; have ha : hz_ g7 ≤ a := ha; omega)).trans ((M7.2.1 a ha).2 f).2⟩⟩, M7.2.2.1, M7.2.2.2.1, fun a f h1 h2 => (hi_ne h2).trans (M7.2.2.2.2 a f h1 h2)⟩
  have E8 : ∀ d, run (d + 2) 146 4 [.ref 458] [] h = run (d + 2) 146 71 [.ref 458] [] (si_ g7 458 83 (-1)) := fun d => (E7 d).trans (by
    have hk := M7.2.2.1
    simp only [e146_66, e146_67, e146_68, ↓reduceIte, Nat.reduceAdd, Nat.reduceLeDiff, Nat.reduceLT, Nat.reduceEqDiff, not_false_eq_true, false_or, true_or, or_true, or_false, n0_e, n1_ne, n1_11, bI_z, bI_1, bI_fo, va_rf_some, aBk_1, aBk_0, nI_add, nI_mul, hk_si, hp_si, hl_si, hk_sp, hk_sl, hk_cp, hp_cp, hk])
  have L8 : ∀ a, a < 458 → hk_ (si_ g7 458 83 (-1)) a = hk_ h a ∧ ∀ f, hp_ (si_ g7 458 83 (-1)) a f = hp_ h a f ∧ hi_ (si_ g7 458 83 (-1)) a f = hi_ h a f := fun a ha => ⟨(L7 a ha).1, fun f => ⟨((L7 a ha).2 f).1, (hi_ne (by omega)).trans ((L7 a ha).2 f).2⟩⟩
  have U8 : hu_ (si_ g7 458 83 (-1)) ≤ hu_ h + 5633 := U7
  have Q8 : ∀ a f, hl_ (si_ g7 458 83 (-1)) a f = hl_ h a f := Q7
  have P8 : hi_ (si_ g7 458 83 (-1)) 458 83 = -1 := hi_same
  generalize si_ g7 458 83 (-1) = g8 at M8 E8 L8 U8 Q8 P8
  clear M7 E7 L7 U7 Q7
  have M9 : MLk (sp_ (nw_ g8 104 11 11) 458 87 (some (hz_ g8))) 8 := M8.nx (by decide)
  have E9 := fun d => (E8 d).trans (mi_7 (d := d) M8.2.2.1 M8.1)
  have L9 : ∀ a, a < 458 → hk_ (sp_ (nw_ g8 104 11 11) 458 87 (some (hz_ g8))) a = hk_ h a ∧ ∀ f, hp_ (sp_ (nw_ g8 104 11 11) 458 87 (some (hz_ g8))) a f = hp_ h a f ∧ hi_ (sp_ (nw_ g8 104 11 11) 458 87 (some (hz_ g8))) a f = hi_ h a f := fun a ha => ⟨(if_neg (by have := M8.1; omega)).trans (L8 a ha).1, fun f => ⟨(if_neg (by omega)).trans ((L8 a ha).2 f).1, ((L8 a ha).2 f).2⟩⟩
  have U9 : hu_ (sp_ (nw_ g8 104 11 11) 458 87 (some (hz_ g8))) ≤ hu_ h + 5644 := by show hu_ g8 + 11 ≤ _; omega
  have Q9 : ∀ a f, hl_ (sp_ (nw_ g8 104 11 11) 458 87 (some (hz_ g8))) a f = hl_ h a f := Q8
  have P9 : hi_ (sp_ (nw_ g8 104 11 11) 458 87 (some (hz_ g8))) 458 83 = -1 := P8
  generalize sp_ (nw_ g8 104 11 11) 458 87 (some (hz_ g8)) = g9 at M9 E9 L9 U9 Q9 P9
  clear M8 E8 L8 U8 Q8 P8
  have M10 : MLk (sp_ (nw_ g9 100 11 11) 458 88 (some (hz_ g9))) 9 := M9.nx (by decide)
  have E10 := fun d => (E9 d).trans (mi_8 (d := d) M9.2.2.1 M9.1)
  have L10 : ∀ a, a < 458 → hk_ (sp_ (nw_ g9 100 11 11) 458 88 (some (hz_ g9))) a = hk_ h a ∧ ∀ f, hp_ (sp_ (nw_ g9 100 11 11) 458 88 (some (hz_ g9))) a f = hp_ h a f ∧ hi_ (sp_ (nw_ g9 100 11 11) 458 88 (some (hz_ g9))) a f = hi_ h a f := fun a ha => ⟨(if_neg (by have := M9.1; omega)).trans (L9 a ha).1, fun f => ⟨(if_neg (by omega)).trans ((L9 a ha).2 f).1, ((L9 a ha).2 f).2⟩⟩
  have U10 : hu_ (sp_ (nw_ g9 100 11 11) 458 88 (some (hz_ g9))) ≤ hu_ h + 5655 := by show hu_ g9 + 11 ≤ _; omega
  have Q10 : ∀ a f, hl_ (sp_ (nw_ g9 100 11 11) 458 88 (some (hz_ g9))) a f = hl_ h a f := Q9
  have P10 : hi_ (sp_ (nw_ g9 100 11 11) 458 88 (some (hz_ g9))) 458 83 = -1 := P9
  generalize sp_ (nw_ g9 100 11 11) 458 88 (some (hz_ g9)) = g10 at M10 E10 L10 U10 Q10 P10
  clear M9 E9 L9 U9 Q9 P9
  have M11 : MLk (sp_ (nw_ g10 100 2 2) 458 89 (some (hz_ g10))) 10 := M10.nx (by decide)
  have E11 := fun d => (E10 d).trans (mi_9 (d := d) M10.2.2.1 M10.1)
  have L11 : ∀ a, a < 458 → hk_ (sp_ (nw_ g10 100 2 2) 458 89 (some (hz_ g10))) a = hk_ h a ∧ ∀ f, hp_ (sp_ (nw_ g10 100 2 2) 458 89 (some (hz_ g10))) a f = hp_ h a f ∧ hi_ (sp_ (nw_ g10 100 2 2) 458 89 (some (hz_ g10))) a f = hi_ h a f := fun a ha => ⟨(if_neg (by have := M10.1; omega)).trans (L10 a ha).1, fun f => ⟨(if_neg (by omega)).trans ((L10 a ha).2 f).1, ((L10 a ha).2 f).2⟩⟩
  have U11 : hu_ (sp_ (nw_ g10 100 2 2) 458 89 (some (hz_ g10))) ≤ hu_ h + 5657 := by show hu_ g10 + 2 ≤ _; omega
  have Q11 : ∀ a f, hl_ (sp_ (nw_ g10 100 2 2) 458 89 (some (hz_ g10))) a f = hl_ h a f := Q10
  have P11 : hi_ (sp_ (nw_ g10 100 2 2) 458 89 (some (hz_ g10))) 458 83 = -1 := P10
  generalize sp_ (nw_ g10 100 2 2) 458 89 (some (hz_ g10)) = g11 at M11 E11 L11 U11 Q11 P11
  clear M10 E10 L10 U10 Q10 P10
  have M12 : MLk (sp_ (nw_ g11 100 8 8) 458 90 (some (hz_ g11))) 11 := M11.nx (by decide)
  have E12 := fun d => (E11 d).trans (mi_10 (d := d) M11.2.2.1 M11.1)
  have L12 : ∀ a, a < 458 → hk_ (sp_ (nw_ g11 100 8 8) 458 90 (some (hz_ g11))) a = hk_ h a ∧ ∀ f, hp_ (sp_ (nw_ g11 100 8 8) 458 90 (some (hz_ g11))) a f = hp_ h a f ∧ hi_ (sp_ (nw_ g11 100 8 8) 458 90 (some (hz_ g11))) a f = hi_ h a f := fun a ha => ⟨(if_neg (by have := M11.1; omega)).trans (L11 a ha).1, fun f => ⟨(if_neg (by omega)).trans ((L11 a ha).2 f).1, ((L11 a ha).2 f).2⟩⟩
  have U12 : hu_ (sp_ (nw_ g11 100 8 8) 458 90 (some (hz_ g11))) ≤ hu_ h + 5665 := by show hu_ g11 + 8 ≤ _; omega
  have Q12 : ∀ a f, hl_ (sp_ (nw_ g11 100 8 8) 458 90 (some (hz_ g11))) a f = hl_ h a f := Q11
  have P12 : hi_ (sp_ (nw_ g11 100 8 8) 458 90 (some (hz_ g11))) 458 83 = -1 := P11
  generalize sp_ (nw_ g11 100 8 8) 458 90 (some (hz_ g11)) = g12 at M12 E12 L12 U12 Q12 P12
  clear M11 E11 L11 U11 Q11 P11
  have M13 : MLk (sp_ (nw_ g12 100 8 8) 458 91 (some (hz_ g12))) 12 := M12.nx (by decide)
  have E13 := fun d => (E12 d).trans (mi_11 (d := d) M12.2.2.1 M12.1)
  have L13 : ∀ a, a < 458 → hk_ (sp_ (nw_ g12 100 8 8) 458 91 (some (hz_ g12))) a = hk_ h a ∧ ∀ f, hp_ (sp_ (nw_ g12 100 8 8) 458 91 (some (hz_ g12))) a f = hp_ h a f ∧ hi_ (sp_ (nw_ g12 100 8 8) 458 91 (some (hz_ g12))) a f = hi_ h a f := fun a ha => ⟨(if_neg (by have := M12.1; omega)).trans (L12 a ha).1, fun f => ⟨(if_neg (by omega)).trans ((L12 a ha).2 f).1, ((L12 a ha).2 f).2⟩⟩
  have U13 : hu_ (sp_ (nw_ g12 100 8 8) 458 91 (some (hz_ g12))) ≤ hu_ h + 5673 := by show hu_ g12 + 8 ≤ _; omega
  have Q13 : ∀ a f, hl_ (sp_ (nw_ g12 100 8 8) 458 91 (some (hz_ g12))) a f = hl_ h a f := Q12
  have P13 : hi_ (sp_ (nw_ g12 100 8 8) 458 91 (some (hz_ g12))) 458 83 = -1 := P12
  generalize sp_ (nw_ g12 100 8 8) 458 91 (some (hz_ g12)) = g13 at M13 E13 L13 U13 Q13 P13
  clear M12 E12 L12 U12 Q12 P12
  have M14 : MLk (sp_ (nw_ g13 100 2 2) 458 92 (some (hz_ g13))) 13 := M13.nx (by decide)
  have E14 := fun d => (E13 d).trans (mi_12 (d := d) M13.2.2.1 M13.1)
  have L14 : ∀ a, a < 458 → hk_ (sp_ (nw_ g13 100 2 2) 458 92 (some (hz_ g13))) a = hk_ h a ∧ ∀ f, hp_ (sp_ (nw_ g13 100 2 2) 458 92 (some (hz_ g13))) a f = hp_ h a f ∧ hi_ (sp_ (nw_ g13 100 2 2) 458 92 (some (hz_ g13))) a f = hi_ h a f := fun a ha => ⟨(if_neg (by have := M13.1; omega)).trans (L13 a ha).1, fun f => ⟨(if_neg (by omega)).trans ((L13 a ha).2 f).1, ((L13 a ha).2 f).2⟩⟩
  have U14 : hu_ (sp_ (nw_ g13 100 2 2) 458 92 (some (hz_ g13))) ≤ hu_ h + 5675 := by show hu_ g13 + 2 ≤ _; omega
  have Q14 : ∀ a f, hl_ (sp_ (nw_ g13 100 2 2) 458 92 (some (hz_ g13))) a f = hl_ h a f := Q13
  have P14 : hi_ (sp_ (nw_ g13 100 2 2) 458 92 (some (hz_ g13))) 458 83 = -1 := P13
  generalize sp_ (nw_ g13 100 2 2) 458 92 (some (hz_ g13)) = g14 at M14 E14 L14 U14 Q14 P14
  clear M13 E13 L13 U13 Q13 P13
  have M15 : MLk (sp_ (nw_ g14 100 14 14) 458 93 (some (hz_ g14))) 14 := M14.nx (by decide)
  have E15 := fun d => (E14 d).trans (mi_13 (d := d) M14.2.2.1 M14.1)
  have L15 : ∀ a, a < 458 → hk_ (sp_ (nw_ g14 100 14 14) 458 93 (some (hz_ g14))) a = hk_ h a ∧ ∀ f, hp_ (sp_ (nw_ g14 100 14 14) 458 93 (some (hz_ g14))) a f = hp_ h a f ∧ hi_ (sp_ (nw_ g14 100 14 14) 458 93 (some (hz_ g14))) a f = hi_ h a f := fun a ha => ⟨(if_neg (by have := M14.1; omega)).trans (L14 a ha).1, fun f => ⟨(if_neg (by omega)).trans ((L14 a ha).2 f).1, ((L14 a ha).2 f).2⟩⟩
  have U15 : hu_ (sp_ (nw_ g14 100 14 14) 458 93 (some (hz_ g14))) ≤ hu_ h + 5689 := by show hu_ g14 + 14 ≤ _; omega
  have Q15 : ∀ a f, hl_ (sp_ (nw_ g14 100 14 14) 458 93 (some (hz_ g14))) a f = hl_ h a f := Q14
  have P15 : hi_ (sp_ (nw_ g14 100 14 14) 458 93 (some (hz_ g14))) 458 83 = -1 := P14
  generalize sp_ (nw_ g14 100 14 14) 458 93 (some (hz_ g14)) = g15 at M15 E15 L15 U15 Q15 P15
  clear M14 E14 L14 U14 Q14 P14
  have M16 : MLk (sp_ (nw_ g15 100 14 14) 458 94 (some (hz_ g15))) 15 := M15.nx (by decide)
  have E16 := fun d => (E15 d).trans (mi_14 (d := d) M15.2.2.1 M15.1)
  have L16 : ∀ a, a < 458 → hk_ (sp_ (nw_ g15 100 14 14) 458 94 (some (hz_ g15))) a = hk_ h a ∧ ∀ f, hp_ (sp_ (nw_ g15 100 14 14) 458 94 (some (hz_ g15))) a f = hp_ h a f ∧ hi_ (sp_ (nw_ g15 100 14 14) 458 94 (some (hz_ g15))) a f = hi_ h a f := fun a ha => ⟨(if_neg (by have := M15.1; omega)).trans (L15 a ha).1, fun f => ⟨(if_neg (by omega)).trans ((L15 a ha).2 f).1, ((L15 a ha).2 f).2⟩⟩
  have U16 : hu_ (sp_ (nw_ g15 100 14 14) 458 94 (some (hz_ g15))) ≤ hu_ h + 5703 := by show hu_ g15 + 14 ≤ _; omega
  have Q16 : ∀ a f, hl_ (sp_ (nw_ g15 100 14 14) 458 94 (some (hz_ g15))) a f = hl_ h a f := Q15
  have P16 : hi_ (sp_ (nw_ g15 100 14 14) 458 94 (some (hz_ g15))) 458 83 = -1 := P15
  generalize sp_ (nw_ g15 100 14 14) 458 94 (some (hz_ g15)) = g16 at M16 E16 L16 U16 Q16 P16
  clear M15 E15 L15 U15 Q15 P15
  have M17 : MLk (sp_ (nw_ g16 100 14 14) 458 95 (some (hz_ g16))) 16 := M16.nx (by decide)
  have E17 := fun d => (E16 d).trans (mi_15 (d := d) M16.2.2.1 M16.1)
  have L17 : ∀ a, a < 458 → hk_ (sp_ (nw_ g16 100 14 14) 458 95 (some (hz_ g16))) a = hk_ h a ∧ ∀ f, hp_ (sp_ (nw_ g16 100 14 14) 458 95 (some (hz_ g16))) a f = hp_ h a f ∧ hi_ (sp_ (nw_ g16 100 14 14) 458 95 (some (hz_ g16))) a f = hi_ h a f := fun a ha => ⟨(if_neg (by have := M16.1; omega)).trans (L16 a ha).1, fun f => ⟨(if_neg (by omega)).trans ((L16 a ha).2 f).1, ((L16 a ha).2 f).2⟩⟩
  have U17 : hu_ (sp_ (nw_ g16 100 14 14) 458 95 (some (hz_ g16))) ≤ hu_ h + 5717 := by show hu_ g16 + 14 ≤ _; omega
  have Q17 : ∀ a f, hl_ (sp_ (nw_ g16 100 14 14) 458 95 (some (hz_ g16))) a f = hl_ h a f := Q16
  have P17 : hi_ (sp_ (nw_ g16 100 14 14) 458 95 (some (hz_ g16))) 458 83 = -1 := P16
  generalize sp_ (nw_ g16 100 14 14) 458 95 (some (hz_ g16)) = g17 at M17 E17 L17 U17 Q17 P17
  clear M16 E16 L16 U16 Q16 P16
  have M18 : MLk (sp_ (nw_ g17 100 14 14) 458 96 (some (hz_ g17))) 17 := M17.nx (by decide)
  have E18 := fun d => (E17 d).trans (mi_16 (d := d) M17.2.2.1 M17.1)
  have L18 : ∀ a, a < 458 → hk_ (sp_ (nw_ g17 100 14 14) 458 96 (some (hz_ g17))) a = hk_ h a ∧ ∀ f, hp_ (sp_ (nw_ g17 100 14 14) 458 96 (some (hz_ g17))) a f = hp_ h a f ∧ hi_ (sp_ (nw_ g17 100 14 14) 458 96 (some (hz_ g17))) a f = hi_ h a f := fun a ha => ⟨(if_neg (by have := M17.1; omega)).trans (L17 a ha).1, fun f => ⟨(if_neg (by omega)).trans ((L17 a ha).2 f).1, ((L17 a ha).2 f).2⟩⟩
  have U18 : hu_ (sp_ (nw_ g17 100 14 14) 458 96 (some (hz_ g17))) ≤ hu_ h + 5731 := by show hu_ g17 + 14 ≤ _; omega
  have Q18 : ∀ a f, hl_ (sp_ (nw_ g17 100 14 14) 458 96 (some (hz_ g17))) a f = hl_ h a f := Q17
  have P18 : hi_ (sp_ (nw_ g17 100 14 14) 458 96 (some (hz_ g17))) 458 83 = -1 := P17
  generalize sp_ (nw_ g17 100 14 14) 458 96 (some (hz_ g17)) = g18 at M18 E18 L18 U18 Q18 P18
  clear M17 E17 L17 U17 Q17 P17
  have M19 : MLk (sp_ (nw_ g18 100 2 2) 458 97 (some (hz_ g18))) 18 := M18.nx (by decide)
  have E19 := fun d => (E18 d).trans (mi_17 (d := d) M18.2.2.1 M18.1)
  have L19 : ∀ a, a < 458 → hk_ (sp_ (nw_ g18 100 2 2) 458 97 (some (hz_ g18))) a = hk_ h a ∧ ∀ f, hp_ (sp_ (nw_ g18 100 2 2) 458 97 (some (hz_ g18))) a f = hp_ h a f ∧ hi_ (sp_ (nw_ g18 100 2 2) 458 97 (some (hz_ g18))) a f = hi_ h a f := fun a ha => ⟨(if_neg (by have := M18.1; omega)).trans (L18 a ha).1, fun f => ⟨(if_neg (by omega)).trans ((L18 a ha).2 f).1, ((L18 a ha).2 f).2⟩⟩
  have U19 : hu_ (sp_ (nw_ g18 100 2 2) 458 97 (some (hz_ g18))) ≤ hu_ h + 5733 := by show hu_ g18 + 2 ≤ _; omega
  have Q19 : ∀ a f, hl_ (sp_ (nw_ g18 100 2 2) 458 97 (some (hz_ g18))) a f = hl_ h a f := Q18
  have P19 : hi_ (sp_ (nw_ g18 100 2 2) 458 97 (some (hz_ g18))) 458 83 = -1 := P18
  generalize sp_ (nw_ g18 100 2 2) 458 97 (some (hz_ g18)) = g19 at M19 E19 L19 U19 Q19 P19
  clear M18 E18 L18 U18 Q18 P18
  have M20 : MLk (sp_ (nw_ g19 100 2 2) 458 98 (some (hz_ g19))) 19 := M19.nx (by decide)
  have E20 := fun d => (E19 d).trans (mi_18 (d := d) M19.2.2.1 M19.1)
  have L20 : ∀ a, a < 458 → hk_ (sp_ (nw_ g19 100 2 2) 458 98 (some (hz_ g19))) a = hk_ h a ∧ ∀ f, hp_ (sp_ (nw_ g19 100 2 2) 458 98 (some (hz_ g19))) a f = hp_ h a f ∧ hi_ (sp_ (nw_ g19 100 2 2) 458 98 (some (hz_ g19))) a f = hi_ h a f := fun a ha => ⟨(if_neg (by have := M19.1; omega)).trans (L19 a ha).1, fun f => ⟨(if_neg (by omega)).trans ((L19 a ha).2 f).1, ((L19 a ha).2 f).2⟩⟩
  have U20 : hu_ (sp_ (nw_ g19 100 2 2) 458 98 (some (hz_ g19))) ≤ hu_ h + 5735 := by show hu_ g19 + 2 ≤ _; omega
  have Q20 : ∀ a f, hl_ (sp_ (nw_ g19 100 2 2) 458 98 (some (hz_ g19))) a f = hl_ h a f := Q19
  have P20 : hi_ (sp_ (nw_ g19 100 2 2) 458 98 (some (hz_ g19))) 458 83 = -1 := P19
  generalize sp_ (nw_ g19 100 2 2) 458 98 (some (hz_ g19)) = g20 at M20 E20 L20 U20 Q20 P20
  clear M19 E19 L19 U19 Q19 P19
  have M21 : MLk (sp_ (nw_ g20 100 2 2) 458 99 (some (hz_ g20))) 20 := M20.nx (by decide)
  have E21 := fun d => (E20 d).trans (mi_19 (d := d) M20.2.2.1 M20.1)
  have L21 : ∀ a, a < 458 → hk_ (sp_ (nw_ g20 100 2 2) 458 99 (some (hz_ g20))) a = hk_ h a ∧ ∀ f, hp_ (sp_ (nw_ g20 100 2 2) 458 99 (some (hz_ g20))) a f = hp_ h a f ∧ hi_ (sp_ (nw_ g20 100 2 2) 458 99 (some (hz_ g20))) a f = hi_ h a f := fun a ha => ⟨(if_neg (by have := M20.1; omega)).trans (L20 a ha).1, fun f => ⟨(if_neg (by omega)).trans ((L20 a ha).2 f).1, ((L20 a ha).2 f).2⟩⟩
  have U21 : hu_ (sp_ (nw_ g20 100 2 2) 458 99 (some (hz_ g20))) ≤ hu_ h + 5737 := by show hu_ g20 + 2 ≤ _; omega
  have Q21 : ∀ a f, hl_ (sp_ (nw_ g20 100 2 2) 458 99 (some (hz_ g20))) a f = hl_ h a f := Q20
  have P21 : hi_ (sp_ (nw_ g20 100 2 2) 458 99 (some (hz_ g20))) 458 83 = -1 := P20
  generalize sp_ (nw_ g20 100 2 2) 458 99 (some (hz_ g20)) = g21 at M21 E21 L21 U21 Q21 P21
  clear M20 E20 L20 U20 Q20 P20
  have M22 : MLk (sp_ (nw_ g21 100 8 8) 458 100 (some (hz_ g21))) 21 := M21.nx (by decide)
  have E22 := fun d => (E21 d).trans (mi_20 (d := d) M21.2.2.1 M21.1)
  have L22 : ∀ a, a < 458 → hk_ (sp_ (nw_ g21 100 8 8) 458 100 (some (hz_ g21))) a = hk_ h a ∧ ∀ f, hp_ (sp_ (nw_ g21 100 8 8) 458 100 (some (hz_ g21))) a f = hp_ h a f ∧ hi_ (sp_ (nw_ g21 100 8 8) 458 100 (some (hz_ g21))) a f = hi_ h a f := fun a ha => ⟨(if_neg (by have := M21.1; omega)).trans (L21 a ha).1, fun f => ⟨(if_neg (by omega)).trans ((L21 a ha).2 f).1, ((L21 a ha).2 f).2⟩⟩
  have U22 : hu_ (sp_ (nw_ g21 100 8 8) 458 100 (some (hz_ g21))) ≤ hu_ h + 5745 := by show hu_ g21 + 8 ≤ _; omega
  have Q22 : ∀ a f, hl_ (sp_ (nw_ g21 100 8 8) 458 100 (some (hz_ g21))) a f = hl_ h a f := Q21
  have P22 : hi_ (sp_ (nw_ g21 100 8 8) 458 100 (some (hz_ g21))) 458 83 = -1 := P21
  generalize sp_ (nw_ g21 100 8 8) 458 100 (some (hz_ g21)) = g22 at M22 E22 L22 U22 Q22 P22
  clear M21 E21 L21 U21 Q21 P21
  have M23 : MLk (sp_ (nw_ g22 100 8 8) 458 101 (some (hz_ g22))) 22 := M22.nx (by decide)
  have E23 := fun d => (E22 d).trans (mi_21 (d := d) M22.2.2.1 M22.1)
  have L23 : ∀ a, a < 458 → hk_ (sp_ (nw_ g22 100 8 8) 458 101 (some (hz_ g22))) a = hk_ h a ∧ ∀ f, hp_ (sp_ (nw_ g22 100 8 8) 458 101 (some (hz_ g22))) a f = hp_ h a f ∧ hi_ (sp_ (nw_ g22 100 8 8) 458 101 (some (hz_ g22))) a f = hi_ h a f := fun a ha => ⟨(if_neg (by have := M22.1; omega)).trans (L22 a ha).1, fun f => ⟨(if_neg (by omega)).trans ((L22 a ha).2 f).1, ((L22 a ha).2 f).2⟩⟩
  have U23 : hu_ (sp_ (nw_ g22 100 8 8) 458 101 (some (hz_ g22))) ≤ hu_ h + 5753 := by show hu_ g22 + 8 ≤ _; omega
  have Q23 : ∀ a f, hl_ (sp_ (nw_ g22 100 8 8) 458 101 (some (hz_ g22))) a f = hl_ h a f := Q22
  have P23 : hi_ (sp_ (nw_ g22 100 8 8) 458 101 (some (hz_ g22))) 458 83 = -1 := P22
  generalize sp_ (nw_ g22 100 8 8) 458 101 (some (hz_ g22)) = g23 at M23 E23 L23 U23 Q23 P23
  clear M22 E22 L22 U22 Q22 P22
  have M24 : MLk (sp_ (nw_ g23 103 260 260) 458 103 (some (hz_ g23))) 23 := M23.nx (by decide)
  have E24 := fun d => (E23 d).trans (mi_22 (d := d) M23.2.2.1 M23.1)
  have L24 : ∀ a, a < 458 → hk_ (sp_ (nw_ g23 103 260 260) 458 103 (some (hz_ g23))) a = hk_ h a ∧ ∀ f, hp_ (sp_ (nw_ g23 103 260 260) 458 103 (some (hz_ g23))) a f = hp_ h a f ∧ hi_ (sp_ (nw_ g23 103 260 260) 458 103 (some (hz_ g23))) a f = hi_ h a f := fun a ha => ⟨(if_neg (by have := M23.1; omega)).trans (L23 a ha).1, fun f => ⟨(if_neg (by omega)).trans ((L23 a ha).2 f).1, ((L23 a ha).2 f).2⟩⟩
  have U24 : hu_ (sp_ (nw_ g23 103 260 260) 458 103 (some (hz_ g23))) ≤ hu_ h + 6013 := by show hu_ g23 + 260 ≤ _; omega
  have Q24 : ∀ a f, hl_ (sp_ (nw_ g23 103 260 260) 458 103 (some (hz_ g23))) a f = hl_ h a f := Q23
  have P24 : hi_ (sp_ (nw_ g23 103 260 260) 458 103 (some (hz_ g23))) 458 83 = -1 := P23
  generalize sp_ (nw_ g23 103 260 260) 458 103 (some (hz_ g23)) = g24 at M24 E24 L24 U24 Q24 P24
  clear M23 E23 L23 U23 Q23 P23
  have M25 : MLk (sp_ (nw_ g24 100 260 260) 458 104 (some (hz_ g24))) 24 := M24.nx (by decide)
  have E25 := fun d => (E24 d).trans (mi_23 (d := d) M24.2.2.1 M24.1)
  have L25 : ∀ a, a < 458 → hk_ (sp_ (nw_ g24 100 260 260) 458 104 (some (hz_ g24))) a = hk_ h a ∧ ∀ f, hp_ (sp_ (nw_ g24 100 260 260) 458 104 (some (hz_ g24))) a f = hp_ h a f ∧ hi_ (sp_ (nw_ g24 100 260 260) 458 104 (some (hz_ g24))) a f = hi_ h a f := fun a ha => ⟨(if_neg (by have := M24.1; omega)).trans (L24 a ha).1, fun f => ⟨(if_neg (by omega)).trans ((L24 a ha).2 f).1, ((L24 a ha).2 f).2⟩⟩
  have U25 : hu_ (sp_ (nw_ g24 100 260 260) 458 104 (some (hz_ g24))) ≤ hu_ h + 6273 := by show hu_ g24 + 260 ≤ _; omega
  have Q25 : ∀ a f, hl_ (sp_ (nw_ g24 100 260 260) 458 104 (some (hz_ g24))) a f = hl_ h a f := Q24
  have P25 : hi_ (sp_ (nw_ g24 100 260 260) 458 104 (some (hz_ g24))) 458 83 = -1 := P24
  generalize sp_ (nw_ g24 100 260 260) 458 104 (some (hz_ g24)) = g25 at M25 E25 L25 U25 Q25 P25
  clear M24 E24 L24 U24 Q24 P24
  have M26 : MLk (sp_ (nw_ g25 100 260 260) 458 105 (some (hz_ g25))) 25 := M25.nx (by decide)
  have E26 := fun d => (E25 d).trans (mi_24 (d := d) M25.2.2.1 M25.1)
  have L26 : ∀ a, a < 458 → hk_ (sp_ (nw_ g25 100 260 260) 458 105 (some (hz_ g25))) a = hk_ h a ∧ ∀ f, hp_ (sp_ (nw_ g25 100 260 260) 458 105 (some (hz_ g25))) a f = hp_ h a f ∧ hi_ (sp_ (nw_ g25 100 260 260) 458 105 (some (hz_ g25))) a f = hi_ h a f := fun a ha => ⟨(if_neg (by have := M25.1; omega)).trans (L25 a ha).1, fun f => ⟨(if_neg (by omega)).trans ((L25 a ha).2 f).1, ((L25 a ha).2 f).2⟩⟩
  have U26 : hu_ (sp_ (nw_ g25 100 260 260) 458 105 (some (hz_ g25))) ≤ hu_ h + 6533 := by show hu_ g25 + 260 ≤ _; omega
  have Q26 : ∀ a f, hl_ (sp_ (nw_ g25 100 260 260) 458 105 (some (hz_ g25))) a f = hl_ h a f := Q25
  have P26 : hi_ (sp_ (nw_ g25 100 260 260) 458 105 (some (hz_ g25))) 458 83 = -1 := P25
  generalize sp_ (nw_ g25 100 260 260) 458 105 (some (hz_ g25)) = g26 at M26 E26 L26 U26 Q26 P26
  clear M25 E25 L25 U25 Q25 P25
  have M27 : MLk (sp_ (nw_ g26 100 260 260) 458 106 (some (hz_ g26))) 26 := M26.nx (by decide)
  have E27 := fun d => (E26 d).trans (mi_25 (d := d) M26.2.2.1 M26.1)
  have L27 : ∀ a, a < 458 → hk_ (sp_ (nw_ g26 100 260 260) 458 106 (some (hz_ g26))) a = hk_ h a ∧ ∀ f, hp_ (sp_ (nw_ g26 100 260 260) 458 106 (some (hz_ g26))) a f = hp_ h a f ∧ hi_ (sp_ (nw_ g26 100 260 260) 458 106 (some (hz_ g26))) a f = hi_ h a f := fun a ha => ⟨(if_neg (by have := M26.1; omega)).trans (L26 a ha).1, fun f => ⟨(if_neg (by omega)).trans ((L26 a ha).2 f).1, ((L26 a ha).2 f).2⟩⟩
  have U27 : hu_ (sp_ (nw_ g26 100 260 260) 458 106 (some (hz_ g26))) ≤ hu_ h + 6793 := by show hu_ g26 + 260 ≤ _; omega
  have Q27 : ∀ a f, hl_ (sp_ (nw_ g26 100 260 260) 458 106 (some (hz_ g26))) a f = hl_ h a f := Q26
  have P27 : hi_ (sp_ (nw_ g26 100 260 260) 458 106 (some (hz_ g26))) 458 83 = -1 := P26
  generalize sp_ (nw_ g26 100 260 260) 458 106 (some (hz_ g26)) = g27 at M27 E27 L27 U27 Q27 P27
  clear M26 E26 L26 U26 Q26 P26
  have M28 : MLk (sp_ (nw_ g27 100 260 260) 458 107 (some (hz_ g27))) 27 := M27.nx (by decide)
  have E28 := fun d => (E27 d).trans (mi_26 (d := d) M27.2.2.1 M27.1)
  have L28 : ∀ a, a < 458 → hk_ (sp_ (nw_ g27 100 260 260) 458 107 (some (hz_ g27))) a = hk_ h a ∧ ∀ f, hp_ (sp_ (nw_ g27 100 260 260) 458 107 (some (hz_ g27))) a f = hp_ h a f ∧ hi_ (sp_ (nw_ g27 100 260 260) 458 107 (some (hz_ g27))) a f = hi_ h a f := fun a ha => ⟨(if_neg (by have := M27.1; omega)).trans (L27 a ha).1, fun f => ⟨(if_neg (by omega)).trans ((L27 a ha).2 f).1, ((L27 a ha).2 f).2⟩⟩
  have U28 : hu_ (sp_ (nw_ g27 100 260 260) 458 107 (some (hz_ g27))) ≤ hu_ h + 7053 := by show hu_ g27 + 260 ≤ _; omega
  have Q28 : ∀ a f, hl_ (sp_ (nw_ g27 100 260 260) 458 107 (some (hz_ g27))) a f = hl_ h a f := Q27
  have P28 : hi_ (sp_ (nw_ g27 100 260 260) 458 107 (some (hz_ g27))) 458 83 = -1 := P27
  generalize sp_ (nw_ g27 100 260 260) 458 107 (some (hz_ g27)) = g28 at M28 E28 L28 U28 Q28 P28
  clear M27 E27 L27 U27 Q27 P27
  have M29 : MLk (sp_ (nw_ g28 100 840 840) 458 109 (some (hz_ g28))) 28 := M28.nx (by decide)
  have E29 := fun d => (E28 d).trans (mi_27 (d := d) M28.2.2.1 M28.1)
  have L29 : ∀ a, a < 458 → hk_ (sp_ (nw_ g28 100 840 840) 458 109 (some (hz_ g28))) a = hk_ h a ∧ ∀ f, hp_ (sp_ (nw_ g28 100 840 840) 458 109 (some (hz_ g28))) a f = hp_ h a f ∧ hi_ (sp_ (nw_ g28 100 840 840) 458 109 (some (hz_ g28))) a f = hi_ h a f := fun a ha => ⟨(if_neg (by have := M28.1; omega)).trans (L28 a ha).1, fun f => ⟨(if_neg (by omega)).trans ((L28 a ha).2 f).1, ((L28 a ha).2 f).2⟩⟩
  have U29 : hu_ (sp_ (nw_ g28 100 840 840) 458 109 (some (hz_ g28))) ≤ hu_ h + 7893 := by show hu_ g28 + 840 ≤ _; omega
  have Q29 : ∀ a f, hl_ (sp_ (nw_ g28 100 840 840) 458 109 (some (hz_ g28))) a f = hl_ h a f := Q28
  have P29 : hi_ (sp_ (nw_ g28 100 840 840) 458 109 (some (hz_ g28))) 458 83 = -1 := P28
  generalize sp_ (nw_ g28 100 840 840) 458 109 (some (hz_ g28)) = g29 at M29 E29 L29 U29 Q29 P29
  clear M28 E28 L28 U28 Q28 P28
  have M30 : MLk (sp_ (nw_ g29 100 840 840) 458 110 (some (hz_ g29))) 29 := M29.nx (by decide)
  have E30 := fun d => (E29 d).trans (mi_28 (d := d) M29.2.2.1 M29.1)
  have L30 : ∀ a, a < 458 → hk_ (sp_ (nw_ g29 100 840 840) 458 110 (some (hz_ g29))) a = hk_ h a ∧ ∀ f, hp_ (sp_ (nw_ g29 100 840 840) 458 110 (some (hz_ g29))) a f = hp_ h a f ∧ hi_ (sp_ (nw_ g29 100 840 840) 458 110 (some (hz_ g29))) a f = hi_ h a f := fun a ha => ⟨(if_neg (by have := M29.1; omega)).trans (L29 a ha).1, fun f => ⟨(if_neg (by omega)).trans ((L29 a ha).2 f).1, ((L29 a ha).2 f).2⟩⟩
  have U30 : hu_ (sp_ (nw_ g29 100 840 840) 458 110 (some (hz_ g29))) ≤ hu_ h + 8733 := by show hu_ g29 + 840 ≤ _; omega
  have Q30 : ∀ a f, hl_ (sp_ (nw_ g29 100 840 840) 458 110 (some (hz_ g29))) a f = hl_ h a f := Q29
  have P30 : hi_ (sp_ (nw_ g29 100 840 840) 458 110 (some (hz_ g29))) 458 83 = -1 := P29
  generalize sp_ (nw_ g29 100 840 840) 458 110 (some (hz_ g29)) = g30 at M30 E30 L30 U30 Q30 P30
  clear M29 E29 L29 U29 Q29 P29
  have M31 : MLk (sp_ (nw_ g30 100 64 64) 458 111 (some (hz_ g30))) 30 := M30.nx (by decide)
  have E31 := fun d => (E30 d).trans (mi_29 (d := d) M30.2.2.1 M30.1)
  have L31 : ∀ a, a < 458 → hk_ (sp_ (nw_ g30 100 64 64) 458 111 (some (hz_ g30))) a = hk_ h a ∧ ∀ f, hp_ (sp_ (nw_ g30 100 64 64) 458 111 (some (hz_ g30))) a f = hp_ h a f ∧ hi_ (sp_ (nw_ g30 100 64 64) 458 111 (some (hz_ g30))) a f = hi_ h a f := fun a ha => ⟨(if_neg (by have := M30.1; omega)).trans (L30 a ha).1, fun f => ⟨(if_neg (by omega)).trans ((L30 a ha).2 f).1, ((L30 a ha).2 f).2⟩⟩
  have U31 : hu_ (sp_ (nw_ g30 100 64 64) 458 111 (some (hz_ g30))) ≤ hu_ h + 8797 := by show hu_ g30 + 64 ≤ _; omega
  have Q31 : ∀ a f, hl_ (sp_ (nw_ g30 100 64 64) 458 111 (some (hz_ g30))) a f = hl_ h a f := Q30
  have P31 : hi_ (sp_ (nw_ g30 100 64 64) 458 111 (some (hz_ g30))) 458 83 = -1 := P30
  generalize sp_ (nw_ g30 100 64 64) 458 111 (some (hz_ g30)) = g31 at M31 E31 L31 U31 Q31 P31
  clear M30 E30 L30 U30 Q30 P30
  have M32 : MLk (sp_ (nw_ g31 100 9 9) 458 113 (some (hz_ g31))) 31 := M31.nx (by decide)
  have E32 := fun d => (E31 d).trans (mi_30 (d := d) M31.2.2.1 M31.1)
  have L32 : ∀ a, a < 458 → hk_ (sp_ (nw_ g31 100 9 9) 458 113 (some (hz_ g31))) a = hk_ h a ∧ ∀ f, hp_ (sp_ (nw_ g31 100 9 9) 458 113 (some (hz_ g31))) a f = hp_ h a f ∧ hi_ (sp_ (nw_ g31 100 9 9) 458 113 (some (hz_ g31))) a f = hi_ h a f := fun a ha => ⟨(if_neg (by have := M31.1; omega)).trans (L31 a ha).1, fun f => ⟨(if_neg (by omega)).trans ((L31 a ha).2 f).1, ((L31 a ha).2 f).2⟩⟩
  have U32 : hu_ (sp_ (nw_ g31 100 9 9) 458 113 (some (hz_ g31))) ≤ hu_ h + 8806 := by show hu_ g31 + 9 ≤ _; omega
  have Q32 : ∀ a f, hl_ (sp_ (nw_ g31 100 9 9) 458 113 (some (hz_ g31))) a f = hl_ h a f := Q31
  have P32 : hi_ (sp_ (nw_ g31 100 9 9) 458 113 (some (hz_ g31))) 458 83 = -1 := P31
  generalize sp_ (nw_ g31 100 9 9) 458 113 (some (hz_ g31)) = g32 at M32 E32 L32 U32 Q32 P32
  clear M31 E31 L31 U31 Q31 P31
  have M33 : MLk (sp_ (nw_ g32 100 400 400) 458 114 (some (hz_ g32))) 32 := M32.nx (by decide)
  have E33 := fun d => (E32 d).trans (mi_31 (d := d) M32.2.2.1 M32.1)
  have L33 : ∀ a, a < 458 → hk_ (sp_ (nw_ g32 100 400 400) 458 114 (some (hz_ g32))) a = hk_ h a ∧ ∀ f, hp_ (sp_ (nw_ g32 100 400 400) 458 114 (some (hz_ g32))) a f = hp_ h a f ∧ hi_ (sp_ (nw_ g32 100 400 400) 458 114 (some (hz_ g32))) a f = hi_ h a f := fun a ha => ⟨(if_neg (by have := M32.1; omega)).trans (L32 a ha).1, fun f => ⟨(if_neg (by omega)).trans ((L32 a ha).2 f).1, ((L32 a ha).2 f).2⟩⟩
  have U33 : hu_ (sp_ (nw_ g32 100 400 400) 458 114 (some (hz_ g32))) ≤ hu_ h + 9206 := by show hu_ g32 + 400 ≤ _; omega
  have Q33 : ∀ a f, hl_ (sp_ (nw_ g32 100 400 400) 458 114 (some (hz_ g32))) a f = hl_ h a f := Q32
  have P33 : hi_ (sp_ (nw_ g32 100 400 400) 458 114 (some (hz_ g32))) 458 83 = -1 := P32
  generalize sp_ (nw_ g32 100 400 400) 458 114 (some (hz_ g32)) = g33 at M33 E33 L33 U33 Q33 P33
  clear M32 E32 L32 U32 Q32 P32
  have M34 : MLk (sp_ (nw_ g33 100 31 31) 458 116 (some (hz_ g33))) 33 := M33.nx (by decide)
  have E34 := fun d => (E33 d).trans (mi_32 (d := d) M33.2.2.1 M33.1)
  have L34 : ∀ a, a < 458 → hk_ (sp_ (nw_ g33 100 31 31) 458 116 (some (hz_ g33))) a = hk_ h a ∧ ∀ f, hp_ (sp_ (nw_ g33 100 31 31) 458 116 (some (hz_ g33))) a f = hp_ h a f ∧ hi_ (sp_ (nw_ g33 100 31 31) 458 116 (some (hz_ g33))) a f = hi_ h a f := fun a ha => ⟨(if_neg (by have := M33.1; omega)).trans (L33 a ha).1, fun f => ⟨(if_neg (by omega)).trans ((L33 a ha).2 f).1, ((L33 a ha).2 f).2⟩⟩
  have U34 : hu_ (sp_ (nw_ g33 100 31 31) 458 116 (some (hz_ g33))) ≤ hu_ h + 9237 := by show hu_ g33 + 31 ≤ _; omega
  have Q34 : ∀ a f, hl_ (sp_ (nw_ g33 100 31 31) 458 116 (some (hz_ g33))) a f = hl_ h a f := Q33
  have P34 : hi_ (sp_ (nw_ g33 100 31 31) 458 116 (some (hz_ g33))) 458 83 = -1 := P33
  generalize sp_ (nw_ g33 100 31 31) 458 116 (some (hz_ g33)) = g34 at M34 E34 L34 U34 Q34 P34
  clear M33 E33 L33 U33 Q33 P33
  have M35 : MLk (sp_ (nw_ g34 100 31 31) 458 117 (some (hz_ g34))) 34 := M34.nx (by decide)
  have E35 := fun d => (E34 d).trans (mi_33 (d := d) M34.2.2.1 M34.1)
  have L35 : ∀ a, a < 458 → hk_ (sp_ (nw_ g34 100 31 31) 458 117 (some (hz_ g34))) a = hk_ h a ∧ ∀ f, hp_ (sp_ (nw_ g34 100 31 31) 458 117 (some (hz_ g34))) a f = hp_ h a f ∧ hi_ (sp_ (nw_ g34 100 31 31) 458 117 (some (hz_ g34))) a f = hi_ h a f := fun a ha => ⟨(if_neg (by have := M34.1; omega)).trans (L34 a ha).1, fun f => ⟨(if_neg (by omega)).trans ((L34 a ha).2 f).1, ((L34 a ha).2 f).2⟩⟩
  have U35 : hu_ (sp_ (nw_ g34 100 31 31) 458 117 (some (hz_ g34))) ≤ hu_ h + 9268 := by show hu_ g34 + 31 ≤ _; omega
  have Q35 : ∀ a f, hl_ (sp_ (nw_ g34 100 31 31) 458 117 (some (hz_ g34))) a f = hl_ h a f := Q34
  have P35 : hi_ (sp_ (nw_ g34 100 31 31) 458 117 (some (hz_ g34))) 458 83 = -1 := P34
  generalize sp_ (nw_ g34 100 31 31) 458 117 (some (hz_ g34)) = g35 at M35 E35 L35 U35 Q35 P35
  clear M34 E34 L34 U34 Q34 P34
  have M36 : MLk (sp_ (nw_ g35 100 7 7) 458 120 (some (hz_ g35))) 35 := M35.nx (by decide)
  have E36 := fun d => (E35 d).trans (mi_34 (d := d) M35.2.2.1 M35.1)
  have L36 : ∀ a, a < 458 → hk_ (sp_ (nw_ g35 100 7 7) 458 120 (some (hz_ g35))) a = hk_ h a ∧ ∀ f, hp_ (sp_ (nw_ g35 100 7 7) 458 120 (some (hz_ g35))) a f = hp_ h a f ∧ hi_ (sp_ (nw_ g35 100 7 7) 458 120 (some (hz_ g35))) a f = hi_ h a f := fun a ha => ⟨(if_neg (by have := M35.1; omega)).trans (L35 a ha).1, fun f => ⟨(if_neg (by omega)).trans ((L35 a ha).2 f).1, ((L35 a ha).2 f).2⟩⟩
  have U36 : hu_ (sp_ (nw_ g35 100 7 7) 458 120 (some (hz_ g35))) ≤ hu_ h + 9275 := by show hu_ g35 + 7 ≤ _; omega
  have Q36 : ∀ a f, hl_ (sp_ (nw_ g35 100 7 7) 458 120 (some (hz_ g35))) a f = hl_ h a f := Q35
  have P36 : hi_ (sp_ (nw_ g35 100 7 7) 458 120 (some (hz_ g35))) 458 83 = -1 := P35
  generalize sp_ (nw_ g35 100 7 7) 458 120 (some (hz_ g35)) = g36 at M36 E36 L36 U36 Q36 P36
  clear M35 E35 L35 U35 Q35 P35
  have M37 : MLk (sp_ (nw_ g36 100 4 4) 458 121 (some (hz_ g36))) 36 := M36.nx (by decide)
  have E37 := fun d => (E36 d).trans (mi_35 (d := d) M36.2.2.1 M36.1)
  have L37 : ∀ a, a < 458 → hk_ (sp_ (nw_ g36 100 4 4) 458 121 (some (hz_ g36))) a = hk_ h a ∧ ∀ f, hp_ (sp_ (nw_ g36 100 4 4) 458 121 (some (hz_ g36))) a f = hp_ h a f ∧ hi_ (sp_ (nw_ g36 100 4 4) 458 121 (some (hz_ g36))) a f = hi_ h a f := fun a ha => ⟨(if_neg (by have := M36.1; omega)).trans (L36 a ha).1, fun f => ⟨(if_neg (by omega)).trans ((L36 a ha).2 f).1, ((L36 a ha).2 f).2⟩⟩
  have U37 : hu_ (sp_ (nw_ g36 100 4 4) 458 121 (some (hz_ g36))) ≤ hu_ h + 9279 := by show hu_ g36 + 4 ≤ _; omega
  have Q37 : ∀ a f, hl_ (sp_ (nw_ g36 100 4 4) 458 121 (some (hz_ g36))) a f = hl_ h a f := Q36
  have P37 : hi_ (sp_ (nw_ g36 100 4 4) 458 121 (some (hz_ g36))) 458 83 = -1 := P36
  generalize sp_ (nw_ g36 100 4 4) 458 121 (some (hz_ g36)) = g37 at M37 E37 L37 U37 Q37 P37
  clear M36 E36 L36 U36 Q36 P36
  have M38 : MLk (sp_ (nw_ g37 100 1240 1240) 458 123 (some (hz_ g37))) 37 := M37.nx (by decide)
  have E38 := fun d => (E37 d).trans (mi_36 (d := d) M37.2.2.1 M37.1)
  have L38 : ∀ a, a < 458 → hk_ (sp_ (nw_ g37 100 1240 1240) 458 123 (some (hz_ g37))) a = hk_ h a ∧ ∀ f, hp_ (sp_ (nw_ g37 100 1240 1240) 458 123 (some (hz_ g37))) a f = hp_ h a f ∧ hi_ (sp_ (nw_ g37 100 1240 1240) 458 123 (some (hz_ g37))) a f = hi_ h a f := fun a ha => ⟨(if_neg (by have := M37.1; omega)).trans (L37 a ha).1, fun f => ⟨(if_neg (by omega)).trans ((L37 a ha).2 f).1, ((L37 a ha).2 f).2⟩⟩
  have U38 : hu_ (sp_ (nw_ g37 100 1240 1240) 458 123 (some (hz_ g37))) ≤ hu_ h + 10519 := by show hu_ g37 + 1240 ≤ _; omega
  have Q38 : ∀ a f, hl_ (sp_ (nw_ g37 100 1240 1240) 458 123 (some (hz_ g37))) a f = hl_ h a f := Q37
  have P38 : hi_ (sp_ (nw_ g37 100 1240 1240) 458 123 (some (hz_ g37))) 458 83 = -1 := P37
  generalize sp_ (nw_ g37 100 1240 1240) 458 123 (some (hz_ g37)) = g38 at M38 E38 L38 U38 Q38 P38
  clear M37 E37 L37 U37 Q37 P37
  have M39 : MLk (sp_ (nw_ g38 100 512 512) 458 124 (some (hz_ g38))) 38 := M38.nx (by decide)
  have E39 := fun d => (E38 d).trans (mi_37 (d := d) M38.2.2.1 M38.1)
  have L39 : ∀ a, a < 458 → hk_ (sp_ (nw_ g38 100 512 512) 458 124 (some (hz_ g38))) a = hk_ h a ∧ ∀ f, hp_ (sp_ (nw_ g38 100 512 512) 458 124 (some (hz_ g38))) a f = hp_ h a f ∧ hi_ (sp_ (nw_ g38 100 512 512) 458 124 (some (hz_ g38))) a f = hi_ h a f := fun a ha => ⟨(if_neg (by have := M38.1; omega)).trans (L38 a ha).1, fun f => ⟨(if_neg (by omega)).trans ((L38 a ha).2 f).1, ((L38 a ha).2 f).2⟩⟩
  have U39 : hu_ (sp_ (nw_ g38 100 512 512) 458 124 (some (hz_ g38))) ≤ hu_ h + 11031 := by show hu_ g38 + 512 ≤ _; omega
  have Q39 : ∀ a f, hl_ (sp_ (nw_ g38 100 512 512) 458 124 (some (hz_ g38))) a f = hl_ h a f := Q38
  have P39 : hi_ (sp_ (nw_ g38 100 512 512) 458 124 (some (hz_ g38))) 458 83 = -1 := P38
  generalize sp_ (nw_ g38 100 512 512) 458 124 (some (hz_ g38)) = g39 at M39 E39 L39 U39 Q39 P39
  clear M38 E38 L38 U38 Q38 P38
  have M40 : MLk (sp_ (nw_ g39 100 640 640) 458 125 (some (hz_ g39))) 39 := M39.nx (by decide)
  have E40 := fun d => (E39 d).trans (mi_38 (d := d) M39.2.2.1 M39.1)
  have L40 : ∀ a, a < 458 → hk_ (sp_ (nw_ g39 100 640 640) 458 125 (some (hz_ g39))) a = hk_ h a ∧ ∀ f, hp_ (sp_ (nw_ g39 100 640 640) 458 125 (some (hz_ g39))) a f = hp_ h a f ∧ hi_ (sp_ (nw_ g39 100 640 640) 458 125 (some (hz_ g39))) a f = hi_ h a f := fun a ha => ⟨(if_neg (by have := M39.1; omega)).trans (L39 a ha).1, fun f => ⟨(if_neg (by omega)).trans ((L39 a ha).2 f).1, ((L39 a ha).2 f).2⟩⟩
  have U40 : hu_ (sp_ (nw_ g39 100 640 640) 458 125 (some (hz_ g39))) ≤ hu_ h + 11671 := by show hu_ g39 + 640 ≤ _; omega
  have Q40 : ∀ a f, hl_ (sp_ (nw_ g39 100 640 640) 458 125 (some (hz_ g39))) a f = hl_ h a f := Q39
  have P40 : hi_ (sp_ (nw_ g39 100 640 640) 458 125 (some (hz_ g39))) 458 83 = -1 := P39
  generalize sp_ (nw_ g39 100 640 640) 458 125 (some (hz_ g39)) = g40 at M40 E40 L40 U40 Q40 P40
  clear M39 E39 L39 U39 Q39 P39
  have M41 : MLk (sp_ (nw_ g40 103 2048 2048) 458 126 (some (hz_ g40))) 40 := M40.nx (by decide)
  have E41 := fun d => (E40 d).trans (mi_39 (d := d) M40.2.2.1 M40.1)
  have L41 : ∀ a, a < 458 → hk_ (sp_ (nw_ g40 103 2048 2048) 458 126 (some (hz_ g40))) a = hk_ h a ∧ ∀ f, hp_ (sp_ (nw_ g40 103 2048 2048) 458 126 (some (hz_ g40))) a f = hp_ h a f ∧ hi_ (sp_ (nw_ g40 103 2048 2048) 458 126 (some (hz_ g40))) a f = hi_ h a f := fun a ha => ⟨(if_neg (by have := M40.1; omega)).trans (L40 a ha).1, fun f => ⟨(if_neg (by omega)).trans ((L40 a ha).2 f).1, ((L40 a ha).2 f).2⟩⟩
  have U41 : hu_ (sp_ (nw_ g40 103 2048 2048) 458 126 (some (hz_ g40))) ≤ hu_ h + 13719 := by show hu_ g40 + 2048 ≤ _; omega
  have Q41 : ∀ a f, hl_ (sp_ (nw_ g40 103 2048 2048) 458 126 (some (hz_ g40))) a f = hl_ h a f := Q40
  have P41 : hi_ (sp_ (nw_ g40 103 2048 2048) 458 126 (some (hz_ g40))) 458 83 = -1 := P40
  generalize sp_ (nw_ g40 103 2048 2048) 458 126 (some (hz_ g40)) = g41 at M41 E41 L41 U41 Q41 P41
  clear M40 E40 L40 U40 Q40 P40
  have M42 : MLk (sp_ (nw_ g41 100 128 128) 458 127 (some (hz_ g41))) 41 := M41.nx (by decide)
  have E42 := fun d => (E41 d).trans (mi_40 (d := d) M41.2.2.1 M41.1)
  have L42 : ∀ a, a < 458 → hk_ (sp_ (nw_ g41 100 128 128) 458 127 (some (hz_ g41))) a = hk_ h a ∧ ∀ f, hp_ (sp_ (nw_ g41 100 128 128) 458 127 (some (hz_ g41))) a f = hp_ h a f ∧ hi_ (sp_ (nw_ g41 100 128 128) 458 127 (some (hz_ g41))) a f = hi_ h a f := fun a ha => ⟨(if_neg (by have := M41.1; omega)).trans (L41 a ha).1, fun f => ⟨(if_neg (by omega)).trans ((L41 a ha).2 f).1, ((L41 a ha).2 f).2⟩⟩
  have U42 : hu_ (sp_ (nw_ g41 100 128 128) 458 127 (some (hz_ g41))) ≤ hu_ h + 13847 := by show hu_ g41 + 128 ≤ _; omega
  have Q42 : ∀ a f, hl_ (sp_ (nw_ g41 100 128 128) 458 127 (some (hz_ g41))) a f = hl_ h a f := Q41
  have P42 : hi_ (sp_ (nw_ g41 100 128 128) 458 127 (some (hz_ g41))) 458 83 = -1 := P41
  generalize sp_ (nw_ g41 100 128 128) 458 127 (some (hz_ g41)) = g42 at M42 E42 L42 U42 Q42 P42
  clear M41 E41 L41 U41 Q41 P41
  have M43 : MLk (sp_ (nw_ g42 100 20 20) 458 129 (some (hz_ g42))) 42 := M42.nx (by decide)
  have E43 := fun d => (E42 d).trans (mi_41 (d := d) M42.2.2.1 M42.1)
  have L43 : ∀ a, a < 458 → hk_ (sp_ (nw_ g42 100 20 20) 458 129 (some (hz_ g42))) a = hk_ h a ∧ ∀ f, hp_ (sp_ (nw_ g42 100 20 20) 458 129 (some (hz_ g42))) a f = hp_ h a f ∧ hi_ (sp_ (nw_ g42 100 20 20) 458 129 (some (hz_ g42))) a f = hi_ h a f := fun a ha => ⟨(if_neg (by have := M42.1; omega)).trans (L42 a ha).1, fun f => ⟨(if_neg (by omega)).trans ((L42 a ha).2 f).1, ((L42 a ha).2 f).2⟩⟩
  have U43 : hu_ (sp_ (nw_ g42 100 20 20) 458 129 (some (hz_ g42))) ≤ hu_ h + 13867 := by show hu_ g42 + 20 ≤ _; omega
  have Q43 : ∀ a f, hl_ (sp_ (nw_ g42 100 20 20) 458 129 (some (hz_ g42))) a f = hl_ h a f := Q42
  have P43 : hi_ (sp_ (nw_ g42 100 20 20) 458 129 (some (hz_ g42))) 458 83 = -1 := P42
  generalize sp_ (nw_ g42 100 20 20) 458 129 (some (hz_ g42)) = g43 at M43 E43 L43 U43 Q43 P43
  clear M42 E42 L42 U42 Q42 P42
  have M44 : MLk (sp_ (nw_ g43 103 20 20) 458 130 (some (hz_ g43))) 43 := M43.nx (by decide)
  have E44 := fun d => (E43 d).trans (mi_42 (d := d) M43.2.2.1 M43.1)
  have L44 : ∀ a, a < 458 → hk_ (sp_ (nw_ g43 103 20 20) 458 130 (some (hz_ g43))) a = hk_ h a ∧ ∀ f, hp_ (sp_ (nw_ g43 103 20 20) 458 130 (some (hz_ g43))) a f = hp_ h a f ∧ hi_ (sp_ (nw_ g43 103 20 20) 458 130 (some (hz_ g43))) a f = hi_ h a f := fun a ha => ⟨(if_neg (by have := M43.1; omega)).trans (L43 a ha).1, fun f => ⟨(if_neg (by omega)).trans ((L43 a ha).2 f).1, ((L43 a ha).2 f).2⟩⟩
  have U44 : hu_ (sp_ (nw_ g43 103 20 20) 458 130 (some (hz_ g43))) ≤ hu_ h + 13887 := by show hu_ g43 + 20 ≤ _; omega
  have Q44 : ∀ a f, hl_ (sp_ (nw_ g43 103 20 20) 458 130 (some (hz_ g43))) a f = hl_ h a f := Q43
  have P44 : hi_ (sp_ (nw_ g43 103 20 20) 458 130 (some (hz_ g43))) 458 83 = -1 := P43
  generalize sp_ (nw_ g43 103 20 20) 458 130 (some (hz_ g43)) = g44 at M44 E44 L44 U44 Q44 P44
  clear M43 E43 L43 U43 Q43 P43
  have M45 : MLk (sp_ (nw_ g44 103 3 3) 458 131 (some (hz_ g44))) 44 := M44.nx (by decide)
  have E45 := fun d => (E44 d).trans (mi_43 (d := d) M44.2.2.1 M44.1)
  have L45 : ∀ a, a < 458 → hk_ (sp_ (nw_ g44 103 3 3) 458 131 (some (hz_ g44))) a = hk_ h a ∧ ∀ f, hp_ (sp_ (nw_ g44 103 3 3) 458 131 (some (hz_ g44))) a f = hp_ h a f ∧ hi_ (sp_ (nw_ g44 103 3 3) 458 131 (some (hz_ g44))) a f = hi_ h a f := fun a ha => ⟨(if_neg (by have := M44.1; omega)).trans (L44 a ha).1, fun f => ⟨(if_neg (by omega)).trans ((L44 a ha).2 f).1, ((L44 a ha).2 f).2⟩⟩
  have U45 : hu_ (sp_ (nw_ g44 103 3 3) 458 131 (some (hz_ g44))) ≤ hu_ h + 13890 := by show hu_ g44 + 3 ≤ _; omega
  have Q45 : ∀ a f, hl_ (sp_ (nw_ g44 103 3 3) 458 131 (some (hz_ g44))) a f = hl_ h a f := Q44
  have P45 : hi_ (sp_ (nw_ g44 103 3 3) 458 131 (some (hz_ g44))) 458 83 = -1 := P44
  generalize sp_ (nw_ g44 103 3 3) 458 131 (some (hz_ g44)) = g45 at M45 E45 L45 U45 Q45 P45
  clear M44 E44 L44 U44 Q44 P44
  have M46 : MLk (sp_ (nw_ g45 100 93 93) 458 132 (some (hz_ g45))) 45 := M45.nx (by decide)
  have E46 := fun d => (E45 d).trans (mi_44 (d := d) M45.2.2.1 M45.1)
  have L46 : ∀ a, a < 458 → hk_ (sp_ (nw_ g45 100 93 93) 458 132 (some (hz_ g45))) a = hk_ h a ∧ ∀ f, hp_ (sp_ (nw_ g45 100 93 93) 458 132 (some (hz_ g45))) a f = hp_ h a f ∧ hi_ (sp_ (nw_ g45 100 93 93) 458 132 (some (hz_ g45))) a f = hi_ h a f := fun a ha => ⟨(if_neg (by have := M45.1; omega)).trans (L45 a ha).1, fun f => ⟨(if_neg (by omega)).trans ((L45 a ha).2 f).1, ((L45 a ha).2 f).2⟩⟩
  have U46 : hu_ (sp_ (nw_ g45 100 93 93) 458 132 (some (hz_ g45))) ≤ hu_ h + 13983 := by show hu_ g45 + 93 ≤ _; omega
  have Q46 : ∀ a f, hl_ (sp_ (nw_ g45 100 93 93) 458 132 (some (hz_ g45))) a f = hl_ h a f := Q45
  have P46 : hi_ (sp_ (nw_ g45 100 93 93) 458 132 (some (hz_ g45))) 458 83 = -1 := P45
  generalize sp_ (nw_ g45 100 93 93) 458 132 (some (hz_ g45)) = g46 at M46 E46 L46 U46 Q46 P46
  clear M45 E45 L45 U45 Q45 P45
  exact ⟨g46, E46, M46, P46, L46, Q46, by omega⟩
