set_option maxRecDepth 100000
/-! X's constructor (1): what a new cell is; a house -/
/-- cells from z on are new; all below stand as they were, but references of a -/
def NWf (a : Nat) (h h' : aH) : Prop := hz_ h ≤ hz_ h' ∧ (∀ x, x < hz_ h → hk_ h' x = hk_ h x) ∧ (∀ x f, x < hz_ h → x ≠ a → hp_ h' x f = hp_ h x f) ∧ (∀ x f, hi_ h' x f = hi_ h x f) ∧ ∀ x f, hl_ h' x f = hl_ h x f
theorem NWf.refl {a : Nat} {h : aH} : NWf a h h := ⟨Nat.le_refl _, fun _ _ => rfl, fun _ _ _ _ => rfl, fun _ _ => rfl, fun _ _ => rfl⟩
theorem FZ0.nw {h : aH} (hF : FZ0 h) {κ n u : Nat} : FZ0 (nw_ h κ n u) := fun a ha => by
  have ha : hz_ h + 1 ≤ a := ha
  obtain ⟨k1, k2⟩ := hF a (by omega)
  exact ⟨(if_neg (by omega)).trans k1, k2⟩
theorem FZ0.sp {h : aH} (hF : FZ0 h) {x f : Nat} {v : Option Nat} (hx : x < hz_ h) : FZ0 (sp_ h x f v) := fun a ha => by
  have ha : hz_ h ≤ a := ha
  obtain ⟨k1, k2⟩ := hF a ha
  exact ⟨k1, fun g => ⟨(if_neg (by omega)).trans (k2 g).1, (k2 g).2⟩⟩
/-- a new cell, and a's field f set to it -/
theorem NWf.st {a : Nat} {h h' : aH} (w : NWf a h h') {κ n u f : Nat} (ha : a < hz_ h) : NWf a h (sp_ (nw_ h' κ n u) a f (some (hz_ h'))) := by
  obtain ⟨w1, w2, w3, w4, w5⟩ := w
  refine ⟨by show _ ≤ hz_ h' + 1; omega, fun x hx => (if_neg (by omega)).trans (w2 x hx), fun x g hx hn => ?_, w4, w5⟩
  show (if x = a ∧ g = f then _ else hp_ h' x g) = _
  rw [if_neg (fun q => hn q.1)]; exact w3 x g hx hn
theorem a_init {d : Nat} {h : aH} {a : Nat} (hk : hk_ h a = (7, 0)) (h6 : 64 ≤ a) (ha : a < hz_ h) : (run (d) 140 0 [.ref a] [] h) = some (.returned none, sp_ (nw_ h 100 9 9) a 64 (some (hz_ h))) := by
  have h98 : (7 : Nat) < 98 := by decide
  have k1 : hk_ (nw_ h 100 9 9) a = (7, 0) := (if_neg (by omega)).trans hk
  have m9 : (9 : Nat) ≤ 1000000 := by decide
  simp only [e140_0, e140_1, e140_4, e140_5, e140_7, e140_9, e140_9n, e140_12, ↓reduceIte, Nat.reduceAdd, Nat.reduceLeDiff, Nat.reduceLT, Nat.reduceEqDiff, not_false_eq_true, false_or, true_or, or_true, or_false, n0_e, n1_ne, n1_11, bI_z, bI_1, bI_fo, va_rf_some, aBk_1, aBk_0, nI_add, nI_mul, hk_si, hp_si, hl_si, hk_sp, hk_sl, hk_cp, hp_cp, hk, h98, k1, m9, h6]
theorem hs_init {h : aH} {a : Nat} (hF : FZ0 h) (hk : hk_ h a = (6, 0)) (hz : hz_ h = a + 1) (h6 : 64 ≤ a) : ∃ h', (∀ d, (run (d + 1) 121 0 [.ref a] [] h) = some (.returned none, h')) ∧ HS h' a ∧ hz_ h' = a + 8 ∧ FZ0 h' ∧ NWf a h h' ∧ hu_ h' ≤ hu_ h + 60 := by
  have h98 : (6 : Nat) < 98 := by decide
  have m7 : (7 : Nat) ≤ 1000000 := by decide
  have m4 : (4 : Nat) ≤ 1000000 := by decide
  have al : a < hz_ h := by omega
  -- chain
  have Z0 : hz_ h = a + 1 + 0 := hz
  have F0 := hF
  have W0 : NWf a h h := NWf.refl
  have k0 := hk
  have U0 : hu_ h ≤ hu_ h + 0 := Nat.le_refl _
  have E0 : ∀ d, (run (d + 1) 121 0 [.ref a] [] h) = (run (d + 1) 121 4 [.ref a] [] h) := fun d => by
    simp only [e121_0, e121_1, e121_5, e121_7, e121_9, e121_9n, e121_12, e121_13, e121_15, e121_17, e121_17n, e121_20, e121_21, e121_22, e121_24, e121_24n, e121_27, e121_28, e121_30, e121_32, e121_32n, e121_35, e121_36, e121_37, e121_39, e121_39n, e121_42, e121_43, e121_46, e121_47, e121_50, e121_50n, e121_53, ↓reduceIte, Nat.reduceAdd, Nat.reduceLeDiff, Nat.reduceLT, Nat.reduceEqDiff, not_false_eq_true, false_or, true_or, or_true, or_false, n0_e, n1_ne, n1_11, bI_z, bI_1, bI_fo, va_rf_some, aBk_1, aBk_0, nI_add, nI_mul, hk_si, hp_si, hl_si, hk_sp, hk_sl, hk_cp, hp_cp, hk, h98]
  have kn : hk_ (nw_ h 100 7 7) a = (6, 0) := (if_neg (by omega)).trans k0
  have E1 : ∀ d, (run (d + 1) 121 0 [.ref a] [] h) = (run (d + 1) 121 12 [.ref a] [] (sp_ (nw_ h 100 7 7) a 53 (some (hz_ h)))) := fun d => (E0 d).trans (by
    simp only [e121_4, e121_5, e121_7, e121_9, e121_9n, ↓reduceIte, Nat.reduceAdd, Nat.reduceLeDiff, Nat.reduceLT, Nat.reduceEqDiff, not_false_eq_true, false_or, true_or, or_true, or_false, n0_e, n1_ne, n1_11, bI_z, bI_1, bI_fo, va_rf_some, aBk_1, aBk_0, nI_add, nI_mul, hk_si, hp_si, hl_si, hk_sp, hk_sl, hk_cp, hp_cp, k0, kn, m7, m4, h6])
  have Z1 : hz_ (sp_ (nw_ h 100 7 7) a 53 (some (hz_ h))) = a + 1 + 1 := by show hz_ h + 1 = _; omega
  have F1 : FZ0 (sp_ (nw_ h 100 7 7) a 53 (some (hz_ h))) := (F0.nw).sp (by show a < hz_ h + 1; omega)
  have W1 : NWf a h (sp_ (nw_ h 100 7 7) a 53 (some (hz_ h))) := W0.st al
  have k1 : hk_ (sp_ (nw_ h 100 7 7) a 53 (some (hz_ h))) a = (6, 0) := kn
  have U1 : hu_ (sp_ (nw_ h 100 7 7) a 53 (some (hz_ h))) ≤ hu_ h + 7 := by show hu_ h + 7 ≤ _; omega
  have n1 : hk_ (sp_ (nw_ h 100 7 7) a 53 (some (hz_ h))) (a + 1) = (100, 7) := if_pos (by omega)
  have p1 : hp_ (sp_ (nw_ h 100 7 7) a 53 (some (hz_ h))) a 53 = some (a + 1) := (if_pos ⟨rfl, rfl⟩).trans (by rw [Z0])
  generalize sp_ (nw_ h 100 7 7) a 53 (some (hz_ h)) = g1 at E1 Z1 F1 W1 k1 U1 n1 p1
  have kn : hk_ (nw_ g1 100 7 7) a = (6, 0) := (if_neg (by omega)).trans k1
  have E2 : ∀ d, (run (d + 1) 121 0 [.ref a] [] h) = (run (d + 1) 121 20 [.ref a] [] (sp_ (nw_ g1 100 7 7) a 54 (some (hz_ g1)))) := fun d => (E1 d).trans (by
    simp only [e121_12, e121_13, e121_15, e121_17, e121_17n, ↓reduceIte, Nat.reduceAdd, Nat.reduceLeDiff, Nat.reduceLT, Nat.reduceEqDiff, not_false_eq_true, false_or, true_or, or_true, or_false, n0_e, n1_ne, n1_11, bI_z, bI_1, bI_fo, va_rf_some, aBk_1, aBk_0, nI_add, nI_mul, hk_si, hp_si, hl_si, hk_sp, hk_sl, hk_cp, hp_cp, k1, kn, m7, m4, h6])
  have Z2 : hz_ (sp_ (nw_ g1 100 7 7) a 54 (some (hz_ g1))) = a + 1 + 2 := by show hz_ g1 + 1 = _; omega
  have F2 : FZ0 (sp_ (nw_ g1 100 7 7) a 54 (some (hz_ g1))) := (F1.nw).sp (by show a < hz_ g1 + 1; omega)
  have W2 : NWf a h (sp_ (nw_ g1 100 7 7) a 54 (some (hz_ g1))) := W1.st al
  have k2 : hk_ (sp_ (nw_ g1 100 7 7) a 54 (some (hz_ g1))) a = (6, 0) := kn
  have U2 : hu_ (sp_ (nw_ g1 100 7 7) a 54 (some (hz_ g1))) ≤ hu_ h + 14 := by show hu_ g1 + 7 ≤ _; omega
  have n2 : hk_ (sp_ (nw_ g1 100 7 7) a 54 (some (hz_ g1))) (a + 2) = (100, 7) := if_pos (by omega)
  have p2 : hp_ (sp_ (nw_ g1 100 7 7) a 54 (some (hz_ g1))) a 54 = some (a + 2) := (if_pos ⟨rfl, rfl⟩).trans (by rw [Z1])
  have n1_2 : hk_ (sp_ (nw_ g1 100 7 7) a 54 (some (hz_ g1))) (a + 1) = (100, 7) := (if_neg (by omega)).trans n1
  have p1_2 : hp_ (sp_ (nw_ g1 100 7 7) a 54 (some (hz_ g1))) a 53 = some (a + 1) := (if_neg (by omega)).trans p1
  generalize sp_ (nw_ g1 100 7 7) a 54 (some (hz_ g1)) = g2 at E2 Z2 F2 W2 k2 U2 n2 p2 n1_2 p1_2
  have kn : hk_ (nw_ g2 100 4 4) a = (6, 0) := (if_neg (by omega)).trans k2
  have E3 : ∀ d, (run (d + 1) 121 0 [.ref a] [] h) = (run (d + 1) 121 27 [.ref a] [] (sp_ (nw_ g2 100 4 4) a 55 (some (hz_ g2)))) := fun d => (E2 d).trans (by
    simp only [e121_20, e121_21, e121_22, e121_24, e121_24n, ↓reduceIte, Nat.reduceAdd, Nat.reduceLeDiff, Nat.reduceLT, Nat.reduceEqDiff, not_false_eq_true, false_or, true_or, or_true, or_false, n0_e, n1_ne, n1_11, bI_z, bI_1, bI_fo, va_rf_some, aBk_1, aBk_0, nI_add, nI_mul, hk_si, hp_si, hl_si, hk_sp, hk_sl, hk_cp, hp_cp, k2, kn, m7, m4, h6])
  have Z3 : hz_ (sp_ (nw_ g2 100 4 4) a 55 (some (hz_ g2))) = a + 1 + 3 := by show hz_ g2 + 1 = _; omega
  have F3 : FZ0 (sp_ (nw_ g2 100 4 4) a 55 (some (hz_ g2))) := (F2.nw).sp (by show a < hz_ g2 + 1; omega)
  have W3 : NWf a h (sp_ (nw_ g2 100 4 4) a 55 (some (hz_ g2))) := W2.st al
  have k3 : hk_ (sp_ (nw_ g2 100 4 4) a 55 (some (hz_ g2))) a = (6, 0) := kn
  have U3 : hu_ (sp_ (nw_ g2 100 4 4) a 55 (some (hz_ g2))) ≤ hu_ h + 18 := by show hu_ g2 + 4 ≤ _; omega
  have n3 : hk_ (sp_ (nw_ g2 100 4 4) a 55 (some (hz_ g2))) (a + 3) = (100, 4) := if_pos (by omega)
  have p3 : hp_ (sp_ (nw_ g2 100 4 4) a 55 (some (hz_ g2))) a 55 = some (a + 3) := (if_pos ⟨rfl, rfl⟩).trans (by rw [Z2])
  have n1_3 : hk_ (sp_ (nw_ g2 100 4 4) a 55 (some (hz_ g2))) (a + 1) = (100, 7) := (if_neg (by omega)).trans n1_2
  have p1_3 : hp_ (sp_ (nw_ g2 100 4 4) a 55 (some (hz_ g2))) a 53 = some (a + 1) := (if_neg (by omega)).trans p1_2
  have n2_3 : hk_ (sp_ (nw_ g2 100 4 4) a 55 (some (hz_ g2))) (a + 2) = (100, 7) := (if_neg (by omega)).trans n2
  have p2_3 : hp_ (sp_ (nw_ g2 100 4 4) a 55 (some (hz_ g2))) a 54 = some (a + 2) := (if_neg (by omega)).trans p2
  generalize sp_ (nw_ g2 100 4 4) a 55 (some (hz_ g2)) = g3 at E3 Z3 F3 W3 k3 U3 n3 p3 n1_3 p1_3 n2_3 p2_3
  have kn : hk_ (nw_ g3 100 7 7) a = (6, 0) := (if_neg (by omega)).trans k3
  have E4 : ∀ d, (run (d + 1) 121 0 [.ref a] [] h) = (run (d + 1) 121 35 [.ref a] [] (sp_ (nw_ g3 100 7 7) a 61 (some (hz_ g3)))) := fun d => (E3 d).trans (by
    simp only [e121_27, e121_28, e121_30, e121_32, e121_32n, ↓reduceIte, Nat.reduceAdd, Nat.reduceLeDiff, Nat.reduceLT, Nat.reduceEqDiff, not_false_eq_true, false_or, true_or, or_true, or_false, n0_e, n1_ne, n1_11, bI_z, bI_1, bI_fo, va_rf_some, aBk_1, aBk_0, nI_add, nI_mul, hk_si, hp_si, hl_si, hk_sp, hk_sl, hk_cp, hp_cp, k3, kn, m7, m4, h6])
  have Z4 : hz_ (sp_ (nw_ g3 100 7 7) a 61 (some (hz_ g3))) = a + 1 + 4 := by show hz_ g3 + 1 = _; omega
  have F4 : FZ0 (sp_ (nw_ g3 100 7 7) a 61 (some (hz_ g3))) := (F3.nw).sp (by show a < hz_ g3 + 1; omega)
  have W4 : NWf a h (sp_ (nw_ g3 100 7 7) a 61 (some (hz_ g3))) := W3.st al
  have k4 : hk_ (sp_ (nw_ g3 100 7 7) a 61 (some (hz_ g3))) a = (6, 0) := kn
  have U4 : hu_ (sp_ (nw_ g3 100 7 7) a 61 (some (hz_ g3))) ≤ hu_ h + 25 := by show hu_ g3 + 7 ≤ _; omega
  have n4 : hk_ (sp_ (nw_ g3 100 7 7) a 61 (some (hz_ g3))) (a + 4) = (100, 7) := if_pos (by omega)
  have p4 : hp_ (sp_ (nw_ g3 100 7 7) a 61 (some (hz_ g3))) a 61 = some (a + 4) := (if_pos ⟨rfl, rfl⟩).trans (by rw [Z3])
  have n1_4 : hk_ (sp_ (nw_ g3 100 7 7) a 61 (some (hz_ g3))) (a + 1) = (100, 7) := (if_neg (by omega)).trans n1_3
  have p1_4 : hp_ (sp_ (nw_ g3 100 7 7) a 61 (some (hz_ g3))) a 53 = some (a + 1) := (if_neg (by omega)).trans p1_3
  have n2_4 : hk_ (sp_ (nw_ g3 100 7 7) a 61 (some (hz_ g3))) (a + 2) = (100, 7) := (if_neg (by omega)).trans n2_3
  have p2_4 : hp_ (sp_ (nw_ g3 100 7 7) a 61 (some (hz_ g3))) a 54 = some (a + 2) := (if_neg (by omega)).trans p2_3
  have n3_4 : hk_ (sp_ (nw_ g3 100 7 7) a 61 (some (hz_ g3))) (a + 3) = (100, 4) := (if_neg (by omega)).trans n3
  have p3_4 : hp_ (sp_ (nw_ g3 100 7 7) a 61 (some (hz_ g3))) a 55 = some (a + 3) := (if_neg (by omega)).trans p3
  generalize sp_ (nw_ g3 100 7 7) a 61 (some (hz_ g3)) = g4 at E4 Z4 F4 W4 k4 U4 n4 p4 n1_4 p1_4 n2_4 p2_4 n3_4 p3_4
  have kn : hk_ (nw_ g4 100 4 4) a = (6, 0) := (if_neg (by omega)).trans k4
  have E5 : ∀ d, (run (d + 1) 121 0 [.ref a] [] h) = (run (d + 1) 121 42 [.ref a] [] (sp_ (nw_ g4 100 4 4) a 62 (some (hz_ g4)))) := fun d => (E4 d).trans (by
    simp only [e121_35, e121_36, e121_37, e121_39, e121_39n, ↓reduceIte, Nat.reduceAdd, Nat.reduceLeDiff, Nat.reduceLT, Nat.reduceEqDiff, not_false_eq_true, false_or, true_or, or_true, or_false, n0_e, n1_ne, n1_11, bI_z, bI_1, bI_fo, va_rf_some, aBk_1, aBk_0, nI_add, nI_mul, hk_si, hp_si, hl_si, hk_sp, hk_sl, hk_cp, hp_cp, k4, kn, m7, m4, h6])
  have Z5 : hz_ (sp_ (nw_ g4 100 4 4) a 62 (some (hz_ g4))) = a + 1 + 5 := by show hz_ g4 + 1 = _; omega
  have F5 : FZ0 (sp_ (nw_ g4 100 4 4) a 62 (some (hz_ g4))) := (F4.nw).sp (by show a < hz_ g4 + 1; omega)
  have W5 : NWf a h (sp_ (nw_ g4 100 4 4) a 62 (some (hz_ g4))) := W4.st al
  have k5 : hk_ (sp_ (nw_ g4 100 4 4) a 62 (some (hz_ g4))) a = (6, 0) := kn
  have U5 : hu_ (sp_ (nw_ g4 100 4 4) a 62 (some (hz_ g4))) ≤ hu_ h + 29 := by show hu_ g4 + 4 ≤ _; omega
  have n5 : hk_ (sp_ (nw_ g4 100 4 4) a 62 (some (hz_ g4))) (a + 5) = (100, 4) := if_pos (by omega)
  have p5 : hp_ (sp_ (nw_ g4 100 4 4) a 62 (some (hz_ g4))) a 62 = some (a + 5) := (if_pos ⟨rfl, rfl⟩).trans (by rw [Z4])
  have n1_5 : hk_ (sp_ (nw_ g4 100 4 4) a 62 (some (hz_ g4))) (a + 1) = (100, 7) := (if_neg (by omega)).trans n1_4
  have p1_5 : hp_ (sp_ (nw_ g4 100 4 4) a 62 (some (hz_ g4))) a 53 = some (a + 1) := (if_neg (by omega)).trans p1_4
  have n2_5 : hk_ (sp_ (nw_ g4 100 4 4) a 62 (some (hz_ g4))) (a + 2) = (100, 7) := (if_neg (by omega)).trans n2_4
  have p2_5 : hp_ (sp_ (nw_ g4 100 4 4) a 62 (some (hz_ g4))) a 54 = some (a + 2) := (if_neg (by omega)).trans p2_4
  have n3_5 : hk_ (sp_ (nw_ g4 100 4 4) a 62 (some (hz_ g4))) (a + 3) = (100, 4) := (if_neg (by omega)).trans n3_4
  have p3_5 : hp_ (sp_ (nw_ g4 100 4 4) a 62 (some (hz_ g4))) a 55 = some (a + 3) := (if_neg (by omega)).trans p3_4
  have n4_5 : hk_ (sp_ (nw_ g4 100 4 4) a 62 (some (hz_ g4))) (a + 4) = (100, 7) := (if_neg (by omega)).trans n4
  have p4_5 : hp_ (sp_ (nw_ g4 100 4 4) a 62 (some (hz_ g4))) a 61 = some (a + 4) := (if_neg (by omega)).trans p4
  generalize sp_ (nw_ g4 100 4 4) a 62 (some (hz_ g4)) = g5 at E5 Z5 F5 W5 k5 U5 n5 p5 n1_5 p1_5 n2_5 p2_5 n3_5 p3_5 n4_5 p4_5
  have e1 : hk_ (nw_ g5 7 0 2) (hz_ g5) = (7, 0) := if_pos rfl
  have ai := fun d => a_init (d := d) (h := nw_ g5 7 0 2) (a := hz_ g5) e1 (by omega) (Nat.lt_succ_self _)
  have kA : hk_ (sp_ (nw_ (nw_ g5 7 0 2) 100 9 9) (hz_ g5) 64 (some (hz_ (nw_ g5 7 0 2)))) a = (6, 0) := (if_neg (by show a ≠ hz_ g5 + 1; omega)).trans ((if_neg (by omega)).trans k5)
  have h987 : (7 : Nat) < 98 := by decide
  have E6 : ∀ d, (run (d + 1) 121 0 [.ref a] [] h) = some (.returned none, sp_ (sp_ (nw_ (nw_ g5 7 0 2) 100 9 9) (hz_ g5) 64 (some (hz_ (nw_ g5 7 0 2)))) a 63 (some (hz_ g5))) := fun d => (E5 d).trans (by
    simp only [e121_42, e121_43, e121_46, e121_47, e121_50, e121_50n, e121_53, ↓reduceIte, Nat.reduceAdd, Nat.reduceLeDiff, Nat.reduceLT, Nat.reduceEqDiff, not_false_eq_true, false_or, true_or, or_true, or_false, n0_e, n1_ne, n1_11, bI_z, bI_1, bI_fo, va_rf_some, aBk_1, aBk_0, nI_add, nI_mul, hk_si, hp_si, hl_si, hk_sp, hk_sl, hk_cp, hp_cp, e1, h987, ai, kA, h6])
  have zA : hz_ (nw_ g5 7 0 2) = a + 7 := by show hz_ g5 + 1 = _; omega
  have FA : FZ0 (sp_ (sp_ (nw_ (nw_ g5 7 0 2) 100 9 9) (hz_ g5) 64 (some (hz_ (nw_ g5 7 0 2)))) a 63 (some (hz_ g5))) := (((F5.nw).nw).sp (by show hz_ g5 < hz_ g5 + 1 + 1; omega)).sp (by show a < hz_ g5 + 1 + 1; omega)
  have kx : ∀ x, x ≠ a + 6 → x ≠ a + 7 → hk_ (sp_ (sp_ (nw_ (nw_ g5 7 0 2) 100 9 9) (hz_ g5) 64 (some (hz_ (nw_ g5 7 0 2)))) a 63 (some (hz_ g5))) x = hk_ g5 x := fun x h1 h2 => (if_neg (by omega)).trans (if_neg (by omega))
  have px : ∀ x f, x ≠ a + 6 → ¬ (x = a ∧ f = 63) → hp_ (sp_ (sp_ (nw_ (nw_ g5 7 0 2) 100 9 9) (hz_ g5) 64 (some (hz_ (nw_ g5 7 0 2)))) a 63 (some (hz_ g5))) x f = hp_ g5 x f := fun x f h1 h2 => (if_neg h2).trans (if_neg (fun q => by omega))
  obtain ⟨w1, w2, w3, w4, w5⟩ := W5
  refine ⟨_, E6, ⟨(kx _ (by omega) (by omega)).trans k5, (kx _ (by omega) (by omega)).trans n1_5, (kx _ (by omega) (by omega)).trans n2_5, (kx _ (by omega) (by omega)).trans n3_5, (kx _ (by omega) (by omega)).trans n4_5, (kx _ (by omega) (by omega)).trans n5, ?_, ?_, (px _ _ (by omega) (by omega)).trans p1_5, (px _ _ (by omega) (by omega)).trans p2_5, (px _ _ (by omega) (by omega)).trans p3_5, (px _ _ (by omega) (by omega)).trans p4_5, (px _ _ (by omega) (by omega)).trans p5, ?_, ?_⟩, by show hz_ g5 + 1 + 1 = _; omega, FA, ⟨by show _ ≤ hz_ g5 + 1 + 1; omega, fun x hx => (kx x (by omega) (by omega)).trans (w2 x hx), fun x f hx hn => (px x f (by omega) (fun q => hn q.1)).trans (w3 x f hx hn), w4, w5⟩, by show hu_ g5 + 2 + 9 ≤ _; omega⟩
  · exact (if_neg (by omega)).trans (if_pos (by omega))
  · exact if_pos (by omega)
  · exact (if_pos ⟨rfl, rfl⟩).trans (by rw [Z5])
  · refine (if_neg (by omega)).trans ((if_pos ⟨by omega, rfl⟩).trans ?_)
    rw [zA]
