set_option maxRecDepth 100000
/-! X's constructor (2): frames; the fault, the tokens, the parser, the text -/
/-- cells from z on are new; below: 64's references from m on are written; ints: 64's place and the first text's -/
def NX (m : Nat) (h h' : aH) : Prop := hz_ h ≤ hz_ h' ∧ (∀ x, x < hz_ h → hk_ h' x = hk_ h x) ∧ (∀ x f, x < hz_ h → ¬ (x = 64 ∧ m ≤ f) → hp_ h' x f = hp_ h x f) ∧ ∀ x f, (x < hz_ h ∨ ¬ (74 ≤ x ∧ x ≤ 77)) → ¬ (x = 64 ∧ f = 4 ∧ m ≤ 4) → hi_ h' x f = hi_ h x f
section XI2s
variable {d m n κ u x f : Nat} {v : Option Nat} {h h' g : aH}
theorem NX.refl : NX m h h := ⟨Nat.le_refl _, fun _ _ => rfl, fun _ _ _ _ => rfl, fun _ _ _ _ => rfl⟩
theorem NX.trans (a : NX m h g) (b : NX m g h') : NX m h h' := ⟨Nat.le_trans a.1 b.1, fun x hx => (b.2.1 x (Nat.lt_of_lt_of_le hx a.1)).trans (a.2.1 x hx), fun x f hx hn => (b.2.2.1 x f (Nat.lt_of_lt_of_le hx a.1) hn).trans (a.2.2.1 x f hx hn), fun x f hx hn => (b.2.2.2 x f (by have := a.1; omega) hn).trans (a.2.2.2 x f hx hn)⟩
theorem NX.mono (a : NX m h g) (hn : n ≤ m) : NX n h g := ⟨a.1, a.2.1, fun x f hx hq => a.2.2.1 x f hx (by omega), fun x f hx hq => a.2.2.2 x f hx (by omega)⟩
theorem NX.nw (a : NX m h g) : NX m h (nw_ g κ n u) := ⟨by have := a.1; show _ ≤ hz_ g + 1; omega, fun x hx => (if_neg (by have := a.1; omega)).trans (a.2.1 x hx), a.2.2.1, a.2.2.2⟩
theorem NX.sp6 (a : NX m h g) (hf : m ≤ f) : NX m h (sp_ g 64 f v) := ⟨a.1, a.2.1, fun y k hx hq => (if_neg (by omega)).trans (a.2.2.1 y k hx hq), a.2.2.2⟩
theorem NX.spn (a : NX m h g) (hx : hz_ h ≤ x) : NX m h (sp_ g x f v) := ⟨a.1, a.2.1, fun y k hy hq => (if_neg (by omega)).trans (a.2.2.1 y k hy hq), a.2.2.2⟩
theorem NX.sin (a : NX m h g) {w : Int32} (hx : hz_ h ≤ x) (h7 : 74 ≤ x ∧ x ≤ 77) : NX m h (si_ g x f w) := ⟨a.1, a.2.1, a.2.2.1, fun y k hy hq => (if_neg (by omega)).trans (a.2.2.2 y k hy hq)⟩
theorem NX.pl (a : NX m h g) {w : Int32} (hm : m ≤ 4) : NX m h (si_ g 64 4 w) := ⟨a.1, a.2.1, a.2.2.1, fun y k hy hq => (if_neg (by omega)).trans (a.2.2.2 y k hy hq)⟩
theorem FZ0.si (hF : FZ0 h) {w : Int32} (hx : x < hz_ h) : FZ0 (si_ h x f w) := fun a ha => by
  have ha : hz_ h ≤ a := ha
  obtain ⟨k1, k2⟩ := hF a ha
  exact ⟨k1, fun g => ⟨(k2 g).1, (if_neg (by omega)).trans (k2 g).2⟩⟩
/-- X in the making: N cells -/
def BX (h : aH) (N : Nat) : Prop := hz_ h = N ∧ FZ0 h ∧ hk_ h 64 = (0, 0) ∧ 65 ≤ N
theorem f_init (hk : hk_ h 65 = (1, 0)) : (run (d + 3) 71 0 [.ref 65] [] h) = some (.returned none, sp_ (sp_ (sp_ (sp_ (sp_ (sp_ (sp_ h 65 21 (some 65)) 65 22 (some 46)) 65 23 (some 47)) 65 22 none) 65 24 (some 1)) 65 21 none) 65 23 none) := by
  have h98 : (1 : Nat) < 98 := by decide
  have e1 : ∀ d, (run (d) 68 0 [.ref 65, .ref 1, .null, .int (nI 0), .int (nI 0)] [] h) = some (.returned none, sp_ (sp_ (sp_ (sp_ (sp_ (sp_ (sp_ h 65 21 (some 65)) 65 22 (some 46)) 65 23 (some 47)) 65 22 none) 65 24 (some 1)) 65 21 none) 65 23 none) := fun d => by
    simp only [e68_0, e68_1, e68_4, e68_5, e68_6, e68_6n, e68_9, e68_10, e68_13, e68_13n, e68_16, e68_17, e68_20, e68_20n, e68_23, e68_25, e68_28, e68_32, e68_33, e68_36, e68_37, e68_38, e68_38n, e68_41, e68_42, e68_43, e68_43n, e68_46, e68_47, e68_47n, e68_48, e68_48n, e68_51, e68_52, e68_55, e68_56, e68_57, e68_57n, e68_60, ↓reduceIte, Nat.reduceAdd, Nat.reduceLeDiff, Nat.reduceLT, Nat.reduceEqDiff, not_false_eq_true, false_or, true_or, or_true, or_false, n0_e, n1_ne, n1_11, bI_z, bI_1, bI_fo, va_rf_some, aBk_1, aBk_0, nI_add, nI_mul, hk_si, hp_si, hl_si, hk_sp, hk_sl, hk_cp, hp_cp, hk, h98]
  have e2 : ∀ d, (run (d + 1) 69 0 [.ref 65, .ref 1, .null, .int (nI 0), .int (nI 0)] [] h) = some (.returned none, sp_ (sp_ (sp_ (sp_ (sp_ (sp_ (sp_ h 65 21 (some 65)) 65 22 (some 46)) 65 23 (some 47)) 65 22 none) 65 24 (some 1)) 65 21 none) 65 23 none) := fun d => by
    simp only [e69_0, e69_1, e69_2, e69_2n, e69_3, e69_4, e69_6, e69_9, ↓reduceIte, Nat.reduceAdd, Nat.reduceLeDiff, Nat.reduceLT, Nat.reduceEqDiff, not_false_eq_true, false_or, true_or, or_true, or_false, n0_e, n1_ne, n1_11, bI_z, bI_1, bI_fo, va_rf_some, aBk_1, aBk_0, nI_add, nI_mul, hk_si, hp_si, hl_si, hk_sp, hk_sl, hk_cp, hp_cp, hk, h98, e1]
  have e3 : ∀ d, (run (d + 2) 70 0 [.ref 65, .ref 1, .null, .int (nI 0), .int (nI 0)] [] h) = some (.returned none, sp_ (sp_ (sp_ (sp_ (sp_ (sp_ (sp_ h 65 21 (some 65)) 65 22 (some 46)) 65 23 (some 47)) 65 22 none) 65 24 (some 1)) 65 21 none) 65 23 none) := fun d => by
    simp only [e70_0, e70_1, e70_2, e70_2n, e70_3, e70_4, e70_6, e70_9, ↓reduceIte, Nat.reduceAdd, Nat.reduceLeDiff, Nat.reduceLT, Nat.reduceEqDiff, not_false_eq_true, false_or, true_or, or_true, or_false, n0_e, n1_ne, n1_11, bI_z, bI_1, bI_fo, va_rf_some, aBk_1, aBk_0, nI_add, nI_mul, hk_si, hp_si, hl_si, hk_sp, hk_sl, hk_cp, hp_cp, hk, h98, e2]
  simp only [e71_0, e71_1, e71_3, e71_4, e71_5, e71_6, e71_9, ↓reduceIte, Nat.reduceAdd, Nat.reduceLeDiff, Nat.reduceLT, Nat.reduceEqDiff, not_false_eq_true, false_or, true_or, or_true, or_false, n0_e, n1_ne, n1_11, bI_z, bI_1, bI_fo, va_rf_some, aBk_1, aBk_0, nI_add, nI_mul, hk_si, hp_si, hl_si, hk_sp, hk_sl, hk_cp, hp_cp, hk, h98, e3]
theorem xi_f (hB : BX h 65) : ∃ h', (∀ d, (run (d + 4) 0 4 [.ref 64, aU] [] h) = (run (d + 4) 0 15 [.ref 64, aU] [] h')) ∧ BX h' 66 ∧ NX 0 h h' ∧ hu_ h' ≤ hu_ h + 8 ∧ hk_ h' 65 = (1, 0) ∧ hp_ h' 64 0 = some 65 := by
  obtain ⟨hz, hF, hk, -⟩ := hB
  have h98 : (1 : Nat) < 98 := by decide
  have k1 : hk_ (nw_ h 1 0 8) 65 = (1, 0) := if_pos hz.symm
  have k2 : hk_ (nw_ h 1 0 8) 64 = (0, 0) := (if_neg (by omega)).trans hk
  have ei := fun d => f_init (d := d) k1
  have z1 : hz_ (nw_ h 1 0 8) = 66 := by show hz_ h + 1 = _; omega
  refine ⟨sp_ (sp_ (sp_ (sp_ (sp_ (sp_ (sp_ (sp_ (nw_ h 1 0 8) 65 21 (some 65)) 65 22 (some 46)) 65 23 (some 47)) 65 22 none) 65 24 (some 1)) 65 21 none) 65 23 none) 64 0 (some 65), fun d => by
    simp only [e0_4, e0_5, e0_8, e0_9, e0_12, e0_12n, ↓reduceIte, Nat.reduceAdd, Nat.reduceLeDiff, Nat.reduceLT, Nat.reduceEqDiff, not_false_eq_true, false_or, true_or, or_true, or_false, n0_e, n1_ne, n1_11, bI_z, bI_1, bI_fo, va_rf_some, aBk_1, aBk_0, nI_add, nI_mul, hk_si, hp_si, hl_si, hk_sp, hk_sl, hk_cp, hp_cp, hz, h98, k1, k2, ei], ⟨z1, ?_, k2, by decide⟩, ?_, Nat.le_refl _, k1, hp_same⟩
  · exact (((((((hF.nw.sp (by omega)).sp (by show 65 < hz_ (nw_ h 1 0 8); omega)).sp (by show 65 < hz_ (nw_ h 1 0 8); omega)).sp (by show 65 < hz_ (nw_ h 1 0 8); omega)).sp (by show 65 < hz_ (nw_ h 1 0 8); omega)).sp (by show 65 < hz_ (nw_ h 1 0 8); omega)).sp (by show 65 < hz_ (nw_ h 1 0 8); omega)).sp (by show 64 < hz_ (nw_ h 1 0 8); omega)
  · exact ((((((((NX.refl.nw).spn (by omega)).spn (by omega)).spn (by omega)).spn (by omega)).spn (by omega)).spn (by omega)).spn (by omega)).sp6 (Nat.zero_le _)
/-- the words, laid one by one -/
def WCh (h : aH) : Nat → aH
  | 0 => h
  | n + 1 => sp_ (WCh h n) 67 n (some (2 + n))
theorem WCh_k {y : Nat} : hk_ (WCh h n) y = hk_ h y := by
  induction n with
  | zero => rfl
  | succ n ih => exact ih
theorem WCh_z : hz_ (WCh h n) = hz_ h ∧ hu_ (WCh h n) = hu_ h := by
  induction n with
  | zero => exact ⟨rfl, rfl⟩
  | succ n ih => exact ih
theorem WCh_F (hF : FZ0 h) (hz : 67 < hz_ h) : FZ0 (WCh h n) := by
  induction n with
  | zero => exact hF
  | succ n ih => exact ih.sp (by rw [WCh_z.1]; exact hz)
theorem WCh_N (a : NX m h g) (hz : hz_ h ≤ 67) : NX m h (WCh g n) := by
  induction n with
  | zero => exact a
  | succ n ih => exact ih.spn hz
theorem WCh_p {k : Nat} (hk : k < n) : hp_ (WCh h n) 67 k = some (2 + k) := by
  induction n with
  | zero => omega
  | succ n ih =>
    show (if 67 = 67 ∧ k = n then _ else hp_ (WCh h n) 67 k) = _
    by_cases q : k = n
    · rw [if_pos ⟨rfl, q⟩, q]
    · rw [if_neg (fun z => q z.2)]; exact ih (by omega)
theorem k_i1 (hW : WDx h) (hz : hz_ h = 67) (hk : hk_ h 66 = (2, 0)) : (run (d) 73 0 [.ref 66] [] h) = (run (d) 73 133 [.ref 66] [] (sp_ (WCh (nw_ h 110 21 21) 21) 66 29 (some 67))) := by
  have h98 : (2 : Nat) < 98 := by decide
  have m1 : (21 : Nat) ≤ 1000000 := by decide
  have s1 : aSto 110 11 = true := rfl
  have w0 : hk_ h 2 = (11, 0) := (hW 0 (by decide)).1
  have w1 : hk_ h 3 = (11, 0) := (hW 1 (by decide)).1
  have w2 : hk_ h 4 = (11, 0) := (hW 2 (by decide)).1
  have w3 : hk_ h 5 = (11, 0) := (hW 3 (by decide)).1
  have w4 : hk_ h 6 = (11, 0) := (hW 4 (by decide)).1
  have w5 : hk_ h 7 = (11, 0) := (hW 5 (by decide)).1
  have w6 : hk_ h 8 = (11, 0) := (hW 6 (by decide)).1
  have w7 : hk_ h 9 = (11, 0) := (hW 7 (by decide)).1
  have w8 : hk_ h 10 = (11, 0) := (hW 8 (by decide)).1
  have w9 : hk_ h 11 = (11, 0) := (hW 9 (by decide)).1
  have w10 : hk_ h 12 = (11, 0) := (hW 10 (by decide)).1
  have w11 : hk_ h 13 = (11, 0) := (hW 11 (by decide)).1
  have w12 : hk_ h 14 = (11, 0) := (hW 12 (by decide)).1
  have w13 : hk_ h 15 = (11, 0) := (hW 13 (by decide)).1
  have w14 : hk_ h 16 = (11, 0) := (hW 14 (by decide)).1
  have w15 : hk_ h 17 = (11, 0) := (hW 15 (by decide)).1
  have w16 : hk_ h 18 = (11, 0) := (hW 16 (by decide)).1
  have w17 : hk_ h 19 = (11, 0) := (hW 17 (by decide)).1
  have w18 : hk_ h 20 = (11, 0) := (hW 18 (by decide)).1
  have w19 : hk_ h 21 = (11, 0) := (hW 19 (by decide)).1
  have w20 : hk_ h 22 = (11, 0) := (hW 20 (by decide)).1
  have E : (run (d) 73 0 [.ref 66] [] h) = (run (d) 73 133 [.ref 66] [] (sp_ (sp_ (sp_ (sp_ (sp_ (sp_ (sp_ (sp_ (sp_ (sp_ (sp_ (sp_ (sp_ (sp_ (sp_ (sp_ (sp_ (sp_ (sp_ (sp_ (sp_ (sp_ (nw_ h 110 21 21) 67 0 (some 2)) 67 1 (some 3)) 67 2 (some 4)) 67 3 (some 5)) 67 4 (some 6)) 67 5 (some 7)) 67 6 (some 8)) 67 7 (some 9)) 67 8 (some 10)) 67 9 (some 11)) 67 10 (some 12)) 67 11 (some 13)) 67 12 (some 14)) 67 13 (some 15)) 67 14 (some 16)) 67 15 (some 17)) 67 16 (some 18)) 67 17 (some 19)) 67 18 (some 20)) 67 19 (some 21)) 67 20 (some 22)) 66 29 (some 67))) := by
    simp only [e73_0, e73_1, e73_4, e73_5, e73_7, e73_10, e73_11, e73_12, e73_14, e73_15, e73_16, e73_17, e73_19, e73_20, e73_21, e73_22, e73_24, e73_25, e73_26, e73_27, e73_29, e73_30, e73_31, e73_32, e73_34, e73_35, e73_36, e73_37, e73_39, e73_40, e73_41, e73_43, e73_45, e73_46, e73_47, e73_49, e73_51, e73_52, e73_53, e73_55, e73_57, e73_58, e73_59, e73_61, e73_63, e73_64, e73_65, e73_67, e73_69, e73_70, e73_71, e73_73, e73_75, e73_76, e73_77, e73_79, e73_81, e73_82, e73_83, e73_85, e73_87, e73_88, e73_89, e73_91, e73_93, e73_94, e73_95, e73_97, e73_99, e73_100, e73_101, e73_103, e73_105, e73_106, e73_107, e73_109, e73_111, e73_112, e73_113, e73_115, e73_117, e73_118, e73_119, e73_121, e73_123, e73_124, e73_125, e73_127, e73_129, e73_130, e73_130n, e73_134, e73_137, e73_139, e73_139n, e73_142, e73_143, e73_146, e73_148, e73_148n, e73_151, e73_152, e73_155, e73_157, e73_157n, e73_160, e73_161, e73_164, e73_166, e73_166n, e73_169, e73_170, e73_173, e73_175, e73_175n, e73_178, Nat.reduceLeDiff, Nat.reduceLT, not_false_eq_true, false_or, true_or, or_true, or_false, n0_e, n1_ne, n1_11, bI_z, bI_1, bI_fo, va_rf_some, aBk_1, aBk_0, nI_add, nI_mul, hk_si, hp_si, hl_si, hk_sp, hk_sl, hk_cp, hp_cp, hz, hk, h98, m1, s1, w0, w1, w2, w3, w4, w5, w6, w7, w8, w9, w10, w11, w12, w13, w14, w15, w16, w17, w18, w19, w20, hz_nw, hz_sp, hz_si, hk_nwx, hp_sp, hi_sp, hi_nw, hp_nw, hi_si, Nat.reduceEqDiff, Nat.reduceAdd, ↓reduceIte, false_and, and_false, true_and, and_true, and_self]
  exact E
theorem k_i2 (hz : hz_ g = 68) (hk : hk_ g 66 = (2, 0)) : (run (d) 73 133 [.ref 66] [] g) = some (.returned none, (sp_ (nw_ (sp_ (nw_ (sp_ (nw_ (sp_ (nw_ (sp_ (nw_ g 101 2000 2000) 66 30 (some 68)) 101 2001 2001) 66 32 (some 69)) 102 2001 2001) 66 33 (some 70)) 102 2001 2001) 66 34 (some 71)) 102 2001 2001) 66 35 (some 72))) := by
  have m1 : (2000 : Nat) ≤ 1000000 := by decide
  have m2 : (2001 : Nat) ≤ 1000000 := by decide
  simp only [e73_133, e73_134, e73_137, e73_139, e73_139n, e73_142, e73_143, e73_146, e73_148, e73_148n, e73_151, e73_152, e73_155, e73_157, e73_157n, e73_160, e73_161, e73_164, e73_166, e73_166n, e73_169, e73_170, e73_173, e73_175, e73_175n, e73_178, Nat.reduceLeDiff, Nat.reduceLT, not_false_eq_true, false_or, true_or, or_true, or_false, n0_e, n1_ne, n1_11, bI_z, bI_1, bI_fo, va_rf_some, aBk_1, aBk_0, nI_add, nI_mul, hk_si, hp_si, hl_si, hk_sp, hk_sl, hk_cp, hp_cp, hz, hk, m1, m2, hz_nw, hz_sp, hz_si, hk_nwx, hp_sp, hi_sp, hi_nw, hp_nw, hi_si, Nat.reduceEqDiff, Nat.reduceAdd, ↓reduceIte, false_and, and_false, true_and, and_true, and_self]
theorem xi_k (hB : BX h 66) (hW : WDx h) : ∃ h', (∀ d, (run (d + 4) 0 15 [.ref 64, aU] [] h) = (run (d + 4) 0 26 [.ref 64, aU] [] h')) ∧ BX h' 73 ∧ NX 1 h h' ∧ hu_ h' ≤ hu_ h + 11000 ∧ hp_ h' 64 1 = some 66 ∧ (∀ k, k < 21 → hp_ h' 67 k = some (aWs k)) ∧ hk_ h' 66 = (2, 0) ∧ hk_ h' 67 = (110, 21) ∧ hk_ h' 68 = (101, 2000) ∧ hk_ h' 69 = (101, 2001) ∧ hk_ h' 70 = (102, 2001) ∧ hk_ h' 71 = (102, 2001) ∧ hk_ h' 72 = (102, 2001) ∧ hp_ h' 66 29 = some 67 ∧ hp_ h' 66 30 = some 68 ∧ hp_ h' 66 32 = some 69 ∧ hp_ h' 66 33 = some 70 ∧ hp_ h' 66 34 = some 71 ∧ hp_ h' 66 35 = some 72 := by
  obtain ⟨hz, hF, hk, -⟩ := hB
  have h98 : (2 : Nat) < 98 := by decide
  have k1 : hk_ (nw_ h 2 0 8) 66 = (2, 0) := if_pos hz.symm
  have z1 : hz_ (nw_ h 2 0 8) = 67 := by show hz_ h + 1 = _; omega
  have W1 : WDx (nw_ h 2 0 8) := fun k hk => by
    obtain ⟨a1, a2, a3, a4, a5⟩ := hW k hk
    exact ⟨(if_neg (by omega)).trans a1, a2, a3, (if_neg (by omega)).trans a4, a5⟩
  have e1 := fun d => k_i1 (d := d) W1 z1 k1
  have z2 : hz_ (nw_ (nw_ h 2 0 8) 110 21 21) = 68 := by show hz_ h + 1 + 1 = _; omega
  have u2 : hu_ (nw_ (nw_ h 2 0 8) 110 21 21) = hu_ h + 29 := rfl
  have N2 : NX 1 h (nw_ (nw_ h 2 0 8) 110 21 21) := (NX.refl.nw).nw
  have F2 : FZ0 (nw_ (nw_ h 2 0 8) 110 21 21) := hF.nw.nw
  have k2 : hk_ (nw_ (nw_ h 2 0 8) 110 21 21) 66 = (2, 0) := (if_neg (by omega)).trans k1
  have k3 : hk_ (nw_ (nw_ h 2 0 8) 110 21 21) 67 = (110, 21) := if_pos z1.symm
  have k4 : hk_ (nw_ (nw_ h 2 0 8) 110 21 21) 64 = (0, 0) := (if_neg (by omega)).trans ((if_neg (by omega)).trans hk)
  generalize nw_ (nw_ h 2 0 8) 110 21 21 = w at e1 z2 u2 N2 F2 k2 k3 k4
  have zc := WCh_z (h := w) (n := 21)
  have Nc : NX 1 h (WCh w 21) := WCh_N N2 (by omega)
  have Fc : FZ0 (WCh w 21) := WCh_F F2 (by omega)
  have kc : ∀ y, hk_ (WCh w 21) y = hk_ w y := fun y => WCh_k
  have pc : ∀ k, k < 21 → hp_ (WCh w 21) 67 k = some (2 + k) := fun k hk => WCh_p hk
  generalize WCh w 21 = c at e1 zc Nc Fc kc pc
  obtain ⟨zc, uc⟩ := zc
  have z3 : hz_ (sp_ c 66 29 (some 67)) = 68 := zc.trans z2
  have u3 : hu_ (sp_ c 66 29 (some 67)) = hu_ h + 29 := uc.trans u2
  have N3 : NX 1 h (sp_ c 66 29 (some 67)) := Nc.spn (by omega)
  have F3 : FZ0 (sp_ c 66 29 (some 67)) := Fc.sp (by omega)
  have b2 : hk_ (sp_ c 66 29 (some 67)) 66 = (2, 0) := (kc _).trans k2
  have b3 : hk_ (sp_ c 66 29 (some 67)) 67 = (110, 21) := (kc _).trans k3
  have b4 : hk_ (sp_ c 66 29 (some 67)) 64 = (0, 0) := (kc _).trans k4
  have p3 : ∀ k, k < 21 → hp_ (sp_ c 66 29 (some 67)) 67 k = some (2 + k) := fun k hk => by rw [hp_sp, if_neg (by omega)]; exact pc k hk
  have p4 : hp_ (sp_ c 66 29 (some 67)) 66 29 = some 67 := hp_same
  generalize sp_ c 66 29 (some 67) = g at e1 z3 u3 N3 F3 b2 b3 b4 p3 p4
  have e2 := fun d => (e1 d).trans (k_i2 (d := d) z3 b2)
  have aW : ∀ k, k < 21 → some (2 + k) = some (aWs k) := by decide
  refine ⟨sp_ (sp_ (nw_ (sp_ (nw_ (sp_ (nw_ (sp_ (nw_ (sp_ (nw_ g 101 2000 2000) 66 30 (some 68)) 101 2001 2001) 66 32 (some 69)) 102 2001 2001) 66 33 (some 70)) 102 2001 2001) 66 34 (some 71)) 102 2001 2001) 66 35 (some 72)) 64 1 (some 66), fun d => by
    simp only [e0_15, e0_16, e0_19, e0_20, e0_23, e0_23n, Nat.reduceLeDiff, Nat.reduceLT, not_false_eq_true, false_or, true_or, or_true, or_false, n0_e, n1_ne, n1_11, bI_z, bI_1, bI_fo, va_rf_some, aBk_1, aBk_0, nI_add, nI_mul, hk_si, hp_si, hl_si, hk_sp, hk_sl, hk_cp, hp_cp, hz, h98, k1, e2, b4, z3, hz_nw, hz_sp, hz_si, hk_nwx, hp_sp, hi_sp, hi_nw, hp_nw, hi_si, Nat.reduceEqDiff, Nat.reduceAdd, ↓reduceIte, false_and, and_false, true_and, and_true, and_self], ⟨by simp only [hz_nw, hz_sp, hz_si, hk_nwx, hp_sp, hi_sp, hi_nw, hp_nw, hi_si, Nat.reduceEqDiff, Nat.reduceAdd, ↓reduceIte, false_and, and_false, true_and, and_true, and_self, hk_si, hp_si, hk_sp, z3], ?_, by simp only [hz_nw, hz_sp, hz_si, hk_nwx, hp_sp, hi_sp, hi_nw, hp_nw, hi_si, Nat.reduceEqDiff, Nat.reduceAdd, ↓reduceIte, false_and, and_false, true_and, and_true, and_self, hk_si, hp_si, hk_sp, z3, b4], by decide⟩, ?_, ?_, hp_same, fun k hk => ?_, by simp only [hz_nw, hz_sp, hz_si, hk_nwx, hp_sp, hi_sp, hi_nw, hp_nw, hi_si, Nat.reduceEqDiff, Nat.reduceAdd, ↓reduceIte, false_and, and_false, true_and, and_true, and_self, hk_si, hp_si, hk_sp, z3, b2], by simp only [hz_nw, hz_sp, hz_si, hk_nwx, hp_sp, hi_sp, hi_nw, hp_nw, hi_si, Nat.reduceEqDiff, Nat.reduceAdd, ↓reduceIte, false_and, and_false, true_and, and_true, and_self, hk_si, hp_si, hk_sp, z3, b3], by simp only [hz_nw, hz_sp, hz_si, hk_nwx, hp_sp, hi_sp, hi_nw, hp_nw, hi_si, Nat.reduceEqDiff, Nat.reduceAdd, ↓reduceIte, false_and, and_false, true_and, and_true, and_self, hk_si, hp_si, hk_sp, z3], by simp only [hz_nw, hz_sp, hz_si, hk_nwx, hp_sp, hi_sp, hi_nw, hp_nw, hi_si, Nat.reduceEqDiff, Nat.reduceAdd, ↓reduceIte, false_and, and_false, true_and, and_true, and_self, hk_si, hp_si, hk_sp, z3], by simp only [hz_nw, hz_sp, hz_si, hk_nwx, hp_sp, hi_sp, hi_nw, hp_nw, hi_si, Nat.reduceEqDiff, Nat.reduceAdd, ↓reduceIte, false_and, and_false, true_and, and_true, and_self, hk_si, hp_si, hk_sp, z3], by simp only [hz_nw, hz_sp, hz_si, hk_nwx, hp_sp, hi_sp, hi_nw, hp_nw, hi_si, Nat.reduceEqDiff, Nat.reduceAdd, ↓reduceIte, false_and, and_false, true_and, and_true, and_self, hk_si, hp_si, hk_sp, z3], by simp only [hz_nw, hz_sp, hz_si, hk_nwx, hp_sp, hi_sp, hi_nw, hp_nw, hi_si, Nat.reduceEqDiff, Nat.reduceAdd, ↓reduceIte, false_and, and_false, true_and, and_true, and_self, hk_si, hp_si, hk_sp, z3], by simp only [hz_nw, hz_sp, hz_si, hk_nwx, hp_sp, hi_sp, hi_nw, hp_nw, hi_si, Nat.reduceEqDiff, Nat.reduceAdd, ↓reduceIte, false_and, and_false, true_and, and_true, and_self, hk_si, hp_si, hk_sp, p4], by simp only [hz_nw, hz_sp, hz_si, hk_nwx, hp_sp, hi_sp, hi_nw, hp_nw, hi_si, Nat.reduceEqDiff, Nat.reduceAdd, ↓reduceIte, false_and, and_false, true_and, and_true, and_self, hk_si, hp_si, hk_sp, p4], by simp only [hz_nw, hz_sp, hz_si, hk_nwx, hp_sp, hi_sp, hi_nw, hp_nw, hi_si, Nat.reduceEqDiff, Nat.reduceAdd, ↓reduceIte, false_and, and_false, true_and, and_true, and_self, hk_si, hp_si, hk_sp, p4], by simp only [hz_nw, hz_sp, hz_si, hk_nwx, hp_sp, hi_sp, hi_nw, hp_nw, hi_si, Nat.reduceEqDiff, Nat.reduceAdd, ↓reduceIte, false_and, and_false, true_and, and_true, and_self, hk_si, hp_si, hk_sp, p4], by simp only [hz_nw, hz_sp, hz_si, hk_nwx, hp_sp, hi_sp, hi_nw, hp_nw, hi_si, Nat.reduceEqDiff, Nat.reduceAdd, ↓reduceIte, false_and, and_false, true_and, and_true, and_self, hk_si, hp_si, hk_sp, p4], by simp only [hz_nw, hz_sp, hz_si, hk_nwx, hp_sp, hi_sp, hi_nw, hp_nw, hi_si, Nat.reduceEqDiff, Nat.reduceAdd, ↓reduceIte, false_and, and_false, true_and, and_true, and_self, hk_si, hp_si, hk_sp, p4]⟩
  · exact ((((((((((F3.nw).sp (by simp only [hz_nw, hz_sp, hz_si, hk_nwx, hp_sp, hi_sp, hi_nw, hp_nw, hi_si, Nat.reduceEqDiff, Nat.reduceAdd, ↓reduceIte, false_and, and_false, true_and, and_true, and_self, hk_si, hp_si, hk_sp, z3]; decide)).nw).sp (by simp only [hz_nw, hz_sp, hz_si, hk_nwx, hp_sp, hi_sp, hi_nw, hp_nw, hi_si, Nat.reduceEqDiff, Nat.reduceAdd, ↓reduceIte, false_and, and_false, true_and, and_true, and_self, hk_si, hp_si, hk_sp, z3]; decide)).nw).sp (by simp only [hz_nw, hz_sp, hz_si, hk_nwx, hp_sp, hi_sp, hi_nw, hp_nw, hi_si, Nat.reduceEqDiff, Nat.reduceAdd, ↓reduceIte, false_and, and_false, true_and, and_true, and_self, hk_si, hp_si, hk_sp, z3]; decide)).nw).sp (by simp only [hz_nw, hz_sp, hz_si, hk_nwx, hp_sp, hi_sp, hi_nw, hp_nw, hi_si, Nat.reduceEqDiff, Nat.reduceAdd, ↓reduceIte, false_and, and_false, true_and, and_true, and_self, hk_si, hp_si, hk_sp, z3]; decide)).nw).sp (by simp only [hz_nw, hz_sp, hz_si, hk_nwx, hp_sp, hi_sp, hi_nw, hp_nw, hi_si, Nat.reduceEqDiff, Nat.reduceAdd, ↓reduceIte, false_and, and_false, true_and, and_true, and_self, hk_si, hp_si, hk_sp, z3]; decide)).sp (by simp only [hz_nw, hz_sp, hz_si, hk_nwx, hp_sp, hi_sp, hi_nw, hp_nw, hi_si, Nat.reduceEqDiff, Nat.reduceAdd, ↓reduceIte, false_and, and_false, true_and, and_true, and_self, hk_si, hp_si, hk_sp, z3]; decide)
  · exact ((((((((((N3.nw).spn (by omega)).nw).spn (by omega)).nw).spn (by omega)).nw).spn (by omega)).nw).spn (by omega)).sp6 (Nat.le_refl _)
  · simp only [hu_sp, hu_nw]
    omega
  · simp only [hz_nw, hz_sp, hz_si, hk_nwx, hp_sp, hi_sp, hi_nw, hp_nw, hi_si, Nat.reduceEqDiff, Nat.reduceAdd, ↓reduceIte, false_and, and_false, true_and, and_true, and_self, hk_si, hp_si, hk_sp]
    exact (p3 k hk).trans (aW k hk)
end XI2s
