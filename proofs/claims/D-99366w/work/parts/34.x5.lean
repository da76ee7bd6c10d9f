set_option maxRecDepth 100000
/-! X: a house's week goes by -/
section X5
variable {h h' : aH} {T : aTx} {w r : Nat → Int32} {sd : Int32} {still : Bool} {a b tx sa ga la f : Nat} {qs qg : Nat → Nat}
def dX (T : aTx) (w : Nat → Int32) (sd : Int32) (still : Bool) (g : Nat) : Bool := !still && dies_ T w sd g
theorem dX_iff {g : Nat} : dX T w sd still g = true ↔ (still = false ∧ dies_ T w sd g = true) := by
  unfold dX; cases still <;> simp
/-- the row when the dead are told and j guests were put out -/
def st4x (T : aTx) (r : Nat → Int32) (sd : Int32) (still : Bool) (j : Nat) : Nat → Int32 := fun k => if k < j ∧ still = false ∧ dies_ T r sd k = true then -2 else if 14 ≤ k ∧ k < 14 + ng_ T ∧ still = false ∧ dies_ T r sd (k - 14) = true then nI 1 else st3 T r (ns_ T) k
theorem x_goesBy (ha : 78 ≤ a ∧ a + 7 < 458) (hT : XT h T tx sa ga la qs qg) (hW : WV T w) (hX : XH h a w sd) (hf : FT h f still) : ∃ h', (∀ d, (run (d + 406) 138 0 [.ref a, .ref tx, .ref f, aU, aU, aU] [] h) = some (.returned none, h')) ∧ On (HA a) h h' ∧ XH h' a (wk_ T still sd w) sd := by
  have hV := hT.v
  have h7 := hT.ng7
  have h4 := hT.ns4
  have hH := hX.s
  -- what is due
  obtain ⟨h1, e1, o1⟩ := x_due ha hT hW hX
  have hT1 := hT.onE ha o1
  have hX1 := hX.onE o1
  have o1 : On (HA a) h h1 := o1.mono (fun _ _ q => q.A)
  -- rests
  obtain ⟨h2, e2, o2, q2⟩ := run_invd (F := fun d j x => (run (d + 406) 138 12 [.ref a, .ref tx, .ref f, .int (due_ T w), .int (nI 0), .int (nI j)] [] x)) (I := fun j x => On (fun z y => z = a + 4 ∨ HE a z y) h1 x ∧ ∀ k, k < j → hi_ x (a + 4) k = rO_ T w k) (n := ng_ T) (x := h1) ⟨On.refl, fun k hk => absurd hk (Nat.not_lt_zero k)⟩ (fun j x hj hI => by
    obtain ⟨o, hq⟩ := hI
    have hTx := hT1.on o (fun z y q => by unfold HE at q; unfold xa; omega)
    have hXx : XH x a w sd := hX1.off o (fun z y q => by unfold HE at q; omega)
    have hH1 := hXx.s
    obtain ⟨y, e, oy⟩ := x_hrests ha hTx hW hXx hj
    have hH2 := hH1.on oy
    have g1 : ¬ nI (ng_ T) ≤ nI j := nI_ge hj (by omega)
    have g2 : j < 7 := by omega
    refine ⟨si_ y (a + 4) j (rO_ T w j), fun d => ?_, (o.trans (oy.mono (fun _ _ q => Or.inr q))).trans (On.si (Or.inl rfl)), ?_⟩
    · refine (e138_12).trans ?_
      simp only [e138_14, e138_15, e138_18, e138_21, e138_24, e138_25, e138_28, e138_30, e138_31, e138_32, e138_34, e138_37, e138_38, e138_41, hs_k hH1, hs_p53 hH1, hs_k1 hH1, hs_p54 hH1, hs_k2 hH1, hs_p55 hH1, hs_k3 hH1, hs_p61 hH1, hs_k4 hH1, hs_p62 hH1, hs_k5 hH1, hs_k hH2, hs_p53 hH2, hs_k1 hH2, hs_p54 hH2, hs_k2 hH2, hs_p55 hH2, hs_k3 hH2, hs_p61 hH2, hs_k4 hH2, hs_p62 hH2, hs_k5 hH2, ↓reduceIte, Nat.reduceAdd, Nat.reduceLeDiff, Nat.reduceLT, Nat.reduceEqDiff, not_false_eq_true, false_or, true_or, or_true, or_false, n0_e, n1_ne, n1_11, bI_z, bI_1, bI_fo, va_rf_some, aBk_1, aBk_0, nI_add, nI_mul, hk_si, hp_si, hl_si, hk_sp, hk_sl, hk_cp, hp_cp, hTx.ktx, hTx.p45, hTx.kga, x_size hTx.G, g1, g2, e, g64_0 ha, g64_1 ha, g64_2 ha, g64_3 ha, g64_4 ha, g64_5 ha, g64_6 ha, g64_7 ha]
    · intro k hk
      rw [hi_si]
      by_cases q : k = j
      · rw [q, if_pos ⟨rfl, rfl⟩]
      · rw [if_neg (fun z => q z.2)]
        exact (oy.i (fun q => by unfold HE at q; omega)).trans (hq k (by omega)))
  have hT2 := hT1.on o2 (fun z y q => by unfold HE at q; unfold xa; omega)
  have hX2 : XH h2 a w sd := hX1.off o2 (fun z y q => by unfold HE at q; omega)
  -- wears
  obtain ⟨h3, e3, o3, q3⟩ := run_invd (F := fun d j x => (run (d + 406) 138 47 [.ref a, .ref tx, .ref f, .int (due_ T w), .int (nI 0), .int (nI j)] [] x)) (I := fun j x => On (fun z y => z = a + 5 ∨ HE a z y) h2 x ∧ ∀ k, k < j → hi_ x (a + 5) k = wO_ T w k) (n := ns_ T) (x := h2) ⟨On.refl, fun k hk => absurd hk (Nat.not_lt_zero k)⟩ (fun j x hj hI => by
    obtain ⟨o, hq⟩ := hI
    have hTx := hT2.on o (fun z y q => by unfold HE at q; unfold xa; omega)
    have hXx : XH x a w sd := hX2.off o (fun z y q => by unfold HE at q; omega)
    have hH1 := hXx.s
    obtain ⟨y, e, oy⟩ := x_hwears ha hTx hW hXx hj
    have hH2 := hH1.on oy
    have g1 : ¬ nI (ns_ T) ≤ nI j := nI_ge hj (by omega)
    have g2 : j < 4 := by omega
    refine ⟨si_ y (a + 5) j (wO_ T w j), fun d => ?_, (o.trans (oy.mono (fun _ _ q => Or.inr q))).trans (On.si (Or.inl rfl)), ?_⟩
    · refine (e138_47).trans ?_
      simp only [e138_49, e138_50, e138_53, e138_56, e138_59, e138_60, e138_63, e138_65, e138_66, e138_67, e138_69, e138_72, e138_73, e138_76, hs_k hH1, hs_p53 hH1, hs_k1 hH1, hs_p54 hH1, hs_k2 hH1, hs_p55 hH1, hs_k3 hH1, hs_p61 hH1, hs_k4 hH1, hs_p62 hH1, hs_k5 hH1, hs_k hH2, hs_p53 hH2, hs_k1 hH2, hs_p54 hH2, hs_k2 hH2, hs_p55 hH2, hs_k3 hH2, hs_p61 hH2, hs_k4 hH2, hs_p62 hH2, hs_k5 hH2, ↓reduceIte, Nat.reduceAdd, Nat.reduceLeDiff, Nat.reduceLT, Nat.reduceEqDiff, not_false_eq_true, false_or, true_or, or_true, or_false, n0_e, n1_ne, n1_11, bI_z, bI_1, bI_fo, va_rf_some, aBk_1, aBk_0, nI_add, nI_mul, hk_si, hp_si, hl_si, hk_sp, hk_sl, hk_cp, hp_cp, hTx.ktx, hTx.p44, hTx.ksa, x_size hTx.S, g1, g2, e, g64_0 ha, g64_1 ha, g64_2 ha, g64_3 ha, g64_4 ha, g64_5 ha, g64_6 ha, g64_7 ha]
    · intro k hk
      rw [hi_si]
      by_cases q : k = j
      · rw [q, if_pos ⟨rfl, rfl⟩]
      · rw [if_neg (fun z => q z.2)]
        exact (oy.i (fun q => by unfold HE at q; omega)).trans (hq k (by omega)))
  have hT3 := hT2.on o3 (fun z y q => by unfold HE at q; unfold xa; omega)
  have hX3 : XH h3 a w sd := hX2.off o3 (fun z y q => by unfold HE at q; omega)
  have hH3 := hX3.s
  have q2' : ∀ k, k < ng_ T → hi_ h3 (a + 4) k = rO_ T w k := fun k hk => (o3.i (fun q => by unfold HE at q; omega)).trans (q2 k hk)
  -- from here on: in a, a + 1, a + 2, a + 3 alone
  have wB : ∀ (z y : Nat), (a ≤ z ∧ z ≤ a + 3) → ¬ xa z := fun z y q => by unfold xa; omega
  have o4 : On (fun z y => a ≤ z ∧ z ≤ a + 3) h3 (si_ h3 a 59 (w 30 + due_ T w)) := On.si ⟨by omega, by omega⟩
  have hX4 : XH (si_ h3 a 59 (w 30 + due_ T w)) a (st1 T w) sd := hX3.upM
  have s2g : ∀ j g, g < 7 → st2 T w j g = w g := fun j g hg => by
    unfold st2 st1 up_
    rw [if_neg (by omega), if_neg (by omega)]
  -- rested
  obtain ⟨h5, e5, o5, X5⟩ := run_invd (F := fun d j x => (run (d + 406) 138 92 [.ref a, .ref tx, .ref f, .int (due_ T w), .int (nI 0), .int (nI j)] [] x)) (I := fun j x => On (fun z y => a ≤ z ∧ z ≤ a + 3) h3 x ∧ XH x a (st2 T w j) sd) (n := ng_ T) (x := si_ h3 a 59 (w 30 + due_ T w)) ⟨o4, hX4.congr (fun k hk => (if_neg (by omega)).symm)⟩ (fun j x hj hI => by
    obtain ⟨o, hXx⟩ := hI
    have hTx := hT3.on o wB
    have hH1 := hXx.s
    have g1 : ¬ nI (ng_ T) ≤ nI j := nI_ge hj (by omega)
    have g2 : j < 7 := by omega
    have s1 := s2g j j g2
    have s2 : st2 T w j (7 + j) = w (7 + j) := by
      unfold st2 st1 up_
      rw [if_neg (by omega), if_neg (by omega)]
    have s3 : st2 T w j (14 + j) = w (14 + j) := by
      unfold st2 st1 up_
      rw [if_neg (by omega), if_neg (by omega)]
    have f1 : hi_ x (a + 1) j = w j := (hXx.in_ g2).trans s1
    have f2 : hi_ x (a + 2) j = w (7 + j) := (hXx.re g2).trans s2
    have f4 : hi_ x (a + 4) j = rO_ T w j := (o.i (fun q => by omega)).trans (q2' j hj)
    have ed := fun d => x_isDead (d := d) ha hXx g2
    rw [s3] at ed
    have rb := hW.2.2.2.2.2.2.1 j g2
    have fin : ∀ (v : Int32), v = rs_ T w j → ∀ k, k < 31 → up_ (st2 T w j) (7 + j) v k = st2 T w (j + 1) k := by
      intro v hv k hk
      unfold up_
      by_cases q : k = 7 + j
      · rw [if_pos q]
        unfold st2
        rw [if_pos (by omega), q, Nat.add_sub_cancel_left, hv]
      · rw [if_neg q]
        unfold st2
        by_cases q' : 7 ≤ k ∧ k < 7 + j
        · rw [if_pos q', if_pos (by omega)]
        · rw [if_neg q', if_neg (by omega)]
    by_cases hd : w (14 + j) = 0
    · by_cases hin : 0 ≤ w j
      · have er : min_ (nI 999) (w (7 + j) + rO_ T w j) = rs_ T w j := by
          unfold rs_
          rw [if_pos hin]
          have hb := rO_b (w := w) hV hj
          exact min999 (by rw [ti_add (by omega) (by omega)]; omega)
        refine ⟨si_ x (a + 2) j (rs_ T w j), fun d => ?_, o.trans (On.si ⟨by omega, by omega⟩), (hXx.upR g2).congr (fin _ rfl)⟩
        rw [← er]
        refine (e138_92).trans ?_
        simp only [e138_94, e138_95, e138_98, e138_101, e138_104, e138_105, e138_107, e138_110, e138_113, e138_114, e138_117, e138_119, e138_120, e138_123, e138_125, e138_126, e138_129, e138_130, e138_131, e138_134, e138_136, e138_137, e138_138, e138_139, e138_142, e138_145, e138_148, e138_149, e138_152, e138_154, e138_155, e138_156, e138_159, e138_161, e138_162, e138_163, e138_166, e138_167, e138_170, hs_k hH1, hs_p53 hH1, hs_k1 hH1, hs_p54 hH1, hs_k2 hH1, hs_p55 hH1, hs_k3 hH1, hs_p61 hH1, hs_k4 hH1, hs_p62 hH1, hs_k5 hH1, ↓reduceIte, Nat.reduceAdd, Nat.reduceLeDiff, Nat.reduceLT, Nat.reduceEqDiff, not_false_eq_true, false_or, true_or, or_true, or_false, n0_e, n1_ne, n1_11, bI_1, bI_fo, va_rf_some, aBk_1, aBk_0, nI_add, nI_mul, hk_si, hp_si, hl_si, hk_sp, hk_sl, hk_cp, hp_cp, hTx.ktx, hTx.p45, hTx.kga, x_size hTx.G, g1, g2, ed, hd, decide_true, Bool.not_true, bI_z, f1, f2, f4, hin, g64_0 ha, g64_1 ha, g64_2 ha, g64_3 ha, g64_4 ha, g64_5 ha, g64_6 ha, g64_7 ha]
      · have er : max_ (nI 0) (w (7 + j) - nI 1) = rs_ T w j := by
          unfold rs_
          rw [if_neg hin, if_pos hd]
          exact max999 (by rw [ti_sub (by rw [n1_toInt]; omega) (by rw [n1_toInt]; omega), n1_toInt]; omega)
        refine ⟨si_ x (a + 2) j (rs_ T w j), fun d => ?_, o.trans (On.si ⟨by omega, by omega⟩), (hXx.upR g2).congr (fin _ rfl)⟩
        rw [← er]
        refine (e138_92).trans ?_
        simp only [e138_94, e138_95, e138_98, e138_101, e138_104, e138_105, e138_107, e138_110, e138_113, e138_114, e138_117, e138_119, e138_120, e138_123, e138_125, e138_126, e138_129, e138_130, e138_131, e138_134, e138_136, e138_137, e138_138, e138_139, e138_142, e138_145, e138_148, e138_149, e138_152, e138_154, e138_155, e138_156, e138_159, e138_161, e138_162, e138_163, e138_166, e138_167, e138_170, hs_k hH1, hs_p53 hH1, hs_k1 hH1, hs_p54 hH1, hs_k2 hH1, hs_p55 hH1, hs_k3 hH1, hs_p61 hH1, hs_k4 hH1, hs_p62 hH1, hs_k5 hH1, ↓reduceIte, Nat.reduceAdd, Nat.reduceLeDiff, Nat.reduceLT, Nat.reduceEqDiff, not_false_eq_true, false_or, true_or, or_true, or_false, n0_e, n1_ne, n1_11, bI_1, bI_fo, va_rf_some, aBk_1, aBk_0, nI_add, nI_mul, hk_si, hp_si, hl_si, hk_sp, hk_sl, hk_cp, hp_cp, hTx.ktx, hTx.p45, hTx.kga, x_size hTx.G, g1, g2, ed, hd, decide_true, Bool.not_true, bI_z, f1, f2, f4, hin, g64_0 ha, g64_1 ha, g64_2 ha, g64_3 ha, g64_4 ha, g64_5 ha, g64_6 ha, g64_7 ha]
    · have h1 := (hW.2.2.1 j g2).resolve_left hd
      have h2 := hW.2.2.2.1 j g2 h1
      have er : w (7 + j) = rs_ T w j := by
        unfold rs_
        rw [h2, if_neg (by decide), if_neg hd]
      refine ⟨x, fun d => ?_, o, hXx.congr (fun k hk => ?_)⟩
      · refine (e138_92).trans ?_
        simp only [e138_94, e138_95, e138_98, e138_101, e138_104, e138_105, e138_107, e138_110, e138_113, e138_114, e138_117, e138_119, e138_120, e138_123, e138_125, e138_126, e138_129, e138_130, e138_131, e138_134, e138_136, e138_137, e138_138, e138_139, e138_142, e138_145, e138_148, e138_149, e138_152, e138_154, e138_155, e138_156, e138_159, e138_161, e138_162, e138_163, e138_166, e138_167, e138_170, hs_k hH1, hs_p53 hH1, hs_k1 hH1, hs_p54 hH1, hs_k2 hH1, hs_p55 hH1, hs_k3 hH1, hs_p61 hH1, hs_k4 hH1, hs_p62 hH1, hs_k5 hH1, ↓reduceIte, Nat.reduceAdd, Nat.reduceLeDiff, Nat.reduceLT, Nat.reduceEqDiff, not_false_eq_true, false_or, true_or, or_true, or_false, n0_e, n1_ne, n1_11, bI_1, bI_fo, va_rf_some, aBk_1, aBk_0, nI_add, nI_mul, hk_si, hp_si, hl_si, hk_sp, hk_sl, hk_cp, hp_cp, hTx.ktx, hTx.p45, hTx.kga, x_size hTx.G, g1, g2, ed, hd, decide_false, Bool.not_false, bI_z, reduceCtorEq]
      · rw [← fin _ er k hk]
        unfold up_
        by_cases q : k = 7 + j
        · rw [if_pos q, q, s2]
        · rw [if_neg q])
  have hT5 := hT3.on o5 wB
  have hH5 := X5.s
  -- worn
  obtain ⟨h6, e6, o6, X6⟩ := run_invd (F := fun d j x => (run (d + 406) 138 176 [.ref a, .ref tx, .ref f, .int (due_ T w), .int (nI 0), .int (nI j)] [] x)) (I := fun j x => On (fun z y => a ≤ z ∧ z ≤ a + 3) h3 x ∧ XH x a (st3 T w j) sd) (n := ns_ T) (x := h5) ⟨o5, X5.congr (fun k hk => (if_neg (by omega)).symm)⟩ (fun j x hj hI => by
    obtain ⟨o, hXx⟩ := hI
    have hTx := hT3.on o wB
    have hH1 := hXx.s
    have g1 : ¬ nI (ns_ T) ≤ nI j := nI_ge hj (by omega)
    have g2 : j < 4 := by omega
    have s1 : st3 T w j (21 + j) = w (21 + j) := by
      unfold st3 st2 st1 up_
      rw [if_neg (by omega), if_neg (by omega), if_neg (by omega)]
    have f3 : hi_ x (a + 3) j = w (21 + j) := (hXx.wo g2).trans s1
    have f5 : hi_ x (a + 5) j = wO_ T w j := (o.i (fun q => by omega)).trans (q3 j hj)
    have wb := hW.2.2.2.2.2.2.2.1 j g2
    have wb2 := wO_b (T := T) (w := w) (s := j)
    have er : min_ (nI 99) (w (21 + j) + wO_ T w j) = wi_ (w (21 + j) + wO_ T w j) (nI 0) (nI 99) := min99w (by rw [ti_add (by omega) (by omega)]; omega)
    refine ⟨si_ x (a + 3) j (wi_ (w (21 + j) + wO_ T w j) (nI 0) (nI 99)), fun d => ?_, o.trans (On.si ⟨by omega, by omega⟩), (hXx.upW g2).congr (fun k hk => ?_)⟩
    · rw [← er]
      refine (e138_176).trans ?_
      simp only [e138_178, e138_179, e138_182, e138_185, e138_188, e138_189, e138_192, e138_194, e138_196, e138_197, e138_200, e138_202, e138_203, e138_204, e138_207, e138_209, e138_210, e138_211, e138_214, e138_215, e138_218, hs_k hH1, hs_p53 hH1, hs_k1 hH1, hs_p54 hH1, hs_k2 hH1, hs_p55 hH1, hs_k3 hH1, hs_p61 hH1, hs_k4 hH1, hs_p62 hH1, hs_k5 hH1, ↓reduceIte, Nat.reduceAdd, Nat.reduceLeDiff, Nat.reduceLT, Nat.reduceEqDiff, not_false_eq_true, false_or, true_or, or_true, or_false, n0_e, n1_ne, n1_11, bI_z, bI_1, bI_fo, va_rf_some, aBk_1, aBk_0, nI_add, nI_mul, hk_si, hp_si, hl_si, hk_sp, hk_sl, hk_cp, hp_cp, hTx.ktx, hTx.p44, hTx.ksa, x_size hTx.S, g1, g2, f3, f5, g64_0 ha, g64_1 ha, g64_2 ha, g64_3 ha, g64_4 ha, g64_5 ha, g64_6 ha, g64_7 ha]
    · unfold up_
      by_cases q : k = 21 + j
      · rw [if_pos q]
        unfold st3
        rw [if_pos (by omega), q, Nat.add_sub_cancel_left]
      · rw [if_neg q]
        unfold st3
        by_cases q' : 21 ≤ k ∧ k < 21 + j
        · rw [if_pos q', if_pos (by omega)]
        · rw [if_neg q', if_neg (by omega)])
  have hT6 := hT3.on o6 wB
  have hH6 := X6.s
  have hf6 : FT h6 f still := ((((hf.on o1).on o2).on o3).on o6)
  have s3i : ∀ g, g < 7 → st3 T w (ns_ T) g = w g := fun g hg => by
    unfold st3
    rw [if_neg (by omega)]
    exact s2g _ g hg
  have s3r : ∀ g, g < ng_ T → st3 T w (ns_ T) (7 + g) = rs_ T w g := fun g hg => by
    unfold st3 st2
    rw [if_neg (by omega), if_pos (by omega), Nat.add_sub_cancel_left]
  have s3w : st3 T w (ns_ T) 29 = w 29 := by
    unfold st3 st2 st1 up_
    rw [if_neg (by omega), if_neg (by omega), if_neg (by omega)]
  -- who dies
  have e7 : ∀ d, (run (d + 406) 138 224 [.ref a, .ref tx, .ref f, .int (due_ T w), .int (nI 0), .int (nI 0)] [] h6) = (run (d + 406) 138 224 [.ref a, .ref tx, .ref f, .int (due_ T w), .int (nI (orN (ng_ T) (dX T w sd still))), .int (nI (ng_ T))] [] h6) := fun d => by
    refine run_for (F := fun j b => (run (d + 406) 138 224 [.ref a, .ref tx, .ref f, .int (due_ T w), .int (nI b), .int (nI j)] [] h6)) (f := fun g b => bif dX T w sd still g then b ||| 2 ^ g else b) (a := 0) (n := ng_ T) (fun j hj => ?_)
    have g1 : ¬ nI (ng_ T) ≤ nI j := nI_ge hj (by omega)
    have g2 : j < 7 := by omega
    have f1 : hi_ h6 (a + 1) j = w j := (X6.in_ g2).trans (s3i j g2)
    have f2 : hi_ h6 (a + 2) j = rs_ T w j := (X6.re g2).trans (s3r j hj)
    have hdx : dX T w sd still j = (!still && (decide (0 ≤ w j) && decide (de_ T ≤ rs_ T w j) && dieX T (st3 T w (ns_ T)) sd j)) := by
      unfold dX dies_ dieX
      rw [s3r j hj, s3w]
    rw [hdx]
    generalize itn j (fun g b => bif dX T w sd still g then b ||| 2 ^ g else b) 0 = B
    refine (e138_224).trans ?_
    by_cases q1 : 0 ≤ w j
    · have q1' : ¬ w j < 0 := Int32.not_lt.mpr q1
      by_cases q2 : de_ T ≤ rs_ T w j
      · have q2' : ¬ rs_ T w j < de_ T := Int32.not_lt.mpr q2
        cases hst : still with
        | true =>
          have kf : hk_ h6 f = (9, 0) := by rw [hf6.2, hst]; rfl
          simp only [e138_226, e138_227, e138_230, e138_233, e138_236, e138_238, e138_239, e138_242, e138_244, e138_245, e138_248, e138_249, e138_252, e138_254, e138_255, e138_256, e138_259, e138_262, e138_263, e138_264, e138_265, e138_267_8, e138_267_9, e138_270, e138_273, e138_274, e138_276, e138_277, e138_280, e138_281, e138_282, e138_284, e138_287, hs_k hH6, hs_p53 hH6, hs_k1 hH6, hs_p54 hH6, hs_k2 hH6, hs_p55 hH6, hs_k3 hH6, hs_p61 hH6, hs_k4 hH6, hs_p62 hH6, hs_k5 hH6, ↓reduceIte, Nat.reduceAdd, Nat.reduceLeDiff, Nat.reduceLT, Nat.reduceEqDiff, not_false_eq_true, false_or, true_or, or_true, or_false, n0_e, n1_ne, n1_11, bI_1, bI_fo, va_rf_some, aBk_1, aBk_0, nI_add, nI_mul, hk_si, hp_si, hl_si, hk_sp, hk_sl, hk_cp, hp_cp, hT6.ktx, hT6.p45, hT6.kga, x_size hT6.G, g1, g2, f1, f2, hT6.de, q1', q2', kf, x_spared, bI_z, nI_or, Nat.or_zero, Bool.not_true, Bool.false_and, cond_false]
        | false =>
          have kf : hk_ h6 f = (8, 0) := by rw [hf6.2, hst]; rfl
          have ed := fun d f => x_drawn (d := d) (f := f) hT6 X6 g2
          cases q3 : dieX T (st3 T w (ns_ T)) sd j with
          | true => simp only [e138_226, e138_227, e138_230, e138_233, e138_236, e138_238, e138_239, e138_242, e138_244, e138_245, e138_248, e138_249, e138_252, e138_254, e138_255, e138_256, e138_259, e138_262, e138_263, e138_264, e138_265, e138_267_8, e138_267_9, e138_270, e138_273, e138_274, e138_276, e138_277, e138_280, e138_281, e138_282, e138_284, e138_287, hs_k hH6, hs_p53 hH6, hs_k1 hH6, hs_p54 hH6, hs_k2 hH6, hs_p55 hH6, hs_k3 hH6, hs_p61 hH6, hs_k4 hH6, hs_p62 hH6, hs_k5 hH6, ↓reduceIte, Nat.reduceAdd, Nat.reduceLeDiff, Nat.reduceLT, Nat.reduceEqDiff, not_false_eq_true, false_or, true_or, or_true, or_false, n0_e, n1_ne, n1_11, bI_1, bI_fo, va_rf_some, aBk_1, aBk_0, nI_add, nI_mul, hk_si, hp_si, hl_si, hk_sp, hk_sl, hk_cp, hp_cp, hT6.ktx, hT6.p45, hT6.kga, x_size hT6.G, g1, g2, f1, f2, hT6.de, q1, q2, q1', q2', kf, ed, q3, bI_z, reduceCtorEq, shl_1 j (show j < 32 by omega), nI_or, decide_true, Bool.not_false, Bool.and_self, cond_true]
          | false => simp only [e138_226, e138_227, e138_230, e138_233, e138_236, e138_238, e138_239, e138_242, e138_244, e138_245, e138_248, e138_249, e138_252, e138_254, e138_255, e138_256, e138_259, e138_262, e138_263, e138_264, e138_265, e138_267_8, e138_267_9, e138_270, e138_273, e138_274, e138_276, e138_277, e138_280, e138_281, e138_282, e138_284, e138_287, hs_k hH6, hs_p53 hH6, hs_k1 hH6, hs_p54 hH6, hs_k2 hH6, hs_p55 hH6, hs_k3 hH6, hs_p61 hH6, hs_k4 hH6, hs_p62 hH6, hs_k5 hH6, ↓reduceIte, Nat.reduceAdd, Nat.reduceLeDiff, Nat.reduceLT, Nat.reduceEqDiff, not_false_eq_true, false_or, true_or, or_true, or_false, n0_e, n1_ne, n1_11, bI_1, bI_fo, va_rf_some, aBk_1, aBk_0, nI_add, nI_mul, hk_si, hp_si, hl_si, hk_sp, hk_sl, hk_cp, hp_cp, hT6.ktx, hT6.p45, hT6.kga, x_size hT6.G, g1, g2, f1, f2, hT6.de, q1, q2, q1', q2', kf, ed, q3, bI_z, reduceCtorEq, nI_or, Nat.or_zero, decide_true, Bool.not_false, Bool.and_self, Bool.and_false, cond_false]
      · have q2' : rs_ T w j < de_ T := Int32.not_le.mp q2
        simp only [e138_226, e138_227, e138_230, e138_233, e138_236, e138_238, e138_239, e138_242, e138_244, e138_245, e138_248, e138_249, e138_252, e138_254, e138_255, e138_256, e138_259, e138_262, e138_263, e138_264, e138_265, e138_267_8, e138_267_9, e138_270, e138_273, e138_274, e138_276, e138_277, e138_280, e138_281, e138_282, e138_284, e138_287, hs_k hH6, hs_p53 hH6, hs_k1 hH6, hs_p54 hH6, hs_k2 hH6, hs_p55 hH6, hs_k3 hH6, hs_p61 hH6, hs_k4 hH6, hs_p62 hH6, hs_k5 hH6, ↓reduceIte, Nat.reduceAdd, Nat.reduceLeDiff, Nat.reduceLT, Nat.reduceEqDiff, not_false_eq_true, false_or, true_or, or_true, or_false, n0_e, n1_ne, n1_11, bI_z, bI_1, bI_fo, va_rf_some, aBk_1, aBk_0, nI_add, nI_mul, hk_si, hp_si, hl_si, hk_sp, hk_sl, hk_cp, hp_cp, hT6.ktx, hT6.p45, hT6.kga, x_size hT6.G, g1, g2, f1, f2, hT6.de, q1, q2, q1', q2', nI_or, Nat.or_zero, decide_true, decide_false, Bool.and_false, Bool.false_and, cond_false]
    · have q1' : w j < 0 := Int32.not_le.mp q1
      simp only [e138_226, e138_227, e138_230, e138_233, e138_236, e138_238, e138_239, e138_242, e138_244, e138_245, e138_248, e138_249, e138_252, e138_254, e138_255, e138_256, e138_259, e138_262, e138_263, e138_264, e138_265, e138_267_8, e138_267_9, e138_270, e138_273, e138_274, e138_276, e138_277, e138_280, e138_281, e138_282, e138_284, e138_287, hs_k hH6, hs_p53 hH6, hs_k1 hH6, hs_p54 hH6, hs_k2 hH6, hs_p55 hH6, hs_k3 hH6, hs_p61 hH6, hs_k4 hH6, hs_p62 hH6, hs_k5 hH6, ↓reduceIte, Nat.reduceAdd, Nat.reduceLeDiff, Nat.reduceLT, Nat.reduceEqDiff, not_false_eq_true, false_or, true_or, or_true, or_false, n0_e, n1_ne, n1_11, bI_z, bI_1, bI_fo, va_rf_some, aBk_1, aBk_0, nI_add, nI_mul, hk_si, hp_si, hl_si, hk_sp, hk_sl, hk_cp, hp_cp, hT6.ktx, hT6.p45, hT6.kga, x_size hT6.G, g1, g2, f1, q1, q1', nI_or, Nat.or_zero, decide_false, Bool.and_false, Bool.false_and, cond_false]
  -- the dead
  have s3d : ∀ g, g < 7 → st3 T w (ns_ T) (14 + g) = w (14 + g) := fun g hg => by
    unfold st3 st2 st1 up_
    rw [if_neg (by omega), if_neg (by omega), if_neg (by omega)]
  have hD : dB_ (st4x T w sd still 0) = dB_ (st3 T w (ns_ T)) ||| orN (ng_ T) (dX T w sd still) := by
    apply Nat.eq_of_testBit_eq
    intro i
    rw [Nat.testBit_or]
    unfold dB_
    rw [orN_bit, orN_bit, orN_bit]
    by_cases q : i < 7
    · rw [decide_eq_true q, Bool.true_and, Bool.true_and]
      unfold st4x
      rw [if_neg (by omega)]
      by_cases q2 : dX T w sd still i = true ∧ i < ng_ T
      · have := dX_iff.mp q2.1
        rw [if_pos ⟨by omega, by omega, this.1, by rw [Nat.add_sub_cancel_left]; exact this.2⟩, q2.1, decide_eq_true q2.2]
        simp [n1_ne]
      · rw [if_neg (fun z => q2 ⟨dX_iff.mpr ⟨z.2.2.1, by have := z.2.2.2; rw [Nat.add_sub_cancel_left] at this; exact this⟩, by omega⟩)]
        have : (decide (i < ng_ T) && dX T w sd still i) = false := by
          cases hh : dX T w sd still i with
          | false => simp
          | true =>
            have : ¬ i < ng_ T := fun z => q2 ⟨hh, z⟩
            simp [this]
        rw [this, Bool.or_false]
    · rw [decide_eq_false q, decide_eq_false (show ¬ i < ng_ T by omega)]
      rfl
  have X7 : XH (si_ h6 a 56 (nI (dB_ (st4x T w sd still 0)))) a (st4x T w sd still 0) sd := by
    have e : ∀ k, (k < 14 ∨ 21 ≤ k) → st4x T w sd still 0 k = st3 T w (ns_ T) k := fun k hk => by
      unfold st4x
      rw [if_neg (by omega), if_neg (by omega)]
    refine ⟨hH6.on (On.si (S := fun _ _ => True) trivial), fun k hk => ?_, fun k hk => ?_, fun s hs => ?_, ?_, ?_, ?_, ?_, ?_⟩
    · rw [hi_si, if_neg (by omega), e _ (by omega)]; exact X6.in_ hk
    · rw [hi_si, if_neg (by omega), e _ (by omega)]; exact X6.re hk
    · rw [hi_si, if_neg (by omega), e _ (by omega)]; exact X6.wo hs
    · rw [hi_si, if_pos ⟨rfl, rfl⟩]
    · rw [hi_si, if_neg (by omega), X6.so, oB_congr (fun k hk => (e (25 + k) (by omega)).symm)]
    · rw [hi_si, if_neg (by omega), e _ (by omega)]; exact X6.we
    · rw [hi_si, if_neg (by omega), e _ (by omega)]; exact X6.mo
    · rw [hi_si, if_neg (by omega)]; exact X6.se
  have o7 : On (fun z y => a ≤ z ∧ z ≤ a + 3) h3 (si_ h6 a 56 (nI (dB_ (st4x T w sd still 0)))) := o6.trans (On.si ⟨by omega, by omega⟩)
  have hB : orN (ng_ T) (dX T w sd still) < 2 ^ 31 := orN_31 h7
  -- put out
  obtain ⟨h8, e8, o8, X8⟩ := run_invd (F := fun d j x => (run (d + 406) 138 304 [.ref a, .ref tx, .ref f, .int (due_ T w), .int (nI (orN (ng_ T) (dX T w sd still))), .int (nI j)] [] x)) (I := fun j x => On (fun z y => a ≤ z ∧ z ≤ a + 3) h3 x ∧ XH x a (st4x T w sd still j) sd) (n := ng_ T) (x := si_ h6 a 56 (nI (dB_ (st4x T w sd still 0)))) ⟨o7, X7⟩ (fun j x hj hI => by
    obtain ⟨o, hXx⟩ := hI
    have hTx := hT3.on o wB
    have hH1 := hXx.s
    have g1 : ¬ nI (ng_ T) ≤ nI j := nI_ge hj (by omega)
    have g2 : j < 7 := by omega
    have eb := bitI (p := dX T w sd still) (B := orN (ng_ T) (dX T w sd still)) (n := ng_ T) rfl (by omega) hj
    cases q : dX T w sd still j with
    | true =>
      have hq := dX_iff.mp q
      refine ⟨si_ x (a + 1) j (-2), fun d => ?_, o.trans (On.si ⟨by omega, by omega⟩), (hXx.upI g2).congr (fun k hk => ?_)⟩
      · refine (e138_304).trans ?_
        simp only [e138_306, e138_307, e138_310, e138_313, e138_316, e138_318, e138_320, e138_321, e138_322, e138_323, e138_324, e138_327, e138_328, e138_331, e138_333, e138_335, e138_336, e138_339, hs_k hH1, hs_p53 hH1, hs_k1 hH1, hs_p54 hH1, hs_k2 hH1, hs_p55 hH1, hs_k3 hH1, hs_p61 hH1, hs_k4 hH1, hs_p62 hH1, hs_k5 hH1, ↓reduceIte, Nat.reduceAdd, Nat.reduceLeDiff, Nat.reduceLT, Nat.reduceEqDiff, not_false_eq_true, false_or, true_or, or_true, or_false, n0_e, n1_ne, n1_11, bI_z, bI_1, bI_fo, va_rf_some, aBk_1, aBk_0, nI_add, nI_mul, hk_si, hp_si, hl_si, hk_sp, hk_sl, hk_cp, hp_cp, hTx.ktx, hTx.p45, hTx.kga, x_size hTx.G, g1, g2, eb, q, g64_0 ha, g64_1 ha, g64_2 ha, g64_3 ha, g64_4 ha, g64_5 ha, g64_6 ha, g64_7 ha]
      · unfold up_
        by_cases b1 : k = j
        · rw [if_pos b1]
          unfold st4x
          rw [b1, if_pos ⟨by omega, hq⟩]
        · rw [if_neg b1]
          unfold st4x
          have c1 : (k < j + 1) = (k < j) := propext (by omega)
          simp only [c1]
    | false =>
      refine ⟨x, fun d => ?_, o, hXx.congr (fun k hk => ?_)⟩
      · refine (e138_304).trans ?_
        simp only [e138_306, e138_307, e138_310, e138_313, e138_316, e138_318, e138_320, e138_321, e138_322, e138_323, e138_324, e138_327, e138_328, e138_331, e138_333, e138_335, e138_336, e138_339, hs_k hH1, hs_p53 hH1, hs_k1 hH1, hs_p54 hH1, hs_k2 hH1, hs_p55 hH1, hs_k3 hH1, hs_p61 hH1, hs_k4 hH1, hs_p62 hH1, hs_k5 hH1, ↓reduceIte, Nat.reduceAdd, Nat.reduceLeDiff, Nat.reduceLT, Nat.reduceEqDiff, not_false_eq_true, false_or, true_or, or_true, or_false, n0_e, n1_ne, n1_11, bI_z, bI_1, bI_fo, va_rf_some, aBk_1, aBk_0, nI_add, nI_mul, hk_si, hp_si, hl_si, hk_sp, hk_sl, hk_cp, hp_cp, hTx.ktx, hTx.p45, hTx.kga, x_size hTx.G, g1, g2, eb, q, reduceCtorEq]
      · unfold st4x
        by_cases b1 : k = j
        · rw [b1]
          have n1 : ¬ (j < j ∧ still = false ∧ dies_ T w sd j = true) := fun z => absurd z.1 (Nat.lt_irrefl j)
          have n2 : ¬ (j < j + 1 ∧ still = false ∧ dies_ T w sd j = true) := fun z => by rw [dX_iff.mpr z.2] at q; cases q
          rw [if_neg n1, if_neg n2]
        · have c1 : (k < j + 1) = (k < j) := propext (by omega)
          simp only [c1])
  have hT8 := hT3.on o8 wB
  have hH8 := X8.s
  have s9 : st4x T w sd still (ng_ T) 29 = w 29 := by
    unfold st4x
    rw [if_neg (by omega), if_neg (by omega)]
    exact s3w
  have e58 : hi_ h8 a 58 = w 29 := X8.we.trans s9
  have s30 : hi_ h3 a 59 = w 30 := hX3.mo
  have e56 : hi_ h6 a 56 = nI (dB_ (st3 T w (ns_ T))) := X6.de
  refine ⟨si_ h8 a 58 (w 29 + nI 1), fun d => ?_, ?_, X8.upK.congr (st5_ hV)⟩
  · simp only [e138_0, e138_1, e138_2, e138_5, e138_6, e138_7, e138_9, e138_10, hs_k hH, hs_p53 hH, hs_k1 hH, hs_p54 hH, hs_k2 hH, hs_p55 hH, hs_k3 hH, hs_p61 hH, hs_k4 hH, hs_p62 hH, hs_k5 hH, ↓reduceIte, Nat.reduceAdd, Nat.reduceLeDiff, Nat.reduceLT, Nat.reduceEqDiff, not_false_eq_true, false_or, true_or, or_true, or_false, n0_e, n1_ne, n1_11, bI_z, bI_1, bI_fo, va_rf_some, aBk_1, aBk_0, nI_add, nI_mul, hk_si, hp_si, hl_si, hk_sp, hk_sl, hk_cp, hp_cp, e1]
    refine (e2 d).trans ?_
    refine (e138_12).trans ?_
    simp only [e138_14, e138_15, e138_18, e138_21, e138_24, e138_25, e138_28, e138_30, e138_31, e138_32, e138_34, e138_37, e138_38, e138_41, e138_44, e138_45, ↓reduceIte, Nat.reduceAdd, Nat.reduceLeDiff, Nat.reduceLT, Nat.reduceEqDiff, not_false_eq_true, false_or, true_or, or_true, or_false, n0_e, n1_ne, n1_11, bI_z, bI_1, bI_fo, va_rf_some, aBk_1, aBk_0, nI_add, nI_mul, hk_si, hp_si, hl_si, hk_sp, hk_sl, hk_cp, hp_cp, hT2.ktx, hT2.p45, hT2.kga, x_size hT2.G, Int32.le_refl]
    refine (e3 d).trans ?_
    refine (e138_47).trans ?_
    simp only [e138_49, e138_50, e138_53, e138_56, e138_59, e138_60, e138_63, e138_65, e138_66, e138_67, e138_69, e138_72, e138_73, e138_76, e138_79, e138_80, e138_81, e138_84, e138_85, e138_86, e138_89, e138_90, hs_k hH3, hs_p53 hH3, hs_k1 hH3, hs_p54 hH3, hs_k2 hH3, hs_p55 hH3, hs_k3 hH3, hs_p61 hH3, hs_k4 hH3, hs_p62 hH3, hs_k5 hH3, ↓reduceIte, Nat.reduceAdd, Nat.reduceLeDiff, Nat.reduceLT, Nat.reduceEqDiff, not_false_eq_true, false_or, true_or, or_true, or_false, n0_e, n1_ne, n1_11, bI_z, bI_1, bI_fo, va_rf_some, aBk_1, aBk_0, nI_add, nI_mul, hk_si, hp_si, hl_si, hk_sp, hk_sl, hk_cp, hp_cp, hT3.ktx, hT3.p44, hT3.ksa, x_size hT3.S, Int32.le_refl, s30, g64_0 ha, g64_1 ha, g64_2 ha, g64_3 ha, g64_4 ha, g64_5 ha, g64_6 ha, g64_7 ha]
    refine (e5 d).trans ?_
    refine (e138_92).trans ?_
    simp only [e138_94, e138_95, e138_98, e138_101, e138_104, e138_105, e138_107, e138_110, e138_113, e138_114, e138_117, e138_119, e138_120, e138_123, e138_125, e138_126, e138_129, e138_130, e138_131, e138_134, e138_136, e138_137, e138_138, e138_139, e138_142, e138_145, e138_148, e138_149, e138_152, e138_154, e138_155, e138_156, e138_159, e138_161, e138_162, e138_163, e138_166, e138_167, e138_170, e138_173, e138_174, hs_k hH5, hs_p53 hH5, hs_k1 hH5, hs_p54 hH5, hs_k2 hH5, hs_p55 hH5, hs_k3 hH5, hs_p61 hH5, hs_k4 hH5, hs_p62 hH5, hs_k5 hH5, ↓reduceIte, Nat.reduceAdd, Nat.reduceLeDiff, Nat.reduceLT, Nat.reduceEqDiff, not_false_eq_true, false_or, true_or, or_true, or_false, n0_e, n1_ne, n1_11, bI_z, bI_1, bI_fo, va_rf_some, aBk_1, aBk_0, nI_add, nI_mul, hk_si, hp_si, hl_si, hk_sp, hk_sl, hk_cp, hp_cp, hT5.ktx, hT5.p45, hT5.kga, x_size hT5.G, Int32.le_refl]
    refine (e6 d).trans ?_
    refine (e138_176).trans ?_
    simp only [e138_178, e138_179, e138_182, e138_185, e138_188, e138_189, e138_192, e138_194, e138_196, e138_197, e138_200, e138_202, e138_203, e138_204, e138_207, e138_209, e138_210, e138_211, e138_214, e138_215, e138_218, e138_221, e138_222, hs_k hH6, hs_p53 hH6, hs_k1 hH6, hs_p54 hH6, hs_k2 hH6, hs_p55 hH6, hs_k3 hH6, hs_p61 hH6, hs_k4 hH6, hs_p62 hH6, hs_k5 hH6, ↓reduceIte, Nat.reduceAdd, Nat.reduceLeDiff, Nat.reduceLT, Nat.reduceEqDiff, not_false_eq_true, false_or, true_or, or_true, or_false, n0_e, n1_ne, n1_11, bI_z, bI_1, bI_fo, va_rf_some, aBk_1, aBk_0, nI_add, nI_mul, hk_si, hp_si, hl_si, hk_sp, hk_sl, hk_cp, hp_cp, hT6.ktx, hT6.p44, hT6.ksa, x_size hT6.S, Int32.le_refl]
    refine (e7 d).trans ?_
    refine (e138_224).trans ?_
    simp only [e138_226, e138_227, e138_230, e138_233, e138_236, e138_238, e138_239, e138_242, e138_244, e138_245, e138_248, e138_249, e138_252, e138_254, e138_255, e138_256, e138_259, e138_262, e138_263, e138_264, e138_265, e138_267_8, e138_267_9, e138_270, e138_273, e138_274, e138_276, e138_277, e138_280, e138_281, e138_282, e138_284, e138_287, e138_290, e138_291, e138_292, e138_295, e138_297, e138_298, e138_301, e138_302, hs_k hH6, hs_p53 hH6, hs_k1 hH6, hs_p54 hH6, hs_k2 hH6, hs_p55 hH6, hs_k3 hH6, hs_p61 hH6, hs_k4 hH6, hs_p62 hH6, hs_k5 hH6, ↓reduceIte, Nat.reduceAdd, Nat.reduceLeDiff, Nat.reduceLT, Nat.reduceEqDiff, not_false_eq_true, false_or, true_or, or_true, or_false, n0_e, n1_ne, n1_11, bI_z, bI_1, bI_fo, va_rf_some, aBk_1, aBk_0, nI_add, nI_mul, hk_si, hp_si, hl_si, hk_sp, hk_sl, hk_cp, hp_cp, hT6.ktx, hT6.p45, hT6.kga, x_size hT6.G, Int32.le_refl, e56, nI_or, g64_0 ha, g64_1 ha, g64_2 ha, g64_3 ha, g64_4 ha, g64_5 ha, g64_6 ha, g64_7 ha]
    rw [← hD]
    refine (e8 d).trans ?_
    refine (e138_304).trans ?_
    simp only [e138_306, e138_307, e138_310, e138_313, e138_316, e138_318, e138_320, e138_321, e138_322, e138_323, e138_324, e138_327, e138_328, e138_331, e138_333, e138_335, e138_336, e138_339, e138_342, e138_343, e138_344, e138_347, e138_348, e138_349, e138_352, hs_k hH8, hs_p53 hH8, hs_k1 hH8, hs_p54 hH8, hs_k2 hH8, hs_p55 hH8, hs_k3 hH8, hs_p61 hH8, hs_k4 hH8, hs_p62 hH8, hs_k5 hH8, ↓reduceIte, Nat.reduceAdd, Nat.reduceLeDiff, Nat.reduceLT, Nat.reduceEqDiff, not_false_eq_true, false_or, true_or, or_true, or_false, n0_e, n1_ne, n1_11, bI_z, bI_1, bI_fo, va_rf_some, aBk_1, aBk_0, nI_add, nI_mul, hk_si, hp_si, hl_si, hk_sp, hk_sl, hk_cp, hp_cp, hT8.ktx, hT8.p45, hT8.kga, x_size hT8.G, Int32.le_refl, e58, g64_0 ha, g64_1 ha, g64_2 ha, g64_3 ha, g64_4 ha, g64_5 ha, g64_6 ha, g64_7 ha]
  · have t2 : On (HA a) h h3 := (o1.trans (o2.mono (fun z y q => by unfold HE at q; unfold HA; omega))).trans (o3.mono (fun z y q => by unfold HE at q; unfold HA; omega))
    exact (t2.trans (o8.mono (fun z y q => by unfold HA; omega))).trans (On.si ⟨by omega, by omega⟩)
end X5
