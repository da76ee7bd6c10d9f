set_option maxRecDepth 100000
/-! STRINGS: built and compared -/
theorem e281_3n {d : Nat} {a0 a1 : Value} {x0 : Nat} {o : Nat} {h : aH} (hκ : (hk_ h o).1 < 98) : run (d + 1) 281 3 [a0, a1] [.null, .ref x0, .ref o] h = aBk (d + 1) 281 3 [a0, a1] [] false (run d 282 0 [.ref o, .ref x0, .null, aU, aU] [] h) := (run_act (c281_3)).trans (e_spec (m := 2) (ν := 282) (as := [.ref x0, .null]) (rest := []) (md := 1) (κ := 0) rfl rfl rfl hκ rfl rfl)
theorem i8_c : ∀ c, c < 128 → (nI c).toInt8.toInt32 = nI c := by decide
theorem u16_c : ∀ c, c < 256 → ((nI c).toUInt32 % 65536).toInt32 = nI c := by decide
/-- a string builder at b, its bytes at v -/
def SBR (h : aH) (b v : Nat) (w : Nat → Nat) (m : Nat) : Prop := (504 ≤ b ∧ hk_ h b = (17, 0) ∧ hi_ h b 150 = nI 0 ∧ hi_ h b 152 = nI m ∧ hp_ h b 149 = some v) ∧ (504 ≤ v ∧ hk_ h v = (101, 16) ∧ v ≠ b) ∧ m ≤ 8 ∧ ∀ i, i < m → hi_ h v i = nI (w i) ∧ w i < 128
/-- a string at a -/
def StR (h : aH) (a : Nat) (w : Nat → Nat) (m : Nat) : Prop := 504 ≤ a ∧ hk_ h a = (11, 0) ∧ hi_ h a 134 = nI 0 ∧ m ≤ 8 ∧ ∃ v, 504 ≤ v ∧ hp_ h a 133 = some v ∧ hk_ h v = (101, m) ∧ ∀ i, i < m → hi_ h v i = nI (w i) ∧ w i < 128
section STs
variable {d : Nat} {h h' : aH} {w : Nat → Nat} {m b v : Nat}
theorem sb_init (hF : FZ h) (hk : hk_ h b = (17, 0)) (hb : 504 ≤ b) (hi : hi_ h b 152 = 0) : ∃ h', (∀ d, (run (d + 3) 322 0 [.ref b] [] h) = some (.returned none, h')) ∧ OA 1 16 (fun a _ => a = b) (fun a _ => a = b) h h' ∧ FZ h' ∧ SBR h' b (hz_ h) w 0 := by
  have bl := hF.lt hk (by decide)
  have h6 : 64 ≤ b := by omega
  have h98 : (17 : Nat) < 98 := by decide
  have o1 : OA (0 + 1) (0 + 16) (fun a _ => a = b) (fun a _ => a = b) h (nw_ h 101 16 16) := OA.refl.nw
  have k1 : hk_ (nw_ h 101 16 16) b = (17, 0) := (o1.k bl).trans hk
  have o3 := (o1.sps (x := b) (f := 149) (v := some (hz_ h)) rfl).sis (x := b) (f := 150) (v := nI 0) rfl
  have F3 := ((hF.nw (κ := 101) (n := 16) (u := 16)).sp (x := b) (f := 149) (v := some (hz_ h)) (Nat.lt_succ_of_lt bl)).si (x := b) (f := 150) (v := nI 0) (Nat.lt_succ_of_lt bl)
  have m16 : (16 : Nat) ≤ 1000000 := by decide
  have i0 : (nI 0).toInt8.toInt32 = nI 0 := by decide
  have e1 : ∀ d, (run (d + 2) 314 0 [.ref b, .int (nI 16)] [] h) = some (.returned none, si_ (sp_ (nw_ h 101 16 16) b 149 (some (hz_ h))) b 150 (nI 0)) := fun d => by
    simp only [e314_0, e314_1, e314_4, e314_7, e314_10, e314_11, e314_12, e314_14, e314_14n, e314_17, e314_18, e314_19, e314_22, e314_25, e314_26, e314_27, e314_30, e314_30n, e314_33, e314_34, e314_35, e314_38, ↓reduceIte, Nat.reduceAdd, Nat.reduceLeDiff, Nat.reduceLT, Nat.reduceEqDiff, not_false_eq_true, false_or, true_or, or_true, or_false, n0_e, n1_ne, n1_11, bI_z, bI_1, bI_fo, va_rf_some, aBk_1, aBk_0, nI_add, nI_mul, hk_si, hp_si, hl_si, hk_sp, hk_sl, hk_cp, hp_cp, hk, k1, h98, h6, m16, i0]
  refine ⟨_, fun d => ?_, o3, F3, ⟨hb, k1, hi_same, ?_, if_pos ⟨rfl, rfl⟩⟩, ⟨hF.1, if_pos rfl, by omega⟩, Nat.zero_le _, fun i hi => absurd hi (Nat.not_lt_zero i)⟩
  · simp only [e322_0, e322_1, e322_3, e322_6, ↓reduceIte, Nat.reduceAdd, Nat.reduceLeDiff, Nat.reduceLT, Nat.reduceEqDiff, not_false_eq_true, false_or, true_or, or_true, or_false, n0_e, n1_ne, n1_11, bI_z, bI_1, bI_fo, va_rf_some, aBk_1, aBk_0, nI_add, nI_mul, hk_si, hp_si, hl_si, hk_sp, hk_sl, hk_cp, hp_cp, hk, h98, e1]
  · show hi_ (si_ (sp_ (nw_ h 101 16 16) b 149 (some (hz_ h))) b 150 (nI 0)) b 152 = _
    rw [hi_ne (by omega)]
    exact hi.trans nI_0.symm
theorem sb_append (hF : FZ h) (hS : SBR h b v w m) (hm : m < 8) (hc : w m < 128) : ∃ h', (∀ d, (run (d + 7) 323 0 [.ref b, .int (nI (w m))] [] h) = some (.returned (some (.ref b)), h')) ∧ OA 0 0 (fun a _ => a = b ∨ a = v) NPx h h' ∧ FZ h' ∧ SBR h' b v w (m + 1) := by
  obtain ⟨⟨a1, a2, a3, a4, a5⟩, ⟨b1, b2, b3⟩, c1, c2⟩ := hS
  have bl := hF.lt a2 (by decide)
  have vl := hF.lt b2 (by decide)
  have h6 : 64 ≤ b := by omega
  have v6 : 64 ≤ v := by omega
  have n101 : (100 : Nat) ≤ 101 := by decide
  have e0 : shr_ (nI 16) (nI 0) = nI 16 := by decide
  have e1 : nI (m + 1) - nI 16 ≤ 0 := by
    rw [Int32.le_iff_toInt_le, ti_sub (by rw [nI_toInt (by omega), nI_toInt (by decide)]; omega) (by rw [nI_toInt (by omega), nI_toInt (by decide)]; omega), nI_toInt (by omega), nI_toInt (by decide)]
    show ((m + 1 : Nat) : Int) - 16 ≤ 0
    omega
  have ec : ∀ d, (run (d + 3) 316 0 [.ref b, .int (nI (m + 1)), aU] [] h) = some (.returned none, h) := fun d => by
    simp only [e316_0, e316_1, e316_4, e316_5, e316_6, e316_9, e316_10, e316_11, e316_12, e316_13, e316_14, e316_17, e316_18, e316_19, e316_22, e316_23, e316_24, e316_27, e316_28, e316_31, e316_32, e316_35, e316_35n, e316_38, ↓reduceIte, Nat.reduceAdd, Nat.reduceLeDiff, Nat.reduceLT, Nat.reduceEqDiff, not_false_eq_true, false_or, true_or, or_true, or_false, n0_e, n1_ne, n1_11, bI_z, bI_1, bI_fo, va_rf_some, aBk_1, aBk_0, nI_add, nI_mul, hk_si, hp_si, hl_si, hk_sp, hk_sl, hk_cp, hp_cp, a2, a3, a5, b2, n101, e0, e1]
  have il : ∀ d, (run (d) 318 0 [.ref b] [] h) = some (.returned (some (.int (nI 1))), h) := fun d => by
    simp only [e318_0, e318_3, e318_6, e318_7, e318_10, e318_13, e318_14, e318_17, e318_18, ↓reduceIte, Nat.reduceAdd, Nat.reduceLeDiff, Nat.reduceLT, Nat.reduceEqDiff, not_false_eq_true, false_or, true_or, or_true, or_false, n0_e, n1_ne, n1_11, bI_z, bI_1, bI_fo, va_rf_some, aBk_1, aBk_0, nI_add, nI_mul, hk_si, hp_si, hl_si, hk_sp, hk_sl, hk_cp, hp_cp, a2, a3]
  have ce : ∀ d, (run (d) 285 0 [.int (nI (w m))] [] h) = some (.returned (some (.int (nI 1))), h) := fun d => by
    have g : ¬ nI 255 < nI (w m) := by rw [nI_ltL (by decide) (by omega)]; omega
    simp only [e285_0, e285_1, e285_4, e285_7, e285_8, e285_11, e285_12, ↓reduceIte, Nat.reduceAdd, Nat.reduceLeDiff, Nat.reduceLT, Nat.reduceEqDiff, not_false_eq_true, false_or, true_or, or_true, or_false, n0_e, n1_ne, n1_11, bI_z, bI_1, bI_fo, va_rf_some, aBk_1, aBk_0, nI_add, nI_mul, hk_si, hp_si, hl_si, hk_sp, hk_sl, hk_cp, hp_cp, g]
  have m16 : m < 16 := by omega
  have i8 := i8_c (w m) hc
  have ap : ∀ d, (run (d + 6) 315 0 [.ref b, .int (nI (w m))] [] h) = some (.returned (some (.ref b)), si_ (si_ h b 152 (nI (m + 1))) v m (nI (w m))) := fun d => by
    simp only [e315_0, e315_1, e315_2, e315_5, e315_6, e315_7, e315_10, e315_11, e315_14, e315_17, e315_18, e315_21, e315_24, e315_25, e315_28, e315_29, e315_30, e315_33, e315_34, e315_35, e315_36, e315_39, e315_40, e315_41, e315_41z, e315_42, e315_45, e315_46, e315_49, e315_52, e315_53, e315_56, e315_57, e315_60, e315_61, e315_62, e315_65, e315_66, e315_67, e315_68, e315_71, e315_72, e315_75, e315_76, ↓reduceIte, Nat.reduceAdd, Nat.reduceLeDiff, Nat.reduceLT, Nat.reduceEqDiff, not_false_eq_true, false_or, true_or, or_true, or_false, n0_e, n1_ne, n1_11, bI_z, bI_1, bI_fo, aBk_1, aBk_0, nI_add, nI_mul, hk_si, hp_si, hl_si, hk_sp, hk_sl, hk_cp, hp_cp, a2, a4, a5, b2, h6, v6, ec, il, ce, m16, i8, va_rf_some]
  have o1 : OA 0 0 (fun a _ => a = b ∨ a = v) NPx h (si_ (si_ h b 152 (nI (m + 1))) v m (nI (w m))) := (OA.refl.sis (Or.inl rfl)).sis (Or.inr rfl)
  refine ⟨_, fun d => ?_, o1, (hF.si bl).si vl, ⟨a1, a2, ?_, ?_, a5⟩, ⟨b1, b2, b3⟩, hm, fun i hi => ?_⟩
  · simp only [e323_0, e323_1, e323_2, e323_5, e323_6, e323_7, ↓reduceIte, Nat.reduceAdd, Nat.reduceLeDiff, Nat.reduceLT, Nat.reduceEqDiff, not_false_eq_true, false_or, true_or, or_true, or_false, n0_e, n1_ne, n1_11, bI_z, bI_1, bI_fo, va_rf_some, aBk_1, aBk_0, nI_add, nI_mul, hk_si, hp_si, hl_si, hk_sp, hk_sl, hk_cp, hp_cp, a2, ap]
  · rw [hi_ne (fun q => b3 q.1.symm), hi_ne (by omega)]; exact a3
  · rw [hi_ne (fun q => b3 q.1.symm)]; exact hi_same
  · by_cases q : i = m
    · rw [q]; exact ⟨hi_same, hc⟩
    · rw [hi_ne (fun z => q z.2), hi_ne (fun z => b3 z.1)]
      exact c2 i (by omega)
theorem sb_toString (hF : FZ h) (hS : SBR h b v w m) : ∃ h' a, (∀ d, (run (d + 7) 324 0 [.ref b] [] h) = some (.returned (some (.ref a)), h')) ∧ OA 2 12 NPx NPx h h' ∧ FZ h' ∧ StR h' a w m := by
  obtain ⟨⟨a1, a2, a3, a4, a5⟩, ⟨b1, b2, b3⟩, c1, c2⟩ := hS
  have bl := hF.lt a2 (by decide)
  have vl := hF.lt b2 (by decide)
  have z5 := hF.1
  have h98 : (11 : Nat) < 98 := by decide
  have z6 : 64 ≤ hz_ h := by omega
  -- the new string
  have o1 : OA (0 + 1) (0 + 4) NPx NPx h (nw_ h 11 0 4) := OA.refl.nw
  have F1 := hF.nw (κ := 11) (n := 0) (u := 4)
  have k1 : hk_ (nw_ h 11 0 4) (hz_ h) = (11, 0) := if_pos rfl
  have kb1 : hk_ (nw_ h 11 0 4) b = (17, 0) := (o1.k bl).trans a2
  have o2 := o1.sif (x := hz_ h) (f := 134) (v := nI 0) (Nat.le_refl _)
  have F2 := F1.si (x := hz_ h) (f := 134) (v := nI 0) (Nat.lt_succ_self _)
  generalize hg1 : nw_ h 11 0 4 = g1 at o1 F1 k1 kb1 o2 F2
  have zg1 : hz_ g1 = hz_ h + 1 := by rw [← hg1]; rfl
  have p1 : hp_ g1 b 149 = some v := (o1.p bl (fun q => q)).trans a5
  have i1 : hi_ g1 b 150 = nI 0 := (o1.i bl (fun q => q)).trans a3
  have i2 : hi_ g1 b 152 = nI m := (o1.i bl (fun q => q)).trans a4
  have gv : ∀ d, (run (d) 320 0 [.ref b] [] g1) = some (.returned (some (.ref v)), g1) := fun d => by
    simp only [e320_0, e320_1, e320_4, ↓reduceIte, Nat.reduceAdd, Nat.reduceLeDiff, Nat.reduceLT, Nat.reduceEqDiff, not_false_eq_true, false_or, true_or, or_true, or_false, n0_e, n1_ne, n1_11, bI_z, bI_1, bI_fo, aBk_1, aBk_0, nI_add, nI_mul, hk_si, hp_si, hl_si, hk_sp, hk_sl, hk_cp, hp_cp, kb1, p1, va_rf_some]
  have ln : ∀ d, (run (d + 1) 325 0 [.ref b] [] g1) = some (.returned (some (.int (nI m))), g1) := fun d => by
    have l2 : ∀ d, (run (d) 321 0 [.ref b] [] g1) = some (.returned (some (.int (nI m))), g1) := fun d => by
      simp only [e321_0, e321_1, e321_4, ↓reduceIte, Nat.reduceAdd, Nat.reduceLeDiff, Nat.reduceLT, Nat.reduceEqDiff, not_false_eq_true, false_or, true_or, or_true, or_false, n0_e, n1_ne, n1_11, bI_z, bI_1, bI_fo, va_rf_some, aBk_1, aBk_0, nI_add, nI_mul, hk_si, hp_si, hl_si, hk_sp, hk_sl, hk_cp, hp_cp, kb1, i2]
    simp only [e325_0, e325_1, e325_4, ↓reduceIte, Nat.reduceAdd, Nat.reduceLeDiff, Nat.reduceLT, Nat.reduceEqDiff, not_false_eq_true, false_or, true_or, or_true, or_false, n0_e, n1_ne, n1_11, bI_z, bI_1, bI_fo, va_rf_some, aBk_1, aBk_0, nI_add, nI_mul, hk_si, hp_si, hl_si, hk_sp, hk_sl, hk_cp, hp_cp, kb1, l2]
  have il : ∀ d, (run (d) 318 0 [.ref b] [] g1) = some (.returned (some (.int (nI 1))), g1) := fun d => by
    simp only [e318_0, e318_3, e318_6, e318_7, e318_10, e318_13, e318_14, e318_17, e318_18, ↓reduceIte, Nat.reduceAdd, Nat.reduceLeDiff, Nat.reduceLT, Nat.reduceEqDiff, not_false_eq_true, false_or, true_or, or_true, or_false, n0_e, n1_ne, n1_11, bI_z, bI_1, bI_fo, va_rf_some, aBk_1, aBk_0, nI_add, nI_mul, hk_si, hp_si, hl_si, hk_sp, hk_sl, hk_cp, hp_cp, kb1, i1]
  -- its bytes
  have kv2 : hk_ (si_ g1 (hz_ h) 134 (nI 0)) v = (101, 16) := (o2.k vl).trans b2
  have o3 := o2.nw (κ := 101) (n := m) (u := m)
  have F3 := F2.nw (κ := 101) (n := m) (u := m)
  have k3s : hk_ (si_ g1 (hz_ h) 134 (nI 0)) (hz_ h) = (11, 0) := k1
  have iv2 : ∀ i, i < m → hi_ (si_ g1 (hz_ h) 134 (nI 0)) v i = nI (w i) := fun i hi => (o2.i vl (fun q => q)).trans (c2 i hi).1
  have zz2 : hz_ (si_ g1 (hz_ h) 134 (nI 0)) = hz_ h + 1 := zg1
  generalize hg2 : si_ g1 (hz_ h) 134 (nI 0) = g2 at o2 F2 kv2 o3 F3 k3s iv2 zz2
  have k3 : hk_ (nw_ g2 101 m m) (hz_ h + 1) = (101, m) := by show (if hz_ h + 1 = hz_ g2 then _ else _) = _; rw [zz2, if_pos rfl]
  have kv3 : hk_ (nw_ g2 101 m m) v = (101, 16) := (o3.k vl).trans b2
  have iv3 : ∀ i, i < m → hi_ (nw_ g2 101 m m) v i = nI (w i) := iv2
  have ck : ∀ d, (run (d) 333 0 [.int (nI 0), .int (nI m)] [] g2) = some (.returned none, g2) := fun d => by
    have g : nI 0 ≤ nI m := by rw [nI_leL (by decide) (by omega)]; omega
    simp only [e333_0, e333_1, e333_2, e333_8, e333_12, e333_37, ↓reduceIte, Nat.reduceAdd, Nat.reduceLeDiff, Nat.reduceLT, Nat.reduceEqDiff, not_false_eq_true, false_or, true_or, or_true, or_false, n0_e, n1_ne, n1_11, bI_z, bI_1, bI_fo, va_rf_some, aBk_1, aBk_0, nI_add, nI_mul, hk_si, hp_si, hl_si, hk_sp, hk_sl, hk_cp, hp_cp, g]
  have s0 : nI m - nI 0 = nI m := nI_sub (Nat.zero_le _)
  have s1 : nI 16 - nI 0 = nI 16 := by decide
  have mn : min_ (nI 16) (nI m) = nI m := by unfold min_; rw [if_pos (by rw [nI_ltL (by omega) (by decide)]; omega)]
  have n101 : (100 : Nat) ≤ 101 := by decide
  have mm : m ≤ 1000000 := by omega
  have u6 : 64 ≤ hz_ h + 1 := by omega
  have vne : v ≠ hz_ h + 1 := by omega
  have bb : ∀ i, i < m → (hi_ (nw_ g2 101 m m) v (0 + i)).toInt8.toInt32 = hi_ (nw_ g2 101 m m) v (0 + i) := fun i hi => by
    rw [Nat.zero_add, iv3 i hi]; exact i8_c _ (c2 i hi).2
  have cc : cp_ (nw_ g2 101 m m) v 0 (hz_ h + 1) 0 m = cp_ (nw_ g2 101 m m) v 0 (hz_ h + 1) 0 m := rfl
  have cr : ∀ d, run d 332 27 [.ref v, .int (nI 0), .int (nI m), .int (nI m), .ref (hz_ h + 1)] [.int (nI m), .int (nI 0), .ref (hz_ h + 1), .int (nI 0), .ref v] (nw_ g2 101 m m) = run d 332 30 [.ref v, .int (nI 0), .int (nI m), .int (nI m), .ref (hz_ h + 1)] [] (cp_ (nw_ g2 101 m m) v 0 (hz_ h + 1) 0 m) := fun d => e332_27 u6 vne (by rw [kv3, k3]) (by rw [k3]; exact Or.inr ⟨rfl, bb⟩) (by rw [kv3]; show 0 + m ≤ 16; omega) (by rw [k3]; exact Nat.le_of_eq (Nat.zero_add m)) (by rw [kv3]; decide) (by rw [k3]; show m ≤ _; omega)
  have rb : ∀ d, (run (d + 1) 332 0 [.ref v, .int (nI 0), .int (nI m), aU, aU] [] g2) = some (.returned (some (.ref (hz_ h + 1))), cp_ (nw_ g2 101 m m) v 0 (hz_ h + 1) 0 m) := fun d => by
    simp only [e332_0, e332_1, e332_2, e332_5, e332_6, e332_7, e332_8, e332_9, e332_10, e332_12, e332_14, e332_15, e332_16, e332_18, e332_19, e332_20, e332_21, e332_22, e332_23, e332_24, e332_30, e332_32, ↓reduceIte, Nat.reduceAdd, Nat.reduceLeDiff, Nat.reduceLT, Nat.reduceEqDiff, not_false_eq_true, false_or, true_or, or_true, or_false, n0_e, n1_ne, n1_11, bI_z, bI_1, bI_fo, va_rf_some, aBk_1, aBk_0, nI_add, nI_mul, hk_si, hp_si, hl_si, hk_sp, hk_sl, hk_cp, hp_cp, ck, s0, s1, mm, kv3, n101, zz2, mn, cr]
  have ne16 : ¬ nI m = nI 16 := by rw [nI_eqL (by omega) (by decide)]; omega
  have cr2 : ∀ d, (run (d + 2) 331 0 [.ref v, .int (nI 0), .int (nI m)] [] g2) = some (.returned (some (.ref (hz_ h + 1))), cp_ (nw_ g2 101 m m) v 0 (hz_ h + 1) 0 m) := fun d => by
    simp only [e331_0, e331_1, e331_4, e331_5, e331_6, e331_7, e331_10, e331_11, e331_12, e331_13, e331_16, e331_17, e331_24, List.mem_cons, List.not_mem_nil, ↓reduceIte, Nat.reduceAdd, Nat.reduceLeDiff, Nat.reduceLT, Nat.reduceEqDiff, not_false_eq_true, false_or, true_or, or_true, or_false, n0_e, n1_ne, n1_11, bI_z, bI_1, bI_fo, va_rf_some, aBk_1, aBk_0, nI_add, nI_mul, hk_si, hp_si, hl_si, hk_sp, hk_sl, hk_cp, hp_cp, kv2, n101, ne16, rb]
  have o4 := o3.cpf (q := v) (qp := 0) (x := hz_ h + 1) (xp := 0) (n := m) (by omega)
  have F4 := F3.cp (q := v) (qp := 0) (x := hz_ h + 1) (xp := 0) (n := m) (by show _ < hz_ g2 + 1; omega)
  have k4 : hk_ (cp_ (nw_ g2 101 m m) v 0 (hz_ h + 1) 0 m) (hz_ h) = (11, 0) := by
    show (if hz_ h = hz_ g2 then _ else hk_ g2 (hz_ h)) = _
    rw [if_neg (by omega)]; exact k3s
  have k4u : hk_ (cp_ (nw_ g2 101 m m) v 0 (hz_ h + 1) 0 m) (hz_ h + 1) = (101, m) := k3
  have i4 : ∀ i, i < m → hi_ (cp_ (nw_ g2 101 m m) v 0 (hz_ h + 1) 0 m) (hz_ h + 1) i = nI (w i) := fun i hi => by
    show (if hz_ h + 1 = hz_ h + 1 ∧ 0 ≤ i ∧ i < 0 + m then hi_ (nw_ g2 101 m m) v (0 + (i - 0)) else _) = _
    rw [if_pos ⟨rfl, Nat.zero_le _, by omega⟩, Nat.zero_add]
    exact iv3 i hi
  have i4c : hi_ (cp_ (nw_ g2 101 m m) v 0 (hz_ h + 1) 0 m) (hz_ h) 134 = nI 0 := by
    show (if hz_ h = hz_ h + 1 ∧ _ then _ else hi_ g2 (hz_ h) 134) = _
    rw [if_neg (by omega), ← hg2]; exact hi_same
  generalize hg4 : cp_ (nw_ g2 101 m m) v 0 (hz_ h + 1) 0 m = g4 at o4 F4 k4 k4u i4 i4c cr2 rb
  have i0 : (nI 0).toInt8.toInt32 = nI 0 := by decide
  have in2 : ∀ d, (run (d + 5) 282 0 [.ref (hz_ h), .ref b, .null, aU, aU] [] g1) = some (.returned none, sp_ g4 (hz_ h) 133 (some (hz_ h + 1))) := fun d => by
    simp only [e282_0, e282_1, e282_4, e282_5, e282_8, e282_9, e282_10, e282_13, e282_15, e282_16, e282_19, e282_22, e282_23, e282_24, e282_28, e282_29, e282_30, e282_32, e282_35, e282_35n, e282_38, e282_41, e282_44, e282_47, e282_48, e282_51, e282_54, e282_55, e282_56, e282_57, e282_59, e282_62, e282_62n, e282_65, e282_66, e282_67, e282_70, e282_72, e282_75, e282_78, e282_79, e282_80, e282_81, e282_84, e282_85, e282_86, e282_87, e282_89, e282_90, e282_91, e282_94, e282_94n, e282_97, ↓reduceIte, Nat.reduceAdd, Nat.reduceLeDiff, Nat.reduceLT, Nat.reduceEqDiff, not_false_eq_true, false_or, true_or, or_true, or_false, n0_e, n1_ne, n1_11, bI_z, bI_1, bI_fo, va_rf_some, aBk_1, aBk_0, nI_add, nI_mul, hk_si, hp_si, hl_si, hk_sp, hk_sl, hk_cp, hp_cp, k1, kb1, h98, gv, ln, il, z6, i0]
    rw [hg2]
    simp only [e282_0, e282_1, e282_4, e282_5, e282_8, e282_9, e282_10, e282_13, e282_15, e282_16, e282_19, e282_22, e282_23, e282_24, e282_27, e282_28, e282_29, e282_30, e282_32, e282_35, e282_35n, e282_38, e282_41, e282_44, e282_47, e282_48, e282_51, e282_54, e282_55, e282_56, e282_57, e282_59, e282_62, e282_62n, e282_65, e282_66, e282_67, e282_70, e282_72, e282_75, e282_78, e282_79, e282_80, e282_81, e282_84, e282_85, e282_86, e282_87, e282_89, e282_90, e282_91, e282_94, e282_94n, e282_97, ↓reduceIte, Nat.reduceAdd, Nat.reduceLeDiff, Nat.reduceLT, Nat.reduceEqDiff, not_false_eq_true, false_or, true_or, or_true, or_false, n0_e, n1_ne, n1_11, bI_z, bI_1, bI_fo, va_rf_some, aBk_1, aBk_0, nI_add, nI_mul, hk_si, hp_si, hl_si, hk_sp, hk_sl, hk_cp, hp_cp, cr2, k4, z6]
  have in1 : ∀ d, (run (d + 6) 281 0 [.ref (hz_ h), .ref b] [] g1) = some (.returned none, sp_ g4 (hz_ h) 133 (some (hz_ h + 1))) := fun d => by
    simp only [e281_0, e281_1, e281_2, e281_3, e281_6, ↓reduceIte, Nat.reduceAdd, Nat.reduceLeDiff, Nat.reduceLT, Nat.reduceEqDiff, not_false_eq_true, false_or, true_or, or_true, or_false, n0_e, n1_ne, n1_11, bI_z, bI_1, bI_fo, va_rf_some, aBk_1, aBk_0, nI_add, nI_mul, hk_si, hp_si, hl_si, hk_sp, hk_sl, hk_cp, hp_cp, k1, h98, e281_3n, in2]
  have zz4 := o4.z
  refine ⟨sp_ g4 (hz_ h) 133 (some (hz_ h + 1)), hz_ h, fun d => ?_, (o4.spf (Nat.le_refl _)).le (by omega) (by omega), F4.sp (F4.lt k4 (by decide)), ⟨z5, k4, i4c, c1, hz_ h + 1, by omega, if_pos ⟨rfl, rfl⟩, k4u, fun i hi => ⟨i4 i hi, (c2 i hi).2⟩⟩⟩
  simp only [e324_0, e324_3, e324_4, e324_8, ↓reduceIte, Nat.reduceAdd, Nat.reduceLeDiff, Nat.reduceLT, Nat.reduceEqDiff, not_false_eq_true, false_or, true_or, or_true, or_false, n0_e, n1_ne, n1_11, bI_z, bI_1, bI_fo, va_rf_some, aBk_1, aBk_0, nI_add, nI_mul, hk_si, hp_si, hl_si, hk_sp, hk_sl, hk_cp, hp_cp]
  rw [hg1]
  simp only [e324_0, e324_3, e324_4, e324_5, e324_8, ↓reduceIte, Nat.reduceAdd, Nat.reduceLeDiff, Nat.reduceLT, Nat.reduceEqDiff, not_false_eq_true, false_or, true_or, or_true, or_false, n0_e, n1_ne, n1_11, bI_z, bI_1, bI_fo, va_rf_some, aBk_1, aBk_0, nI_add, nI_mul, hk_si, hp_si, hl_si, hk_sp, hk_sl, hk_cp, hp_cp, k1, h98, in1]
end STs
