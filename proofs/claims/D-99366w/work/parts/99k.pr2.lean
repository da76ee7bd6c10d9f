set_option maxRecDepth 100000
/-! X: reading (25): Tokens.read lays the tokens; a new text; Parser.read -/
section PR2
variable {d n : Nat} {h h' : aH} {β : Nat → Nat}
theorem kdz_kok {i : Nat} : kok (kdz β n i) := by
  unfold kdz kok
  by_cases q : n ≤ i
  · rw [if_pos q]; exact Or.inl (Nat.zero_le _)
  · rw [if_neg q]
    cases isL (β i) with
    | true =>
      show (if 8 < rl isL β i then 3 else kyz (nmN β i (rl isL β i))) ≤ 3 ∨ _ ∨ _
      split
      · exact Or.inl (Nat.le_refl _)
      · rcases kyz_b (nmN β i (rl isL β i)) with z | z
        · exact Or.inl (by rw [z]; decide)
        · exact Or.inr (Or.inr z)
    | false =>
      cases isD (β i) with
      | true =>
        show (if 4 < rl isD β i then 3 else 2) ≤ 3 ∨ _ ∨ _
        split
        · exact Or.inl (Nat.le_refl _)
        · exact Or.inl (by decide)
      | false =>
        show sgz (β i) ≤ 3 ∨ sgk (sgz (β i)) ∨ _
        rcases sgz_c (β i) with z | z
        · exact Or.inl (by rw [z]; decide)
        · exact Or.inr (Or.inl z.1)
theorem k_read (hX : XS h) (hV : BV β n) (hB : XBt h β n) (hW : WDx h) : ∃ h', (∀ d, (run (d + 6) 74 0 [.ref 66, aU, aU, aU, aU, aU, aU] [] h) = some (.returned none, h')) ∧ On KRF h h' ∧ XK h' (tz β n) (Nz β n) ∧ XV h' β n (Nz β n) := by
  have o0 : On KRF h (si_ h 66 36 (nI 0)) := On.si (Or.inr ⟨rfl, rfl⟩)
  have C0 : CSx (si_ h 66 36 (nI 0)) β n 0 0 := ⟨hX.on o0, hB.on o0, hW.on o0, hi_same, fun k hk => absurd hk (Nat.not_lt_zero k), Nat.le_refl _, Nat.zero_le _, rfl⟩
  obtain ⟨h1, J, e1, o1, f1, f2, f3⟩ := kr_loop hV (n + 1) 0 0 _ (by omega) C0
  have hNJ : ∀ j, j ≤ Nz β n → j < J := fun j hj => by
    by_cases q : J - 1 < Nz β n
    · obtain ⟨u1, u2⟩ := (Nz_b (β := β) (n := n)).2.1 (J - 1) q
      rcases f3 with z | z
      · exact absurd z u1
      · exact absurd z u2
    · omega
  have o01 := o0.trans o1
  refine ⟨h1, fun d => ?_, o01, fun j hj => ?_, (hB.on o01).1, (hB.on o01).2, fun j hj hk => ?_⟩
  · have e' := e1 aU aU aU aU d
    unfold krAt at e'
    simp only [e74_0, e74_1, e74_2, e74_5, e74_6, e74_7, e74_8, e74_10, e74_11, e74_14, e74_17, e74_18, e74_21, e74_22, e74_25, e74_26, e74_27, e74_28, e74_29, e74_30, e74_31, e74_33, e74_34, e74_36, e74_39, e74_40, e74_42, e74_45, e74_46, e74_48, e74_51, e74_52, e74_54, e74_57, e74_60, e74_63, e74_64, e74_66, e74_67, e74_68, e74_71, e74_74, e74_75, e74_77, e74_80, e74_83, e74_86, e74_89, e74_90, e74_91, e74_93, e74_96, e74_98, e74_100, e74_103, e74_104, e74_107, e74_109, e74_110, e74_111, e74_113, e74_116, e74_117, e74_120, e74_121, e74_123, e74_126, e74_127, e74_128, e74_131, e74_134, e74_135, e74_137, e74_140, e74_143, e74_146, e74_149, e74_151, e74_152, e74_153, e74_154, e74_157, e74_158, e74_161, e74_162, e74_164, e74_167, e74_168, e74_169, e74_172, e74_174, e74_176, e74_179, e74_180, e74_183, e74_184, e74_186, e74_187, e74_189, e74_190, e74_192, e74_194, e74_197, e74_199, e74_200, e74_203, e74_204, e74_207, e74_208, e74_209, e74_211, e74_212, e74_215, e74_216, e74_219, e74_220, e74_221, e74_222, e74_223, e74_224, e74_227, xk_64 hX, xk_66 hX, xp_30 hX, xk_68 hX, ↓reduceIte, Nat.reduceAdd, Nat.reduceLeDiff, Nat.reduceLT, Nat.reduceEqDiff, not_false_eq_true, false_or, true_or, or_true, or_false, n0_e, n1_ne, n1_11, bI_z, bI_1, bI_fo, va_rf_some, aBk_1, aBk_0, nI_add, nI_mul, hk_si, hp_si, hl_si, hk_sp, hk_sl, hk_cp, hp_cp, e']
  · obtain ⟨k1, k2, k3, k4, k5⟩ := f1 j (hNJ j hj)
    exact ⟨kdz_kok, k1, k2, k4, k5⟩
  · exact (f1 j (hNJ j hj)).2.2.1 (by rcases hk with z | z <;> omega)
theorem al_init {a : Nat} (hk : hk_ h a = (5, 0)) (h6 : 64 ≤ a) : (run (d + 2) 113 0 [.ref a] [] h) = some (.returned none, sp_ (si_ h a 50 (nI 0)) a 51 (some 45)) := by
  have h98 : (5 : Nat) < 98 := by decide
  have e3 : ∀ d, (run (d) 111 0 [.ref a] [] h) = some (.returned none, h) := fun d => by
    simp only [e111_0, e111_1, e111_4, ↓reduceIte, Nat.reduceAdd, Nat.reduceLeDiff, Nat.reduceLT, Nat.reduceEqDiff, not_false_eq_true, false_or, true_or, or_true, or_false, n0_e, n1_ne, n1_11, bI_z, bI_1, bI_fo, va_rf_some, aBk_1, aBk_0, nI_add, nI_mul, hk_si, hp_si, hl_si, hk_sp, hk_sl, hk_cp, hp_cp, hk, h98]
  have e4 : ∀ d, (run (d + 1) 112 0 [.ref a] [] h) = some (.returned none, si_ h a 50 (nI 0)) := fun d => by
    simp only [e112_0, e112_1, e112_4, e112_5, e112_6, e112_9, ↓reduceIte, Nat.reduceAdd, Nat.reduceLeDiff, Nat.reduceLT, Nat.reduceEqDiff, not_false_eq_true, false_or, true_or, or_true, or_false, n0_e, n1_ne, n1_11, bI_z, bI_1, bI_fo, va_rf_some, aBk_1, aBk_0, nI_add, nI_mul, hk_si, hp_si, hl_si, hk_sp, hk_sl, hk_cp, hp_cp, hk, h98, e3, h6]
  simp only [e113_0, e113_1, e113_4, e113_5, e113_8, e113_8n, e113_11, ↓reduceIte, Nat.reduceAdd, Nat.reduceLeDiff, Nat.reduceLT, Nat.reduceEqDiff, not_false_eq_true, false_or, true_or, or_true, or_false, n0_e, n1_ne, n1_11, bI_z, bI_1, bI_fo, va_rf_some, aBk_1, aBk_0, nI_add, nI_mul, hk_si, hp_si, hl_si, hk_sp, hk_sl, hk_cp, hp_cp, hk, h98, e4, h6]
theorem t_init {tx : Nat} (hF : FZ h) (hk : hk_ h tx = (4, 0)) (h5 : 504 ≤ tx) (h47 : hi_ h tx 47 = 0) (h49 : hi_ h tx 49 = 0) {qs qg : Nat → Nat} {vs vg : Nat → Int64} : ∃ h' sa ga la, (∀ d, (run (d + 3) 105 0 [.ref tx] [] h) = some (.returned none, h')) ∧ OA 3 10 (fun a _ => a = tx) (fun a _ => a = tx) h h' ∧ FZ h' ∧ XTq h' T0 0 tx sa ga la 0 0 qs qg vs vg ∧ hz_ h ≤ sa ∧ hz_ h ≤ ga ∧ hz_ h ≤ la := by
  have tl := hF.lt hk (by decide)
  have t6 : 64 ≤ tx := by omega
  have z5 := hF.1
  have h98 : (4 : Nat) < 98 := by decide
  have h985 : (5 : Nat) < 98 := by decide
  have m4 : (4 : Nat) ≤ 1000000 := by decide
  -- sundays
  have o1 : OA (0 + 1) (0 + 3) (fun a _ => a = tx) (fun a _ => a = tx) h (nw_ h 5 0 3) := OA.refl.nw
  have F1 := hF.nw (κ := 5) (n := 0) (u := 3)
  have k1 : hk_ (nw_ h 5 0 3) (hz_ h) = (5, 0) := if_pos rfl
  have i1 := fun d => al_init (d := d) (h := nw_ h 5 0 3) (a := hz_ h) k1 (by omega)
  have o2 := ((o1.sif (x := hz_ h) (f := 50) (v := nI 0) (Nat.le_refl _)).spf (x := hz_ h) (f := 51) (v := some 45) (Nat.le_refl _)).sps (x := tx) (f := 44) (v := some (hz_ h)) rfl
  have F2 := ((F1.si (x := hz_ h) (f := 50) (v := nI 0) (Nat.lt_succ_self _)).sp (x := hz_ h) (f := 51) (v := some 45) (Nat.lt_succ_self _)).sp (x := tx) (f := 44) (v := some (hz_ h)) (Nat.lt_succ_of_lt tl)
  have kt2 := (o2.k tl).trans hk
  have ks2 : hk_ (sp_ (sp_ (si_ (nw_ h 5 0 3) (hz_ h) 50 (nI 0)) (hz_ h) 51 (some 45)) tx 44 (some (hz_ h))) (hz_ h) = (5, 0) := k1
  have kt1 : hk_ (sp_ (si_ (nw_ h 5 0 3) (hz_ h) 50 (nI 0)) (hz_ h) 51 (some 45)) tx = (4, 0) := (o1.k tl).trans hk
  have s52 : hi_ (sp_ (sp_ (si_ (nw_ h 5 0 3) (hz_ h) 50 (nI 0)) (hz_ h) 51 (some 45)) tx 44 (some (hz_ h))) (hz_ h) 52 = 0 := (hi_ne (by omega)).trans ((hF.2 (hz_ h) (Nat.le_refl _)).2 52).2
  have s51 : hp_ (sp_ (sp_ (si_ (nw_ h 5 0 3) (hz_ h) 50 (nI 0)) (hz_ h) 51 (some 45)) tx 44 (some (hz_ h))) (hz_ h) 51 = some 45 := by
    show (if hz_ h = tx ∧ 51 = 44 then _ else if hz_ h = hz_ h ∧ 51 = 51 then _ else _) = _
    rw [if_neg (by omega), if_pos ⟨rfl, rfl⟩]
  have t44 : hp_ (sp_ (sp_ (si_ (nw_ h 5 0 3) (hz_ h) 50 (nI 0)) (hz_ h) 51 (some 45)) tx 44 (some (hz_ h))) tx 44 = some (hz_ h) := if_pos ⟨rfl, rfl⟩
  have zz2 : hz_ (sp_ (sp_ (si_ (nw_ h 5 0 3) (hz_ h) 50 (nI 0)) (hz_ h) 51 (some 45)) tx 44 (some (hz_ h))) = hz_ h + 1 := rfl
  have c47 : hi_ (sp_ (sp_ (si_ (nw_ h 5 0 3) (hz_ h) 50 (nI 0)) (hz_ h) 51 (some 45)) tx 44 (some (hz_ h))) tx 47 = 0 := (hi_ne (by omega)).trans h47
  have c49 : hi_ (sp_ (sp_ (si_ (nw_ h 5 0 3) (hz_ h) 50 (nI 0)) (hz_ h) 51 (some 45)) tx 44 (some (hz_ h))) tx 49 = 0 := (hi_ne (by omega)).trans h49
  have st2 : ∀ d, (run (d + 3) 105 0 [.ref tx] [] h) = (run (d + 3) 105 15 [.ref tx] [] (sp_ (sp_ (si_ (nw_ h 5 0 3) (hz_ h) 50 (nI 0)) (hz_ h) 51 (some 45)) tx 44 (some (hz_ h)))) := fun d => by
    simp only [e105_0, e105_1, e105_4, e105_5, e105_8, e105_9, e105_12, e105_12n, e105_16, e105_19, e105_20, e105_23, e105_23n, e105_26, e105_27, e105_28, e105_31, e105_31n, e105_34, e105_35, e105_37, e105_40, ↓reduceIte, Nat.reduceAdd, Nat.reduceLeDiff, Nat.reduceLT, Nat.reduceEqDiff, not_false_eq_true, false_or, true_or, or_true, or_false, n0_e, n1_ne, n1_11, bI_z, bI_1, bI_fo, va_rf_some, aBk_1, aBk_0, nI_add, nI_mul, hk_si, hp_si, hl_si, hk_sp, hk_sl, hk_cp, hp_cp, hk, h98, k1, h985, i1, kt1, t6]
  generalize sp_ (sp_ (si_ (nw_ h 5 0 3) (hz_ h) 50 (nI 0)) (hz_ h) 51 (some 45)) tx 44 (some (hz_ h)) = g at o2 F2 kt2 ks2 s52 s51 t44 zz2 c47 c49 st2
  have gtl : tx < hz_ g := by omega
  -- guests
  have o3 : OA (0 + 1) (0 + 3) (fun a _ => a = tx) (fun a _ => a = tx) g (nw_ g 5 0 3) := OA.refl.nw
  have F3 := F2.nw (κ := 5) (n := 0) (u := 3)
  have k3 : hk_ (nw_ g 5 0 3) (hz_ g) = (5, 0) := if_pos rfl
  have i3 := fun d => al_init (d := d) (h := nw_ g 5 0 3) (a := hz_ g) k3 (by omega)
  have o4 := ((o3.sif (x := hz_ g) (f := 50) (v := nI 0) (Nat.le_refl _)).spf (x := hz_ g) (f := 51) (v := some 45) (Nat.le_refl _)).sps (x := tx) (f := 45) (v := some (hz_ g)) rfl
  have F4 := ((F3.si (x := hz_ g) (f := 50) (v := nI 0) (Nat.lt_succ_self _)).sp (x := hz_ g) (f := 51) (v := some 45) (Nat.lt_succ_self _)).sp (x := tx) (f := 45) (v := some (hz_ g)) (Nat.lt_succ_of_lt gtl)
  have kt4 := (o4.k gtl).trans kt2
  have kt3 : hk_ (sp_ (si_ (nw_ g 5 0 3) (hz_ g) 50 (nI 0)) (hz_ g) 51 (some 45)) tx = (4, 0) := (o3.k gtl).trans kt2
  have g52 : hi_ (sp_ (sp_ (si_ (nw_ g 5 0 3) (hz_ g) 50 (nI 0)) (hz_ g) 51 (some 45)) tx 45 (some (hz_ g))) (hz_ g) 52 = 0 := (hi_ne (by omega)).trans ((F2.2 (hz_ g) (Nat.le_refl _)).2 52).2
  have g51 : hp_ (sp_ (sp_ (si_ (nw_ g 5 0 3) (hz_ g) 50 (nI 0)) (hz_ g) 51 (some 45)) tx 45 (some (hz_ g))) (hz_ g) 51 = some 45 := by
    show (if hz_ g = tx ∧ 51 = 45 then _ else if hz_ g = hz_ g ∧ 51 = 51 then _ else _) = _
    rw [if_neg (by omega), if_pos ⟨rfl, rfl⟩]
  have kg4 : hk_ (sp_ (sp_ (si_ (nw_ g 5 0 3) (hz_ g) 50 (nI 0)) (hz_ g) 51 (some 45)) tx 45 (some (hz_ g))) (hz_ g) = (5, 0) := k3
  have t45 : hp_ (sp_ (sp_ (si_ (nw_ g 5 0 3) (hz_ g) 50 (nI 0)) (hz_ g) 51 (some 45)) tx 45 (some (hz_ g))) tx 45 = some (hz_ g) := if_pos ⟨rfl, rfl⟩
  have t44' : hp_ (sp_ (sp_ (si_ (nw_ g 5 0 3) (hz_ g) 50 (nI 0)) (hz_ g) 51 (some 45)) tx 45 (some (hz_ g))) tx 44 = some (hz_ h) := by
    show (if tx = tx ∧ 44 = 45 then _ else if tx = hz_ g ∧ 44 = 51 then _ else hp_ g tx 44) = _
    rw [if_neg (by omega), if_neg (by omega)]; exact t44
  have s51' : hp_ (sp_ (sp_ (si_ (nw_ g 5 0 3) (hz_ g) 50 (nI 0)) (hz_ g) 51 (some 45)) tx 45 (some (hz_ g))) (hz_ h) 51 = some 45 := by
    show (if hz_ h = tx ∧ 51 = 45 then _ else if hz_ h = hz_ g ∧ 51 = 51 then _ else hp_ g (hz_ h) 51) = _
    rw [if_neg (by omega), if_neg (by omega)]; exact s51
  have ks4 := (o4.k (x := hz_ h) (by omega)).trans ks2
  have s52' := (o4.i (x := hz_ h) (f := 52) (by omega) (fun q => by have q : hz_ h = tx := q; omega)).trans s52
  have zz4 : hz_ (sp_ (sp_ (si_ (nw_ g 5 0 3) (hz_ g) 50 (nI 0)) (hz_ g) 51 (some 45)) tx 45 (some (hz_ g))) = hz_ g + 1 := rfl
  have d47 : hi_ (sp_ (sp_ (si_ (nw_ g 5 0 3) (hz_ g) 50 (nI 0)) (hz_ g) 51 (some 45)) tx 45 (some (hz_ g))) tx 47 = 0 := (hi_ne (by omega)).trans c47
  have d49 : hi_ (sp_ (sp_ (si_ (nw_ g 5 0 3) (hz_ g) 50 (nI 0)) (hz_ g) 51 (some 45)) tx 45 (some (hz_ g))) tx 49 = 0 := (hi_ne (by omega)).trans c49
  have st4 : ∀ d, (run (d + 3) 105 15 [.ref tx] [] g) = (run (d + 3) 105 26 [.ref tx] [] (sp_ (sp_ (si_ (nw_ g 5 0 3) (hz_ g) 50 (nI 0)) (hz_ g) 51 (some 45)) tx 45 (some (hz_ g)))) := fun d => by
    simp only [e105_0, e105_1, e105_4, e105_5, e105_8, e105_9, e105_12, e105_12n, e105_15, e105_16, e105_19, e105_20, e105_23, e105_23n, e105_27, e105_28, e105_31, e105_31n, e105_34, e105_35, e105_37, e105_40, ↓reduceIte, Nat.reduceAdd, Nat.reduceLeDiff, Nat.reduceLT, Nat.reduceEqDiff, not_false_eq_true, false_or, true_or, or_true, or_false, n0_e, n1_ne, n1_11, bI_z, bI_1, bI_fo, va_rf_some, aBk_1, aBk_0, nI_add, nI_mul, hk_si, hp_si, hl_si, hk_sp, hk_sl, hk_cp, hp_cp, k3, h985, i3, kt3, t6]
  have o24 := o2.trans (o4.mono (Nat.le_refl _) (Nat.le_refl _) (fun _ _ q => q) (fun _ _ q => q))
  generalize sp_ (sp_ (si_ (nw_ g 5 0 3) (hz_ g) 50 (nI 0)) (hz_ g) 51 (some 45)) tx 45 (some (hz_ g)) = w at o24 F4 kt4 g52 g51 kg4 t45 t44' s51' ks4 s52' zz4 d47 d49 st4
  have wtl : tx < hz_ w := by omega
  -- laws
  have o5 := ((o24.nw (κ := 112) (n := 4) (u := 4)).sps (x := tx) (f := 46) (v := some (hz_ w)) rfl).sis (x := tx) (f := 48) (v := nI 100) rfl
  have F5 := ((F4.nw (κ := 112) (n := 4) (u := 4)).sp (x := tx) (f := 46) (v := some (hz_ w)) (Nat.lt_succ_of_lt wtl)).si (x := tx) (f := 48) (v := nI 100) (Nat.lt_succ_of_lt wtl)
  have kt5 : hk_ (nw_ w 112 4 4) tx = (4, 0) := (if_neg (by omega)).trans kt4
  have ep : ∀ {y f : Nat}, ¬ (y = tx ∧ f = 46) → hp_ (si_ (sp_ (nw_ w 112 4 4) tx 46 (some (hz_ w))) tx 48 (nI 100)) y f = hp_ w y f := fun hn => if_neg hn
  have ek : ∀ {y : Nat}, y ≠ hz_ w → hk_ (si_ (sp_ (nw_ w 112 4 4) tx 46 (some (hz_ w))) tx 48 (nI 100)) y = hk_ w y := fun hn => if_neg hn
  have ei : ∀ {y f : Nat}, ¬ (y = tx ∧ f = 48) → hi_ (si_ (sp_ (nw_ w 112 4 4) tx 46 (some (hz_ w))) tx 48 (nI 100)) y f = hi_ w y f := fun hn => hi_ne hn
  refine ⟨si_ (sp_ (nw_ w 112 4 4) tx 46 (some (hz_ w))) tx 48 (nI 100), hz_ h, hz_ g, hz_ w, fun d => ((st2 d).trans (st4 d)).trans ?_, o5.le (by omega) (by omega), F5, ⟨⟨h5, (ek (by omega)).trans kt4, (ep (by omega)).trans t44', (ep (by omega)).trans t45, if_pos ⟨rfl, rfl⟩, ?_, hi_same, ?_⟩, ⟨⟨z5, (ek (by omega)).trans ks4, ?_, Nat.zero_le _, fun _ => (ep (by omega)).trans s51', fun q => absurd q (Nat.lt_irrefl _), fun i hi => absurd hi (Nat.not_lt_zero i)⟩, ⟨by omega, (ek (by omega)).trans kg4, ?_, Nat.zero_le _, fun _ => (ep (by omega)).trans g51, fun q => absurd q (Nat.lt_irrefl _), fun i hi => absurd hi (Nat.not_lt_zero i)⟩, by omega, fun q => absurd q (Nat.lt_irrefl _)⟩, fun s hs => absurd hs (Nat.not_lt_zero s), fun g hg => absurd hg (Nat.not_lt_zero g), fun g _ hg => absurd hg (Nat.not_lt_zero g), ⟨by omega, if_pos rfl, fun k hk => ?_⟩⟩, Nat.le_refl _, by omega, by omega⟩
  · simp only [e105_26, e105_27, e105_28, e105_31, e105_31n, e105_34, e105_35, e105_37, e105_40, ↓reduceIte, Nat.reduceAdd, Nat.reduceLeDiff, Nat.reduceLT, Nat.reduceEqDiff, not_false_eq_true, false_or, true_or, or_true, or_false, n0_e, n1_ne, n1_11, bI_z, bI_1, bI_fo, va_rf_some, aBk_1, aBk_0, nI_add, nI_mul, hk_si, hp_si, hl_si, hk_sp, hk_sl, hk_cp, hp_cp, kt4, kt5, m4, t6]
  · rw [ei (by omega), d47]; exact nI_0.symm
  · rw [ei (by omega), d49]; exact nI_0.symm
  · rw [ei (by omega), s52']; exact nI_0.symm
  · rw [ei (by omega), g52]; exact nI_0.symm
  · show hp_ (si_ (sp_ (nw_ w 112 4 4) tx 46 (some (hz_ w))) tx 48 (nI 100)) (hz_ w) k = none
    rw [ep (by omega)]; exact ((F4.2 (hz_ w) (Nat.le_refl _)).2 k).1
end PR2
