set_option maxRecDepth 100000
/-! X: reading (17): told: a sunday -/
section TD4
variable {n N z0 : Nat} {h h' : aH} {β : Nat → Nat} {tx : Nat}
theorem td_S {ρ : aRd} (hV : BV β n) (hG : XG h β n N z0 ρ tx) (hk : tk_ (tz β n) ρ.1.1 = 20) (hr : ns_ ρ.2.2.1 ≤ 4) : TdR β n N z0 tx ρ.1 h (tdS (tz β n) ρ.1 ρ.2.1 ρ.2.2.1 ρ.2.2.2) := by
  obtain ⟨sa, ga, la, es, eg, qs, qg, vs, vg, hG⟩ := hG
  obtain ⟨σ, ν, T, nf⟩ := ρ
  obtain ⟨hE, ht, h45, hT, hN, hO, hZ⟩ := id hG
  simp only at hk hr hE hT hN hO hZ ⊢
  obtain ⟨hR, hW, hF⟩ := id hE
  have hX := hR.1
  have hle := hE.le
  have z5 := hF.1
  have st := td_at hR (by omega)
  rw [hk, show 20 - 20 = 0 from rfl] at st
  have A0 := hT.2.1.1.A
  have sz := fun d => x_size (d := d) A0
  have ksa := A0.2.1
  obtain ⟨o, h1, e1, o1, f1⟩ := p_begins hR (by omega) (by omega) (has := ns_ T) (most := 4) (by omega) (by decide)
  have l3 : nI 0 < nI 3 := by decide
  have ktx := hT.1.2.1
  have psa := hT.1.2.2.1
  unfold tdS
  cases hg : roomX (tz β n) (ns_ T) 4 σ with
  | inl e =>
    rw [hg] at f1
    obtain ⟨f0, f1⟩ := f1
    rw [f0] at e1
    refine ⟨h1, fun d => (st d).trans ?_, (onTd o1).le (Nat.zero_le _) (Nat.zero_le _), hF.px o1, f1⟩
    simp only [e88_25, e88_26, e88_27, e88_30, e88_31, e88_33, e88_36, e88_37, e88_40, e88_41, e88_44, e88_47, e88_48, e88_49, e88_50, e88_51, e88_54, e88_55, e88_56, e88_57_0, e88_57_1, e88_57_2, e88_57_3, e88_57_4, e88_57_5, e88_57_6, e88_57_7, e88_57_8, e88_57_d, e88_108, e88_109, e88_110, e88_113, e88_116, e88_119, e88_120, e88_123, e88_126, e88_127, e88_128, e88_131, e88_134, e88_135, e88_136, e88_137, e88_138, e88_140, e88_143, e88_146, e88_147, e88_148, e88_149, e88_151, e88_154, e88_157, e88_158, e88_161, e88_164, e88_165, e88_168, e88_169, e88_331, xk_64 hX, xk_73 hX, xk_66 hX, xk_65 hX, xp_35 hX, xk_72 hX, xp_37 hX, ↓reduceIte, Nat.reduceAdd, Nat.reduceLeDiff, Nat.reduceLT, Nat.reduceEqDiff, not_false_eq_true, false_or, true_or, or_true, or_false, n0_e, n1_ne, n1_11, bI_z, bI_1, bI_fo, aBk_1, aBk_0, nI_add, nI_mul, hk_si, hp_si, hl_si, hk_sp, hk_sl, hk_cp, hp_cp, l3, ht, ktx, psa, ksa, sz, e1, va_rf_some, bx_84, bx_85, bx_86, bx_87, bx_88, bx_89, bx_90, bx_91, bx_92, bx_93, bx_94, bx_95, bx_96, bx_97, bx_98, bx_99, bx_100, bx_101, bx_102, bx_103, bx_104]
  | inr s1 =>
    rw [hg] at f1
    obtain ⟨f0, R1⟩ := f1
    rw [f0] at e1
    obtain ⟨rn, -, es1⟩ := room_i hg
    have s11 : s1.1 = σ.1 + 1 := by rw [es1]
    have E1 := hE.px o1 R1
    have G1 := hG.px (σ' := s1) o1.OA E1
    have hX1 := R1.1
    have F1 := E1.2.2
    have z51 := F1.1
    -- the new one
    have o12 : OA (0 + 1) (0 + 3) XPF NPx h1 (nw_ h1 16 0 3) := OA.refl.nw
    have E2 := E1.nw (κ := 16) (m := 0) (u := 3)
    have k2 : hk_ (nw_ h1 16 0 3) (hz_ h1) = (16, 0) := if_pos rfl
    obtain ⟨-, t2, -, T2, N2, -, -⟩ := G1.px (σ' := s1) o12 E2
    have hX2 := E2.1.1
    have nmr := p_name hV E2 t2 T2 N2
    show TdR β n N z0 tx σ h (eB (namX (tz β n) ν s1) _)
    cases hn : namX (tz β n) ν s1 with
    | inl e =>
      rw [hn] at nmr
      obtain ⟨h3, e3, o3, F3, f3⟩ := nmr
      refine ⟨h3, fun d => (st d).trans ?_, ((onTd o1).trans (oaTd (o12.trans o3))).le (by omega) (by omega), F3, f3⟩
      simp only [e88_25, e88_26, e88_27, e88_30, e88_31, e88_33, e88_36, e88_37, e88_40, e88_41, e88_44, e88_47, e88_48, e88_49, e88_50, e88_51, e88_54, e88_55, e88_56, e88_57_0, e88_57_1, e88_57_2, e88_57_3, e88_57_4, e88_57_5, e88_57_6, e88_57_7, e88_57_8, e88_57_d, e88_108, e88_109, e88_110, e88_113, e88_116, e88_119, e88_120, e88_123, e88_126, e88_127, e88_128, e88_131, e88_134, e88_135, e88_136, e88_137, e88_138, e88_140, e88_143, e88_146, e88_147, e88_148, e88_149, e88_151, e88_154, e88_157, e88_158, e88_161, e88_164, e88_165, e88_168, e88_169, e88_331, xk_64 hX, xk_73 hX, xk_66 hX, xk_65 hX, xp_35 hX, xk_72 hX, xp_37 hX, xk_64 hX1, xk_73 hX1, xk_66 hX1, xk_65 hX1, xp_35 hX1, xk_72 hX1, xp_37 hX1, xk_64 hX2, xk_73 hX2, xk_66 hX2, xk_65 hX2, xp_35 hX2, xk_72 hX2, xp_37 hX2, ↓reduceIte, Nat.reduceAdd, Nat.reduceLeDiff, Nat.reduceLT, Nat.reduceEqDiff, not_false_eq_true, false_or, true_or, or_true, or_false, n0_e, n1_ne, n1_11, bI_z, bI_1, bI_fo, aBk_1, aBk_0, nI_add, nI_mul, hk_si, hp_si, hl_si, hk_sp, hk_sl, hk_cp, hp_cp, l3, ht, ktx, psa, ksa, sz, e1, e3, va_rf_some, bx_84, bx_85, bx_86, bx_87, bx_88, bx_89, bx_90, bx_91, bx_92, bx_93, bx_94, bx_95, bx_96, bx_97, bx_98, bx_99, bx_100, bx_101, bx_102, bx_103, bx_104]
    | inr s2 =>
      rw [hn] at nmr
      obtain ⟨h3, a, e3, o3, E3, N3⟩ := nmr
      have s21 := (nam_i hn).2.1
      have F3 := E3.2.2
      have o13 := o12.trans o3
      have xl2 : hz_ h1 < hz_ (nw_ h1 16 0 3) := Nat.lt_succ_self _
      have k3 : hk_ h3 (hz_ h1) = (16, 0) := (o3.k xl2).trans k2
      have x6 : 64 ≤ hz_ h1 := by omega
      have h98 : (16 : Nat) < 98 := by decide
      have yi := fun d => y_init (d := d) (a := a) k3 x6
      have xl3 := F3.lt k3 (by decide)
      have E4 := E3.sp (a := hz_ h1) (f := 146) (v := some a) z51 xl3
      have o14 := o13.spf (x := hz_ h1) (f := 146) (v := some a) (Nat.le_refl _)
      have on4 : OA 0 0 NPx (fun y _ => y = hz_ h1) h3 (sp_ h3 (hz_ h1) 146 (some a)) := OA.refl.sps rfl
      have N4 : NmR (sp_ h3 (hz_ h1) 146 (some a)) a (tn_ (tz β n) s1.1) := N3.oa F3 on4 (fun _ _ q => q.elim) (fun y f q => Or.inr (by have q : y = hz_ h1 := q; rw [q, k3]; decide))
      have p4 : hp_ (sp_ h3 (hz_ h1) 146 (some a)) (hz_ h1) 146 = some a := if_pos ⟨rfl, rfl⟩
      have k4 : hk_ (sp_ h3 (hz_ h1) 146 (some a)) (hz_ h1) = (16, 0) := k3
      have hX3 := E3.1.1
      have w4 : hi_ (sp_ h3 (hz_ h1) 146 (some a)) (hz_ h1) 156 = 0 := (o3.i xl2 (fun q => by have := q.ss.1; omega)).trans ((F1.2 (hz_ h1) (Nat.le_refl _)).2 156).2
      generalize hg4 : sp_ h3 (hz_ h1) 146 (some a) = h4 at E4 o14 N4 p4 k4 yi w4
      have hX4 := E4.1.1
      have st4 : ∀ d, (run (d + 30) 88 0 [.ref 73, aU, aU] [] h) = (run (d + 30) 88 135 [.ref 73, .int (nI 0), .ref (hz_ h1)] [] h4) := fun d => by
        refine (st d).trans ?_
        simp only [e88_25, e88_26, e88_27, e88_30, e88_31, e88_33, e88_36, e88_37, e88_40, e88_41, e88_44, e88_47, e88_48, e88_49, e88_50, e88_51, e88_54, e88_55, e88_56, e88_57_0, e88_57_1, e88_57_2, e88_57_3, e88_57_4, e88_57_5, e88_57_6, e88_57_7, e88_57_8, e88_57_d, e88_108, e88_109, e88_110, e88_113, e88_116, e88_119, e88_120, e88_123, e88_126, e88_127, e88_128, e88_131, e88_134, e88_136, e88_137, e88_138, e88_140, e88_143, e88_146, e88_147, e88_148, e88_149, e88_151, e88_154, e88_157, e88_158, e88_161, e88_164, e88_165, e88_168, e88_169, e88_331, xk_64 hX, xk_73 hX, xk_66 hX, xk_65 hX, xp_35 hX, xk_72 hX, xp_37 hX, xk_64 hX1, xk_73 hX1, xk_66 hX1, xk_65 hX1, xp_35 hX1, xk_72 hX1, xp_37 hX1, xk_64 hX2, xk_73 hX2, xk_66 hX2, xk_65 hX2, xp_35 hX2, xk_72 hX2, xp_37 hX2, xk_64 hX3, xk_73 hX3, xk_66 hX3, xk_65 hX3, xp_35 hX3, xk_72 hX3, xp_37 hX3, ↓reduceIte, Nat.reduceAdd, Nat.reduceLeDiff, Nat.reduceLT, Nat.reduceEqDiff, not_false_eq_true, false_or, true_or, or_true, or_false, n0_e, n1_ne, n1_11, bI_z, bI_1, bI_fo, aBk_1, aBk_0, nI_add, nI_mul, hk_si, hp_si, hl_si, hk_sp, hk_sl, hk_cp, hp_cp, l3, ht, ktx, psa, ksa, sz, e1, e3, k3, h98, yi, va_rf_some]
      obtain ⟨ou0, h5, eh5, oh5, fh5⟩ := p_number hV E4 (lo := 1) (hi := 24) (by decide) (by decide)
      have hXp0 := E4.1.1
      show TdR β n N z0 tx σ h (eB (bndX (tz β n) s2 1 24) _)
      cases hb0 : bndX (tz β n) s2 1 24 with
      | inl e =>
        rw [hb0] at fh5
        obtain ⟨f0, fh5⟩ := fh5
        rw [f0] at eh5
        refine ⟨h5, fun d => (st4 d).trans ?_, ((onTd o1).trans (oaTd (o14.trans oh5.OA))).le (by omega) (by omega), E4.2.2.px oh5, fh5⟩
        simp only [e88_135, e88_136, e88_137, e88_138, e88_140, e88_143, e88_146, xk_64 hXp0, xk_73 hXp0, xk_66 hXp0, xk_65 hXp0, xp_35 hXp0, xk_72 hXp0, xp_37 hXp0, ↓reduceIte, Nat.reduceAdd, Nat.reduceLeDiff, Nat.reduceLT, Nat.reduceEqDiff, not_false_eq_true, false_or, true_or, or_true, or_false, n0_e, n1_ne, n1_11, bI_z, bI_1, bI_fo, va_rf_some, aBk_1, aBk_0, nI_add, nI_mul, hk_si, hp_si, hl_si, hk_sp, hk_sl, hk_cp, hp_cp, eh5, bx_84, bx_85, bx_86, bx_87, bx_88, bx_89, bx_90, bx_91, bx_92, bx_93, bx_94, bx_95, bx_96, bx_97, bx_98, bx_99, bx_100, bx_101, bx_102, bx_103, bx_104]
      | inr s3 =>
        rw [hb0] at fh5
        obtain ⟨f0, Rh5⟩ := fh5
        rw [f0] at eh5
        have q01 := (bnd_i hb0).2.2.1
        have Eh5 := E4.px oh5 Rh5
        have Fh5 := Eh5.2.2
        have kh5 : hk_ h5 (hz_ h1) = (16, 0) := (oh5.k _).trans k4
        have ph5 : hp_ h5 (hz_ h1) 146 = some a := (oh5.p _ _).trans p4
        have Nh5 := N4.oa E4.2.2 (oh5.OA (P := NPx)) (fun x f q => Or.inl q.ss.1) (fun _ _ q => q.elim)
        have xh5 := Fh5.lt kh5 (by decide)
        have Eh6 := Eh5.si (a := hz_ h1) (f := 147) (v := nI (tv_ (tz β n) s2.1)) z51 xh5
        have oh6 := (o14.trans (oh5.OA (P := NPx))).sif (x := hz_ h1) (f := 147) (v := nI (tv_ (tz β n) s2.1)) (Nat.le_refl _)
        have onh6 : OA 0 0 (fun y _ => y = hz_ h1) NPx h5 (si_ h5 (hz_ h1) 147 (nI (tv_ (tz β n) s2.1))) := OA.refl.sis rfl
        have Nh6 := Nh5.oa Fh5 onh6 (fun y f q => Or.inr (by have q : y = hz_ h1 := q; rw [q, kh5]; decide)) (fun _ _ q => q.elim)
        have v0 : hi_ (si_ h5 (hz_ h1) 147 (nI (tv_ (tz β n) s2.1))) (hz_ h1) 147 = nI (tv_ (tz β n) s2.1) := hi_same
        have w6 : hi_ (si_ h5 (hz_ h1) 147 (nI (tv_ (tz β n) s2.1))) (hz_ h1) 156 = 0 := (hi_ne (by omega)).trans ((oh5.i (fun q => by have := q.ss.1; omega)).trans w4)
        have kh6 : hk_ (si_ h5 (hz_ h1) 147 (nI (tv_ (tz β n) s2.1))) (hz_ h1) = (16, 0) := kh5
        have ph6 : hp_ (si_ h5 (hz_ h1) 147 (nI (tv_ (tz β n) s2.1))) (hz_ h1) 146 = some a := ph5
        have hXq0 := Eh5.1.1
        have st6 : ∀ d, (run (d + 30) 88 0 [.ref 73, aU, aU] [] h) = (run (d + 30) 88 146 [.ref 73, .int (nI 0), .ref (hz_ h1)] [] (si_ h5 (hz_ h1) 147 (nI (tv_ (tz β n) s2.1)))) := fun d => by
          refine (st4 d).trans ?_
          simp only [e88_135, e88_136, e88_137, e88_138, e88_140, e88_143, xk_64 hXp0, xk_73 hXp0, xk_66 hXp0, xk_65 hXp0, xp_35 hXp0, xk_72 hXp0, xp_37 hXp0, xk_64 hXq0, xk_73 hXq0, xk_66 hXq0, xk_65 hXq0, xp_35 hXq0, xk_72 hXq0, xp_37 hXq0, ↓reduceIte, Nat.reduceAdd, Nat.reduceLeDiff, Nat.reduceLT, Nat.reduceEqDiff, not_false_eq_true, false_or, true_or, or_true, or_false, n0_e, n1_ne, n1_11, bI_z, bI_1, bI_fo, va_rf_some, aBk_1, aBk_0, nI_add, nI_mul, hk_si, hp_si, hl_si, hk_sp, hk_sl, hk_cp, hp_cp, eh5, kh5, x6]
        generalize hgh6 : si_ h5 (hz_ h1) 147 (nI (tv_ (tz β n) s2.1)) = h6 at Eh6 oh6 Nh6 v0 kh6 ph6 w6 st6
        obtain ⟨ou1, h7, eh7, oh7, fh7⟩ := p_number hV Eh6 (lo := 0) (hi := 99) (by decide) (by decide)
        have hXp1 := Eh6.1.1
        show TdR β n N z0 tx σ h (eB (bndX (tz β n) s3 0 99) _)
        cases hb1 : bndX (tz β n) s3 0 99 with
        | inl e =>
          rw [hb1] at fh7
          obtain ⟨f0, fh7⟩ := fh7
          rw [f0] at eh7
          refine ⟨h7, fun d => (st6 d).trans ?_, ((onTd o1).trans (oaTd (oh6.trans oh7.OA))).le (by omega) (by omega), Eh6.2.2.px oh7, fh7⟩
          simp only [e88_146, e88_147, e88_148, e88_149, e88_151, e88_154, e88_157, xk_64 hXp1, xk_73 hXp1, xk_66 hXp1, xk_65 hXp1, xp_35 hXp1, xk_72 hXp1, xp_37 hXp1, ↓reduceIte, Nat.reduceAdd, Nat.reduceLeDiff, Nat.reduceLT, Nat.reduceEqDiff, not_false_eq_true, false_or, true_or, or_true, or_false, n0_e, n1_ne, n1_11, bI_z, bI_1, bI_fo, va_rf_some, aBk_1, aBk_0, nI_add, nI_mul, hk_si, hp_si, hl_si, hk_sp, hk_sl, hk_cp, hp_cp, eh7, bx_84, bx_85, bx_86, bx_87, bx_88, bx_89, bx_90, bx_91, bx_92, bx_93, bx_94, bx_95, bx_96, bx_97, bx_98, bx_99, bx_100, bx_101, bx_102, bx_103, bx_104]
        | inr s4 =>
          rw [hb1] at fh7
          obtain ⟨f0, Rh7⟩ := fh7
          rw [f0] at eh7
          have q11 := (bnd_i hb1).2.2.1
          have Eh7 := Eh6.px oh7 Rh7
          have Fh7 := Eh7.2.2
          have kh7 : hk_ h7 (hz_ h1) = (16, 0) := (oh7.k _).trans kh6
          have ph7 : hp_ h7 (hz_ h1) 146 = some a := (oh7.p _ _).trans ph6
          have Nh7 := Nh6.oa Eh6.2.2 (oh7.OA (P := NPx)) (fun x f q => Or.inl q.ss.1) (fun _ _ q => q.elim)
          have xh7 := Fh7.lt kh7 (by decide)
          have Eh8 := Eh7.si (a := hz_ h1) (f := 148) (v := nI (tv_ (tz β n) s3.1)) z51 xh7
          have oh8 := (oh6.trans (oh7.OA (P := NPx))).sif (x := hz_ h1) (f := 148) (v := nI (tv_ (tz β n) s3.1)) (Nat.le_refl _)
          have onh8 : OA 0 0 (fun y _ => y = hz_ h1) NPx h7 (si_ h7 (hz_ h1) 148 (nI (tv_ (tz β n) s3.1))) := OA.refl.sis rfl
          have Nh8 := Nh7.oa Fh7 onh8 (fun y f q => Or.inr (by have q : y = hz_ h1 := q; rw [q, kh7]; decide)) (fun _ _ q => q.elim)
          have v1 : hi_ (si_ h7 (hz_ h1) 148 (nI (tv_ (tz β n) s3.1))) (hz_ h1) 148 = nI (tv_ (tz β n) s3.1) := hi_same
          have v0_1 : hi_ (si_ h7 (hz_ h1) 148 (nI (tv_ (tz β n) s3.1))) (hz_ h1) 147 = nI (tv_ (tz β n) s2.1) := (hi_ne (by omega)).trans ((oh7.i (fun q => by have := q.ss.1; omega)).trans v0)
          have w8 : hi_ (si_ h7 (hz_ h1) 148 (nI (tv_ (tz β n) s3.1))) (hz_ h1) 156 = 0 := (hi_ne (by omega)).trans ((oh7.i (fun q => by have := q.ss.1; omega)).trans w6)
          have kh8 : hk_ (si_ h7 (hz_ h1) 148 (nI (tv_ (tz β n) s3.1))) (hz_ h1) = (16, 0) := kh7
          have ph8 : hp_ (si_ h7 (hz_ h1) 148 (nI (tv_ (tz β n) s3.1))) (hz_ h1) 146 = some a := ph7
          have hXq1 := Eh7.1.1
          have st8 : ∀ d, (run (d + 30) 88 0 [.ref 73, aU, aU] [] h) = (run (d + 30) 88 157 [.ref 73, .int (nI 0), .ref (hz_ h1)] [] (si_ h7 (hz_ h1) 148 (nI (tv_ (tz β n) s3.1)))) := fun d => by
            refine (st6 d).trans ?_
            simp only [e88_146, e88_147, e88_148, e88_149, e88_151, e88_154, xk_64 hXp1, xk_73 hXp1, xk_66 hXp1, xk_65 hXp1, xp_35 hXp1, xk_72 hXp1, xp_37 hXp1, xk_64 hXq1, xk_73 hXq1, xk_66 hXq1, xk_65 hXq1, xp_35 hXq1, xk_72 hXq1, xp_37 hXq1, ↓reduceIte, Nat.reduceAdd, Nat.reduceLeDiff, Nat.reduceLT, Nat.reduceEqDiff, not_false_eq_true, false_or, true_or, or_true, or_false, n0_e, n1_ne, n1_11, bI_z, bI_1, bI_fo, va_rf_some, aBk_1, aBk_0, nI_add, nI_mul, hk_si, hp_si, hl_si, hk_sp, hk_sl, hk_cp, hp_cp, eh7, kh7, x6]
          generalize hgh8 : si_ h7 (hz_ h1) 148 (nI (tv_ (tz β n) s3.1)) = h8 at Eh8 oh8 Nh8 v1 kh8 ph8 w8 st8 v0_1
          obtain ⟨-, t9, q45, T9, N9, O9, Z9⟩ := G1.px (σ' := s4) oh8 Eh8
          have F9 := Eh8.2.2
          simp only at T9 N9 O9 Z9
          obtain ⟨⟨a1, a2, a3, a4, a5, a6, a7, a8⟩, ⟨b1, b2, b3, b4⟩, c1, c2, c3, ⟨d1, d2, d3⟩⟩ := id T9
          obtain ⟨hA, e', eA, oA, FA, LA, eA1, eA2⟩ := al_add F9 q45 b1 (x := hz_ h1) (by omega) (Or.inl rfl) kh8 z51
          have hXl := Eh8.1.1
          have kl : hk_ h8 sa = (5, 0) := b1.2.1
          have ke : 0 < ns_ T → hk_ h8 es = (114, 10) := fun q => (b1.2.2.2.2.2.1 q).2.2.1
          have nk : ∀ {y κ m : Nat}, hk_ h8 y = (κ, m) → κ ≠ 5 → κ ≠ 114 → y ≠ sa ∧ (0 < ns_ T → y ≠ es) := fun hy h1 h2 => ⟨fun z => by rw [z, kl] at hy; exact h1 (congrArg Prod.fst hy).symm, fun q z => by rw [z, ke q] at hy; exact h2 (congrArg Prod.fst hy).symm⟩
          have hSA : ∀ y f, (fun (y _ : Nat) => y = sa) y f → y < 504 ∨ ((hk_ h8 y).1 ≠ 11 ∧ (hk_ h8 y).1 ≠ 101) := fun y f q => Or.inr (by have q : y = sa := q; rw [q, kl]; decide)
          have hPA : ∀ y f, (fun (y _ : Nat) => y = sa ∨ (0 < ns_ T ∧ y = es)) y f → y < 504 ∨ (hk_ h8 y).1 ≠ 11 := fun y f q => Or.inr (by
            rcases q with q | q
            · rw [q, kl]; decide
            · rw [q.2, ke q.1]; decide)
          have iS : ∀ {y f κ m : Nat}, hk_ h8 y = (κ, m) → κ ≠ 5 → κ ≠ 114 → κ ≠ 99 → hi_ hA y f = hi_ h8 y f := fun hy h1 h2 h3 => oA.i (F9.lt hy h3) (fun q => (nk hy h1 h2).1 q)
          have pS : ∀ {y f κ m : Nat}, hk_ h8 y = (κ, m) → κ ≠ 5 → κ ≠ 114 → κ ≠ 99 → hp_ hA y f = hp_ h8 y f := fun hy h1 h2 h3 => oA.p (F9.lt hy h3) (fun q => by
            rcases q with q | q
            · exact (nk hy h1 h2).1 q
            · exact (nk hy h1 h2).2 q.1 q.2)
          have NmA : ∀ {y : Nat} {v : Int64} {κ m : Nat}, hk_ h8 y = (κ, m) → κ ≠ 5 → κ ≠ 114 → κ ≠ 99 → NmE h8 y v → NmE hA y v := fun hy h1 h2 h3 w => w.oa F9 (F9.lt hy h3) oA (fun q => by
            rcases q with q | q
            · exact (nk hy h1 h2).1 q
            · exact (nk hy h1 h2).2 q.1 q.2) hSA hPA
          have EA : EXr hA β n N s4 := Eh8.oan oA FA (fun a f q => by have q : a = sa := q; rw [q]; exact b1.1) (fun a f q => by
            rcases q with q | q
            · rw [q]; exact b1.1
            · rw [q.2]; exact (b1.2.2.2.2.2.1 q.1).1)
          have zx : z0 ≤ hz_ h1 := by have := hF.lt ktx (by decide); have := o1.z; omega
          have zl : ∀ s, s < ns_ T → qs s < hz_ h1 := fun s hs => by
            have := G1.2.2.2.1.2.1.1.2.2.2.2.2.2 s hs
            exact F1.lt this.2 (by decide)
          have oF := oaTd (z0 := z0) oh8
          have oG : OA 1 10 (TDS z0) (TDP z0) h8 hA := oA.mono (Nat.le_refl _) (Nat.le_refl _) (fun a f q => Or.inr (by have q : a = sa := q; rw [q]; omega)) (fun a f q => by
            show z0 ≤ a
            rcases q with q | q
            · rw [q]; omega
            · rw [q.2]; exact Z9.2.2.2.2.2.1 q.1)
          have ez : hz_ h1 ≤ hz_ h8 := oh8.z
          refine ⟨hA, fun d => (st8 d).trans ?_, (((onTd o1).trans oF).trans oG).le (by show _ ≤ 8 * (s4.1 - σ.1); omega) (by show _ ≤ 64 * (s4.1 - σ.1); omega), sa, ga, la, e', eg, upN qs (ns_ T) (hz_ h1), qg, up6 vs (ns_ T) (tn_ (tz β n) s1.1), vg, EA, (oA.p (by omega) (fun q => ?_)).trans t9, (oA.k (by omega)).trans q45, ⟨⟨a1, (oA.k (F9.lt a2 (by decide))).trans a2, (pS a2 (by decide) (by decide) (by decide)).trans a3, (pS a2 (by decide) (by decide) (by decide)).trans a4, (pS a2 (by decide) (by decide) (by decide)).trans a5, (iS a2 (by decide) (by decide) (by decide)).trans a6, (iS a2 (by decide) (by decide) (by decide)).trans a7, (iS a2 (by decide) (by decide) (by decide)).trans a8⟩, ⟨LA, b2.oa F9 (by decide) oA (fun q => b3 (Eq.symm q)) (fun f => ⟨fun q => ?_, fun hn q => ?_⟩), b3, fun _ hn => ?_⟩, fun s hs => ?_, fun g hg => ?_, c3, ⟨d1, (oA.k (F9.lt d2 (by decide))).trans d2, fun j hj => ?_⟩⟩, NRx_S N9 (by omega), O9, ⟨Z9.1, Z9.2.1, Z9.2.2.1, Z9.2.2.2.1, Z9.2.2.2.2.1, fun _ => ?_, Z9.2.2.2.2.2.2⟩⟩
          · simp only [e88_157, e88_158, e88_161, e88_164, e88_165, e88_168, e88_169, e88_331, xk_64 hXl, xk_73 hXl, xk_66 hXl, xk_65 hXl, xp_35 hXl, xk_72 hXl, xp_37 hXl, ↓reduceIte, Nat.reduceAdd, Nat.reduceLeDiff, Nat.reduceLT, Nat.reduceEqDiff, not_false_eq_true, false_or, true_or, or_true, or_false, n0_e, n1_ne, n1_11, bI_z, bI_1, bI_fo, aBk_1, aBk_0, nI_add, nI_mul, hk_si, hp_si, hl_si, hk_sp, hk_sl, hk_cp, hp_cp, t9, a2, a3, kl, eA, va_rf_some]
          · rcases q with q | q
            · have := b1.1; omega
            · have := (b1.2.2.2.2.2.1 q.1).1; omega
          · rcases q with q | q
            · exact b3 q.symm
            · have k1 := ke q.1; rw [← q.2, b2.2.1] at k1; exact absurd (congrArg Prod.fst k1) (by decide)
          · rcases q with q | q
            · have k1 := (b2.2.2.2.2.2.1 hn).2.2.1; rw [q, kl] at k1; exact absurd (congrArg Prod.fst k1) (by decide)
            · exact b4 q.1 hn q.2.symm
          · by_cases z : ns_ T = 0
            · rw [eA2 z]; have := F9.lt (b2.2.2.2.2.2.1 hn).2.2.1 (by decide); omega
            · rw [eA1 (by omega)]; exact b4 (by omega) hn
          · have hs : s < ns_ T + 1 := hs
            show hi_ hA (if s = ns_ T then hz_ h1 else qs s) 147 = (if s = T.1.1 then _ else _) ∧ hi_ hA (if s = ns_ T then hz_ h1 else qs s) 148 = (if s = T.1.1 then _ else _) ∧ NmE hA (if s = ns_ T then hz_ h1 else qs s) (if s = ns_ T then _ else _)
            have en : T.1.1 = ns_ T := rfl
            rw [en]
            by_cases z : s = ns_ T
            · rw [if_pos z, if_pos z, if_pos z, if_pos z]
              exact ⟨(iS kh8 (by decide) (by decide) (by decide)).trans v0_1, (iS kh8 (by decide) (by decide) (by decide)).trans v1, NmA kh8 (by decide) (by decide) (by decide) ⟨a, ph8, Nh8⟩⟩
            · rw [if_neg z, if_neg z, if_neg z, if_neg z]
              have kq := (b1.2.2.2.2.2.2 s (by omega)).2
              obtain ⟨w1, w2, w3⟩ := c1 s (by omega)
              exact ⟨(iS kq (by decide) (by decide) (by decide)).trans w1, (iS kq (by decide) (by decide) (by decide)).trans w2, NmA kq (by decide) (by decide) (by decide) w3⟩
          · have kq := (b2.2.2.2.2.2.2 g hg).2
            obtain ⟨⟨w1, w2, w3, w4⟩, w5⟩ := c2 g hg
            exact ⟨⟨(iS kq (by decide) (by decide) (by decide)).trans w1, (iS kq (by decide) (by decide) (by decide)).trans w2, (iS kq (by decide) (by decide) (by decide)).trans w3, (iS kq (by decide) (by decide) (by decide)).trans w4⟩, NmA kq (by decide) (by decide) (by decide) w5⟩
          · have w : LaR h8 la j (la_ T j) := d3 j hj
            show LaR hA la j (la_ T j)
            cases hq : la_ T j with
            | none => rw [hq] at w; exact (pS d2 (by decide) (by decide) (by decide)).trans w
            | some L =>
              rw [hq] at w
              obtain ⟨l', w1, w2⟩ := w
              exact ⟨l', (pS d2 (by decide) (by decide) (by decide)).trans w1, w2.oa F9 oA (fun y f q => Or.inr (Or.inl (by have q : y = sa := q; rw [q, kl]; decide))) (fun y f q => by
                rcases q with q | q
                · rw [q, kl]; decide
                · rw [q.2, ke q.1]; decide)⟩
          · by_cases z : ns_ T = 0
            · rw [eA2 z]; omega
            · rw [eA1 (by omega)]; exact Z9.2.2.2.2.2.1 (by omega)
end TD4
