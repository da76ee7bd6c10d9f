set_option maxRecDepth 100000
/-! M: reading (24): read's end -/
section M37
variable {d lv sd : Nat} {h h' : aH} {Ω : aSg}
theorem RDF.n {a f : Nat} (hs : sd + lv = 1) (hr : RG lv a f) : ¬ RDF sd a f := by
  intro q
  have h1 := RG.ne (sd := sd) (by omega) hr
  unfold RDF CTF at q
  rcases q with q | q | q | q
  · exact h1 q
  · unfold RG at hr; omega
  · unfold RG at hr; omega
  · unfold RG at hr; omega
theorem MT.keep {T : aTx} (hT : MT h T lv) (hL : ∀ k, k < 4 → lwS h lv k (420 * lv + 420) (130 * lv + 130) (la_ T k)) (hM : MS h') (h84 : hi_ h' 458 84 = hi_ h 458 84) (he : ∀ a f, RG lv a f → hi_ h' a f = hi_ h a f) : MT h' T lv ∧ ∀ k, k < 4 → lwS h' lv k (420 * lv + 420) (130 * lv + 130) (la_ T k) := by
  have l2 := hT.l2
  have n4 := hT.ns4
  have n7 := hT.ng7
  have hL' : ∀ k, k < 4 → lwS h' lv k (420 * lv + 420) (130 * lv + 130) (la_ T k) := fun k hk => (hL k hk).ag (he _ _ (Or.inr (Or.inr (Or.inl ⟨by omega, by omega, by omega⟩)))) (he _ _ (Or.inr (Or.inr (Or.inl ⟨by omega, by omega, by omega⟩)))) (fun f f1 f2 => ⟨he _ _ (Or.inr (Or.inr (Or.inr (Or.inr ⟨by omega, by omega, by omega⟩)))), he _ _ (Or.inr (Or.inr (Or.inr (Or.inr ⟨by omega, by omega, by omega⟩))))⟩) (fun a f f1 f2 f3 f4 => he _ _ (Or.inr (Or.inr (Or.inr (Or.inl ⟨by omega, by omega, by omega, by omega⟩))))) (Nat.le_refl _) (Nat.le_refl _)
  refine ⟨⟨hM, hT.v, l2, h84.trans hT.live, (he _ _ (Or.inl ⟨by omega, rfl⟩)).trans hT.ns, (he _ _ (Or.inl ⟨by omega, rfl⟩)).trans hT.ng, fun g hg => ?_, fun s hs => ?_, (he _ _ (Or.inl ⟨by omega, rfl⟩)).trans hT.de, (he _ _ (Or.inl ⟨by omega, rfl⟩)).trans hT.se, fun k hk => (hL' k hk).M (by omega)⟩, hL'⟩
  · exact ⟨(he _ _ (Or.inr (Or.inl ⟨by omega, by omega, by omega, by omega⟩))).trans (hT.hr hg), (he _ _ (Or.inr (Or.inl ⟨by omega, by omega, by omega, by omega⟩))).trans (hT.hs hg), (he _ _ (Or.inr (Or.inl ⟨by omega, by omega, by omega, by omega⟩))).trans (hT.fe hg), (he _ _ (Or.inr (Or.inl ⟨by omega, by omega, by omega, by omega⟩))).trans (hT.fo hg)⟩
  · exact ⟨(he _ _ (Or.inr (Or.inr (Or.inl ⟨by omega, by omega, by omega⟩)))).trans (hT.lo hs), (he _ _ (Or.inr (Or.inr (Or.inl ⟨by omega, by omega, by omega⟩)))).trans (hT.wo hs)⟩
/-- a reading that fails -/
theorem MI2.bad (hI : MI2 h lv Ω) (hs : sd + lv = 1) (o : OL (RDF sd) RDL h h') (c68 : hi_ h' 458 68 = nI 0) {v : Int32} (c83 : hi_ h' 458 83 = v) : MI2 h' lv (gBad Ω v) := by
  obtain ⟨hI, hL, hG⟩ := hI
  obtain ⟨T1, L1⟩ := hI.T.keep hL (hI.T.m.ol o) (o.i (fun q => by unfold RDF TOF FP CTF RG at q; omega)) (fun a f q => o.i (RDF.n hs q))
  have hi4 : ∀ a f, 491 ≤ a → hi_ h' a f = hi_ h a f := fun a f ha => o.i (fun q => by unfold RDF TOF FP CTF RG at q; omega)
  refine ⟨⟨T1, fun k hk => (hi4 _ _ (by decide)).trans (hI.w k hk), ⟨hI.u4, ?_, fun i hi k hk => (hi4 _ _ (by decide)).trans (hI.hs i hi k hk)⟩, fun i hi => ⟨(hi4 _ _ (by decide)).trans (hI.sl i hi).1, fun hb k hk => (hi4 _ _ (by decide)).trans ((hI.sl i hi).2 hb k hk)⟩, ⟨hI.m20, ?_, fun i hi => ⟨(hi4 _ _ (by decide)).trans (hI.tl i hi).1, (hi4 _ _ (by decide)).trans (hI.tl i hi).2⟩⟩, ⟨Nat.zero_le _, c68, fun i hi => absurd hi (Nat.not_lt_zero i)⟩, c83, fun k hk => (o.l (by unfold RDL; decide)).trans (hI.ky k hk)⟩, L1, fun i hi => absurd hi (Nat.not_lt_zero i)⟩
  · exact (o.i (fun q => by unfold RDF TOF FP CTF RG at q; omega)).trans hI.u
  · exact (o.i (fun q => by unfold RDF TOF FP CTF RG at q; omega)).trans hI.mm
/-- what read writes in all -/
def RLx (a : Nat) : Prop := a = 464 ∨ a = 466
theorem RDF.M {a f : Nat} (q : RDF sd a f) : MP a f := by unfold RDF TOF FP CTF RG at q; unfold MP; omega
theorem m_readN {n : Nat} (hn : 401 ≤ n) (hI : MI2 h lv Ω) : ∃ h' lv', (∀ d, (run (d + 7) 155 0 [.ref 458, aU] [] h) = some (.returned (some (.int ((aRdO Ω (linesX (tzΩ Ω) n r0)).2))), h')) ∧ OL MP RLx h h' ∧ MI2 h' lv' (aRdO Ω (linesX (tzΩ Ω) n r0)).1 := by
  have l2 := hI.1.T.l2
  obtain ⟨sd, hs⟩ : ∃ sd, sd + lv = 1 := ⟨1 - lv, by omega⟩
  have s2 : sd < 2 := by omega
  have n2 := hI.1.n2
  have hV := btz_BV n2
  have hv : ∀ j, tv_ (tzΩ Ω) j ≤ 9999 := fun j => tvz_b hV _
  obtain ⟨h1, z, st, o1, c1, R1, N1, X1⟩ := rd_begin hI hs
  have I := rd_lines (z := z) hv s2 n r0 h1 (420 * sd) (130 * sd) (by show 401 ≤ n + 0; omega) RV0 R1 N1 X1 ⟨Nat.le_refl _, Nat.le_add_right _ _⟩ ⟨Nat.le_refl _, Nat.le_add_right _ _⟩
  have hle0 : nI 0 ≤ 0 := by decide
  have tf : ∀ a f, TOF sd a f → RDF sd a f := fun a f q => Or.inl q
  have o83 : ∀ (x : aH) (v : Int32), OL (RDF sd) RDL x (si_ x 458 83 v) := fun x v => OL.si (Or.inr (Or.inr (Or.inr ⟨rfl, by omega⟩)))
  cases hy : linesX (tzΩ Ω) n r0 with
  | inl e =>
    rw [hy] at I
    obtain ⟨h2, e2, o2, f2⟩ := I
    have hM2 := f2.1
    have f3 : hi_ h2 458 79 = nI e.1 := f2.2.2.2.2.1
    have f4 : hi_ h2 458 80 = nI e.2 := f2.2.2.2.2.2
    have fz : ¬ nI e.1 ≤ 0 := nI_nle f2.2.2.1 (by have := f2.2.2.2.1; omega)
    have oA : OL (RDF sd) RDL h (si_ h2 458 83 (nI e.2)) := (o1.trans (o2.mono tf (fun a q => Or.inr q))).trans (o83 _ _)
    refine ⟨_, lv, fun d => ((st d).trans (e2 d)).trans ?_, oA.mono (fun a f q => q.M) (fun a q => q), hI.bad hs oA ?_ hi_same⟩
    · unfold rdAt
      simp only [e155_0, e155_1, e155_2, e155_5, e155_8, e155_9, e155_11, e155_12, e155_15, e155_18, e155_19, e155_22, e155_23, e155_24, e155_27, e155_28, e155_29, e155_29z, e155_30, e155_33, e155_36, e155_37, e155_38, e155_41, e155_42, e155_45, e155_46, e155_47, e155_50, e155_51, e155_52, e155_55, e155_56, e155_57, e155_60, e155_61, e155_62, e155_65, e155_66, e155_67, e155_68, e155_71, e155_72, e155_75, e155_76, e155_77, e155_80, e155_81, e155_82, e155_85, e155_88, e155_89, e155_92, e155_93, e155_96, e155_97, e155_100, e155_101, e155_104, e155_105, e155_108, e155_109, e155_113, e155_116, e155_119, e155_120, e155_121, e155_124, e155_127, e155_128, e155_131, e155_134, e155_135, e155_136, e155_139, e155_142, e155_143, e155_146, e155_149, e155_150, e155_153, e155_156, e155_157, e155_160, e155_163, e155_164, e155_167, e155_168, e155_171, e155_174, e155_175, e155_178, e155_179, e155_180, e155_183, e155_186, e155_187, e155_190, e155_191, e155_192, e155_193, e155_196, e155_199, e155_200, e155_203, e155_204, e155_207, e155_208, e155_209, e155_212, e155_213, e155_214, e155_217, e155_218, e155_219, e155_220, e155_221, e155_224, e155_225, e155_228, e155_229, e155_230, e155_230z, e155_231, e155_234, e155_237, e155_238, mk_458 hM2, mp_67 hM2, mk_459 hM2, mp_69 hM2, mk_460 hM2, mp_131 hM2, mk_502 hM2, ↓reduceIte, Nat.reduceAdd, Nat.reduceLeDiff, Nat.reduceLT, not_false_eq_true, false_or, true_or, or_true, or_false, n0_e, n1_ne, n1_11, bI_z, bI_1, bI_fo, va_rf_some, aBk_1, aBk_0, nI_add, nI_mul, hk_si, hp_si, hl_si, hk_sp, hk_sl, hk_cp, hp_cp, f3, f4, fz, hi_si, Nat.reduceEqDiff, false_and, true_and, and_false, and_true]
      rfl
    · rw [hi_ne (by omega), o2.i (fun q => by unfold TOF FP RG at q; omega)]; exact c1
  | inr ρ =>
    rw [hy] at I
    obtain ⟨h2, p2, b2, e2, o2, R2, X2, y1, y2⟩ := I
    have hM2 := R2.1
    have f3 := R2.2.2.2.2.2.2.1
    have w10 := R2.2.2.2.2.2.2.2.1
    have w81 := R2.2.2.2.2.2.2.2.2.1
    have o12 : OL (RDF sd) RDL h h2 := o1.trans (o2.mono tf (fun a q => Or.inr q))
    have c2 : hi_ h2 458 68 = nI 0 := by rw [o2.i (fun q => by unfold TOF FP RG at q; omega)]; exact c1
    by_cases q : ρ.1.2.2.1 = 0
    · have ea : aRdO Ω (.inr ρ) = (gNew Ω ρ.2.2.1, nI 0) := if_pos q
      rw [ea]
      have hTV : TV ρ.2.2.1 := RV_TV (lines_RV hv n r0 ρ RV0 (Nat.zero_le _) hy).1 q
      rw [q] at w81
      -- place and side
      have oB : On (fun a f => a = 458 ∧ (f = 83 ∨ f = 84)) h2 (si_ (si_ h2 458 83 (-1)) 458 84 (nI sd)) := (On.si ⟨rfl, Or.inl rfl⟩).trans (On.si ⟨rfl, Or.inr rfl⟩)
      have v83 : hi_ (si_ (si_ h2 458 83 (-1)) 458 84 (nI sd)) 458 83 = -1 := (hi_ne (by omega)).trans hi_same
      have v84 : hi_ (si_ (si_ h2 458 83 (-1)) 458 84 (nI sd)) 458 84 = nI sd := hi_same
      have hM3 := hM2.on oB
      obtain ⟨h4, r4, o4, W4⟩ := m_begins hM3 v84 s2
      have hM4 := hM3.on o4
      obtain ⟨h5, r5, o5, W5⟩ := m_keepsRow hM4 W4
      have hM5 := hM4.on o5
      have x8 := X2.2.2.2.2.2
      have st3 : ∀ d, rdAt d 134 z h2 = (run (d + 7) 155 219 [.ref 458, .int (nI 0)] [] (si_ (si_ h5 458 122 (nI 0)) 458 128 (nI 0))) := fun d => by
        unfold rdAt
        simp only [e155_0, e155_1, e155_2, e155_5, e155_8, e155_9, e155_11, e155_12, e155_15, e155_18, e155_19, e155_22, e155_23, e155_24, e155_27, e155_28, e155_29, e155_29z, e155_30, e155_33, e155_36, e155_37, e155_38, e155_41, e155_42, e155_45, e155_46, e155_47, e155_50, e155_51, e155_52, e155_55, e155_56, e155_57, e155_60, e155_61, e155_62, e155_65, e155_66, e155_67, e155_68, e155_71, e155_72, e155_75, e155_76, e155_77, e155_80, e155_81, e155_82, e155_85, e155_88, e155_89, e155_92, e155_93, e155_96, e155_97, e155_100, e155_101, e155_104, e155_105, e155_108, e155_109, e155_113, e155_116, e155_119, e155_120, e155_121, e155_124, e155_127, e155_128, e155_131, e155_134, e155_135, e155_136, e155_139, e155_142, e155_143, e155_146, e155_149, e155_150, e155_153, e155_156, e155_157, e155_160, e155_163, e155_164, e155_167, e155_168, e155_171, e155_174, e155_175, e155_178, e155_179, e155_180, e155_183, e155_186, e155_187, e155_190, e155_191, e155_192, e155_193, e155_196, e155_199, e155_200, e155_203, e155_204, e155_207, e155_208, e155_209, e155_212, e155_213, e155_214, e155_217, e155_218, e155_220, e155_221, e155_224, e155_225, e155_228, e155_229, e155_230, e155_230z, e155_231, e155_234, e155_237, e155_238, mk_458 hM2, mp_67 hM2, mk_459 hM2, mp_69 hM2, mk_460 hM2, mp_131 hM2, mk_502 hM2, mk_458 hM3, mp_67 hM3, mk_459 hM3, mp_69 hM3, mk_460 hM3, mp_131 hM3, mk_502 hM3, mk_458 hM4, mp_67 hM4, mk_459 hM4, mp_69 hM4, mk_460 hM4, mp_131 hM4, mk_502 hM4, mk_458 hM5, mp_67 hM5, mk_459 hM5, mp_69 hM5, mk_460 hM5, mp_131 hM5, mk_502 hM5, ↓reduceIte, Nat.reduceAdd, Nat.reduceLeDiff, Nat.reduceLT, not_false_eq_true, false_or, true_or, or_true, or_false, n0_e, n1_ne, n1_11, bI_z, bI_1, bI_fo, va_rf_some, aBk_1, aBk_0, nI_add, nI_mul, hk_si, hp_si, hl_si, hk_sp, hk_sl, hk_cp, hp_cp, f3, w81, hle0, x8, r4, r5, hi_si, Nat.reduceEqDiff, false_and, true_and, and_false, and_true]
      generalize si_ (si_ h2 458 83 (-1)) 458 84 (nI sd) = h3 at oB v83 v84 hM3 r4 o4
      have oC : On (fun a f => a = 458 ∧ (f = 122 ∨ f = 128)) h5 (si_ (si_ h5 458 122 (nI 0)) 458 128 (nI 0)) := (On.si ⟨rfl, Or.inl rfl⟩).trans (On.si ⟨rfl, Or.inr rfl⟩)
      have v122 : hi_ (si_ (si_ h5 458 122 (nI 0)) 458 128 (nI 0)) 458 122 = nI 0 := (hi_ne (by omega)).trans hi_same
      have v128 : hi_ (si_ (si_ h5 458 122 (nI 0)) 458 128 (nI 0)) 458 128 = nI 0 := hi_same
      generalize si_ (si_ h5 458 122 (nI 0)) 458 128 (nI 0) = h6 at oC v122 v128 st3
      have hM6 := hM5.on oC
      obtain ⟨h7, e7, o7, r7⟩ := run_fill (F := fun d j x => (run (d + 7) 155 219 [.ref 458, .int (nI j)] [] x)) (b := 502) (n := 3) (r := fun _ => nI 0) (h := h6) (fun d j x hj o _ _ => by
        have hMx := hM6.on o
        have g1 : ¬ nI 3 ≤ nI j := nI_ge hj (by decide)
        refine (e155_219).trans ?_
        simp only [e155_0, e155_1, e155_2, e155_5, e155_8, e155_9, e155_11, e155_12, e155_15, e155_18, e155_19, e155_22, e155_23, e155_24, e155_27, e155_28, e155_29, e155_29z, e155_30, e155_33, e155_36, e155_37, e155_38, e155_41, e155_42, e155_45, e155_46, e155_47, e155_50, e155_51, e155_52, e155_55, e155_56, e155_57, e155_60, e155_61, e155_62, e155_65, e155_66, e155_67, e155_68, e155_71, e155_72, e155_75, e155_76, e155_77, e155_80, e155_81, e155_82, e155_85, e155_88, e155_89, e155_92, e155_93, e155_96, e155_97, e155_100, e155_101, e155_104, e155_105, e155_108, e155_109, e155_113, e155_116, e155_119, e155_120, e155_121, e155_124, e155_127, e155_128, e155_131, e155_134, e155_135, e155_136, e155_139, e155_142, e155_143, e155_146, e155_149, e155_150, e155_153, e155_156, e155_157, e155_160, e155_163, e155_164, e155_167, e155_168, e155_171, e155_174, e155_175, e155_178, e155_179, e155_180, e155_183, e155_186, e155_187, e155_190, e155_191, e155_192, e155_193, e155_196, e155_199, e155_200, e155_203, e155_204, e155_207, e155_208, e155_209, e155_212, e155_213, e155_214, e155_217, e155_218, e155_220, e155_221, e155_224, e155_225, e155_228, e155_229, e155_230, e155_230z, e155_231, e155_234, e155_237, e155_238, mk_458 hMx, mp_67 hMx, mk_459 hMx, mp_69 hMx, mk_460 hMx, mp_131 hMx, mk_502 hMx, ↓reduceIte, Nat.reduceAdd, Nat.reduceLeDiff, Nat.reduceLT, Nat.reduceEqDiff, not_false_eq_true, false_or, true_or, or_true, or_false, n0_e, n1_ne, n1_11, bI_z, bI_1, bI_fo, va_rf_some, aBk_1, aBk_0, nI_add, nI_mul, hk_si, hp_si, hl_si, hk_sp, hk_sl, hk_cp, hp_cp, g1, hj])
      have hM7 := hM6.on o7
      have o27 : On (fun a f => (a = 458 ∧ (f = 83 ∨ f = 84 ∨ f = 118 ∨ f = 119 ∨ f = 122 ∨ f = 128)) ∨ a = 491 ∨ a = 492 ∨ a = 502) h2 h7 := ((((oB.mono (fun a f q => Or.inl (by omega))).trans (o4.mono (fun a f q => by unfold BGF at q; omega))).trans (o5.mono (fun a f q => by unfold AA at q; omega))).trans (oC.mono (fun a f q => Or.inl (by omega)))).trans (o7.mono (fun a f q => by have := q.1; omega))
      have c84 : hi_ h7 458 84 = nI sd := by rw [o7.i (fun q => by unfold AB at q; omega), oC.i (fun q => by omega), o5.i (fun q => by unfold AA at q; omega), o4.i (fun q => by unfold BGF at q; omega)]; exact v84
      have c83 : hi_ h7 458 83 = -1 := by rw [o7.i (fun q => by unfold AB at q; omega), oC.i (fun q => by omega), o5.i (fun q => by unfold AA at q; omega), o4.i (fun q => by unfold BGF at q; omega)]; exact v83
      have c122 : hi_ h7 458 122 = nI 0 := by rw [o7.i (fun q => by unfold AB at q; omega)]; exact v122
      have c128 : hi_ h7 458 128 = nI 0 := by rw [o7.i (fun q => by unfold AB at q; omega)]; exact v128
      have c68 : hi_ h7 458 68 = nI 0 := (o27.i (fun q => by omega)).trans c2
      have W7 : RA h7 491 w0 := fun k hk => by rw [o7.i (fun q => by unfold AB at q; omega), oC.i (fun q => by omega)]; exact W5 k hk
      have oT : ∀ a f, 468 ≤ a → a ≤ 487 → hi_ h7 a f = hi_ h2 a f := fun a f h1 h2 => o27.i (fun q => by omega)
      obtain ⟨⟨⟨a1, a2⟩, a3, a4, a5, a6, a7⟩, a8, a9, -⟩ := X2
      have n7 := hTV.2.1
      have L7 : ∀ k, k < 4 → lwS h7 sd k (420 * sd + 420) (130 * sd + 130) (la_ ρ.2.2.1 k) := fun k hk => (a9 k hk).ag (oT _ _ (by decide) (by decide)) (oT _ _ (by decide) (by decide)) (fun f _ _ => ⟨oT _ _ (by decide) (by decide), oT _ _ (by decide) (by decide)⟩) (fun a f h1 h2 _ _ => oT a f (by omega) (by omega)) (by omega) (by omega)
      refine ⟨h7, sd, fun d => (((st d).trans (e2 d)).trans (st3 d)).trans ?_, (o12.mono (fun a f q => q.M) (fun a q => q)).trans ((o27.mono (fun a f q => by unfold MP; omega)).OL), ⟨⟨hM7, hTV, s2, c84, ?_, ?_, fun g hg => ?_, fun s hs => ?_, ?_, ?_, fun k hk => (L7 k hk).M (by omega)⟩, W7, ⟨Nat.zero_le _, c122, fun i hi => absurd hi (Nat.not_lt_zero i)⟩, fun i hi => ⟨(r7 i hi).trans bI_f, fun z => by cases z⟩, ⟨Nat.zero_le _, c128, fun i hi => absurd hi (Nat.not_lt_zero i)⟩, ⟨Nat.zero_le _, c68, fun i hi => absurd hi (Nat.not_lt_zero i)⟩, c83, fun k hk => ?_⟩, L7, fun i hi => absurd hi (Nat.not_lt_zero i)⟩
      · refine (e7 d).trans ?_
        have g3 : nI 3 ≤ nI 3 := Int32.le_refl _
        refine (e155_219).trans ?_
        simp only [e155_0, e155_1, e155_2, e155_5, e155_8, e155_9, e155_11, e155_12, e155_15, e155_18, e155_19, e155_22, e155_23, e155_24, e155_27, e155_28, e155_29, e155_29z, e155_30, e155_33, e155_36, e155_37, e155_38, e155_41, e155_42, e155_45, e155_46, e155_47, e155_50, e155_51, e155_52, e155_55, e155_56, e155_57, e155_60, e155_61, e155_62, e155_65, e155_66, e155_67, e155_68, e155_71, e155_72, e155_75, e155_76, e155_77, e155_80, e155_81, e155_82, e155_85, e155_88, e155_89, e155_92, e155_93, e155_96, e155_97, e155_100, e155_101, e155_104, e155_105, e155_108, e155_109, e155_113, e155_116, e155_119, e155_120, e155_121, e155_124, e155_127, e155_128, e155_131, e155_134, e155_135, e155_136, e155_139, e155_142, e155_143, e155_146, e155_149, e155_150, e155_153, e155_156, e155_157, e155_160, e155_163, e155_164, e155_167, e155_168, e155_171, e155_174, e155_175, e155_178, e155_179, e155_180, e155_183, e155_186, e155_187, e155_190, e155_191, e155_192, e155_193, e155_196, e155_199, e155_200, e155_203, e155_204, e155_207, e155_208, e155_209, e155_212, e155_213, e155_214, e155_217, e155_218, e155_220, e155_221, e155_224, e155_225, e155_228, e155_229, e155_230, e155_230z, e155_231, e155_234, e155_237, e155_238, mk_458 hM7, mp_67 hM7, mk_459 hM7, mp_69 hM7, mk_460 hM7, mp_131 hM7, mk_502 hM7, ↓reduceIte, Nat.reduceAdd, Nat.reduceLeDiff, Nat.reduceLT, Nat.reduceEqDiff, not_false_eq_true, false_or, true_or, or_true, or_false, n0_e, n1_ne, n1_11, bI_z, bI_1, bI_fo, va_rf_some, aBk_1, aBk_0, nI_add, nI_mul, hk_si, hp_si, hl_si, hk_sp, hk_sl, hk_cp, hp_cp, g3]
      · exact (oT _ _ (by decide) (by decide)).trans a1
      · exact (oT _ _ (by decide) (by decide)).trans a2
      · obtain ⟨b1, b2, b3⟩ := a3 g hg
        exact ⟨(oT _ _ (by decide) (by decide)).trans b1, (oT _ _ (by decide) (by decide)).trans b2, (oT _ _ (by decide) (by decide)).trans b3, (oT _ _ (by decide) (by decide)).trans (a4 g (Nat.lt_of_lt_of_le hg n7))⟩
      · obtain ⟨b1, b2⟩ := a5 s hs
        exact ⟨(oT _ _ (by decide) (by decide)).trans b1, (oT _ _ (by decide) (by decide)).trans b2⟩
      · exact (oT _ _ (by decide) (by decide)).trans a6
      · exact (oT _ _ (by decide) (by decide)).trans a7
      · rw [o27.l, o12.l (by unfold RDL; decide)]; exact hI.1.ky k hk
    · have ea : aRdO Ω (.inr ρ) = (gBad Ω (nI (tp_ (tzΩ Ω) ρ.1.2.2.2)), nI ρ.1.2.2.1) := if_neg q
      rw [ea]
      have w82 := (R2.2.2.2.2.2.2.2.2.2 q).2
      have fz : ¬ nI ρ.1.2.2.1 ≤ 0 := nI_nle (by omega) (by omega)
      have oA : OL (RDF sd) RDL h (si_ h2 458 83 (nI (tp_ (tzΩ Ω) ρ.1.2.2.2))) := o12.trans (o83 _ _)
      refine ⟨_, lv, fun d => ((st d).trans (e2 d)).trans ?_, oA.mono (fun a f q => q.M) (fun a q => q), hI.bad hs oA ((hi_ne (by omega)).trans c2) hi_same⟩
      unfold rdAt
      simp only [e155_0, e155_1, e155_2, e155_5, e155_8, e155_9, e155_11, e155_12, e155_15, e155_18, e155_19, e155_22, e155_23, e155_24, e155_27, e155_28, e155_29, e155_29z, e155_30, e155_33, e155_36, e155_37, e155_38, e155_41, e155_42, e155_45, e155_46, e155_47, e155_50, e155_51, e155_52, e155_55, e155_56, e155_57, e155_60, e155_61, e155_62, e155_65, e155_66, e155_67, e155_68, e155_71, e155_72, e155_75, e155_76, e155_77, e155_80, e155_81, e155_82, e155_85, e155_88, e155_89, e155_92, e155_93, e155_96, e155_97, e155_100, e155_101, e155_104, e155_105, e155_108, e155_109, e155_113, e155_116, e155_119, e155_120, e155_121, e155_124, e155_127, e155_128, e155_131, e155_134, e155_135, e155_136, e155_139, e155_142, e155_143, e155_146, e155_149, e155_150, e155_153, e155_156, e155_157, e155_160, e155_163, e155_164, e155_167, e155_168, e155_171, e155_174, e155_175, e155_178, e155_179, e155_180, e155_183, e155_186, e155_187, e155_190, e155_191, e155_192, e155_193, e155_196, e155_199, e155_200, e155_203, e155_204, e155_207, e155_208, e155_209, e155_212, e155_213, e155_214, e155_217, e155_218, e155_219, e155_220, e155_221, e155_224, e155_225, e155_228, e155_229, e155_230, e155_230z, e155_231, e155_234, e155_237, e155_238, mk_458 hM2, mp_67 hM2, mk_459 hM2, mp_69 hM2, mk_460 hM2, mp_131 hM2, mk_502 hM2, ↓reduceIte, Nat.reduceAdd, Nat.reduceLeDiff, Nat.reduceLT, not_false_eq_true, false_or, true_or, or_true, or_false, n0_e, n1_ne, n1_11, bI_z, bI_1, bI_fo, va_rf_some, aBk_1, aBk_0, nI_add, nI_mul, hk_si, hp_si, hl_si, hk_sp, hk_sl, hk_cp, hp_cp, f3, hle0, w81, w82, fz, hi_si, Nat.reduceEqDiff, false_and, true_and, and_false, and_true]
theorem m_read (hI : MI2 h lv Ω) : ∃ h' lv', (∀ d, (run (d + 7) 155 0 [.ref 458, aU] [] h) = some (.returned (some (.int ((aRdg Ω).2))), h')) ∧ OL MP RLx h h' ∧ MI2 h' lv' (aRdg Ω).1 := m_readN (n := 402) (by decide) hI
end M37
