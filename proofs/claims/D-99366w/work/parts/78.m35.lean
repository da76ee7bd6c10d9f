set_option maxRecDepth 100000
/-! M: reading (22): all lines -/
section M35
variable {d N sd p b : Nat} {h h' : aH} {τ : aTok} {ρ : aRd}
theorem m_tellOne (hv : ∀ j, tv_ τ j ≤ 9999) (hR : MR h τ N ρ.1) (hN : MN h ρ.2.1) (hV : RVt ρ) (hX : MXt h sd ρ.2.2.1 ρ.2.2.2 p b) (hs2 : sd < 2) (hp : 420 * sd ≤ p ∧ p ≤ 420 * sd + ρ.1.1) (hb : 130 * sd ≤ b ∧ 4 * b ≤ 4 * (130 * sd) + ρ.1.1) : TOR τ N sd p b h (tellX τ ρ) := by
  obtain ⟨r1, r2, r3, -⟩ := hV
  unfold tellX
  by_cases q1 : tk_ τ ρ.1.1 = 20
  · rw [if_pos q1]; exact m_tlS hR q1 hN r1 hX hs2 hp hb
  · rw [if_neg q1]
    by_cases q2 : tk_ τ ρ.1.1 = 21
    · rw [if_pos q2]; exact m_tlG hR q2 hN r1 hX hs2 hp hb
    · rw [if_neg q2]
      by_cases q3 : tk_ τ ρ.1.1 = 22
      · rw [if_pos q3]; exact m_tlF hR q3 hN r1 hX r2 hs2 hp hb
      · rw [if_neg q3]
        by_cases q4 : tk_ τ ρ.1.1 = 27
        · rw [if_pos q4]; exact m_tlD hR q4 hN r1 hX hs2 hp hb
        · rw [if_neg q4]
          by_cases q5 : tk_ τ ρ.1.1 = 28
          · rw [if_pos q5]; exact m_tlE hR q5 hN r1 hX hs2 hp hb
          · rw [if_neg q5]
            by_cases q6 : 23 ≤ tk_ τ ρ.1.1 ∧ tk_ τ ρ.1.1 ≤ 26
            · rw [if_pos q6]; exact m_tlL hv hR (by omega) (by omega) (by omega) hN r1 hX hs2 hp hb
            · rw [if_neg q6]; exact m_tlN hR (by omega)
noncomputable def rdAt (d pc : Nat) (z : Value) (h : aH) : aR := (run (d + 7) 155 pc [.ref 458, z] [] h)
def LnR (τ : aTok) (N sd : Nat) (z : Value) (h : aH) (y : aEr aRd) : Prop := match y with
  | .inl e => ∃ h', (∀ d, rdAt d 112 z h = rdAt d 134 z h') ∧ OL (TOF sd) LN h h' ∧ MF h' e.1 e.2
  | .inr ρ => ∃ h' p' b', (∀ d, rdAt d 112 z h = rdAt d 134 z h') ∧ OL (TOF sd) LN h h' ∧ MR h' τ N ρ.1 ∧ MXt h' sd ρ.2.2.1 ρ.2.2.2 p' b' ∧ p' ≤ 420 * sd + 400 ∧ b' ≤ 130 * sd + 100
theorem rd_lines {z : Value} (hv : ∀ j, tv_ τ j ≤ 9999) (hs2 : sd < 2) : ∀ (n : Nat) (ρ : aRd) (h : aH) (p b : Nat), 401 ≤ n + ρ.1.1 → RVt ρ → MR h τ N ρ.1 → MN h ρ.2.1 → MXt h sd ρ.2.2.1 ρ.2.2.2 p b → 420 * sd ≤ p ∧ p ≤ 420 * sd + ρ.1.1 → 130 * sd ≤ b ∧ 4 * b ≤ 4 * (130 * sd) + ρ.1.1 → LnR τ N sd z h (linesX τ n ρ)
  | 0, ρ, h, p, b, hn, hV, hR, hN, hX, hp, hb => absurd hR.le (by omega)
  | n + 1, ρ, h, p, b, hn, hV, hR, hN, hX, hp, hb => by
    have hM := hR.1
    have f1 := hR.2.2.2.2.2.2.1
    have hle := hR.le
    have ei := fun d => m_is (d := d) hR (k := 0) (by decide)
    unfold linesX
    by_cases q : tk_ τ ρ.1.1 = 0
    · rw [if_pos q]
      rw [decide_eq_true q] at ei
      refine ⟨h, p, b, fun d => ?_, OL.refl, hR, hX, by omega, by omega⟩
      unfold rdAt
      refine (e155_112).trans ?_
      simp only [e155_0, e155_1, e155_2, e155_5, e155_8, e155_9, e155_10, e155_11, e155_12, e155_15, e155_18, e155_19, e155_22, e155_23, e155_24, e155_27, e155_28, e155_29, e155_29z, e155_30, e155_33, e155_36, e155_37, e155_38, e155_41, e155_42, e155_45, e155_46, e155_47, e155_50, e155_51, e155_52, e155_55, e155_56, e155_57, e155_60, e155_61, e155_62, e155_65, e155_66, e155_67, e155_68, e155_71, e155_72, e155_75, e155_76, e155_77, e155_80, e155_81, e155_82, e155_85, e155_88, e155_89, e155_92, e155_93, e155_96, e155_97, e155_100, e155_101, e155_104, e155_105, e155_108, e155_109, e155_113, e155_116, e155_119, e155_120, e155_121, e155_124, e155_127, e155_128, e155_131, e155_135, e155_136, e155_139, e155_142, e155_143, e155_146, e155_149, e155_150, e155_153, e155_156, e155_157, e155_160, e155_163, e155_164, e155_167, e155_168, e155_171, e155_174, e155_175, e155_178, e155_179, e155_180, e155_183, e155_186, e155_187, e155_190, e155_191, e155_192, e155_193, e155_196, e155_199, e155_200, e155_203, e155_204, e155_207, e155_208, e155_209, e155_212, e155_213, e155_214, e155_217, e155_218, e155_219, e155_220, e155_221, e155_224, e155_225, e155_228, e155_229, e155_230, e155_230z, e155_231, e155_234, e155_237, e155_238, mk_458 hM, mp_67 hM, mk_459 hM, mp_69 hM, mk_460 hM, mp_131 hM, mk_502 hM, ↓reduceIte, Nat.reduceAdd, Nat.reduceLeDiff, Nat.reduceLT, Nat.reduceEqDiff, not_false_eq_true, false_or, true_or, or_true, or_false, n0_e, n1_ne, n1_11, bI_z, bI_1, bI_fo, va_rf_some, aBk_1, aBk_0, nI_add, nI_mul, hk_si, hp_si, hl_si, hk_sp, hk_sl, hk_cp, hp_cp, f1, ei, reduceCtorEq]
    · rw [if_neg q]
      rw [decide_eq_false q] at ei
      have T1 := m_tellOne hv hR hN hV hX hs2 hp hb
      cases hx : tellX τ ρ with
      | inl e =>
        rw [hx] at T1
        obtain ⟨h1, r1, o1, g1⟩ := T1
        have hM1 := g1.1
        have f3 : hi_ h1 458 79 = nI e.1 := g1.2.2.2.2.1
        have fn : (nI e.1 = 0) = False := by have := g1.2.2.1; have := g1.2.2.2.1; rw [nI_z (by omega)]; exact eq_false (by omega)
        refine ⟨h1, fun d => ?_, o1, g1⟩
        unfold rdAt
        refine (e155_112).trans ?_
        simp only [e155_0, e155_1, e155_2, e155_5, e155_8, e155_9, e155_10, e155_11, e155_12, e155_15, e155_18, e155_19, e155_22, e155_23, e155_24, e155_27, e155_28, e155_29, e155_29z, e155_30, e155_33, e155_36, e155_37, e155_38, e155_41, e155_42, e155_45, e155_46, e155_47, e155_50, e155_51, e155_52, e155_55, e155_56, e155_57, e155_60, e155_61, e155_62, e155_65, e155_66, e155_67, e155_68, e155_71, e155_72, e155_75, e155_76, e155_77, e155_80, e155_81, e155_82, e155_85, e155_88, e155_89, e155_92, e155_93, e155_96, e155_97, e155_100, e155_101, e155_104, e155_105, e155_108, e155_109, e155_113, e155_116, e155_119, e155_120, e155_121, e155_124, e155_127, e155_128, e155_131, e155_135, e155_136, e155_139, e155_142, e155_143, e155_146, e155_149, e155_150, e155_153, e155_156, e155_157, e155_160, e155_163, e155_164, e155_167, e155_168, e155_171, e155_174, e155_175, e155_178, e155_179, e155_180, e155_183, e155_186, e155_187, e155_190, e155_191, e155_192, e155_193, e155_196, e155_199, e155_200, e155_203, e155_204, e155_207, e155_208, e155_209, e155_212, e155_213, e155_214, e155_217, e155_218, e155_219, e155_220, e155_221, e155_224, e155_225, e155_228, e155_229, e155_230, e155_230z, e155_231, e155_234, e155_237, e155_238, mk_458 hM, mp_67 hM, mk_459 hM, mp_69 hM, mk_460 hM, mp_131 hM, mk_502 hM, ↓reduceIte, Nat.reduceAdd, Nat.reduceLeDiff, Nat.reduceLT, Nat.reduceEqDiff, not_false_eq_true, false_or, true_or, or_true, or_false, n0_e, n1_ne, n1_11, bI_z, bI_1, bI_fo, va_rf_some, aBk_1, aBk_0, nI_add, nI_mul, hk_si, hp_si, hl_si, hk_sp, hk_sl, hk_cp, hp_cp, f1, ei, r1]
        refine (e155_112).trans ?_
        simp only [e155_0, e155_1, e155_2, e155_5, e155_8, e155_9, e155_10, e155_11, e155_12, e155_15, e155_18, e155_19, e155_22, e155_23, e155_24, e155_27, e155_28, e155_29, e155_29z, e155_30, e155_33, e155_36, e155_37, e155_38, e155_41, e155_42, e155_45, e155_46, e155_47, e155_50, e155_51, e155_52, e155_55, e155_56, e155_57, e155_60, e155_61, e155_62, e155_65, e155_66, e155_67, e155_68, e155_71, e155_72, e155_75, e155_76, e155_77, e155_80, e155_81, e155_82, e155_85, e155_88, e155_89, e155_92, e155_93, e155_96, e155_97, e155_100, e155_101, e155_104, e155_105, e155_108, e155_109, e155_113, e155_116, e155_119, e155_120, e155_121, e155_124, e155_127, e155_128, e155_131, e155_135, e155_136, e155_139, e155_142, e155_143, e155_146, e155_149, e155_150, e155_153, e155_156, e155_157, e155_160, e155_163, e155_164, e155_167, e155_168, e155_171, e155_174, e155_175, e155_178, e155_179, e155_180, e155_183, e155_186, e155_187, e155_190, e155_191, e155_192, e155_193, e155_196, e155_199, e155_200, e155_203, e155_204, e155_207, e155_208, e155_209, e155_212, e155_213, e155_214, e155_217, e155_218, e155_219, e155_220, e155_221, e155_224, e155_225, e155_228, e155_229, e155_230, e155_230z, e155_231, e155_234, e155_237, e155_238, mk_458 hM1, mp_67 hM1, mk_459 hM1, mp_69 hM1, mk_460 hM1, mp_131 hM1, mk_502 hM1, ↓reduceIte, Nat.reduceAdd, Nat.reduceLeDiff, Nat.reduceLT, Nat.reduceEqDiff, not_false_eq_true, false_or, true_or, or_true, or_false, n0_e, n1_ne, n1_11, bI_z, bI_1, bI_fo, va_rf_some, aBk_1, aBk_0, nI_add, nI_mul, hk_si, hp_si, hl_si, hk_sp, hk_sl, hk_cp, hp_cp, f3, fn]
      | inr ρ1 =>
        rw [hx] at T1
        obtain ⟨h1, p1, b1, r1, o1, R1, N1, X1, y1, y2⟩ := T1
        obtain ⟨V1, lt1, le1⟩ := tell_RV hv hV hle hx
        have I := rd_lines (z := z) hv hs2 n ρ1 h1 p1 b1 (by omega) V1 R1 N1 X1 y1 y2
        have st : ∀ d, rdAt d 112 z h = rdAt d 112 z h1 := fun d => by
          unfold rdAt
          refine (e155_112).trans ?_
          simp only [e155_0, e155_1, e155_2, e155_5, e155_8, e155_9, e155_10, e155_11, e155_12, e155_15, e155_18, e155_19, e155_22, e155_23, e155_24, e155_27, e155_28, e155_29, e155_29z, e155_30, e155_33, e155_36, e155_37, e155_38, e155_41, e155_42, e155_45, e155_46, e155_47, e155_50, e155_51, e155_52, e155_55, e155_56, e155_57, e155_60, e155_61, e155_62, e155_65, e155_66, e155_67, e155_68, e155_71, e155_72, e155_75, e155_76, e155_77, e155_80, e155_81, e155_82, e155_85, e155_88, e155_89, e155_92, e155_93, e155_96, e155_97, e155_100, e155_101, e155_104, e155_105, e155_108, e155_109, e155_113, e155_116, e155_119, e155_120, e155_121, e155_124, e155_127, e155_128, e155_131, e155_135, e155_136, e155_139, e155_142, e155_143, e155_146, e155_149, e155_150, e155_153, e155_156, e155_157, e155_160, e155_163, e155_164, e155_167, e155_168, e155_171, e155_174, e155_175, e155_178, e155_179, e155_180, e155_183, e155_186, e155_187, e155_190, e155_191, e155_192, e155_193, e155_196, e155_199, e155_200, e155_203, e155_204, e155_207, e155_208, e155_209, e155_212, e155_213, e155_214, e155_217, e155_218, e155_219, e155_220, e155_221, e155_224, e155_225, e155_228, e155_229, e155_230, e155_230z, e155_231, e155_234, e155_237, e155_238, mk_458 hM, mp_67 hM, mk_459 hM, mp_69 hM, mk_460 hM, mp_131 hM, mk_502 hM, ↓reduceIte, Nat.reduceAdd, Nat.reduceLeDiff, Nat.reduceLT, Nat.reduceEqDiff, not_false_eq_true, false_or, true_or, or_true, or_false, n0_e, n1_ne, n1_11, bI_z, bI_1, bI_fo, va_rf_some, aBk_1, aBk_0, nI_add, nI_mul, hk_si, hp_si, hl_si, hk_sp, hk_sl, hk_cp, hp_cp, f1, ei, r1]
        show LnR τ N sd z h (linesX τ n ρ1)
        cases hy : linesX τ n ρ1 with
        | inl e =>
          rw [hy] at I
          obtain ⟨h2, e2, o2, g2⟩ := I
          exact ⟨h2, fun d => (st d).trans (e2 d), o1.trans o2, g2⟩
        | inr ρ2 =>
          rw [hy] at I
          obtain ⟨h2, p2, b2, e2, o2, g2⟩ := I
          exact ⟨h2, p2, b2, fun d => (st d).trans (e2 d), o1.trans o2, g2⟩
end M35
/-! what a reading makes of the state -/
def btz (Ω : aSg) (i : Nat) : Nat := if i < gn Ω then (gtp Ω i).toBitVec.toNat % 256 else 0
def gBad (Ω : aSg) (v : Int32) : aSg := (gT Ω, gw Ω, Ω.2.2.1, Ω.2.2.2.1, Ω.2.2.2.2.1, (0, gtp Ω), v)
def gNew (Ω : aSg) (T : aTx) : aSg := (T, w0, (0, gh Ω), (fun _ => false, gr Ω), (0, gth Ω, gts Ω), (0, gtp Ω), -1)
def tzΩ (Ω : aSg) : aTok := tz (btz Ω) (gn Ω)
def aRdO (Ω : aSg) (x : aEr aRd) : aSg × Int32 := match x with
  | .inl e => (gBad Ω (nI e.2), nI e.1)
  | .inr ρ => if ρ.1.2.2.1 = 0 then (gNew Ω ρ.2.2.1, nI 0) else (gBad Ω (nI (tp_ (tzΩ Ω) ρ.1.2.2.2)), nI ρ.1.2.2.1)
/-- the reading -/
def aRdg (Ω : aSg) : aSg × Int32 := aRdO Ω (linesX (tzΩ Ω) 402 r0)
theorem and255 (x : Int32) : x &&& nI 255 = nI (x.toBitVec.toNat % 256) := by
  apply Int32.toBitVec_inj.mp
  show x.toBitVec &&& BitVec.ofNat 32 255 = BitVec.ofNat 32 (x.toBitVec.toNat % 256)
  apply BitVec.eq_of_toNat_eq
  rw [BitVec.toNat_and, BitVec.toNat_ofNat, BitVec.toNat_ofNat]
  have e : (255 : Nat) % 2 ^ 32 = 2 ^ 8 - 1 := by decide
  rw [e, Nat.and_two_pow_sub_one_eq_mod]
  have : x.toBitVec.toNat % 256 < 256 := Nat.mod_lt _ (by decide)
  show x.toBitVec.toNat % 256 = x.toBitVec.toNat % 256 % 2 ^ 32
  exact (Nat.mod_eq_of_lt (Nat.lt_of_lt_of_le this (by decide))).symm
theorem btz_BV {Ω : aSg} (hn : gn Ω ≤ 2000) : BV (btz Ω) (gn Ω) := by
  refine ⟨hn, fun i => ?_, fun i hi => if_neg (by omega)⟩
  unfold btz
  split
  · exact Nat.mod_lt _ (by decide)
  · decide
/-- M's invariant with its laws' places, and bytes on the tape -/
def MI2 (h : aH) (lv : Nat) (Ω : aSg) : Prop := MI h lv Ω ∧ (∀ k, k < 4 → lwS h lv k (420 * lv + 420) (130 * lv + 130) (la_ (gT Ω) k)) ∧ ∀ i, i < gn Ω → (gtp Ω i).toInt8.toInt32 = gtp Ω i
