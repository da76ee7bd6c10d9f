set_option maxRecDepth 100000
/-! X: reading (27): the text kept; a house begun -/
section XR99
variable {c s : Nat} {S P : Nat → Nat → Prop} {h h' : aH}
theorem AL.oa {a n κ : Nat} {q : Nat → Nat} (hA : AL h a n κ q) (hκ : κ ≠ 99) (hF : FZ h) (o : OA c s S P h h') (hS : ∀ x f, S x f → ¬ xa x) (hP : ∀ x f, P x f → ¬ xa x ∧ (hk_ h x).1 ≠ 114) : AL h' a n κ q := by
  obtain ⟨h1, h2, h3, h4, h5, h6⟩ := hA
  have al := hF.lt h2 (by decide)
  refine ⟨h1, (o.k al).trans h2, (o.i al (fun z => hS _ _ z h1)).trans h3, h4, fun hn => ?_, fun i hi => ⟨(h6 i hi).1, (o.k (hF.lt (h6 i hi).2 hκ)).trans (h6 i hi).2⟩⟩
  obtain ⟨e, m, e1, e2, e3, e4, e5⟩ := h5 hn
  have el := hF.lt e2 (by decide)
  exact ⟨e, m, (o.p al (fun z => (hP _ _ z).1 h1)).trans e1, (o.k el).trans e2, e3, e4, fun i hi => (o.p el (fun z => (hP _ _ z).2 (by rw [e2]))).trans (e5 i hi)⟩
theorem XT.oa {T : aTx} {tx sa ga la : Nat} {qs qg : Nat → Nat} (hT : XT h T tx sa ga la qs qg) (hF : FZ h) (o : OA c s S P h h') (hS : ∀ x f, S x f → ¬ xa x) (hP : ∀ x f, P x f → ¬ xa x ∧ (hk_ h x).1 ≠ 114 ∧ (hk_ h x).1 ≠ 15 ∧ (hk_ h x).1 ≠ 12 ∧ (hk_ h x).1 ≠ 111) : XT h' T tx sa ga la qs qg := by
  obtain ⟨h1, ⟨h2, h3, h4, h5, h6⟩, h7, h8, h9, h10, ⟨h11, h12⟩, h13, h14, h15⟩ := hT
  have tl := hF.lt h3 (by decide)
  have ll := hF.lt h14 (by decide)
  have hPA : ∀ x f, P x f → ¬ xa x ∧ (hk_ h x).1 ≠ 114 := fun x f q => ⟨(hP x f q).1, (hP x f q).2.1⟩
  have e : ∀ {a f : Nat}, xa a → a < hz_ h → hi_ h' a f = hi_ h a f := fun ha hl => o.i hl (fun z => hS _ _ z ha)
  have ep : ∀ {a f : Nat}, xa a → a < hz_ h → hp_ h' a f = hp_ h a f := fun ha hl => o.p hl (fun z => (hP _ _ z).1 ha)
  refine ⟨h1, ⟨h2, (o.k tl).trans h3, (ep h2 tl).trans h4, (ep h2 tl).trans h5, (ep h2 tl).trans h6⟩, h7.oa (by decide) hF o hS hPA, h8.oa (by decide) hF o hS hPA, fun s hs => ?_, fun g hg => ?_, ⟨(e h2 tl).trans h11, (e h2 tl).trans h12⟩, h13, (o.k ll).trans h14, fun k hk => ?_⟩
  · obtain ⟨x1, x2⟩ := h7.2.2.2.2.2 s hs
    have xl := hF.lt x2 (by decide)
    exact ⟨(e x1 xl).trans (h9 s hs).1, (e x1 xl).trans (h9 s hs).2⟩
  · obtain ⟨x1, x2⟩ := h8.2.2.2.2.2 g hg
    have xl := hF.lt x2 (by decide)
    obtain ⟨k1, k2, k3, k4⟩ := h10 g hg
    exact ⟨(e x1 xl).trans k1, (e x1 xl).trans k2, (e x1 xl).trans k3, (e x1 xl).trans k4⟩
  · have := h15 k hk
    revert this
    cases la_ T k with
    | none => intro w; exact (ep h13 ll).trans w
    | some L =>
      rintro ⟨l, w1, w2⟩
      exact ⟨l, (ep h13 ll).trans w1, w2.oa hF o (fun x f q => Or.inl (hS x f q)) (fun x f q => (hP x f q).2.2)⟩
theorem XH.oa {a : Nat} {w : Nat → Int32} {sd : Int32} (hH : XH h a w sd) (o : OA c s S P h h') (hz : 504 ≤ hz_ h) (h1 : 78 ≤ a) (h2 : a + 8 ≤ 458) (hS : ∀ x f, S x f → x < a ∨ a + 3 < x) (hP : PTx P) : XH h' a w sd := by
  obtain ⟨g1, g2, g3, g4, g5, g6, g7, g8, g9⟩ := hH
  have e : ∀ {x f : Nat}, a ≤ x → x ≤ a + 3 → hi_ h' x f = hi_ h x f := fun f1 f2 => o.i (by omega) (fun q => by have := hS _ _ q; omega)
  exact ⟨g1.oa o hz h1 h2 hP, fun g hg => (e (by omega) (by omega)).trans (g2 g hg), fun g hg => (e (by omega) (by omega)).trans (g3 g hg), fun s hs => (e (by omega) (by omega)).trans (g4 s hs), (e (by omega) (by omega)).trans g5, (e (by omega) (by omega)).trans g6, (e (by omega) (by omega)).trans g7, (e (by omega) (by omega)).trans g8, (e (by omega) (by omega)).trans g9⟩
/-- what House.begins writes -/
def HBF (a f : Nat) : Prop := (79 ≤ a ∧ a ≤ 81) ∨ (a = 78 ∧ 56 ≤ f ∧ f ≤ 60)
theorem h_begins {tx : Nat} (hA : HS h 78) (hk : hk_ h tx = (4, 0)) (ht : tx < 78 ∨ 504 ≤ tx) : ∃ h', (∀ d, (run (d) 122 0 [.ref 78, .ref tx, aU] [] h) = some (.returned none, h')) ∧ On HBF h h' ∧ XH h' 78 w0 (hi_ h tx 49) := by
  obtain ⟨h1, e1, o1, r1⟩ := run_invd (F := fun d j x => (run (d) 122 2 [.ref 78, .ref tx, .int (nI j)] [] x)) (I := fun j y => On HBF h y ∧ ∀ k, k < j → hi_ y 79 k = -2 ∧ hi_ y 80 k = nI 0) (n := 7) (x := h) ⟨On.refl, fun k hk => absurd hk (Nat.not_lt_zero k)⟩ (fun j y hj hI => by
    obtain ⟨oy, ry⟩ := hI
    have hAy := hA.on oy
    have g1 : ¬ nI 7 ≤ nI j := nI_ge hj (by decide)
    refine ⟨si_ (si_ y 79 j (-2)) 80 j (nI 0), fun d => ?_, (oy.trans (On.si (Or.inl ⟨by decide, by decide⟩))).trans (On.si (Or.inl ⟨by decide, by decide⟩)), fun k hk => ?_⟩
    · refine (e122_2).trans ?_
      simp only [e122_0, e122_1, e122_3, e122_5, e122_8, e122_9, e122_12, e122_13, e122_15, e122_16, e122_17, e122_20, e122_21, e122_22, e122_23, e122_26, e122_29, e122_30, e122_32, e122_33, e122_36, e122_37, e122_40, e122_41, e122_42, e122_43, e122_46, e122_49, e122_50, e122_51, e122_54, e122_55, e122_56, e122_59, e122_60, e122_61, e122_64, e122_65, e122_66, e122_69, e122_70, e122_71, e122_74, e122_77, h78_k hAy, h78_p53 hAy, h78_k1 hAy, h78_p54 hAy, h78_k2 hAy, h78_p55 hAy, h78_k3 hAy, ↓reduceIte, Nat.reduceAdd, Nat.reduceLeDiff, Nat.reduceLT, Nat.reduceEqDiff, not_false_eq_true, false_or, true_or, or_true, or_false, n0_e, n1_ne, n1_11, bI_z, bI_1, bI_fo, va_rf_some, aBk_1, aBk_0, nI_add, nI_mul, hk_si, hp_si, hl_si, hk_sp, hk_sl, hk_cp, hp_cp, g1, hj]
    · by_cases q : k = j
      · subst q; exact ⟨(hi_ne (by omega)).trans hi_same, hi_same⟩
      · exact ⟨(hi_ne (by omega)).trans ((hi_ne (by omega)).trans (ry k (by omega)).1), (hi_ne (by omega)).trans ((hi_ne (by omega)).trans (ry k (by omega)).2)⟩)
  have hA1 := hA.on o1
  obtain ⟨h2, e2, o2, r2⟩ := run_fill (F := fun d j x => (run (d) 122 31 [.ref 78, .ref tx, .int (nI j)] [] x)) (b := 81) (n := 4) (r := fun _ => nI 0) (h := h1) (fun d j x hj o _ _ => by
    have hAx := hA1.on o
    have g1 : ¬ nI 4 ≤ nI j := nI_ge hj (by decide)
    refine (e122_31).trans ?_
    simp only [e122_0, e122_1, e122_3, e122_5, e122_8, e122_9, e122_12, e122_13, e122_15, e122_16, e122_17, e122_20, e122_21, e122_22, e122_23, e122_26, e122_29, e122_30, e122_32, e122_33, e122_36, e122_37, e122_40, e122_41, e122_42, e122_43, e122_46, e122_49, e122_50, e122_51, e122_54, e122_55, e122_56, e122_59, e122_60, e122_61, e122_64, e122_65, e122_66, e122_69, e122_70, e122_71, e122_74, e122_77, h78_k hAx, h78_p53 hAx, h78_k1 hAx, h78_p54 hAx, h78_k2 hAx, h78_p55 hAx, h78_k3 hAx, ↓reduceIte, Nat.reduceAdd, Nat.reduceLeDiff, Nat.reduceLT, Nat.reduceEqDiff, not_false_eq_true, false_or, true_or, or_true, or_false, n0_e, n1_ne, n1_11, bI_z, bI_1, bI_fo, va_rf_some, aBk_1, aBk_0, nI_add, nI_mul, hk_si, hp_si, hl_si, hk_sp, hk_sl, hk_cp, hp_cp, g1, hj])
  have hA2 := hA1.on o2
  have kt : hk_ h2 tx = (4, 0) := (o2.k _).trans ((o1.k _).trans hk)
  have s49 : hi_ h2 tx 49 = hi_ h tx 49 := (o2.i (fun q => by unfold AB at q; omega)).trans (o1.i (fun q => by unfold HBF at q; omega))
  have o3 : On (fun a f => a = 78 ∧ 56 ≤ f ∧ f ≤ 60) h2 (si_ (si_ (si_ (si_ (si_ h2 78 56 (nI 0)) 78 57 (nI 0)) 78 58 (nI 0)) 78 59 (nI 0)) 78 60 (hi_ h tx 49)) := ((((On.si ⟨rfl, by decide, by decide⟩).trans (On.si ⟨rfl, by decide, by decide⟩)).trans (On.si ⟨rfl, by decide, by decide⟩)).trans (On.si ⟨rfl, by decide, by decide⟩)).trans (On.si ⟨rfl, by decide, by decide⟩)
  have o123 := (o1.trans (o2.mono (fun a f q => Or.inl (by have := q.1; omega)))).trans (o3.mono (fun a f q => Or.inr q))
  have d0 : dB_ w0 = 0 := by decide
  have b0 : oB_ w0 = 0 := by decide
  have tne : tx ≠ 78 := by omega
  refine ⟨_, fun d => ?_, o123, hA.on o123, fun g hg => ?_, fun g hg => ?_, fun s hs => ?_, ?_, ?_, ?_, ?_, hi_same⟩
  · have g7 : nI 7 ≤ nI 7 := Int32.le_refl _
    have g4 : nI 4 ≤ nI 4 := Int32.le_refl _
    simp only [e122_0, e122_1, e122_3, e122_5, e122_8, e122_9, e122_12, e122_13, e122_15, e122_16, e122_17, e122_20, e122_21, e122_22, e122_23, e122_26, e122_29, e122_30, e122_32, e122_33, e122_36, e122_37, e122_40, e122_41, e122_42, e122_43, e122_46, e122_49, e122_50, e122_51, e122_54, e122_55, e122_56, e122_59, e122_60, e122_61, e122_64, e122_65, e122_66, e122_69, e122_70, e122_71, e122_74, e122_77, ↓reduceIte, Nat.reduceAdd, Nat.reduceLeDiff, Nat.reduceLT, Nat.reduceEqDiff, not_false_eq_true, false_or, true_or, or_true, or_false, n0_e, n1_ne, n1_11, bI_z, bI_1, bI_fo, va_rf_some, aBk_1, aBk_0, nI_add, nI_mul, hk_si, hp_si, hl_si, hk_sp, hk_sl, hk_cp, hp_cp]
    refine (e1 d).trans ?_
    refine (e122_2).trans ?_
    simp only [e122_0, e122_1, e122_3, e122_5, e122_8, e122_9, e122_12, e122_13, e122_15, e122_16, e122_17, e122_20, e122_21, e122_22, e122_23, e122_26, e122_29, e122_30, e122_32, e122_33, e122_36, e122_37, e122_40, e122_41, e122_42, e122_43, e122_46, e122_49, e122_50, e122_51, e122_54, e122_55, e122_56, e122_59, e122_60, e122_61, e122_64, e122_65, e122_66, e122_69, e122_70, e122_71, e122_74, e122_77, h78_k hA1, h78_p53 hA1, h78_k1 hA1, h78_p54 hA1, h78_k2 hA1, h78_p55 hA1, h78_k3 hA1, ↓reduceIte, Nat.reduceAdd, Nat.reduceLeDiff, Nat.reduceLT, Nat.reduceEqDiff, not_false_eq_true, false_or, true_or, or_true, or_false, n0_e, n1_ne, n1_11, bI_z, bI_1, bI_fo, va_rf_some, aBk_1, aBk_0, nI_add, nI_mul, hk_si, hp_si, hl_si, hk_sp, hk_sl, hk_cp, hp_cp, g7]
    refine (e2 d).trans ?_
    refine (e122_31).trans ?_
    simp only [e122_0, e122_1, e122_3, e122_5, e122_8, e122_9, e122_12, e122_13, e122_15, e122_16, e122_17, e122_20, e122_21, e122_22, e122_23, e122_26, e122_29, e122_30, e122_32, e122_33, e122_36, e122_37, e122_40, e122_41, e122_42, e122_43, e122_46, e122_49, e122_50, e122_51, e122_54, e122_55, e122_56, e122_59, e122_60, e122_61, e122_64, e122_65, e122_66, e122_69, e122_70, e122_71, e122_74, e122_77, h78_k hA2, h78_p53 hA2, h78_k1 hA2, h78_p54 hA2, h78_k2 hA2, h78_p55 hA2, h78_k3 hA2, ↓reduceIte, Nat.reduceAdd, Nat.reduceLeDiff, Nat.reduceLT, not_false_eq_true, false_or, true_or, or_true, or_false, n0_e, n1_ne, n1_11, bI_z, bI_1, bI_fo, va_rf_some, aBk_1, aBk_0, nI_add, nI_mul, hk_si, hp_si, hl_si, hk_sp, hk_sl, hk_cp, hp_cp, g4, kt, s49, tne, hi_si, Nat.reduceEqDiff, false_and, true_and, and_false, and_true]
  · rw [o3.i (fun q => by omega), o2.i (fun q => by unfold AB at q; omega), (r1 g hg).1]; exact (if_pos hg).symm
  · rw [o3.i (fun q => by omega), o2.i (fun q => by unfold AB at q; omega), (r1 g hg).2]; exact (if_neg (by omega)).symm
  · rw [o3.i (fun q => by omega), r2 s hs]; exact (if_neg (by omega)).symm
  · rw [hi_ne (by omega), hi_ne (by omega), hi_ne (by omega), hi_ne (by omega), d0]; exact hi_same
  · rw [hi_ne (by omega), hi_ne (by omega), hi_ne (by omega), b0]; exact hi_same
  · rw [hi_ne (by omega), hi_ne (by omega)]; exact hi_same.trans rfl
  · rw [hi_ne (by omega)]; exact hi_same.trans rfl
theorem sb_int8 {x : Int32} (h : x.toInt8.toInt32 = x) : x = sb (x.toBitVec.toNat % 256) := by
  have h1 : x.toInt = x.toInt8.toInt := by rw [← Int8.toInt_toInt32, h]
  have h2 := Int8.toInt_lt x.toInt8
  have h3 := Int8.le_toInt x.toInt8
  have e1 : x.toInt = x.toBitVec.toInt := rfl
  rw [BitVec.toInt_eq_toNat_bmod] at e1
  apply Int32.toInt_inj.mp
  have lt := x.toBitVec.isLt
  have m256 : x.toBitVec.toNat % 256 < 256 := Nat.mod_lt _ (by decide)
  rw [sb_toInt m256]
  dsimp only [Int.bmod] at e1
  split at e1 <;> split <;> omega
end XR99
