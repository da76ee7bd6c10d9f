set_option maxRecDepth 100000
/-! M: reading (6): frames that allow longs; endsName -/
/-- ints change in S alone, longs in L alone -/
def OL (S : Nat → Nat → Prop) (L : Nat → Prop) (h h' : aH) : Prop := h'.1 = h.1 ∧ h'.2.1 = h.2.1 ∧ h'.2.2.1 = h.2.2.1 ∧ (∀ a f, ¬ L a → hl_ h' a f = hl_ h a f) ∧ ∀ a f, ¬ S a f → hi_ h' a f = hi_ h a f
section OLs
variable {S S' : Nat → Nat → Prop} {L L' : Nat → Prop} {h h' h'' : aH}
theorem On.OL (o : On S h h') : OL S L h h' := ⟨o.1, o.2.1, o.2.2.1, fun a f _ => o.l a f, o.2.2.2.2⟩
theorem OL.refl : OL S L h h := ⟨rfl, rfl, rfl, fun _ _ _ => rfl, fun _ _ _ => rfl⟩
theorem OL.trans (a : OL S L h h') (b : OL S L h' h'') : OL S L h h'' := ⟨b.1.trans a.1, b.2.1.trans a.2.1, b.2.2.1.trans a.2.2.1, fun x f hn => (b.2.2.2.1 x f hn).trans (a.2.2.2.1 x f hn), fun x f hn => (b.2.2.2.2 x f hn).trans (a.2.2.2.2 x f hn)⟩
theorem OL.mono (a : OL S L h h') (hs : ∀ x f, S x f → S' x f) (hl : ∀ x, L x → L' x) : OL S' L' h h' := ⟨a.1, a.2.1, a.2.2.1, fun x f hn => a.2.2.2.1 x f (fun q => hn (hl x q)), fun x f hn => a.2.2.2.2 x f (fun q => hn (hs x f q))⟩
theorem OL.si {a f : Nat} {v : Int32} (hs : S a f) : OL S L h (si_ h a f v) := (On.si hs).OL
theorem OL.sl {a f : Nat} {v : Int64} (hl : L a) : OL S L h (sl_ h a f v) := ⟨rfl, rfl, rfl, fun x y hn => if_neg (fun q => hn (by rw [q.1]; exact hl)), fun _ _ _ => rfl⟩
theorem OL.k (a : OL S L h h') (x : Nat) : hk_ h' x = hk_ h x := congrFun a.2.1 x
theorem OL.p (a : OL S L h h') (x f : Nat) : hp_ h' x f = hp_ h x f := congrFun (congrFun a.2.2.1 x) f
theorem OL.l (a : OL S L h h') {x f : Nat} (hn : ¬ L x) : hl_ h' x f = hl_ h x f := a.2.2.2.1 x f hn
theorem OL.i (a : OL S L h h') {x f : Nat} (hn : ¬ S x f) : hi_ h' x f = hi_ h x f := a.2.2.2.2 x f hn
theorem MS.ol (hM : MS h) (o : OL S L h h') : MS h' := ⟨fun i hi => (o.k _).trans (hM.1 i hi), fun i hi hs => (o.p _ _).trans (hM.2 i hi hs)⟩
end OLs
def EN (a f : Nat) : Prop := FP a f ∨ (a = 458 ∧ f = 86) ∨ a = 467
def NQ (a f : Nat) : Prop := (a = 458 ∧ f = 86) ∨ a = 467
def LN (a : Nat) : Prop := a = 466
def addN (ν : aNs) (v : Int64) (a : Nat) : aNs := (fun k => if k = ν.2.2 then v else ν.1 k, fun k => if k = ν.2.2 then a else ν.2.1 k, ν.2.2 + 1)
section M17
variable {d N : Nat} {h h' : aH} {τ : aTok} {x : aEr aPs} {σ : aPs} {ν : aNs}
theorem MR.ol {S : Nat → Nat → Prop} {L : Nat → Prop} (hR : MR h τ N σ) (o : OL S L h h') (hs : ∀ a f, S a f → (a < 461 ∨ 463 < a) ∧ (a = 458 → f < 77 ∨ 82 < f)) (hl : ¬ L 464) : MR h' τ N σ := by
  obtain ⟨hM, hT, hK, h1, h2, h3, h4, h5, h6, h7⟩ := hR
  have e : ∀ f, 77 ≤ f → f ≤ 82 → hi_ h' 458 f = hi_ h 458 f := fun f f1 f2 => o.i (fun q => by have := (hs _ _ q).2 rfl; omega)
  refine ⟨hM.ol o, hT, fun j hj => ?_, h1, ?_, ?_, ?_, h5, ?_, fun q => ⟨(h7 q).1, ?_⟩⟩
  · obtain ⟨k1, k2, k3, k4⟩ := hK j hj
    exact ⟨(o.i (fun q => by have := (hs _ _ q).1; omega)).trans k1, (o.i (fun q => by have := (hs _ _ q).1; omega)).trans k2, (o.i (fun q => by have := (hs _ _ q).1; omega)).trans k3, (o.l hl).trans k4⟩
  · rw [e _ (by decide) (by decide)]; exact h2
  · rw [e _ (by decide) (by decide)]; exact h3
  · rw [e _ (by decide) (by decide)]; exact h4
  · rw [e _ (by decide) (by decide)]; exact h6
  · rw [e _ (by decide) (by decide)]; exact (h7 q).2
theorem m_endsName (hO : MO h τ N x) (hN : MN h ν) (hn : ν.2.2 ≤ 10) (h40 : N ≤ 400) {j a : Nat} (hj : j ≤ N) (ha : a < 20) : ∃ h', (∀ d, (run (d + 3) 171 0 [.ref 458, .int (nI j), .int (nI a)] [] h) = some (.returned none, h')) ∧ OL EN LN h h' ∧ MO h' τ N (eB x (mustX τ · 4)) ∧ ∀ σ, eB x (mustX τ · 4) = .inr σ → MN h' (addN ν (tn_ τ j) a) := by
  have hM := hO.S
  obtain ⟨y, ey, oy, fy⟩ := mo_must hO (k := 4) (by decide) (by decide) (by decide)
  have hNy := hN.on oy
  have hMy := fy.S
  have oy' : OL EN LN h y := (oy.mono (fun _ _ q => Or.inl q)).OL
  cases hx : eB x (mustX τ · 4) with
  | inl e =>
    rw [hx] at fy
    refine ⟨y, fun d => ?_, oy', fy, fun σ q => by cases q⟩
    have f3 : hi_ y 458 79 = nI e.1 := fy.2.2.2.2.1
    have fz : ¬ nI e.1 ≤ 0 := nI_nle fy.2.2.1 (by have := fy.2.2.2.1; omega)
    simp only [e171_0, e171_1, e171_2, e171_5, e171_6, e171_9, e171_12, e171_13, e171_14, e171_17, e171_18, e171_21, e171_22, e171_25, e171_26, e171_27, e171_28, e171_29, e171_32, e171_33, e171_36, e171_37, e171_38, e171_39, e171_40, e171_43, e171_44, e171_45, e171_48, mk_458 hM, mp_74 hM, mk_464 hM, mp_87 hM, mk_466 hM, mp_88 hM, mk_467 hM, mk_458 hMy, mp_74 hMy, mk_464 hMy, mp_87 hMy, mk_466 hMy, mp_88 hMy, mk_467 hMy, ↓reduceIte, Nat.reduceAdd, Nat.reduceLeDiff, Nat.reduceLT, Nat.reduceEqDiff, not_false_eq_true, false_or, true_or, or_true, or_false, n0_e, n1_ne, n1_11, bI_z, bI_1, bI_fo, va_rf_some, aBk_1, aBk_0, nI_add, nI_mul, hk_si, hp_si, hl_si, hk_sp, hk_sl, hk_cp, hp_cp, ey, f3, fz]
  | inr σ' =>
    rw [hx] at fy
    have fy : MR y τ N σ' := fy
    have e4 := fy.2.2.2.2.2.2.1
    have hle : nI 0 ≤ 0 := by decide
    have g1 : ν.2.2 < 11 := by omega
    have g3 : j < 403 := by omega
    have k2 := (fy.2.2.1 j hj).2.2.2
    have o2 : OL NQ LN y (si_ (si_ (sl_ y 466 ν.2.2 (tn_ τ j)) 467 ν.2.2 (nI a)) 458 86 (nI (ν.2.2 + 1))) := ((OL.sl (S := NQ) (L := LN) rfl).trans (OL.si (S := NQ) (Or.inr rfl))).trans (OL.si (S := NQ) (Or.inl ⟨rfl, rfl⟩))
    refine ⟨_, fun d => ?_, oy'.trans (o2.mono (fun _ _ q => Or.inr q) (fun _ q => q)), fy.ol o2 (fun a f q => by unfold NQ at q; omega) (by unfold LN; decide), fun σ _ => ⟨?_, hi_same, fun k hk => ?_⟩⟩
    · simp only [e171_0, e171_1, e171_2, e171_5, e171_6, e171_9, e171_12, e171_13, e171_14, e171_17, e171_18, e171_21, e171_22, e171_25, e171_26, e171_27, e171_28, e171_29, e171_32, e171_33, e171_36, e171_37, e171_38, e171_39, e171_40, e171_43, e171_44, e171_45, e171_48, mk_458 hM, mp_74 hM, mk_464 hM, mp_87 hM, mk_466 hM, mp_88 hM, mk_467 hM, mk_458 hMy, mp_74 hMy, mk_464 hMy, mp_87 hMy, mk_466 hMy, mp_88 hMy, mk_467 hMy, ↓reduceIte, Nat.reduceAdd, Nat.reduceLeDiff, Nat.reduceLT, not_false_eq_true, false_or, true_or, or_true, or_false, n0_e, n1_ne, n1_11, bI_z, bI_1, bI_fo, va_rf_some, aBk_1, aBk_0, nI_add, nI_mul, hk_si, hp_si, hl_si, hk_sp, hk_sl, hk_cp, hp_cp, ey, e4, hle, hNy.2.1, g1, g3, k2, hi_sl, hp_sl, hi_si, Nat.reduceEqDiff, false_and, true_and, and_false, and_true]
    · show ν.2.2 + 1 ≤ 11; omega
    · have hk : k < ν.2.2 + 1 := hk
      show hl_ (sl_ y 466 ν.2.2 (tn_ τ j)) 466 k = (if k = ν.2.2 then tn_ τ j else ν.1 k) ∧ hi_ _ 467 k = nI (if k = ν.2.2 then a else ν.2.1 k) ∧ (if k = ν.2.2 then a else ν.2.1 k) < 20
      rw [hl_sl, hi_ne (by omega)]
      by_cases q : k = ν.2.2
      · rw [if_pos ⟨rfl, q⟩, if_pos q, if_pos q, q]
        exact ⟨rfl, hi_same, ha⟩
      · obtain ⟨a1, a2, a3⟩ := hNy.2.2 k (by omega)
        rw [if_neg (fun z => q z.2), if_neg q, if_neg q, hi_ne (by omega), hi_sl]
        exact ⟨a1, a2, a3⟩
end M17
