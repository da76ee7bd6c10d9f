set_option maxRecDepth 100000
/-! WHAT IS TOLD, LINE BY LINE: plain functions; M: a text in the making -/
def T0 : aTx := ((0, 0), (fun _ => 0, fun _ => 0, fun _ => 0, fun _ => 0), (fun _ => 0, fun _ => 0), (nI 100, nI 0), fun _ => none)
def addS (T : aTx) (l w : Int32) : aTx := ((T.1.1 + 1, T.1.2), T.2.1, (up_ T.2.2.1.1 T.1.1 l, up_ T.2.2.1.2 T.1.1 w), T.2.2.2)
def addG (T : aTx) (a b c : Int32) : aTx := ((T.1.1, T.1.2 + 1), (up_ T.2.1.1 T.1.2 a, up_ T.2.1.2.1 T.1.2 b, up_ T.2.1.2.2.1 T.1.2 c, T.2.1.2.2.2), T.2.2)
def setF (T : aTx) (f : Nat → Int32) : aTx := (T.1, (T.2.1.1, T.2.1.2.1, T.2.1.2.2.1, f), T.2.2)
def setD (T : aTx) (v : Int32) : aTx := (T.1, T.2.1, T.2.2.1, (v, T.2.2.2.1.2), T.2.2.2.2)
def setE (T : aTx) (v : Int32) : aTx := (T.1, T.2.1, T.2.2.1, (T.2.2.2.1.1, v), T.2.2.2.2)
def setL (T : aTx) (k : Nat) (L : aLw) : aTx := (T.1, T.2.1, T.2.2.1, T.2.2.2.1, fun j => if j = k then some L else T.2.2.2.2 j)
/-- the reading's state: where, names, text, how many foes -/
abbrev aRd : Type := aPs × aNs × aTx × Nat
def tlS (τ : aTok) (σ : aPs) (ν : aNs) (T : aTx) (nf : Nat) : aEr aRd := eB (roomX τ (ns_ T) 4 σ) fun s1 => eB (namX τ ν s1) fun s2 => eB (bndX τ s2 1 24) fun s3 => eB (bndX τ s3 0 99) fun s4 => eB (mustX τ s4 4) fun s5 => .inr (s5, addN ν (tn_ τ s1.1) (ns_ T), addS T (nI (tv_ τ s2.1)) (nI (tv_ τ s3.1)), nf)
def tlG (τ : aTok) (σ : aPs) (ν : aNs) (T : aTx) (nf : Nat) : aEr aRd := eB (roomX τ (ng_ T) 7 σ) fun s1 => eB (namX τ ν s1) fun s2 => eB (bndX τ s2 0 23) fun s3 => eB (bndX τ s3 1 12) fun s4 => eB (bndX τ s4 0 99) fun s5 => eB (mustX τ s5 4) fun s6 => .inr (s6, addN ν (tn_ τ s1.1) (10 + ng_ T), addG T (nI (tv_ τ s2.1)) (nI (tv_ τ s3.1)) (nI (tv_ τ s4.1)), nf)
def tlF (τ : aTok) (σ : aPs) (ν : aNs) (T : aTx) (nf : Nat) : aEr aRd := eB (roomX τ nf 8 σ) fun s1 => eB (foeX τ ν (fo_ T) s1) fun q => .inr (q.1, ν, setF T (addF (fo_ T) q.2), nf + 1)
def tlD (τ : aTok) (σ : aPs) (ν : aNs) (T : aTx) (nf : Nat) : aEr aRd := eB (goX τ σ) fun s1 => eB (bndX τ s1 1 999) fun s2 => eB (mustX τ s2 4) fun s3 => .inr (s3, ν, setD T (nI (tv_ τ s1.1)), nf)
def tlE (τ : aTok) (σ : aPs) (ν : aNs) (T : aTx) (nf : Nat) : aEr aRd := eB (goX τ σ) fun s1 => eB (bndX τ s1 0 9999) fun s2 => eB (mustX τ s2 4) fun s3 => .inr (s3, ν, setE T (nI (tv_ τ s1.1)), nf)
def tlL (τ : aTok) (σ : aPs) (ν : aNs) (T : aTx) (nf : Nat) (k : Nat) : aEr aRd := eB (goX τ σ) fun s1 => eB (lawT τ s1) fun q => .inr (q.1, ν, setL T k q.2, nf)
def tellX (τ : aTok) (ρ : aRd) : aEr aRd :=
  if tk_ τ ρ.1.1 = 20 then tlS τ ρ.1 ρ.2.1 ρ.2.2.1 ρ.2.2.2
  else if tk_ τ ρ.1.1 = 21 then tlG τ ρ.1 ρ.2.1 ρ.2.2.1 ρ.2.2.2
  else if tk_ τ ρ.1.1 = 22 then tlF τ ρ.1 ρ.2.1 ρ.2.2.1 ρ.2.2.2
  else if tk_ τ ρ.1.1 = 27 then tlD τ ρ.1 ρ.2.1 ρ.2.2.1 ρ.2.2.2
  else if tk_ τ ρ.1.1 = 28 then tlE τ ρ.1 ρ.2.1 ρ.2.2.1 ρ.2.2.2
  else if 23 ≤ tk_ τ ρ.1.1 ∧ tk_ τ ρ.1.1 ≤ 26 then tlL τ ρ.1 ρ.2.1 ρ.2.2.1 ρ.2.2.2 (tk_ τ ρ.1.1 - 23)
  else .inl (1, tp_ τ ρ.1.1)
/-- all lines; n: fuel -/
def linesX (τ : aTok) : Nat → aRd → aEr aRd
  | 0, _ => .inl (0, 0)
  | n + 1, ρ => if tk_ τ ρ.1.1 = 0 then .inr ρ else eB (tellX τ ρ) (linesX τ n)
/-- a law on side sd, below p and b -/
def lwS (h : aH) (sd k p b : Nat) (L : Option aLw) : Prop := match L with
  | none => hi_ h 479 (4 * sd + k) = hi_ h 480 (4 * sd + k)
  | some (l, e) => ∃ f q, hi_ h 479 (4 * sd + k) = nI f ∧ hi_ h 480 (4 * sd + k) = nI (f + l.length + 1) ∧ brP h q f l e ∧ 420 * sd ≤ q ∧ q + lnL l + e.length ≤ p ∧ 130 * sd ≤ f ∧ f + l.length + 1 ≤ b
/-- rows of a text on side sd -/
def MXr (h : aH) (sd : Nat) (T : aTx) : Prop := (hi_ h 468 sd = nI (ns_ T) ∧ hi_ h 471 sd = nI (ng_ T)) ∧ (∀ g, g < ng_ T → hi_ h 472 (7 * sd + g) = hr_ T g ∧ hi_ h 473 (7 * sd + g) = hs_ T g ∧ hi_ h 474 (7 * sd + g) = fe_ T g) ∧ (∀ g, g < 7 → hi_ h 475 (7 * sd + g) = fo_ T g) ∧ (∀ s, s < ns_ T → hi_ h 469 (4 * sd + s) = lo_ T s ∧ hi_ h 470 (4 * sd + s) = wo_ T s) ∧ hi_ h 477 sd = de_ T ∧ hi_ h 478 sd = se_ T
def MXt (h : aH) (sd : Nat) (T : aTx) (nf p b : Nat) : Prop := MXr h sd T ∧ hi_ h 476 sd = nI nf ∧ (∀ k, k < 4 → lwS h sd k p b (la_ T k)) ∧ hi_ h 458 108 = nI p ∧ hi_ h 458 102 = nI b ∧ hi_ h 458 85 = nI sd
/-- the places of side sd -/
def RG (sd a f : Nat) : Prop := ((a = 468 ∨ a = 471 ∨ a = 476 ∨ a = 477 ∨ a = 478) ∧ f = sd) ∨ (472 ≤ a ∧ a ≤ 475 ∧ 7 * sd ≤ f ∧ f < 7 * sd + 7) ∨ ((a = 469 ∨ a = 470 ∨ a = 479 ∨ a = 480) ∧ 4 * sd ≤ f ∧ f < 4 * sd + 4) ∨ (481 ≤ a ∧ a ≤ 485 ∧ 130 * sd ≤ f ∧ f < 130 * sd + 130) ∨ ((a = 486 ∨ a = 487) ∧ 420 * sd ≤ f ∧ f < 420 * sd + 420)
/-- what reading a line on side sd writes -/
def TOF (sd a f : Nat) : Prop := FP a f ∨ (a = 458 ∧ (f = 86 ∨ f = 102 ∨ f = 108 ∨ f = 112)) ∨ a = 467 ∨ a = 488 ∨ RG sd a f
section M27
variable {sd k p b nf : Nat} {h h' : aH} {T : aTx} {S : Nat → Nat → Prop} {L : Nat → Prop}
theorem lwS.ag {Lw : Option aLw} (hL : lwS h sd k p b Lw) (h1 : hi_ h' 479 (4 * sd + k) = hi_ h 479 (4 * sd + k)) (h2 : hi_ h' 480 (4 * sd + k) = hi_ h 480 (4 * sd + k)) (h3 : ∀ f, 420 * sd ≤ f → f < p → hi_ h' 486 f = hi_ h 486 f ∧ hi_ h' 487 f = hi_ h 487 f) (h4 : ∀ a f, 481 ≤ a → a ≤ 485 → 130 * sd ≤ f → f < b → hi_ h' a f = hi_ h a f) {p' b' : Nat} (hp : p ≤ p') (hb : b ≤ b') : lwS h' sd k p' b' Lw := by
  cases Lw with
  | none => show _ = _; rw [h1, h2]; exact hL
  | some q =>
    obtain ⟨l, e⟩ := q
    obtain ⟨f, q, a1, a2, a3, a4, a5, a6, a7⟩ := hL
    exact ⟨f, q, h1.trans a1, h2.trans a2, a3.ag (fun f f1 f2 => h3 f (by omega) (by omega)) (fun a f f1 f2 f3 f4 => h4 a f f1 f2 (by omega) (by omega)), a4, by omega, a6, by omega⟩
theorem lwS.M {Lw : Option aLw} (hL : lwS h sd k p b Lw) (hb : b ≤ 260) : lwM h sd k Lw := by
  cases Lw with
  | none => exact hL
  | some q =>
    obtain ⟨l, e⟩ := q
    obtain ⟨f, q, a1, a2, a3, a4, a5, a6, a7⟩ := hL
    exact ⟨f, a1, a2, a3.M (by omega)⟩
theorem MXr.ag (hX : MXr h sd T) (hn : ns_ T ≤ 4) (hg : ng_ T ≤ 7) (he : ∀ a f, RG sd a f → a ≤ 478 → a ≠ 476 → hi_ h' a f = hi_ h a f) : MXr h' sd T := by
  obtain ⟨⟨a1, a2⟩, a3, a4, a5, a6, a7⟩ := hX
  refine ⟨⟨(he _ _ (Or.inl ⟨by omega, rfl⟩) (by decide) (by decide)).trans a1, (he _ _ (Or.inl ⟨by omega, rfl⟩) (by decide) (by decide)).trans a2⟩, fun g h1 => ?_, fun g h1 => (he _ _ (Or.inr (Or.inl ⟨by omega, by omega, by omega, by omega⟩)) (by decide) (by decide)).trans (a4 g h1), fun s h1 => ?_, (he _ _ (Or.inl ⟨by omega, rfl⟩) (by decide) (by decide)).trans a6, (he _ _ (Or.inl ⟨by omega, rfl⟩) (by decide) (by decide)).trans a7⟩
  · obtain ⟨b1, b2, b3⟩ := a3 g h1
    exact ⟨(he _ _ (Or.inr (Or.inl ⟨by omega, by omega, by omega, by omega⟩)) (by decide) (by decide)).trans b1, (he _ _ (Or.inr (Or.inl ⟨by omega, by omega, by omega, by omega⟩)) (by decide) (by decide)).trans b2, (he _ _ (Or.inr (Or.inl ⟨by omega, by omega, by omega, by omega⟩)) (by decide) (by decide)).trans b3⟩
  · obtain ⟨b1, b2⟩ := a5 s h1
    exact ⟨(he _ _ (Or.inr (Or.inr (Or.inl ⟨by omega, by omega, by omega⟩))) (by decide) (by decide)).trans b1, (he _ _ (Or.inr (Or.inr (Or.inl ⟨by omega, by omega, by omega⟩))) (by decide) (by decide)).trans b2⟩
theorem lwS.ol {Lw : Option aLw} (hL : lwS h sd k p b Lw) (o : OL S L h h') (hs : ∀ a f, S a f → a < 479 ∨ 487 < a) : lwS h' sd k p b Lw := hL.ag (o.i (fun q => by have := hs _ _ q; omega)) (o.i (fun q => by have := hs _ _ q; omega)) (fun f _ _ => ⟨o.i (fun q => by have := hs _ _ q; omega), o.i (fun q => by have := hs _ _ q; omega)⟩) (fun a f _ _ _ _ => o.i (fun q => by have := hs _ _ q; omega)) (Nat.le_refl _) (Nat.le_refl _)
/-- steps that touch nothing of the text -/
theorem MXt.ol (hX : MXt h sd T nf p b) (hn : ns_ T ≤ 4) (hg : ng_ T ≤ 7) (o : OL S L h h') (hs : ∀ a f, S a f → (a < 468 ∨ 487 < a) ∧ (a = 458 → f ≠ 85 ∧ f ≠ 102 ∧ f ≠ 108)) : MXt h' sd T nf p b := by
  obtain ⟨h1, h2, h3, h4, h5, h6⟩ := hX
  exact ⟨h1.ag hn hg (fun a f q h1 h2 => o.i (fun z => by have := (hs _ _ z).1; unfold RG at q; omega)), (o.i (fun z => by have := (hs _ _ z).1; omega)).trans h2, fun k hk => (h3 k hk).ol o (fun a f z => by have := (hs _ _ z).1; omega), (o.i (fun z => by have := (hs _ _ z).2 rfl; omega)).trans h4, (o.i (fun z => by have := (hs _ _ z).2 rfl; omega)).trans h5, (o.i (fun z => by have := (hs _ _ z).2 rfl; omega)).trans h6⟩
theorem MXt.fp (hX : MXt h sd T nf p b) (hn : ns_ T ≤ 4) (hg : ng_ T ≤ 7) (o : On FP h h') : MXt h' sd T nf p b := hX.ol hn hg (o.OL (L := fun _ => False)) (fun a f q => by unfold FP at q; omega)
/-- M's text on the other side stays -/
theorem RG.ne {sd lv a f : Nat} (h2 : sd ≠ lv) (h1 : RG lv a f) : ¬ TOF sd a f := by
  intro q
  unfold TOF FP RG at q
  unfold RG at h1
  omega
end M27
