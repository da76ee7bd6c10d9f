set_option maxRecDepth 100000
/-! FRAMES WITH NEW CELLS -/
/-- c cells and s slots more at most; of the old cells ints change in S, references in P alone -/
def OA (c s : Nat) (S P : Nat → Nat → Prop) (h h' : aH) : Prop := hz_ h ≤ hz_ h' ∧ hz_ h' ≤ hz_ h + c ∧ hu_ h ≤ hu_ h' ∧ hu_ h' ≤ hu_ h + s ∧ (∀ a, a < hz_ h → hk_ h' a = hk_ h a) ∧ (∀ a f, a < hz_ h → ¬ P a f → hp_ h' a f = hp_ h a f) ∧ (∀ a f, a < hz_ h → ¬ S a f → hi_ h' a f = hi_ h a f) ∧ ∀ a f, hl_ h' a f = hl_ h a f
/-- what is free is empty -/
def FZ (h : aH) : Prop := 504 ≤ hz_ h ∧ ∀ a, hz_ h ≤ a → hk_ h a = (99, 0) ∧ ∀ f, hp_ h a f = none ∧ hi_ h a f = 0
section OAs
variable {c s c' s' : Nat} {S P S' P' : Nat → Nat → Prop} {h h' h'' : aH}
theorem OA.refl : OA 0 0 S P h h := ⟨Nat.le_refl _, Nat.le_refl _, Nat.le_refl _, Nat.le_refl _, fun _ _ => rfl, fun _ _ _ _ => rfl, fun _ _ _ _ => rfl, fun _ _ => rfl⟩
theorem OA.trans (a : OA c s S P h h') (b : OA c' s' S P h' h'') : OA (c + c') (s + s') S P h h'' := by
  obtain ⟨a1, a2, a3, a4, a5, a6, a7, a8⟩ := a
  obtain ⟨b1, b2, b3, b4, b5, b6, b7, b8⟩ := b
  exact ⟨by omega, by omega, by omega, by omega, fun x hx => (b5 x (by omega)).trans (a5 x hx), fun x f hx hn => (b6 x f (by omega) hn).trans (a6 x f hx hn), fun x f hx hn => (b7 x f (by omega) hn).trans (a7 x f hx hn), fun x f => (b8 x f).trans (a8 x f)⟩
theorem OA.mono (a : OA c s S P h h') (hc : c ≤ c') (hs : s ≤ s') (hS : ∀ x f, S x f → S' x f) (hP : ∀ x f, P x f → P' x f) : OA c' s' S' P' h h' := by
  obtain ⟨a1, a2, a3, a4, a5, a6, a7, a8⟩ := a
  exact ⟨a1, by omega, a3, by omega, a5, fun x f hx hn => a6 x f hx (fun q => hn (hP x f q)), fun x f hx hn => a7 x f hx (fun q => hn (hS x f q)), a8⟩
theorem OA.le (a : OA c s S P h h') (hc : c ≤ c') (hs : s ≤ s') : OA c' s' S P h h' := a.mono hc hs (fun _ _ q => q) (fun _ _ q => q)
theorem On.OA (o : On S h h') : OA 0 0 S P h h' := by
  have e1 := o.z
  have e2 := o.u
  exact ⟨by omega, by omega, by omega, by omega, fun a _ => o.k a, fun a f _ _ => o.p a f, fun a f _ hn => o.i hn, fun a f => o.l a f⟩
/-- one step more -/
theorem OA.nw (a : OA c s S P h h') {κ n u : Nat} : OA (c + 1) (s + u) S P h (nw_ h' κ n u) := by
  obtain ⟨a1, a2, a3, a4, a5, a6, a7, a8⟩ := a
  refine ⟨by show hz_ h ≤ hz_ h' + 1; omega, by show hz_ h' + 1 ≤ _; omega, by show hu_ h ≤ hu_ h' + u; omega, by show hu_ h' + u ≤ _; omega, fun x hx => ?_, a6, a7, a8⟩
  show (if x = hz_ h' then (κ, n) else hk_ h' x) = _
  rw [if_neg (by omega)]; exact a5 x hx
theorem OA.sif (a : OA c s S P h h') {x f : Nat} {v : Int32} (hx : hz_ h ≤ x) : OA c s S P h (si_ h' x f v) := by
  obtain ⟨a1, a2, a3, a4, a5, a6, a7, a8⟩ := a
  exact ⟨a1, a2, a3, a4, a5, a6, fun y g hy hn => (hi_ne (by omega)).trans (a7 y g hy hn), a8⟩
theorem OA.sis (a : OA c s S P h h') {x f : Nat} {v : Int32} (hx : S x f) : OA c s S P h (si_ h' x f v) := by
  obtain ⟨a1, a2, a3, a4, a5, a6, a7, a8⟩ := a
  exact ⟨a1, a2, a3, a4, a5, a6, fun y g hy hn => (hi_ne (fun q => hn (by rw [q.1, q.2]; exact hx))).trans (a7 y g hy hn), a8⟩
theorem OA.spf (a : OA c s S P h h') {x f : Nat} {v : Option Nat} (hx : hz_ h ≤ x) : OA c s S P h (sp_ h' x f v) := by
  obtain ⟨a1, a2, a3, a4, a5, a6, a7, a8⟩ := a
  exact ⟨a1, a2, a3, a4, a5, fun y g hy hn => (if_neg (fun q => by omega)).trans (a6 y g hy hn), a7, a8⟩
theorem OA.sps (a : OA c s S P h h') {x f : Nat} {v : Option Nat} (hx : P x f) : OA c s S P h (sp_ h' x f v) := by
  obtain ⟨a1, a2, a3, a4, a5, a6, a7, a8⟩ := a
  exact ⟨a1, a2, a3, a4, a5, fun y g hy hn => (if_neg (fun q => hn (by rw [q.1, q.2]; exact hx))).trans (a6 y g hy hn), a7, a8⟩
theorem OA.cpf (a : OA c s S P h h') {q qp x xp n : Nat} (hx : hz_ h ≤ x) : OA c s S P h (cp_ h' q qp x xp n) := by
  obtain ⟨a1, a2, a3, a4, a5, a6, a7, a8⟩ := a
  exact ⟨a1, a2, a3, a4, a5, a6, fun y g hy hn => (if_neg (fun q => by omega)).trans (a7 y g hy hn), a8⟩
theorem OA.z (a : OA c s S P h h') : hz_ h ≤ hz_ h' := a.1
theorem OA.k (a : OA c s S P h h') {x : Nat} (hx : x < hz_ h) : hk_ h' x = hk_ h x := a.2.2.2.2.1 x hx
theorem OA.p (a : OA c s S P h h') {x f : Nat} (hx : x < hz_ h) (hn : ¬ P x f) : hp_ h' x f = hp_ h x f := a.2.2.2.2.2.1 x f hx hn
theorem OA.i (a : OA c s S P h h') {x f : Nat} (hx : x < hz_ h) (hn : ¬ S x f) : hi_ h' x f = hi_ h x f := a.2.2.2.2.2.2.1 x f hx hn
theorem OA.l (a : OA c s S P h h') (x f : Nat) : hl_ h' x f = hl_ h x f := a.2.2.2.2.2.2.2 x f
theorem FZ.on (hF : FZ h) (o : On S h h') (hs : ∀ a f, S a f → a < hz_ h) : FZ h' := by
  have e1 := o.z
  refine ⟨by rw [e1]; exact hF.1, fun a ha => ?_⟩
  rw [e1] at ha
  obtain ⟨h1, h2⟩ := hF.2 a ha
  exact ⟨(o.k a).trans h1, fun f => ⟨(o.p a f).trans (h2 f).1, (o.i (fun q => by have := hs _ _ q; omega)).trans (h2 f).2⟩⟩
theorem FZ.nw (hF : FZ h) {κ n u : Nat} : FZ (nw_ h κ n u) := by
  obtain ⟨h1, h2⟩ := hF
  refine ⟨by show 504 ≤ hz_ h + 1; omega, fun a ha => ?_⟩
  have ha : hz_ h + 1 ≤ a := ha
  obtain ⟨k1, k2⟩ := h2 a (by omega)
  refine ⟨?_, k2⟩
  show (if a = hz_ h then (κ, n) else hk_ h a) = _
  rw [if_neg (by omega)]; exact k1
theorem FZ.si (hF : FZ h) {x f : Nat} {v : Int32} (hx : x < hz_ h) : FZ (si_ h x f v) := ⟨hF.1, fun a ha => ⟨(hF.2 a ha).1, fun g => ⟨((hF.2 a ha).2 g).1, (hi_ne (by have : hz_ h ≤ a := ha; omega)).trans ((hF.2 a ha).2 g).2⟩⟩⟩
theorem FZ.sp (hF : FZ h) {x f : Nat} {v : Option Nat} (hx : x < hz_ h) : FZ (sp_ h x f v) := ⟨hF.1, fun a ha => ⟨(hF.2 a ha).1, fun g => ⟨(if_neg (by have : hz_ h ≤ a := ha; omega)).trans ((hF.2 a ha).2 g).1, ((hF.2 a ha).2 g).2⟩⟩⟩
theorem FZ.cp (hF : FZ h) {q qp x xp n : Nat} (hx : x < hz_ h) : FZ (cp_ h q qp x xp n) := ⟨hF.1, fun a ha => ⟨(hF.2 a ha).1, fun g => ⟨((hF.2 a ha).2 g).1, (if_neg (by have : hz_ h ≤ a := ha; omega)).trans ((hF.2 a ha).2 g).2⟩⟩⟩
theorem FZ.lt (hF : FZ h) {a κ n : Nat} (hk : hk_ h a = (κ, n)) (hn : κ ≠ 99) : a < hz_ h := by
  by_cases q : a < hz_ h
  · exact q
  · have := (hF.2 a (by omega)).1
    rw [hk] at this
    exact absurd (congrArg Prod.fst this) hn
/-- references that may change -/
def PTx (P : Nat → Nat → Prop) : Prop := ∀ x f, P x f → (x = 73 ∧ f = 39) ∨ (x = 64 ∧ f = 3) ∨ 458 ≤ x
theorem HS.oa {a : Nat} (hH : HS h a) (o : OA c s S P h h') (hz : 504 ≤ hz_ h) (h1 : 78 ≤ a) (h2 : a + 8 ≤ 458) (hP : PTx P) : HS h' a := by
  have ep : ∀ x f, a ≤ x → x < a + 8 → hp_ h' x f = hp_ h x f := fun x f f1 f2 => o.p (by omega) (fun q => by have := hP _ _ q; omega)
  obtain ⟨h1, h2, h3, h4, h5, h6, h7, h8, h9, h10, h11, h12, h13, h14, h15⟩ := hH
  exact ⟨(o.k (by omega)).trans h1, (o.k (by omega)).trans h2, (o.k (by omega)).trans h3, (o.k (by omega)).trans h4, (o.k (by omega)).trans h5, (o.k (by omega)).trans h6, (o.k (by omega)).trans h7, (o.k (by omega)).trans h8, (ep _ _ (by omega) (by omega)).trans h9, (ep _ _ (by omega) (by omega)).trans h10, (ep _ _ (by omega) (by omega)).trans h11, (ep _ _ (by omega) (by omega)).trans h12, (ep _ _ (by omega) (by omega)).trans h13, (ep _ _ (by omega) (by omega)).trans h14, (ep _ _ (by omega) (by omega)).trans h15⟩
theorem xKL_lt : ∀ q ∈ xKL, q.1 < 458 := by decide
theorem xPL_lt : ∀ q ∈ xPL, q.1 < 458 ∧ ¬ (q.1 = 73 ∧ q.2.1 = 39) ∧ ¬ (q.1 = 64 ∧ q.2.1 = 3) := by decide
theorem XS.oa (hX : XS h) (o : OA c s S P h h') (hz : 504 ≤ hz_ h) (hP : PTx P) : XS h' := by
  have ep : ∀ x f, x < 458 → ¬ (x = 73 ∧ f = 39) → ¬ (x = 64 ∧ f = 3) → hp_ h' x f = hp_ h x f := fun x f f1 f2 f3 => o.p (by omega) (fun q => by have := hP _ _ q; omega)
  obtain ⟨h1, h2, h3, h4, h5, h6, h7, h8, h9⟩ := hX
  refine ⟨fun q hq => (o.k (by have := xKL_lt q hq; omega)).trans (h1 q hq), fun q hq => ?_, h3.oa o hz (by decide) (by decide) hP, h4.oa o hz (by decide) (by decide) hP, fun k hk => ⟨(h5 k hk).1.oa o hz (by omega) (by omega) hP, (ep _ _ (by decide) (by omega) (by omega)).trans (h5 k hk).2⟩, fun k hk => ⟨(h6 k hk).1.oa o hz (by omega) (by omega) hP, (ep _ _ (by decide) (by omega) (by omega)).trans (h6 k hk).2⟩, fun k hk => (ep _ _ (by decide) (by omega) (by omega)).trans (h7 k hk), fun k hk => (ep _ _ (by decide) (by omega) (by omega)).trans (h8 k hk), fun k hk => (ep _ _ (by decide) (by omega) (by omega)).trans (h9 k hk)⟩
  obtain ⟨p1, p2, p3⟩ := xPL_lt q hq
  exact (ep _ _ p1 p2 p3).trans (h2 q hq)
theorem SR.oa (hF : FZ h) (o : OA c s S P h h') (hS : ∀ x f, S x f → ¬ xa x) (hP : ∀ x f, P x f → ∃ κ n, hk_ h x = (κ, n) ∧ κ ≠ 15) : ∀ {n a : Nat} {cd : cdT}, SR h n a cd → SR h' n a cd := by
  intro n
  induction n with
  | zero => intro a c hs; exact hs.elim
  | succ n ih =>
    intro a c hs
    obtain ⟨h1, h2⟩ := hs
    have hlt : a < hz_ h := by
      rcases h2 with ⟨k1, -⟩ | ⟨k1, -⟩ | ⟨k1, -⟩ <;> exact hF.lt k1 (by decide)
    have e : ∀ f, hi_ h' a f = hi_ h a f := fun f => o.i hlt (fun z => hS _ _ z h1)
    refine ⟨h1, ?_⟩
    rcases h2 with ⟨k1, v, k2, k3⟩ | ⟨k1, k, k2, k3, k4⟩ | ⟨k1, x, y, cx, cy, k, k2, k3, k4, k5, k6, k7⟩
    · exact Or.inl ⟨(o.k hlt).trans k1, v, k2, (e _).trans k3⟩
    · exact Or.inr (Or.inl ⟨(o.k hlt).trans k1, k, k2, k3, (e _).trans k4⟩)
    · have pn : ∀ f, ¬ P a f := fun f q => by
        obtain ⟨κ, n, z1, z2⟩ := hP _ _ q
        rw [k1] at z1
        exact z2 (congrArg Prod.fst z1).symm
      refine Or.inr (Or.inr ⟨(o.k hlt).trans k1, x, y, cx, cy, k, ?_, (o.p hlt (pn _)).trans k3, (o.p hlt (pn _)).trans k4, ih k5, ih k6, k7⟩)
      rw [e]; exact k2
theorem SR.up : ∀ {n m a : Nat} {cd : cdT}, n ≤ m → SR h n a cd → SR h m a cd := by
  intro n
  induction n with
  | zero => intro m a c _ hs; exact hs.elim
  | succ n ih =>
    intro m a c hm hs
    cases m with
    | zero => omega
    | succ m =>
      obtain ⟨h1, h2⟩ := hs
      refine ⟨h1, ?_⟩
      rcases h2 with k | k | ⟨k1, x, y, cx, cy, k, k2, k3, k4, k5, k6, k7⟩
      · exact Or.inl k
      · exact Or.inr (Or.inl k)
      · exact Or.inr (Or.inr ⟨k1, x, y, cx, cy, k, k2, k3, k4, ih (by omega) k5, ih (by omega) k6, k7⟩)
end OAs
