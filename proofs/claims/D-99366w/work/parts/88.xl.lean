set_option maxRecDepth 100000
/-! X: reading (7): laws -/
section XL88
variable {c s : Nat} {S P : Nat → Nat → Prop} {h h' : aH}
theorem SR.oa2 (hF : FZ h) (o : OA c s S P h h') (hS : ∀ x f, S x f → ¬ xa x ∨ (hk_ h x).1 < 13 ∨ 15 < (hk_ h x).1) (hP : ∀ x f, P x f → (hk_ h x).1 ≠ 15) : ∀ {n a : Nat} {cd : cdT}, SR h n a cd → SR h' n a cd := by
  intro n
  induction n with
  | zero => intro a c hs; exact hs.elim
  | succ n ih =>
    intro a c hs
    obtain ⟨h1, h2⟩ := hs
    have hb : 13 ≤ (hk_ h a).1 ∧ (hk_ h a).1 ≤ 15 := by
      rcases h2 with ⟨k1, -⟩ | ⟨k1, -⟩ | ⟨k1, -⟩ <;> rw [k1] <;> decide
    have hlt : a < hz_ h := by
      rcases h2 with ⟨k1, -⟩ | ⟨k1, -⟩ | ⟨k1, -⟩ <;> exact hF.lt k1 (by decide)
    have e : ∀ f, hi_ h' a f = hi_ h a f := fun f => o.i hlt (fun z => by
      rcases hS _ _ z with q | q | q
      · exact q h1
      · omega
      · omega)
    refine ⟨h1, ?_⟩
    rcases h2 with ⟨k1, v, k2, k3⟩ | ⟨k1, k, k2, k3, k4⟩ | ⟨k1, x, y, cx, cy, k, k2, k3, k4, k5, k6, k7⟩
    · exact Or.inl ⟨(o.k hlt).trans k1, v, k2, (e _).trans k3⟩
    · exact Or.inr (Or.inl ⟨(o.k hlt).trans k1, k, k2, k3, (e _).trans k4⟩)
    · have pn : ∀ f, ¬ P a f := fun f q => hP _ _ q (by rw [k1])
      refine Or.inr (Or.inr ⟨(o.k hlt).trans k1, x, y, cx, cy, k, ?_, (o.p hlt (pn _)).trans k3, (o.p hlt (pn _)).trans k4, ih k5, ih k6, k7⟩)
      rw [e]; exact k2
theorem SR.kk {n a : Nat} {cd : cdT} (hs : SR h n a cd) : (hk_ h a).1 = 13 ∨ (hk_ h a).1 = 14 ∨ (hk_ h a).1 = 15 := by
  cases n with
  | zero => exact hs.elim
  | succ n =>
    rcases hs.2 with ⟨k1, -⟩ | ⟨k1, -⟩ | ⟨k1, -⟩ <;> rw [k1] <;> simp
theorem sto_111 {k : Nat} (h : k = 13 ∨ k = 14 ∨ k = 15) : aSto 111 k = true := by
  rcases h with h | h | h <;> subst h <;> decide
/-- a sum in a row of them -/
def SE (h : aH) (x i : Nat) (u : cdT) : Prop := ∃ a, hp_ h x i = some a ∧ SR h 400 a u
def SOp (h : aH) (x i : Nat) (p : Option cdT) : Prop := ∀ u, p = some u → SE h x i u
/-- a law in the making: acc stands; p, q, r of the next -/
def LwQ (h : aH) (l x y z : Nat) (acc : List (cdT × cdT × cdT)) (p q r : Option cdT) : Prop := (504 ≤ l ∧ hk_ h l = (12, 0) ∧ hi_ h l 140 = nI acc.length ∧ acc.length ≤ 4 ∧ hp_ h l 137 = some x ∧ hp_ h l 138 = some y ∧ hp_ h l 139 = some z) ∧ (504 ≤ x ∧ 504 ≤ y ∧ 504 ≤ z ∧ hk_ h x = (111, 4) ∧ hk_ h y = (111, 4) ∧ hk_ h z = (111, 5) ∧ x ≠ y ∧ x ≠ z ∧ y ≠ z) ∧ (∀ i (hi : i < acc.length), SE h x i (acc[i]).1 ∧ SE h y i (acc[i]).2.1 ∧ SE h z i (acc[i]).2.2) ∧ SOp h x acc.length p ∧ SOp h y acc.length q ∧ SOp h z acc.length r
variable {l x y z : Nat} {acc : List (cdT × cdT × cdT)} {p q r : Option cdT}
theorem SE.oa {i : Nat} {u : cdT} (hE : SE h x i u) (hF : FZ h) (o : OA c s S P h h') (hx : x < hz_ h) (hn : ¬ P x i) (hS : ∀ x f, S x f → ¬ xa x ∨ (hk_ h x).1 < 13 ∨ 15 < (hk_ h x).1) (hP : ∀ x f, P x f → (hk_ h x).1 ≠ 15) : SE h' x i u := by
  obtain ⟨a, h1, h2⟩ := hE
  exact ⟨a, (o.p hx hn).trans h1, h2.oa2 hF o hS hP⟩
theorem LwQ.oa (hL : LwQ h l x y z acc p q r) (hF : FZ h) (o : OA c s S P h h') (h1 : ¬ S l 140) (hS : ∀ x f, S x f → ¬ xa x ∨ (hk_ h x).1 < 13 ∨ 15 < (hk_ h x).1) (hP : ∀ a f, P a f → a ≠ l ∧ a ≠ x ∧ a ≠ y ∧ a ≠ z ∧ (hk_ h a).1 ≠ 15) : LwQ h' l x y z acc p q r := by
  obtain ⟨⟨a1, a2, a3, a4, a5, a6, a7⟩, ⟨b1, b2, b3, b4, b5, b6, b7⟩, c1, c2, c3, c4⟩ := hL
  have ll := hF.lt a2 (by decide)
  have lx := hF.lt b4 (by decide)
  have ly := hF.lt b5 (by decide)
  have lz := hF.lt b6 (by decide)
  have hP' : ∀ x f, P x f → (hk_ h x).1 ≠ 15 := fun a f q => (hP a f q).2.2.2.2
  exact ⟨⟨a1, (o.k ll).trans a2, (o.i ll h1).trans a3, a4, (o.p ll (fun q => (hP _ _ q).1 rfl)).trans a5, (o.p ll (fun q => (hP _ _ q).1 rfl)).trans a6, (o.p ll (fun q => (hP _ _ q).1 rfl)).trans a7⟩, ⟨b1, b2, b3, (o.k lx).trans b4, (o.k ly).trans b5, (o.k lz).trans b6, b7⟩, fun i hi => ⟨(c1 i hi).1.oa hF o lx (fun q => (hP _ _ q).2.1 rfl) hS hP', (c1 i hi).2.1.oa hF o ly (fun q => (hP _ _ q).2.2.1 rfl) hS hP', (c1 i hi).2.2.oa hF o lz (fun q => (hP _ _ q).2.2.2.1 rfl) hS hP'⟩, fun u hu => (c2 u hu).oa hF o lx (fun q => (hP _ _ q).2.1 rfl) hS hP', fun u hu => (c3 u hu).oa hF o ly (fun q => (hP _ _ q).2.2.1 rfl) hS hP', fun u hu => (c4 u hu).oa hF o lz (fun q => (hP _ _ q).2.2.2.1 rfl) hS hP'⟩
theorem XPF.sx {a f : Nat} (q : XPF a f) : ¬ xa a ∨ (hk_ h a).1 < 13 ∨ 15 < (hk_ h a).1 := Or.inl q.na
theorem LwQ.xp (hL : LwQ h l x y z acc p q r) (hF : FZ h) (o : OA c s XPF NPx h h') : LwQ h' l x y z acc p q r := hL.oa hF o (fun q => by have := hL.1.1; unfold XPF at q; omega) (fun a f q => q.sx) (fun _ _ q => q.elim)
/-- a sum stored; w: which row -/
theorem LwQ.st (hL : LwQ h l x y z acc p q r) (hF : FZ h) {w a : Nat} {u : cdT} (hw : w = x ∨ w = y ∨ w = z) (hu : SR h 400 a u) : LwQ (sp_ h w acc.length (some a)) l x y z acc (if w = x then some u else p) (if w = y then some u else q) (if w = z then some u else r) := by
  obtain ⟨⟨a1, a2, a3, a4, a5, a6, a7⟩, ⟨b1, b2, b3, b4, b5, b6, b7, b8, b9⟩, c1, c2, c3, c4⟩ := hL
  have o : OA 0 0 NPx (fun b f => b = w ∧ f = acc.length) h (sp_ h w acc.length (some a)) := OA.refl.sps ⟨rfl, rfl⟩
  have kw : (hk_ h w).1 = 111 := by
    rcases hw with e | e | e
    · rw [e, b4]
    · rw [e, b5]
    · rw [e, b6]
  have wl : w ≠ l := fun e => by rw [e, a2] at kw; exact absurd kw (by decide)
  have ll := hF.lt a2 (by decide)
  have lx := hF.lt b4 (by decide)
  have ly := hF.lt b5 (by decide)
  have lz := hF.lt b6 (by decide)
  have hS : ∀ x f, NPx x f → ¬ xa x ∨ (hk_ h x).1 < 13 ∨ 15 < (hk_ h x).1 := fun _ _ q => q.elim
  have hP : ∀ b f, (b = w ∧ f = acc.length) → (hk_ h b).1 ≠ 15 := fun b f e => by rw [e.1, kw]; decide
  have U : SE (sp_ h w acc.length (some a)) w acc.length u := ⟨a, if_pos ⟨rfl, rfl⟩, hu.oa2 hF o hS hP⟩
  have ep : ∀ f, hp_ (sp_ h w acc.length (some a)) l f = hp_ h l f := fun f => if_neg (fun e => wl e.1.symm)
  have K : ∀ (v : Nat) (lv : v < hz_ h) (t : Option cdT), SOp h v acc.length t → SOp (sp_ h w acc.length (some a)) v acc.length (if w = v then some u else t) := fun v lv t ht u' hu' => by
    by_cases e : w = v
    · rw [if_pos e] at hu'; cases hu'; rw [← e]; exact U
    · rw [if_neg e] at hu'
      exact (ht u' hu').oa hF o lv (fun q => e q.1.symm) hS hP
  exact ⟨⟨a1, a2, a3, a4, (ep _).trans a5, (ep _).trans a6, (ep _).trans a7⟩, ⟨b1, b2, b3, b4, b5, b6, b7, b8, b9⟩, fun i hi => ⟨(c1 i hi).1.oa hF o lx (fun q => by omega) hS hP, (c1 i hi).2.1.oa hF o ly (fun q => by omega) hS hP, (c1 i hi).2.2.oa hF o lz (fun q => by omega) hS hP⟩, K x lx p c2, K y ly q c3, K z lz r c4⟩
/-- one if more -/
theorem LwQ.nx {u v w : cdT} (hL : LwQ h l x y z acc (some u) (some v) (some w)) (hF : FZ h) (h4 : acc.length < 4) : LwQ (si_ h l 140 (nI (acc.length + 1))) l x y z (acc ++ [(u, v, w)]) none none none := by
  obtain ⟨⟨a1, a2, a3, a4, a5, a6, a7⟩, hb, c1, c2, c3, c4⟩ := hL
  have e1 : (acc ++ [(u, v, w)]).length = acc.length + 1 := by rw [List.length_append, List.length_singleton]
  have o : OA 0 0 (fun b _ => b = l) NPx h (si_ h l 140 (nI (acc.length + 1))) := OA.refl.sis rfl
  have hS : ∀ b (f : Nat), (b = l) → ¬ xa b ∨ (hk_ h b).1 < 13 ∨ 15 < (hk_ h b).1 := fun b f e => by rw [e, a2]; exact Or.inr (Or.inl (by decide))
  have hP : ∀ x f, NPx x f → (hk_ h x).1 ≠ 15 := fun _ _ q => q.elim
  have lx := hF.lt hb.2.2.2.1 (by decide)
  have ly := hF.lt hb.2.2.2.2.1 (by decide)
  have lz := hF.lt hb.2.2.2.2.2.1 (by decide)
  refine ⟨⟨a1, a2, by rw [e1]; exact hi_same, by rw [e1]; omega, a5, a6, a7⟩, hb, fun i hi => ?_, fun _ e => (by cases e), fun _ e => (by cases e), fun _ e => (by cases e)⟩
  by_cases q : i = acc.length
  · subst q
    rw [List.getElem_append_right (Nat.le_refl _)]
    simp only [Nat.sub_self, List.getElem_singleton]
    exact ⟨(c2 u rfl).oa hF o lx (fun q => q) hS hP, (c3 v rfl).oa hF o ly (fun q => q) hS hP, (c4 w rfl).oa hF o lz (fun q => q) hS hP⟩
  · rw [List.getElem_append_left (by omega)]
    obtain ⟨d1, d2, d3⟩ := c1 i (by omega)
    exact ⟨d1.oa hF o lx (fun q => q) hS hP, d2.oa hF o ly (fun q => q) hS hP, d3.oa hF o lz (fun q => q) hS hP⟩
theorem LwQ.X {e : cdT} (hL : LwQ h l x y z acc p q (some e)) : XL h l (acc, e) := by
  obtain ⟨⟨a1, a2, a3, a4, a5, a6, a7⟩, ⟨b1, b2, b3, b4, b5, b6, -⟩, c1, -, -, c4⟩ := hL
  refine ⟨Or.inr a1, a2, a4, a3, x, y, z, a5, a6, a7, Or.inr b1, Or.inr b2, Or.inr b3, b4, b5, b6, fun i hi => ?_, ?_⟩
  · obtain ⟨⟨a, d1, d2⟩, ⟨b, d3, d4⟩, ⟨c, d5, d6⟩⟩ := c1 i hi
    exact ⟨a, b, c, d1, d3, d5, d2, d4, d6⟩
  · obtain ⟨c, d1, d2⟩ := c4 e rfl
    exact ⟨c, d1, d2⟩
end XL88
