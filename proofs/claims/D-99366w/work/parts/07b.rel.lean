set_option maxRecDepth 100000
/-! SIMULATION 1: what an abstract heap says of a heap -/
/-- addresses from 64 on are the run's own cells, in their order; below: cells that were there before -/
def aPhi (b : Nat) (E : Nat → Value) : Value → Value
  | .ref a => if a < 64 then E a else .ref (b + (a - 64))
  | v => v
def aFt : Nat → FieldType
  | 100 => .int
  | 101 => .byte
  | 102 => .short
  | 103 => .boolean
  | 104 => .long
  | 110 => .object "java/lang/String"
  | 111 => .object "LentSundays$Sum"
  | 112 => .object "LentSundays$Law"
  | 113 => .object "LentSundays$House"
  | 114 => .object "java/lang/Object"
  | 115 => .array .int
  | _ => .float
def aEl (h : aH) (a κ j : Nat) : Value := if κ = 104 then .long (hl_ h a j) else if 110 ≤ κ then va_rf (hp_ h a j) else .int (hi_ h a j)
def aOb (D : va_G) (φ : Value → Value) (s : State) (h : aH) (a : Nat) (cell : Cell) : Prop :=
  cell.vm ≠ .unknown ∧ cell.vm.isStatics = false ∧ (64 ≤ a → cell.vm = .none) ∧
  ((hk_ h a).1 < 98 → cell.cls = D.1 (hk_ h a).1 ∧ (hk_ h a).1 < 19 ∧ ∀ (k : Nat) (q : Nat × Nat), (aKfL.getD (hk_ h a).1 [])[k]? = some q → cell.slots[D.2 (hk_ h a).1 k]? = some (φ (aVl h a q.1 q.2))) ∧
  (100 ≤ (hk_ h a).1 → s.isArrayOf cell (aFt (hk_ h a).1) ∧ (110 ≤ (hk_ h a).1 → va_RA s cell.cls (aFt (hk_ h a).1)) ∧ cell.slots.size = (hk_ h a).2 ∧ (∀ j, j < (hk_ h a).2 → cell.slots[j]? = some (φ (aEl h a (hk_ h a).1 j))) ∧ (hk_ h a).1 < 116)
def aRel (D : va_G) (b : Nat) (E : Nat → Value) (s : State) (h : aH) (H : Heap) : Prop :=
  64 ≤ hz_ h ∧ H.size = b + (hz_ h - 64) ∧ (∀ a, a < 64 → E a = .null ∨ ∃ x : Nat, E a = .ref x ∧ x < b) ∧
  (∀ a, hz_ h ≤ a → hk_ h a = (99, 0) ∧ ∀ f, hp_ h a f = none ∧ hi_ h a f = 0 ∧ hl_ h a f = 0) ∧
  (∀ a, a < hz_ h → (hk_ h a).1 = 98 ∨ (hk_ h a).1 = 99 ∨ ∃ (x : Nat) (cell : Cell), aPhi b E (.ref a) = .ref x ∧ H[x]? = some cell ∧ aOb D (aPhi b E) s h a cell) ∧
  (∀ q ∈ aStl, va_Z q.1 q.2.1 q.2.2.1 (aPhi b E q.2.2.2) (fun x => b ≤ x) s H)
theorem aPhi_own {b : Nat} {E : Nat → Value} {a : Nat} (h : 64 ≤ a) : aPhi b E (.ref a) = .ref (b + (a - 64)) := if_neg (Nat.not_lt.mpr h)
theorem aPhi_int {b : Nat} {E : Nat → Value} {x : Int32} : aPhi b E (.int x) = .int x := rfl
theorem aPhi_long {b : Nat} {E : Nat → Value} {x : Int64} : aPhi b E (.long x) = .long x := rfl
theorem aPhi_null {b : Nat} {E : Nat → Value} : aPhi b E .null = .null := rfl
theorem aOb.moved {D : va_G} {φ : Value → Value} {s U : State} {h : aH} {a : Nat} {cell : Cell} (hvm : s.vm.Alike U.vm) (hO : aOb D φ s h a cell) : aOb D φ U h a cell := by
  obtain ⟨h1, h2, h3, h4, h5⟩ := hO
  refine ⟨h1, h2, h3, h4, fun hk => ?_⟩
  obtain ⟨r1, r2, r3, r4, r5⟩ := h5 hk
  exact ⟨State.isArrayOf_alike hvm r1, fun hk => (r2 hk).moved hvm, r3, r4, r5⟩
theorem aRel.moved {D : va_G} {b : Nat} {E : Nat → Value} {s U : State} {h : aH} {H : Heap} (hvm : s.vm.Alike U.vm) (hR : aRel D b E s h H) : aRel D b E U h H := by
  obtain ⟨h1, h2, h3, h4, h5, h6⟩ := hR
  refine ⟨h1, h2, h3, h4, fun a ha => ?_, fun q hq => (h6 q hq).moved hvm⟩
  rcases h5 a ha with h | h | ⟨x, cell, e1, e2, e3⟩
  · exact Or.inl h
  · exact Or.inr (Or.inl h)
  · exact Or.inr (Or.inr ⟨x, cell, e1, e2, e3.moved hvm⟩)
theorem aRel.get {D : va_G} {b : Nat} {E : Nat → Value} {s : State} {h : aH} {H : Heap} (hR : aRel D b E s h H) {a : Nat} (h8 : (hk_ h a).1 ≠ 98) (h9 : (hk_ h a).1 ≠ 99) :
    a < hz_ h ∧ ∃ (x : Nat) (cell : Cell), aPhi b E (.ref a) = .ref x ∧ H[x]? = some cell ∧ aOb D (aPhi b E) s h a cell := by
  by_cases ha : a < hz_ h
  · rcases hR.2.2.2.2.1 a ha with h | h | h
    · exact absurd h h8
    · exact absurd h h9
    · exact ⟨ha, h⟩
  · have := (hR.2.2.2.1 a (by omega)).1
    rw [this] at h9
    exact absurd rfl h9
/-- the same contents at a -/
def aSame (h h' : aH) (a : Nat) : Prop := hk_ h' a = hk_ h a ∧ ∀ f, hp_ h' a f = hp_ h a f ∧ hi_ h' a f = hi_ h a f ∧ hl_ h' a f = hl_ h a f
theorem aSame.vl {h h' : aH} {a : Nat} (hS : aSame h h' a) (g ty : Nat) : aVl h' a g ty = aVl h a g ty := by
  obtain ⟨-, h2⟩ := hS
  obtain ⟨e1, e2, e3⟩ := h2 g
  unfold aVl
  rw [e1, e2, e3]
theorem aSame.el {h h' : aH} {a : Nat} (hS : aSame h h' a) (κ j : Nat) : aEl h' a κ j = aEl h a κ j := by
  obtain ⟨-, h2⟩ := hS
  obtain ⟨e1, e2, e3⟩ := h2 j
  unfold aEl
  rw [e1, e2, e3]
theorem aOb.same {D : va_G} {φ : Value → Value} {s : State} {h h' : aH} {a : Nat} {cell : Cell} (hS : aSame h h' a) (hO : aOb D φ s h a cell) : aOb D φ s h' a cell := by
  obtain ⟨h1, h2, h3, h4, h5⟩ := hO
  unfold aOb
  rw [hS.1]
  refine ⟨h1, h2, h3, fun hk => ?_, fun hk => ?_⟩
  · obtain ⟨r1, r2, r3⟩ := h4 hk
    exact ⟨r1, r2, fun k q hq => by rw [hS.vl]; exact r3 k q hq⟩
  · obtain ⟨r1, r2, r3, r4, r5⟩ := h5 hk
    exact ⟨r1, r2, r3, fun j hj => by rw [hS.el]; exact r4 j hj, r5⟩
theorem aPhi_inj {D : va_G} {b : Nat} {E : Nat → Value} {s : State} {h : aH} {H : Heap} (hR : aRel D b E s h H) {a a' x : Nat} (ha : 64 ≤ a) (e : aPhi b E (.ref a') = .ref x) (hx : x = b + (a - 64)) : a' = a := by
  by_cases h' : a' < 64
  · rw [show aPhi b E (.ref a') = E a' from if_pos h'] at e
    rcases hR.2.2.1 a' h' with q | ⟨y, q, hy⟩
    · rw [q] at e; cases e
    · rw [q] at e; cases e; omega
  · rw [aPhi_own (by omega)] at e
    cases e
    omega
/-- one own cell is written -/
theorem aRel.put {D : va_G} {b : Nat} {E : Nat → Value} {s : State} {h h' : aH} {H H' : Heap} (hR : aRel D b E s h H) {a : Nat} {cell' : Cell} (ha : 64 ≤ a) (hlt : a < hz_ h)
    (hz : hz_ h' = hz_ h) (hk : ∀ x, hk_ h' x = hk_ h x) (hs : ∀ x, x ≠ a → ∀ f, hp_ h' x f = hp_ h x f ∧ hi_ h' x f = hi_ h x f ∧ hl_ h' x f = hl_ h x f)
    (e1 : H'[b + (a - 64)]? = some cell') (e2 : H'.size = H.size) (e3 : ∀ q, q ≠ b + (a - 64) → H'[q]? = H[q]?) (hO : aOb D (aPhi b E) s h' a cell') : aRel D b E s h' H' := by
  refine ⟨by rw [hz]; exact hR.1, by rw [hz, e2]; exact hR.2.1, hR.2.2.1, fun x hx => ?_, fun x hx => ?_, fun q hq => (hR.2.2.2.2.2 q hq).kept (fun y _ hy => e3 y (fun z => hy (by omega)))⟩
  · rw [hz] at hx
    have hne : x ≠ a := by omega
    obtain ⟨r1, r2⟩ := hR.2.2.2.1 x hx
    refine ⟨by rw [hk]; exact r1, fun f => ?_⟩
    obtain ⟨s1, s2, s3⟩ := hs x hne f
    rw [s1, s2, s3]
    exact r2 f
  · rw [hz] at hx
    by_cases hxa : x = a
    · subst hxa
      exact Or.inr (Or.inr ⟨_, _, aPhi_own ha, e1, hO⟩)
    · rw [hk]
      rcases hR.2.2.2.2.1 x hx with q | q | ⟨y, cell, q1, q2, q3⟩
      · exact Or.inl q
      · exact Or.inr (Or.inl q)
      · refine Or.inr (Or.inr ⟨y, cell, q1, ?_, q3.same ⟨hk x, hs x hxa⟩⟩)
        rw [e3 y (fun hy => hxa (aPhi_inj hR ha q1 hy))]
        exact q2
/-- a new cell -/
theorem aRel.new {D : va_G} {b : Nat} {E : Nat → Value} {s : State} {h : aH} {H H' : Heap} (hR : aRel D b E s h H) {κ n u : Nat} {cell' : Cell}
    (e1 : H'[H.size]? = some cell') (e2 : H'.size = H.size + 1) (e3 : ∀ q, q < H.size → H'[q]? = H[q]?) (hO : aOb D (aPhi b E) s (nw_ h κ n u) (hz_ h) cell') :
    aRel D b E s (nw_ h κ n u) H' ∧ aPhi b E (.ref (hz_ h)) = .ref H.size := by
  have h64 := hR.1
  have hsz := hR.2.1
  have hx : aPhi b E (.ref (hz_ h)) = .ref H.size := by rw [aPhi_own h64, hsz]
  have hkn : ∀ x, x ≠ hz_ h → hk_ (nw_ h κ n u) x = hk_ h x := fun x hx => if_neg hx
  refine ⟨⟨?_, ?_, hR.2.2.1, fun x hx => ?_, fun x hx => ?_, fun q hq => (hR.2.2.2.2.2 q hq).kept (fun y hy _ => e3 y hy)⟩, hx⟩
  · show 64 ≤ hz_ h + 1; omega
  · show H'.size = b + (hz_ h + 1 - 64); omega
  · have hx : hz_ h + 1 ≤ x := hx
    obtain ⟨r1, r2⟩ := hR.2.2.2.1 x (by omega)
    exact ⟨by rw [hkn x (by omega)]; exact r1, r2⟩
  · have hx : x < hz_ h + 1 := hx
    by_cases hxa : x = hz_ h
    · subst hxa
      exact Or.inr (Or.inr ⟨_, _, ‹aPhi b E (.ref (hz_ h)) = .ref H.size›, e1, hO⟩)
    · rw [hkn x hxa]
      rcases hR.2.2.2.2.1 x (by omega) with q | q | ⟨y, cell, q1, q2, q3⟩
      · exact Or.inl q
      · exact Or.inr (Or.inl q)
      · refine Or.inr (Or.inr ⟨y, cell, q1, ?_, q3.same ⟨hkn x hxa, fun f => ⟨rfl, rfl, rfl⟩⟩⟩)
        rw [e3 y (Array.getElem?_eq_some_iff.mp q2).1]
        exact q2
/-- what is stored in a field, behind it -/
theorem aVl_si {h : aH} {a g g' ty : Nat} {v : Int32} (hn : g' ≠ g) : aVl (si_ h a g v) a g' ty = aVl h a g' ty := by
  unfold aVl
  rw [show hi_ (si_ h a g v) a g' = hi_ h a g' from if_neg (fun q => hn q.2), show hl_ (si_ h a g v) a g' = hl_ h a g' from rfl, show hp_ (si_ h a g v) a g' = hp_ h a g' from rfl]
theorem aVl_sl {h : aH} {a g g' ty : Nat} {v : Int64} (hn : g' ≠ g) : aVl (sl_ h a g v) a g' ty = aVl h a g' ty := by
  unfold aVl
  rw [show hl_ (sl_ h a g v) a g' = hl_ h a g' from if_neg (fun q => hn q.2), show hi_ (sl_ h a g v) a g' = hi_ h a g' from rfl, show hp_ (sl_ h a g v) a g' = hp_ h a g' from rfl]
theorem aVl_sp {h : aH} {a g g' ty : Nat} {v : Option Nat} (hn : g' ≠ g) : aVl (sp_ h a g v) a g' ty = aVl h a g' ty := by
  unfold aVl
  rw [show hp_ (sp_ h a g v) a g' = hp_ h a g' from if_neg (fun q => hn q.2), show hi_ (sp_ h a g v) a g' = hi_ h a g' from rfl, show hl_ (sp_ h a g v) a g' = hl_ h a g' from rfl]
/-- a field's store leaves all else -/
def aOne (h h' : aH) (a g : Nat) : Prop := hz_ h' = hz_ h ∧ hu_ h' = hu_ h ∧ (∀ x, hk_ h' x = hk_ h x) ∧ (∀ x, x ≠ a → ∀ f, hp_ h' x f = hp_ h x f ∧ hi_ h' x f = hi_ h x f ∧ hl_ h' x f = hl_ h x f) ∧ ∀ g', g' ≠ g → ∀ ty, aVl h' a g' ty = aVl h a g' ty ∧ ∀ κ, aEl h' a κ g' = aEl h a κ g'
theorem aOne_si {h : aH} {a g : Nat} {v : Int32} : aOne h (si_ h a g v) a g := by
  refine ⟨rfl, rfl, fun _ => rfl, fun x hx f => ⟨rfl, if_neg (fun q => hx q.1), rfl⟩, fun g' hg ty => ⟨aVl_si hg, fun κ => ?_⟩⟩
  unfold aEl
  rw [show hi_ (si_ h a g v) a g' = hi_ h a g' from if_neg (fun q => hg q.2)]; rfl
theorem aOne_sl {h : aH} {a g : Nat} {v : Int64} : aOne h (sl_ h a g v) a g := by
  refine ⟨rfl, rfl, fun _ => rfl, fun x hx f => ⟨rfl, rfl, if_neg (fun q => hx q.1)⟩, fun g' hg ty => ⟨aVl_sl hg, fun κ => ?_⟩⟩
  unfold aEl
  rw [show hl_ (sl_ h a g v) a g' = hl_ h a g' from if_neg (fun q => hg q.2)]; rfl
theorem aOne_sp {h : aH} {a g : Nat} {v : Option Nat} : aOne h (sp_ h a g v) a g := by
  refine ⟨rfl, rfl, fun _ => rfl, fun x hx f => ⟨if_neg (fun q => hx q.1), rfl, rfl⟩, fun g' hg ty => ⟨aVl_sp hg, fun κ => ?_⟩⟩
  unfold aEl
  rw [show hp_ (sp_ h a g v) a g' = hp_ h a g' from if_neg (fun q => hg q.2)]; rfl
theorem hi_si_self {h : aH} {a g : Nat} {v : Int32} : hi_ (si_ h a g v) a g = v := if_pos ⟨rfl, rfl⟩
theorem hl_sl_self {h : aH} {a g : Nat} {v : Int64} : hl_ (sl_ h a g v) a g = v := if_pos ⟨rfl, rfl⟩
theorem hp_sp_self {h : aH} {a g : Nat} {v : Option Nat} : hp_ (sp_ h a g v) a g = v := if_pos ⟨rfl, rfl⟩
/-- a field of an object is written -/
theorem aOb.field {D : va_G} {φ : Value → Value} {s : State} {h h' : aH} {a g ty k : Nat} {cell : Cell} {v : Value} (hO : aOb D φ s h a cell) (h1 : aOne h h' a g) (hκ : (hk_ h a).1 < 19) (hk : (aKfL.getD (hk_ h a).1 [])[k]? = some (g, ty)) (hv : aVl h' a g ty = v)
    (hd : ∀ (j : Nat) (q : Nat × Nat), (aKfL.getD (hk_ h a).1 [])[j]? = some q → q.1 = g → j = k) (hap : ∀ j, j ≠ k → ∀ q, (aKfL.getD (hk_ h a).1 [])[j]? = some q → D.2 (hk_ h a).1 k ≠ D.2 (hk_ h a).1 j) :
    aOb D φ s h' a (cell.setSlot (D.2 (hk_ h a).1 k) (φ v)) := by
  obtain ⟨o1, o2, o3, o4, o5⟩ := hO
  obtain ⟨z1, z1', z2, z3, z4⟩ := h1
  obtain ⟨r1, r2, r3⟩ := o4 (by omega)
  unfold aOb
  rw [z2]
  refine ⟨o1, o2, o3, fun _ => ⟨r1, r2, fun j q hq => ?_⟩, fun hc => absurd hc (by omega)⟩
  by_cases hj : j = k
  · subst hj
    rw [hk] at hq
    cases hq
    rw [Cell.slots_setSlot_self _ (k2_hasslot (r3 _ _ hk)), hv]
  · rw [slot_ne _ _ (hap j hj q hq), r3 j q hq, (z4 q.1 (fun hg => hj (hd j q hq hg)) q.2).1]
/-- a place of an array is written -/
theorem aOb.place {D : va_G} {φ : Value → Value} {s : State} {h h' : aH} {a j : Nat} {cell : Cell} {v : Value} (hO : aOb D φ s h a cell) (h1 : aOne h h' a j) (hκ : 100 ≤ (hk_ h a).1) (hj : j < (hk_ h a).2) (hv : φ (aEl h' a (hk_ h a).1 j) = v) :
    aOb D φ s h' a (cell.setSlot j v) := by
  obtain ⟨o1, o2, o3, o4, o5⟩ := hO
  obtain ⟨z1, z1', z2, z3, z4⟩ := h1
  obtain ⟨r1, r2, r3, r4, r5⟩ := o5 hκ
  unfold aOb
  rw [z2]
  refine ⟨o1, o2, o3, fun hc => absurd hc (by omega), fun _ => ⟨r1, r2, by simpa [Cell.setSlot] using r3, fun i hi => ?_, r5⟩⟩
  by_cases hij : i = j
  · subst hij
    rw [Cell.slots_setSlot_self _ (k2_hasslot (r4 _ hi)), hv]
  · rw [slot_ne _ _ (fun q => hij q.symm), r4 i hi, (z4 i hij 0).2]
