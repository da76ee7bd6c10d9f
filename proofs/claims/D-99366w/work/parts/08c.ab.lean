set_option maxRecDepth 100000
/-! GROUND OF THE SPECS: loops, numbers, truth values, heaps -/
def itn {α : Type} : Nat → (Nat → α → α) → α → α
  | 0, _, a => a
  | n + 1, f, a => f n (itn n f a)
theorem run_for {α β : Type} {F : Nat → α → β} {f : Nat → α → α} {a : α} {n : Nat} (hs : ∀ j, j < n → F j (itn j f a) = F (j + 1) (f j (itn j f a))) : F 0 a = F n (itn n f a) := by
  have : ∀ k, k ≤ n → F 0 a = F k (itn k f a) := by
    intro k
    induction k with
    | zero => intro _; rfl
    | succ k ih => intro hk; exact (ih (by omega)).trans (hs k (by omega))
  exact this n (Nat.le_refl n)
theorem itn_congr {α : Type} {f g : Nat → α → α} {a : α} {n : Nat} (h : ∀ j x, j < n → f j x = g j x) : itn n f a = itn n g a := by
  induction n with
  | zero => rfl
  | succ n ih =>
    show f n (itn n f a) = g n (itn n g a)
    rw [ih (fun j x hj => h j x (by omega)), h n _ (by omega)]
theorem itn_ind {α : Type} {f : Nat → α → α} {a : α} (I : Nat → α → Prop) (h0 : I 0 a) : ∀ (n : Nat), (∀ j x, j < n → I j x → I (j + 1) (f j x)) → I n (itn n f a) := by
  intro n
  induction n with
  | zero => intro _; exact h0
  | succ n ih => intro hs; exact hs n _ (by omega) (ih (fun j x hj => hs j x (by omega)))
theorem run_inv {σ β : Type} {F : Nat → σ → β} {I : Nat → σ → Prop} {n : Nat} {x : σ} (h0 : I 0 x) (hs : ∀ j x, j < n → I j x → ∃ y, F j x = F (j + 1) y ∧ I (j + 1) y) : ∃ y, F 0 x = F n y ∧ I n y := by
  have : ∀ k, k ≤ n → ∃ y, F 0 x = F k y ∧ I k y := by
    intro k
    induction k with
    | zero => intro _; exact ⟨x, rfl, h0⟩
    | succ k ih =>
      intro hk
      obtain ⟨y, e, hy⟩ := ih (by omega)
      obtain ⟨z, e2, hz⟩ := hs k y (by omega) hy
      exact ⟨z, e.trans e2, hz⟩
  exact this n (Nat.le_refl n)
/-- the first of j, j + 1 .. (n of them) that has P -/
def fnd (P : Nat → Bool) : Nat → Nat → Option Nat
  | 0, _ => none
  | n + 1, j => bif P j then some j else fnd P n (j + 1)
theorem run_find {β : Type} {F R : Nat → β} {P : Nat → Bool} {n : Nat} (hs : ∀ j, j < n → F j = if P j = true then R j else F (j + 1)) : F 0 = match fnd P n 0 with
    | some j => R j
    | none => F n := by
  have : ∀ k j, j + k = n → F j = match fnd P k j with
    | some j => R j
    | none => F n := by
    intro k
    induction k with
    | zero => intro j hj; rw [show j = n by omega]; rfl
    | succ k ih =>
      intro j hj
      rw [hs j (by omega), fnd]
      cases hP : P j with
      | true => rfl
      | false => exact ih (j + 1) (by omega)
  exact this n 0 (by omega)
theorem fnd_congr {P Q : Nat → Bool} : ∀ (n j : Nat), (∀ i, j ≤ i → i < j + n → P i = Q i) → fnd P n j = fnd Q n j := by
  intro n
  induction n with
  | zero => intro j _; rfl
  | succ n ih => intro j h; rw [fnd, fnd, h j (by omega) (by omega), ih (j + 1) (fun i h1 h2 => h i (by omega) (by omega))]
theorem fnd_some {P : Nat → Bool} : ∀ (n j k : Nat), fnd P n j = some k → j ≤ k ∧ k < j + n ∧ P k = true ∧ ∀ i, j ≤ i → i < k → P i = false := by
  intro n
  induction n with
  | zero => intro j k h; cases h
  | succ n ih =>
    intro j k h
    rw [fnd] at h
    cases hP : P j with
    | true => rw [hP] at h; cases h; exact ⟨by omega, by omega, hP, fun i h1 h2 => by omega⟩
    | false =>
      rw [hP] at h
      obtain ⟨h1, h2, h3, h4⟩ := ih (j + 1) k h
      exact ⟨by omega, by omega, h3, fun i hi hk => by by_cases hij : i = j; (· rw [hij]; exact hP); exact h4 i (by omega) hk⟩
theorem fnd_none {P : Nat → Bool} : ∀ (n j : Nat), fnd P n j = none → ∀ i, j ≤ i → i < j + n → P i = false := by
  intro n
  induction n with
  | zero => intro j h i h1 h2; omega
  | succ n ih =>
    intro j h i h1 h2
    rw [fnd] at h
    cases hP : P j with
    | true => rw [hP] at h; cases h
    | false =>
      rw [hP] at h
      by_cases hij : i = j
      · rw [hij]; exact hP
      · exact ih (j + 1) h i (by omega) (by omega)
/-! numbers -/
theorem nI_mul (a b : Nat) : nI a * nI b = nI (a * b) := (Int32.ofNat_mul a b).symm
theorem nI_sub {a b : Nat} (h : b ≤ a) : nI a - nI b = nI (a - b) := by
  have := nI_add (a - b) b
  rw [show a - b + b = a by omega] at this
  rw [← this]
  exact Int32.add_sub_cancel _ _
theorem nI_z {n : Nat} (h : n < 2 ^ 31) : (nI n = 0) = (n = 0) := by
  rw [← nI_0]; exact propext (nI_eq h (by decide))
theorem nI_lt0 {n : Nat} (h : n < 2 ^ 31) : (nI n < 0) = False := eq_false (nI_pos h)
theorem nI_ge0 {n : Nat} (h : n < 2 ^ 31) : (0 ≤ nI n) = True := eq_true (nI_pos' h)
def bI (b : Bool) : Int32 := bif b then 1 else 0
theorem bI_z (b : Bool) : (bI b = 0) = (b = false) := by cases b <;> decide
theorem bI_01 (b : Bool) : (bI b = 0 ∨ bI b = 1) = True := by cases b <;> decide
theorem bI_t : nI 1 = bI true := by decide
theorem bI_f : nI 0 = bI false := by decide
theorem bI_o (b : Bool) : (bI b = nI 1) = (b = true) := by cases b <;> decide
theorem bI_eq (a b : Bool) : (bI a = bI b) = (a = b) := by cases a <;> cases b <;> decide
theorem n1_01 : (nI 1 = 0 ∨ nI 1 = 1) = True := by decide
theorem n0_01 : (nI 0 = 0 ∨ nI 0 = 1) = True := by decide
theorem i_nlt {x y : Int32} : (¬ x < y) = (y ≤ x) := propext Int32.not_lt
theorem i_nle {x y : Int32} : (¬ x ≤ y) = (y < x) := propext Int32.not_le
theorem va_rf_some (a : Nat) : va_rf (some a) = .ref a := rfl
theorem va_rf_none : va_rf none = .null := rfl
/-! heaps -/
theorem hk_si {h : aH} {a f x : Nat} {v : Int32} : hk_ (si_ h a f v) x = hk_ h x := rfl
theorem hp_si {h : aH} {a f x y : Nat} {v : Int32} : hp_ (si_ h a f v) x y = hp_ h x y := rfl
theorem hl_si {h : aH} {a f x y : Nat} {v : Int32} : hl_ (si_ h a f v) x y = hl_ h x y := rfl
theorem hz_si {h : aH} {a f : Nat} {v : Int32} : hz_ (si_ h a f v) = hz_ h := rfl
theorem hu_si {h : aH} {a f : Nat} {v : Int32} : hu_ (si_ h a f v) = hu_ h := rfl
theorem hi_si {h : aH} {a f x y : Nat} {v : Int32} : hi_ (si_ h a f v) x y = if x = a ∧ y = f then v else hi_ h x y := rfl
theorem hk_sp {h : aH} {a f x : Nat} {v : Option Nat} : hk_ (sp_ h a f v) x = hk_ h x := rfl
theorem hi_sp {h : aH} {a f x y : Nat} {v : Option Nat} : hi_ (sp_ h a f v) x y = hi_ h x y := rfl
theorem hl_sp {h : aH} {a f x y : Nat} {v : Option Nat} : hl_ (sp_ h a f v) x y = hl_ h x y := rfl
theorem hz_sp {h : aH} {a f : Nat} {v : Option Nat} : hz_ (sp_ h a f v) = hz_ h := rfl
theorem hu_sp {h : aH} {a f : Nat} {v : Option Nat} : hu_ (sp_ h a f v) = hu_ h := rfl
theorem hp_sp {h : aH} {a f x y : Nat} {v : Option Nat} : hp_ (sp_ h a f v) x y = if x = a ∧ y = f then v else hp_ h x y := rfl
theorem hk_sl {h : aH} {a f x : Nat} {v : Int64} : hk_ (sl_ h a f v) x = hk_ h x := rfl
theorem hi_sl {h : aH} {a f x y : Nat} {v : Int64} : hi_ (sl_ h a f v) x y = hi_ h x y := rfl
theorem hp_sl {h : aH} {a f x y : Nat} {v : Int64} : hp_ (sl_ h a f v) x y = hp_ h x y := rfl
theorem hz_sl {h : aH} {a f : Nat} {v : Int64} : hz_ (sl_ h a f v) = hz_ h := rfl
theorem hu_sl {h : aH} {a f : Nat} {v : Int64} : hu_ (sl_ h a f v) = hu_ h := rfl
theorem hl_sl {h : aH} {a f x y : Nat} {v : Int64} : hl_ (sl_ h a f v) x y = if x = a ∧ y = f then v else hl_ h x y := rfl
theorem hk_cp {h : aH} {s sp d dp n x : Nat} : hk_ (cp_ h s sp d dp n) x = hk_ h x := rfl
theorem hp_cp {h : aH} {s sp d dp n x y : Nat} : hp_ (cp_ h s sp d dp n) x y = hp_ h x y := rfl
theorem hl_cp {h : aH} {s sp d dp n x y : Nat} : hl_ (cp_ h s sp d dp n) x y = hl_ h x y := rfl
theorem hz_cp {h : aH} {s sp d dp n : Nat} : hz_ (cp_ h s sp d dp n) = hz_ h := rfl
theorem hu_cp {h : aH} {s sp d dp n : Nat} : hu_ (cp_ h s sp d dp n) = hu_ h := rfl
theorem hi_cp {h : aH} {s sp d dp n x y : Nat} : hi_ (cp_ h s sp d dp n) x y = if x = d ∧ dp ≤ y ∧ y < dp + n then hi_ h s (sp + (y - dp)) else hi_ h x y := rfl
theorem hk_nwx {h : aH} {κ n s x : Nat} : hk_ (nw_ h κ n s) x = if x = hz_ h then (κ, n) else hk_ h x := rfl
theorem hi_nw {h : aH} {κ n s x y : Nat} : hi_ (nw_ h κ n s) x y = hi_ h x y := rfl
theorem hp_nw {h : aH} {κ n s x y : Nat} : hp_ (nw_ h κ n s) x y = hp_ h x y := rfl
theorem hl_nw {h : aH} {κ n s x y : Nat} : hl_ (nw_ h κ n s) x y = hl_ h x y := rfl
/-- h' is h but for ints at the places of S -/
def On (S : Nat → Nat → Prop) (h h' : aH) : Prop := h'.1 = h.1 ∧ h'.2.1 = h.2.1 ∧ h'.2.2.1 = h.2.2.1 ∧ h'.2.2.2.2 = h.2.2.2.2 ∧ ∀ a f, ¬ S a f → hi_ h' a f = hi_ h a f
section ON
variable {S S' : Nat → Nat → Prop} {h h' h'' : aH}
theorem On.refl : On S h h := ⟨rfl, rfl, rfl, rfl, fun _ _ _ => rfl⟩
theorem On.trans (a : On S h h') (b : On S h' h'') : On S h h'' := ⟨b.1.trans a.1, b.2.1.trans a.2.1, b.2.2.1.trans a.2.2.1, b.2.2.2.1.trans a.2.2.2.1, fun x f hn => (b.2.2.2.2 x f hn).trans (a.2.2.2.2 x f hn)⟩
theorem On.mono (a : On S h h') (hs : ∀ x f, S x f → S' x f) : On S' h h' := ⟨a.1, a.2.1, a.2.2.1, a.2.2.2.1, fun x f hn => a.2.2.2.2 x f (fun q => hn (hs x f q))⟩
theorem On.si {a f : Nat} {v : Int32} (hs : S a f) : On S h (si_ h a f v) := ⟨rfl, rfl, rfl, rfl, fun x y hn => if_neg (fun q => hn (by rw [q.1, q.2]; exact hs))⟩
theorem On.cp {s sp d dp n : Nat} (hs : ∀ f, dp ≤ f → f < dp + n → S d f) : On S h (cp_ h s sp d dp n) := ⟨rfl, rfl, rfl, rfl, fun x y hn => if_neg (fun q => hn (by rw [q.1]; exact hs y q.2.1 q.2.2))⟩
theorem On.k (a : On S h h') (x : Nat) : hk_ h' x = hk_ h x := congrFun a.2.1 x
theorem On.p (a : On S h h') (x f : Nat) : hp_ h' x f = hp_ h x f := congrFun (congrFun a.2.2.1 x) f
theorem On.l (a : On S h h') (x f : Nat) : hl_ h' x f = hl_ h x f := congrFun (congrFun a.2.2.2.1 x) f
theorem On.z (a : On S h h') : hz_ h' = hz_ h := congrArg Prod.fst a.1
theorem On.u (a : On S h h') : hu_ h' = hu_ h := congrArg Prod.snd a.1
theorem On.i (a : On S h h') {x f : Nat} (hn : ¬ S x f) : hi_ h' x f = hi_ h x f := a.2.2.2.2 x f hn
end ON
