set_option maxRecDepth 100000
/-! MORE GROUND: loops with changing heaps; numbers compared -/
theorem nI_leL {a b : Nat} (ha : a < 2147483648) (hb : b < 2147483648) : (nI a ≤ nI b) = (a ≤ b) := propext (nI_leI ha hb)
theorem nI_ltL {a b : Nat} (ha : a < 2147483648) (hb : b < 2147483648) : (nI a < nI b) = (a < b) := propext (nI_ltI ha hb)
theorem nI_eqL {a b : Nat} (ha : a < 2147483648) (hb : b < 2147483648) : (nI a = nI b) = (a = b) := propext (nI_eq ha hb)
theorem nI_s1 (m : Nat) : nI (m + 1) - nI 1 = nI m := nI_sub (Nat.le_add_left 1 m)
theorem nI_m1 (m : Nat) : nI (m + 1) + (-1 : Int32) = nI m := by
  rw [← nI_s1 m, Int32.sub_eq_add_neg]; rfl
theorem run_invd {σ β : Type} {F : Nat → Nat → σ → β} {I : Nat → σ → Prop} {n : Nat} {x : σ} (h0 : I 0 x) (hs : ∀ j x, j < n → I j x → ∃ y, (∀ d, F d j x = F d (j + 1) y) ∧ I (j + 1) y) : ∃ y, (∀ d, F d 0 x = F d n y) ∧ I n y := by
  have : ∀ k, k ≤ n → ∃ y, (∀ d, F d 0 x = F d k y) ∧ I k y := by
    intro k
    induction k with
    | zero => intro _; exact ⟨x, fun _ => rfl, h0⟩
    | succ k ih =>
      intro hk
      obtain ⟨y, e, hy⟩ := ih (by omega)
      obtain ⟨z, e2, hz⟩ := hs k y (by omega) hy
      exact ⟨z, fun d => (e d).trans (e2 d), hz⟩
  exact this n (Nat.le_refl n)
/-- a loop that may end early: at the first j with P -/
theorem run_findd {σ β : Type} {F R : Nat → Nat → σ → β} {I Q : Nat → σ → Prop} {P : Nat → Bool} {n : Nat} {x : σ} (h0 : I 0 x)
    (hs : ∀ j x, j < n → I j x → if P j = true then ∃ y, (∀ d, F d j x = R d j y) ∧ Q j y else ∃ y, (∀ d, F d j x = F d (j + 1) y) ∧ I (j + 1) y) :
    match fnd P n 0 with
    | some j => ∃ y, (∀ d, F d 0 x = R d j y) ∧ Q j y
    | none => ∃ y, (∀ d, F d 0 x = F d n y) ∧ I n y := by
  have : ∀ k j x, j + k = n → I j x → (match fnd P k j with
    | some i => ∃ y, (∀ d, F d j x = R d i y) ∧ Q i y
    | none => ∃ y, (∀ d, F d j x = F d n y) ∧ I n y) := by
    intro k
    induction k with
    | zero =>
      intro j x hj hI
      have hj : j = n := by omega
      subst hj
      exact ⟨x, fun _ => rfl, hI⟩
    | succ k ih =>
      intro j x hj hI
      have h1 := hs j x (by omega) hI
      rw [fnd]
      cases hP : P j with
      | true =>
        rw [if_pos hP] at h1
        exact h1
      | false =>
        rw [if_neg (by rw [hP]; decide)] at h1
        obtain ⟨y, e, hy⟩ := h1
        have h2 := ih (j + 1) y (by omega) hy
        simp only [cond_false]
        revert h2
        cases fnd P k (j + 1) with
        | some i =>
          rintro ⟨z, e2, hz⟩
          exact ⟨z, fun d => (e d).trans (e2 d), hz⟩
        | none =>
          rintro ⟨z, e2, hz⟩
          exact ⟨z, fun d => (e d).trans (e2 d), hz⟩
  exact this n 0 x (by omega) h0
/-- places p .. p + n - 1 of b -/
def AB (b p n : Nat) (a f : Nat) : Prop := a = b ∧ p ≤ f ∧ f < p + n
def AA (b : Nat) (a _f : Nat) : Prop := a = b
theorem run_fillp {β : Type} {F : Nat → Nat → aH → β} {b p n : Nat} {r : Nat → Int32} {h : aH}
    (hs : ∀ d j x, j < n → On (AB b p n) h x → (∀ k, k < j → hi_ x b (p + k) = r k) → (∀ f, p + j ≤ f → hi_ x b f = hi_ h b f) → F d j x = F d (j + 1) (si_ x b (p + j) (r j))) :
    ∃ y, (∀ d, F d 0 h = F d n y) ∧ On (AB b p n) h y ∧ (∀ k, k < n → hi_ y b (p + k) = r k) := by
  obtain ⟨y, e, o, r1, -⟩ := run_invd (F := F) (I := fun j x => On (AB b p n) h x ∧ (∀ k, k < j → hi_ x b (p + k) = r k) ∧ (∀ f, p + j ≤ f → hi_ x b f = hi_ h b f)) (n := n) (x := h)
    ⟨On.refl, fun k hk => absurd hk (Nat.not_lt_zero k), fun _ _ => rfl⟩ (fun j x hj hI => by
      obtain ⟨o, r1, r2⟩ := hI
      refine ⟨si_ x b (p + j) (r j), fun d => hs d j x hj o r1 r2, o.trans (On.si ⟨rfl, by omega, by omega⟩), ?_, ?_⟩
      · intro k hk
        rw [hi_si]
        by_cases q : k = j
        · rw [q, if_pos ⟨rfl, rfl⟩]
        · rw [if_neg (fun z => q (by omega))]; exact r1 k (by omega)
      · intro f hf
        rw [hi_si, if_neg (fun z => by omega)]
        exact r2 f (by omega))
  exact ⟨y, e, o, r1⟩
theorem run_fill {β : Type} {F : Nat → Nat → aH → β} {b n : Nat} {r : Nat → Int32} {h : aH}
    (hs : ∀ d j x, j < n → On (AB b 0 n) h x → (∀ k, k < j → hi_ x b k = r k) → (∀ f, j ≤ f → hi_ x b f = hi_ h b f) → F d j x = F d (j + 1) (si_ x b j (r j))) :
    ∃ y, (∀ d, F d 0 h = F d n y) ∧ On (AB b 0 n) h y ∧ (∀ k, k < n → hi_ y b k = r k) := by
  obtain ⟨y, e, o, r1⟩ := run_fillp (F := F) (b := b) (p := 0) (n := n) (r := r) (h := h) (fun d j x hj o r1 r2 => by
    simp only [Nat.zero_add] at r1 r2 ⊢
    exact hs d j x hj o r1 r2)
  simp only [Nat.zero_add] at r1
  exact ⟨y, e, o, r1⟩
theorem n0_0 : nI 0 = 0 := nI_0
theorem wi_id {v : Int32} (h0 : 0 ≤ v.toInt) (h9 : v.toInt ≤ 99) : wi_ v (nI 0) (nI 99) = v := by
  unfold wi_
  rw [if_neg (by rw [Int32.lt_iff_toInt_lt, nI_toInt (by decide)]; omega), if_neg (by rw [Int32.lt_iff_toInt_lt, nI_toInt (by decide)]; omega)]
theorem n1_ne : (nI 1 = 0) = False := by decide
theorem n0_e : (nI 0 = 0) = True := by decide
/-- a row with one place changed -/
def up_ (r : Nat → Int32) (i : Nat) (v : Int32) : Nat → Int32 := fun k => if k = i then v else r k
section EVC
variable {v : Nat → Int32} {c : cdT} {st : List Int32} {k x : Nat} {a b : Int32}
theorem evc_0 : evc v ((0, x) :: c) st = evc v c (nI x :: st) := rfl
theorem evc_1 : evc v ((1, x) :: c) st = evc v c (v x :: st) := rfl
theorem evc_op (hk : 2 ≤ k) : evc v ((k, x) :: c) (b :: a :: st) = if k = 5 ∧ b = 0 then none else evc v c (op_ k a b :: st) := by
  show (if k = 0 then _ else if k = 1 then _ else _) = _
  rw [if_neg (by omega), if_neg (by omega)]
theorem evc_n0 (hk : 2 ≤ k) : evc v ((k, x) :: c) [] = none := by
  show (if k = 0 then _ else if k = 1 then _ else _) = _
  rw [if_neg (by omega), if_neg (by omega)]
theorem evc_n1 (hk : 2 ≤ k) : evc v ((k, x) :: c) [a] = none := by
  show (if k = 0 then _ else if k = 1 then _ else _) = _
  rw [if_neg (by omega), if_neg (by omega)]
theorem dep_0 {n : Nat} (hk : k < 2) : dep_ ((k, x) :: c) n = dep_ c (n + 1) := if_pos hk
theorem dep_2 {n : Nat} (hk : 2 ≤ k) (hn : 2 ≤ n) : dep_ ((k, x) :: c) n = dep_ c (n - 1) := (if_neg (by omega)).trans (if_neg (by omega))
theorem dep_n {n : Nat} (hk : 2 ≤ k) (hn : n < 2) : dep_ ((k, x) :: c) n = none := (if_neg (by omega)).trans (if_pos hn)
theorem len2 (l : List Int32) (h : 2 ≤ l.length) : ∃ b a t, l = b :: a :: t := by
  match l, h with
  | b :: a :: t, _ => exact ⟨b, a, t, rfl⟩
end EVC
theorem On.sa {h : aH} {a f : Nat} {v : Int32} : On (AA a) h (si_ h a f v) := On.si (S := AA a) rfl
theorem n1_11 : (nI 1 = 1) = True := by decide
theorem hi_same {h : aH} {a f : Nat} {v : Int32} : hi_ (si_ h a f v) a f = v := if_pos ⟨rfl, rfl⟩
theorem hi_ne {h : aH} {a f x y : Nat} {v : Int32} (hn : ¬ (x = a ∧ y = f)) : hi_ (si_ h a f v) x y = hi_ h x y := if_neg hn
theorem bI_1 (b : Bool) : (bI b = 1) = (b = true) := by cases b <;> decide
theorem bI_fo (b : Bool) : (b = false ∨ b = true) = True := by cases b <;> decide
