set_option maxRecDepth 100000
/-! LETTINGS, plainly (2): what M lays -/
section LT
variable {T : aTx} {w : Nat → Int32}
def cb_ (T : aTx) (w : Nat → Int32) (s set of : Nat) : Bool := decide (dif set of = 0) && decide (0 ≤ pv_ T w s set)
def mo_ (T : aTx) (w : Nat → Int32) : Nat → Nat → Int32
  | 0, _ => nI 0
  | s + 1, of => itn (of + 1) (fun set b => if cb_ T w s set of = true ∧ b < pv_ T w s set + mo_ T w s (dif of set) then pv_ T w s set + mo_ T w s (dif of set) else b) (nI 0)
def lfP (T : aTx) (w : Nat → Int32) (s of set : Nat) : Bool := cb_ T w s set of && decide (pv_ T w s set + mo_ T w s (dif of set) = mo_ T w (s + 1) of)
def lf_ (T : aTx) (w : Nat → Int32) (s of : Nat) : Nat := match fnd (lfP T w s of) (of + 1) 0 with
  | some k => k
  | none => 0
def lets_ (T : aTx) (w : Nat → Int32) (i : Nat) : Nat := itn (ns_ T - 1 - i) (fun k of => dif of (lf_ T w (ns_ T - 1 - k) of)) (lB_ T w)
def qLetM (T : aTx) (w : Nat → Int32) (i : Int32) : Int32 := if i = -1 then mo_ T w (ns_ T) (lB_ T w) else if isS T i = true then nI (lf_ T w (kk i) (lets_ T w (kk i))) else -1
def al_ (T : aTx) (w : Nat → Int32) (s : Nat) : Nat := itn (2 ^ ng_ T - 1) (fun k b => if pv_ T w s (k + 1) ≤ pv_ T w s b then b else k + 1) 0
def qAln (T : aTx) (w : Nat → Int32) (s what : Int32) : Int32 := if isS T s = true ∧ in_ what (nI 0) (nI 1) = true then (if what = nI 0 then pv_ T w (kk s) (al_ T w (kk s)) else nI (al_ T w (kk s))) else -1
theorem dif_0 {a : Nat} : dif 0 a = 0 := by unfold dif; simp
theorem dif_z {a : Nat} : dif a 0 = a := by unfold dif; simp
theorem cb_0 {s of : Nat} : cb_ T w s 0 of = true := by
  unfold cb_
  rw [dif_0, pv_0]
  rfl
theorem mo_ge {s of : Nat} : 0 ≤ mo_ T w s of := by
  cases s with
  | zero => exact (by decide : (0 : Int32) ≤ nI 0)
  | succ s =>
    rw [mo_]
    refine itn_ind (fun _ b => 0 ≤ b) (by decide) (of + 1) (fun j b _ hb => ?_)
    split
    · rename_i h
      exact Int32.le_trans hb (Int32.le_of_lt h.2)
    · exact hb
theorem lf_ex (s of : Nat) : ∃ k, k ≤ of ∧ lfP T w s of k = true := by
  have key : ∀ j, j ≤ of + 1 → j = 0 ∨ ∃ k, k < j ∧ cb_ T w s k of = true ∧ pv_ T w s k + mo_ T w s (dif of k) = itn j (fun set b => if cb_ T w s set of = true ∧ b < pv_ T w s set + mo_ T w s (dif of set) then pv_ T w s set + mo_ T w s (dif of set) else b) (nI 0) := by
    intro j
    induction j with
    | zero => intro _; exact Or.inl rfl
    | succ j ih =>
      intro hj
      refine Or.inr ?_
      rw [itn]
      rcases ih (by omega) with h0 | ⟨k, hk, hc, e⟩
      · subst h0
        refine ⟨0, by omega, cb_0, ?_⟩
        rw [itn, pv_0, dif_z]
        have hz : nI 0 + mo_ T w s of = mo_ T w s of := by rw [nI_0]; exact Int32.zero_add _
        rw [hz]
        split
        · rfl
        · rename_i h
          have h1 : mo_ T w s of ≤ nI 0 := Int32.not_lt.mp (fun z => h ⟨cb_0, z⟩)
          exact Int32.le_antisymm h1 (by rw [nI_0]; exact mo_ge)
      · split
        · rename_i h
          exact ⟨j, by omega, h.1, rfl⟩
        · exact ⟨k, by omega, hc, e⟩
  rcases key (of + 1) (Nat.le_refl _) with h | ⟨k, hk, hc, e⟩
  · omega
  · refine ⟨k, by omega, ?_⟩
    unfold lfP
    rw [hc, Bool.true_and, decide_eq_true_eq, mo_]
    exact e
theorem lf_f (s of : Nat) : fnd (lfP T w s of) (of + 1) 0 = some (lf_ T w s of) := by
  unfold lf_
  cases hf : fnd (lfP T w s of) (of + 1) 0 with
  | some k => rfl
  | none =>
    obtain ⟨k, hk, h1⟩ := lf_ex (T := T) (w := w) s of
    have := fnd_none _ _ hf k (by omega) (by omega)
    rw [h1] at this
    cases this
theorem lf_s (s of : Nat) : lf_ T w s of ≤ of ∧ cb_ T w s (lf_ T w s of) of = true := by
  obtain ⟨h1, h2, h3, h4⟩ := fnd_some _ _ _ (lf_f (T := T) (w := w) s of)
  refine ⟨by omega, ?_⟩
  unfold lfP at h3
  simp only [Bool.and_eq_true] at h3
  exact h3.1
/-- can all be in those sundays -/
def enL (T : aTx) (w : Nat → Int32) : List Nat → Nat → Bool
  | [], of => decide (of = 0)
  | s :: l, of => (fnd (fun set => cb_ T w s set of && enL T w l (dif of set)) (of + 1) 0).isSome
def ss_ (those : Nat) : List Nat := (if those.testBit 0 = true then [0] else []) ++ (if those.testBit 1 = true then [1] else []) ++ (if those.testBit 2 = true then [2] else []) ++ (if those.testBit 3 = true then [3] else [])
theorem ss_rec : ∀ those, those < 16 → ¬ those = 0 → ss_ those = low_ those :: ss_ (dif those (2 ^ low_ those)) ∧ low_ those < 4 ∧ dif those (2 ^ low_ those) < those := by decide
def fwF (T : aTx) (w : Nat → Int32) (those : Nat) (b : Int32) : Int32 := if enL T w (ss_ those) (lB_ T w) = true ∧ (b < 0 ∨ bc_ (nI those) < bc_ b) then nI those else b
def fwB (T : aTx) (w : Nat → Int32) : Int32 := itn (2 ^ ns_ T) (fwF T w) (-2)
def qFewM (T : aTx) (w : Nat → Int32) (what : Int32) : Int32 := if in_ what (nI 0) (nI 1) = true then (if fwB T w < 0 ∨ what = nI 1 then fwB T w else bc_ (fwB T w)) else -1
/-- calm sets, tangles -/
def calm (T : aTx) (set : Nat) : Bool := decide (∀ g, g < ng_ T → (set.testBit g = true → set &&& cB_ T g = 0))
def tgl (T : aTx) (set : Nat) : Bool := decide (∀ g, g < ng_ T → (set.testBit g = true → dif (dif set (2 ^ g)) (cB_ T g) = 0))
def coV (T : aTx) (c : Nat → Int32) (of : Nat) : Int32 := if of = 0 then nI 0 else itn of (fun i b => if dif (i + 1) of = 0 ∧ c (dif of (i + 1)) + nI 1 < b ∧ calm T (i + 1) = true then c (dif of (i + 1)) + nI 1 else b) (nI 7)
def coT (T : aTx) (n : Nat) : Nat → Int32 := itn n (fun m c => up_ c m (coV T c m)) (fun _ => 0)
def qColM (T : aTx) (w : Nat → Int32) : Int32 := coT T (2 ^ ng_ T) (lB_ T w)
def tgF (T : aTx) (L : Nat) (set b : Nat) : Nat := if dif set L = 0 ∧ bc_ (nI b) < bc_ (nI set) ∧ tgl T set = true then set else b
def tgM (T : aTx) (w : Nat → Int32) : Nat := itn (lB_ T w + 1) (tgF T (lB_ T w)) 0
def qTanM (T : aTx) (w : Nat → Int32) (what : Int32) : Int32 := if in_ what (nI 0) (nI 1) = true then (if what = nI 0 then bc_ (nI (tgM T w)) else nI (tgM T w)) else -1
end LT
