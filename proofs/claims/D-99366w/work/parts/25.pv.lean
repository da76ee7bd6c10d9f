set_option maxRecDepth 100000
/-! LETTINGS, plainly: what sets of guests pay -/
section PV
variable {T : aTx} {w : Nat → Int32}
theorem wi_b (v : Int32) : 0 ≤ (wi_ v (nI 0) (nI 99)).toInt ∧ (wi_ v (nI 0) (nI 99)).toInt ≤ 99 := by
  unfold wi_
  split
  · rw [nI_toInt (by decide)]; omega
  · rename_i h1
    rw [Int32.lt_iff_toInt_lt, nI_toInt (by decide)] at h1
    split
    · rw [nI_toInt (by decide)]; omega
    · rename_i h2
      rw [Int32.lt_iff_toInt_lt, nI_toInt (by decide)] at h2
      omega
theorem te_b {k : Nat} {v : Nat → Int32} {p : Int32} (hp : 0 ≤ p.toInt ∧ p.toInt ≤ 99) : 0 ≤ (te_ T k v p).toInt ∧ (te_ T k v p).toInt ≤ 99 := by
  unfold te_
  cases la_ T k with
  | none => exact hp
  | some L =>
    show 0 ≤ (tl_ L v).toInt ∧ (tl_ L v).toInt ≤ 99
    unfold tl_
    cases tlO v L.1 L.2 with
    | none => show 0 ≤ (nI 0).toInt ∧ (nI 0).toInt ≤ 99; decide
    | some x => exact wi_b x
theorem pA_b (hV : TV T) {g s : Nat} {o : Int32} (hg : g < ng_ T) : 0 ≤ (pA_ T w g s o).toInt ∧ (pA_ T w g s o).toInt ≤ 99 := te_b (hV.2.2.1 g hg).2.2.1
theorem rA_b (hV : TV T) {g s : Nat} {o : Int32} (hg : g < ng_ T) : 0 ≤ (rA_ T w g s o).toInt ∧ (rA_ T w g s o).toInt ≤ 99 := te_b (by have := (hV.2.2.1 g hg).2.1; omega)
theorem sO_b (hV : TV T) {s : Nat} (hs : s < ns_ T) : 0 ≤ (sO_ T w s).toInt ∧ (sO_ T w s).toInt ≤ 99 := te_b (hV.2.2.2.1 s hs).2
theorem wO_b {s : Nat} : 0 ≤ (wO_ T w s).toInt ∧ (wO_ T w s).toInt ≤ 99 := by
  unfold wO_
  split
  · decide
  · exact te_b (by decide)
theorem pO_b (hV : TV T) {g : Nat} (hg : g < ng_ T) : 0 ≤ (pO_ T w g).toInt ∧ (pO_ T w g).toInt ≤ 99 := by
  unfold pO_
  split
  · decide
  · exact pA_b hV hg
/-- a set's sum -/
def smN (T : aTx) (w : Nat → Int32) (s set n : Nat) : Int32 := itn n (fun g a => if set.testBit g = true then a + pA_ T w g s (nI 0) else a) (nI 0)
theorem smN_b (hV : TV T) {s set : Nat} : ∀ n, n ≤ ng_ T → 0 ≤ (smN T w s set n).toInt ∧ (smN T w s set n).toInt ≤ 99 * n := by
  intro n
  induction n with
  | zero => intro _; exact (by decide : 0 ≤ (nI 0).toInt ∧ (nI 0).toInt ≤ 99 * 0)
  | succ n ih =>
    intro hn
    have h7 := hV.2.1
    have h1 := ih (by omega)
    have h2 := pA_b (w := w) (s := s) (o := nI 0) hV (show n < ng_ T by omega)
    show 0 ≤ (if set.testBit n = true then smN T w s set n + pA_ T w n s (nI 0) else smN T w s set n).toInt ∧ (if set.testBit n = true then smN T w s set n + pA_ T w n s (nI 0) else smN T w s set n).toInt ≤ 99 * (n + 1 : Nat)
    split
    · rw [ti_add (by omega) (by omega)]; omega
    · omega
/-- may a set be in a sunday -/
def okB (T : aTx) (w : Nat → Int32) (s set : Nat) : Bool := decide (∀ g, g < ng_ T → (set.testBit g = true → w (14 + g) = 0 ∧ fit_ T w g s = true ∧ set &&& cB_ T g = 0))
def pv_ (T : aTx) (w : Nat → Int32) (s set : Nat) : Int32 := if okB T w s set = true then smN T w s set (ng_ T) else -1
theorem pv_neg (hV : TV T) {s set : Nat} : (pv_ T w s set < 0) = (okB T w s set = false) := by
  unfold pv_
  cases hq : okB T w s set with
  | false => simp only [Bool.false_eq_true, ↓reduceIte]; decide
  | true =>
    simp only [↓reduceIte]
    have := smN_b (w := w) (s := s) (set := set) hV (ng_ T) (Nat.le_refl _)
    rw [Int32.lt_iff_toInt_lt]
    apply propext
    constructor
    · intro h; exact absurd h (by show ¬ _ < (0 : Int); omega)
    · intro h; cases h
theorem pv_ge (hV : TV T) {s set : Nat} : (0 ≤ pv_ T w s set) = (okB T w s set = true) := by
  rw [← i_nlt, pv_neg hV]
  cases okB T w s set <;> simp
theorem pv_b (hV : TV T) {s set : Nat} : -1 ≤ (pv_ T w s set).toInt ∧ (pv_ T w s set).toInt ≤ 693 := by
  have h7 := hV.2.1
  unfold pv_
  have := smN_b (w := w) (s := s) (set := set) hV (ng_ T) (Nat.le_refl _)
  split
  · omega
  · decide
theorem smN_del {s set g n : Nat} (hg : set.testBit g = true) : smN T w s set n = if g < n then smN T w s (dif set (2 ^ g)) n + pA_ T w g s (nI 0) else smN T w s (dif set (2 ^ g)) n := by
  have hb : ∀ i, (dif set (2 ^ g)).testBit i = (set.testBit i && !decide (g = i)) := fun i => by
    rw [dif_bit, Nat.testBit_two_pow]
  induction n with
  | zero => rw [if_neg (Nat.not_lt_zero g)]; rfl
  | succ n ih =>
    have e1 : ∀ S, smN T w s S (n + 1) = if S.testBit n = true then smN T w s S n + pA_ T w n s (nI 0) else smN T w s S n := fun _ => rfl
    rw [e1, e1, hb n, ih]
    by_cases q : g = n
    · subst q
      rw [if_pos hg, if_neg (by omega), if_pos (by omega), if_neg (by simp)]
    · have : (set.testBit n && !decide (g = n)) = set.testBit n := by simp [q]
      have e2 : (g < n + 1) = (g < n) := propext (by omega)
      simp only [this, e2]
      by_cases q2 : g < n
      · by_cases q3 : set.testBit n = true
        · simp only [q2, q3, ↓reduceIte]
          rw [Int32.add_assoc, Int32.add_comm (pA_ T w g s (nI 0)), ← Int32.add_assoc]
        · simp only [q2, q3, Bool.false_eq_true, ↓reduceIte]
      · by_cases q3 : set.testBit n = true
        · simp only [q2, q3, ↓reduceIte]
        · simp only [q2, q3, Bool.false_eq_true, ↓reduceIte]
theorem cl_sym (hV : TV T) {g o : Nat} (hg : g < ng_ T) (ho : o < ng_ T) : cl_ T g o = cl_ T o g := by
  obtain ⟨-, -, -, f, hf, e, hs⟩ := hV.2.2.1 g hg
  have h7 := hV.2.1
  have h1 := hs o ho
  have h2 : (shr_ (fo_ T g) (nI o) &&& nI 1 = nI 1) = (f.testBit o = true) := by
    rw [e, nI_shr (by omega) (by omega), bit_and1]
  unfold cl_
  have e0 : Nat.beq g o = Nat.beq o g := by
    cases hb : Nat.beq g o with
    | true => rw [Nat.eq_of_beq_eq_true hb]; exact (Nat.beq_refl o).symm
    | false =>
      cases hb2 : Nat.beq o g with
      | false => rfl
      | true =>
        rw [Nat.eq_of_beq_eq_true hb2, Nat.beq_refl] at hb
        cases hb
  rw [e0, Bool.and_comm (decide (hr_ T g < ti_ T o))]
  congr 2
  apply decide_eq_decide.mpr
  rw [h2]
  exact h1
theorem cl_self {g : Nat} : cl_ T g g = false := by
  unfold cl_
  rw [show Nat.beq g g = true from Nat.beq_refl g]
  rfl
theorem and0 {a b : Nat} : a &&& b = 0 ↔ ∀ i, ¬ (a.testBit i = true ∧ b.testBit i = true) := by
  constructor
  · intro h i hi
    have := congrArg (fun x => x.testBit i) h
    simp [Nat.testBit_and, hi.1, hi.2] at this
  · intro h
    apply Nat.eq_of_testBit_eq
    intro i
    rw [Nat.testBit_and, Nat.zero_testBit]
    have := h i
    cases h1 : a.testBit i <;> cases h2 : b.testBit i <;> simp_all
theorem cB_bit {g o : Nat} : (cB_ T g).testBit o = (decide (o < ng_ T) && cl_ T g o) := orN_bit _ _ _
theorem okB_iff {s set : Nat} : okB T w s set = true ↔ ∀ g, g < ng_ T → set.testBit g = true → w (14 + g) = 0 ∧ fit_ T w g s = true ∧ set &&& cB_ T g = 0 := decide_eq_true_iff
theorem okB_del (hV : TV T) {s set g : Nat} (hg : g < ng_ T) (hb : set.testBit g = true) : okB T w s set = true ↔ (okB T w s (dif set (2 ^ g)) = true ∧ w (14 + g) = 0 ∧ fit_ T w g s = true ∧ set &&& cB_ T g = 0) := by
  have hd : ∀ i, (dif set (2 ^ g)).testBit i = (set.testBit i && !decide (g = i)) := fun i => by
    rw [dif_bit, Nat.testBit_two_pow]
  rw [okB_iff, okB_iff]
  constructor
  · intro h
    refine ⟨fun o ho hob => ?_, h g hg hb⟩
    rw [hd] at hob
    simp only [Bool.and_eq_true, Bool.not_eq_true', decide_eq_false_iff_not] at hob
    obtain ⟨h1, h2, h3⟩ := h o ho hob.1
    refine ⟨h1, h2, and0.mpr (fun i hi => ?_)⟩
    rw [hd] at hi
    simp only [Bool.and_eq_true] at hi
    exact and0.mp h3 i ⟨hi.1.1, hi.2⟩
  · rintro ⟨h, hw, hf, hc⟩ o ho hob
    by_cases q : g = o
    · subst q; exact ⟨hw, hf, hc⟩
    · obtain ⟨h1, h2, h3⟩ := h o ho (by rw [hd, hob]; simp [q])
      refine ⟨h1, h2, and0.mpr (fun i hi => ?_)⟩
      by_cases q2 : g = i
      · subst q2
        have h5 : cl_ T g o = true := by
          have := hi.2
          rw [cB_bit] at this
          simp only [Bool.and_eq_true] at this
          rw [cl_sym hV hg ho]; exact this.2
        exact and0.mp hc o ⟨hob, by rw [cB_bit, h5]; simp [ho]⟩
      · exact and0.mp h3 i ⟨by rw [hd, hi.1]; simp [q2], hi.2⟩
theorem pv_0 {s : Nat} : pv_ T w s 0 = nI 0 := by
  have h1 : okB T w s 0 = true := okB_iff.mpr (fun g _ h => by rw [Nat.zero_testBit] at h; cases h)
  unfold pv_
  rw [if_pos h1]
  have : ∀ n, smN T w s 0 n = nI 0 := by
    intro n
    induction n with
    | zero => rfl
    | succ n ih =>
      show (if Nat.testBit 0 n = true then _ else smN T w s 0 n) = _
      rw [Nat.zero_testBit, if_neg (by decide), ih]
  exact this _
theorem pv_rec (hV : TV T) (hd : ∀ g, g < ng_ T → w (14 + g) = 0 ∨ w (14 + g) = nI 1) {s set g : Nat} (hg : g < ng_ T) (hb : set.testBit g = true) :
    pv_ T w s set = if pv_ T w s (dif set (2 ^ g)) < 0 ∨ w (14 + g) = nI 1 ∨ fit_ T w g s = false ∨ ¬ set &&& cB_ T g = 0 then -1 else pv_ T w s (dif set (2 ^ g)) + pA_ T w g s (nI 0) := by
  simp only [pv_neg hV]
  have h1 := okB_del (w := w) (s := s) hV hg hb
  by_cases q : okB T w s set = true
  · obtain ⟨a1, a2, a3, a4⟩ := h1.mp q
    rw [if_neg (fun z => by
      rcases z with z | z | z | z
      · rw [a1] at z; cases z
      · rw [a2] at z; revert z; decide
      · rw [a3] at z; cases z
      · exact z a4)]
    unfold pv_
    rw [if_pos q, if_pos a1, smN_del hb, if_pos hg]
  · rw [if_pos (by
      by_cases b1 : okB T w s (dif set (2 ^ g)) = false
      · exact Or.inl b1
      · refine Or.inr ?_
        by_cases b2 : w (14 + g) = nI 1
        · exact Or.inl b2
        · refine Or.inr ?_
          by_cases b3 : fit_ T w g s = false
          · exact Or.inl b3
          · exact Or.inr (fun b4 => q (h1.mpr ⟨by simpa using b1, (hd g hg).resolve_right b2, by simpa using b3, b4⟩)))]
    unfold pv_
    rw [if_neg q]
/-- the lowest of a set -/
def low_ (set : Nat) : Nat := match fnd (fun k => set.testBit k) 7 0 with
  | some k => k
  | none => 0
theorem bits7 {set : Nat} (hs : set < 128) (h : ∀ k, k < 7 → set.testBit k = false) : set = 0 := by
  apply Nat.eq_of_testBit_eq
  intro i
  rw [Nat.zero_testBit]
  by_cases q : i < 7
  · exact h i q
  · exact Nat.testBit_lt_two_pow (Nat.lt_of_lt_of_le hs (Nat.pow_le_pow_right (n := 2) (by decide) (show 7 ≤ i by omega)))
theorem low_f {set : Nat} (h0 : ¬ set = 0) (hs : set < 128) : fnd (fun k => set.testBit k) 7 0 = some (low_ set) := by
  unfold low_
  cases hf : fnd (fun k => set.testBit k) 7 0 with
  | some k => rfl
  | none => exact absurd (bits7 hs (fun k hk => fnd_none _ _ hf k (by omega) (by omega))) h0
theorem low_s {set : Nat} (h0 : ¬ set = 0) (hs : set < 128) : low_ set < 7 ∧ set.testBit (low_ set) = true ∧ ∀ i, i < low_ set → set.testBit i = false := by
  obtain ⟨h1, h2, h3, h4⟩ := fnd_some _ _ _ (low_f h0 hs)
  exact ⟨by omega, h3, fun i hi => h4 i (by omega) hi⟩
theorem bit_lt {set n g : Nat} (hs : set < 2 ^ n) (hb : set.testBit g = true) : g < n := by
  by_cases q : g < n
  · exact q
  · rw [Nat.testBit_lt_two_pow (Nat.lt_of_lt_of_le hs (Nat.pow_le_pow_right (by decide) (by omega)))] at hb
    cases hb
theorem dif_le {a b : Nat} : dif a b ≤ a := Nat.le_of_testBit (fun i h => by
  rw [dif_bit, Bool.and_eq_true] at h
  exact h.1)
theorem dif_ltb {a g : Nat} (hb : a.testBit g = true) : dif a (2 ^ g) < a := by
  refine Nat.lt_of_le_of_ne dif_le (fun e => ?_)
  have := congrArg (fun x => x.testBit g) e
  rw [dif_bit, Nat.testBit_two_pow_self, hb] at this
  cases this
end PV
