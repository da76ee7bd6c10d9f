set_option maxRecDepth 100000
/-! TOKENS: plain functions -/
def isW (c : Nat) : Bool := decide (c = 9 ∨ c = 10 ∨ c = 13 ∨ c = 32)
def isL (c : Nat) : Bool := decide (97 ≤ c ∧ c ≤ 122)
def isD (c : Nat) : Bool := decide (48 ≤ c ∧ c ≤ 57)
/-- how many with p from i on -/
def rl (p : Nat → Bool) (β : Nat → Nat) (i : Nat) : Nat := match fnd (fun k => !p (β (i + k))) 2001 0 with
  | some k => k
  | none => 2001
def sk (β : Nat → Nat) (i : Nat) : Nat := i + rl isW β i
def tlz (β : Nat → Nat) (i : Nat) : Nat := bif isL (β i) then rl isL β i else bif isD (β i) then rl isD β i else 1
/-- where the tokens begin -/
def pz (β : Nat → Nat) : Nat → Nat
  | 0 => sk β 0
  | j + 1 => sk β (pz β j + tlz β (pz β j))
def nmN (β : Nat → Nat) (i : Nat) : Nat → Nat
  | 0 => 0
  | k + 1 => 27 * nmN β i k + (β (i + k) - 96)
def vlN (β : Nat → Nat) (i : Nat) : Nat → Nat
  | 0 => 0
  | k + 1 => 10 * vlN β i k + (β (i + k) - 48)
def kyz (v : Nat) : Nat := itn 21 (fun k a => if mKy k = lN v then 20 + k else a) 1
def sgz (c : Nat) : Nat := if c = 59 then 4 else if c = 61 then 5 else if c = 40 then 6 else if c = 41 then 7 else if c = 43 then 8 else if c = 45 then 9 else if c = 42 then 10 else if c = 47 then 15 else if c = 60 then 13 else 3
def kdz (β : Nat → Nat) (n i : Nat) : Nat := if n ≤ i then 0 else bif isL (β i) then (if 8 < rl isL β i then 3 else kyz (nmN β i (rl isL β i))) else bif isD (β i) then (if 4 < rl isD β i then 3 else 2) else sgz (β i)
def tvz (β : Nat → Nat) (i : Nat) : Nat := bif isD (β i) then vlN β i (min (rl isD β i) 4) else 0
def tnz (β : Nat → Nat) (i : Nat) : Nat := bif isL (β i) then nmN β i (min (rl isL β i) 8) else 0
def tz (β : Nat → Nat) (n : Nat) : aTok := (fun j => kdz β n (pz β j), fun j => pz β j, fun j => tvz β (pz β j), fun j => lN (tnz β (pz β j)))
def Nz (β : Nat → Nat) (n : Nat) : Nat := match fnd (fun j => decide (kdz β n (pz β j) = 0 ∨ kdz β n (pz β j) = 3)) 400 0 with
  | some j => j
  | none => 400
/-- bytes as they may be -/
def BV (β : Nat → Nat) (n : Nat) : Prop := n ≤ 2000 ∧ (∀ i, β i < 256) ∧ ∀ i, n ≤ i → β i = 0
section TKN
variable {β : Nat → Nat} {n i j : Nat} {p : Nat → Bool}
theorem rl_eq {m : Nat} (hm : m < 2001) (h1 : ∀ k, k < m → p (β (i + k)) = true) (h2 : p (β (i + m)) = false) : rl p β i = m := by
  unfold rl
  have e : fnd (fun k => !p (β (i + k))) 2001 0 = some m := fnd_eq hm (by rw [h2]; rfl) (fun k hk => by rw [h1 k hk]; rfl)
  rw [e]
theorem rl_at (hB : BV β n) (h0 : p 0 = false) (hi : i ≤ n) : i + rl p β i ≤ n ∧ (∀ k, k < rl p β i → p (β (i + k)) = true) ∧ p (β (i + rl p β i)) = false := by
  obtain ⟨hn, -, hz⟩ := hB
  have hs : ∃ k, k < 2001 ∧ (fun k => !p (β (i + k))) k = true := ⟨n - i, by omega, by show (!p (β (i + (n - i)))) = true; rw [hz _ (by omega), h0]; rfl⟩
  have hs' := fnd_iff.mpr hs
  cases hf : fnd (fun k => !p (β (i + k))) 2001 0 with
  | none => rw [hf] at hs'; exact absurd hs' (by decide)
  | some m =>
    obtain ⟨-, h1, h2, h3⟩ := fnd_some _ _ _ hf
    have e : rl p β i = m := by unfold rl; rw [hf]
    rw [e]
    have h2 : p (β (i + m)) = false := by
      revert h2
      show (!p (β (i + m))) = true → _
      cases p (β (i + m)) with
      | true => intro z; cases z
      | false => intro _; rfl
    have h3 : ∀ k, k < m → p (β (i + k)) = true := fun k hk => by
      have := h3 k (Nat.zero_le _) hk
      revert this
      show (!p (β (i + k))) = false → _
      cases p (β (i + k)) with
      | true => intro _; rfl
      | false => intro z; cases z
    refine ⟨?_, h3, h2⟩
    by_cases q : i + m ≤ n
    · exact q
    · exfalso
      have := h3 (n - i) (by omega)
      rw [hz _ (by omega), h0] at this
      cases this
theorem rl_s (hB : BV β n) (h0 : p 0 = false) (hi : i < n) (h1 : p (β i) = true) : rl p β i = rl p β (i + 1) + 1 := by
  obtain ⟨a1, a2, a3⟩ := rl_at (i := i + 1) hB h0 (by omega)
  have hn := hB.1
  refine rl_eq (by omega) (fun k hk => ?_) ?_
  · cases k with
    | zero => exact h1
    | succ k => rw [show i + (k + 1) = i + 1 + k by omega]; exact a2 k (by omega)
  · rw [show i + (rl p β (i + 1) + 1) = i + 1 + rl p β (i + 1) by omega]; exact a3
theorem rl_0 (h1 : p (β i) = false) : rl p β i = 0 := rl_eq (by decide) (fun k hk => absurd hk (Nat.not_lt_zero k)) h1
theorem rl_pos (hB : BV β n) (h0 : p 0 = false) (hi : i < n) (h1 : p (β i) = true) : 0 < rl p β i := by rw [rl_s hB h0 hi h1]; omega
theorem isW0 : isW 0 = false := by decide
theorem isL0 : isL 0 = false := by decide
theorem isD0 : isD 0 = false := by decide
theorem sk_le (hB : BV β n) (hi : i ≤ n) : i ≤ sk β i ∧ sk β i ≤ n ∧ isW (β (sk β i)) = false := by
  obtain ⟨a1, a2, a3⟩ := rl_at (p := isW) hB isW0 hi
  exact ⟨Nat.le_add_right _ _, a1, a3⟩
theorem sk_s (hB : BV β n) (hi : i < n) (h1 : isW (β i) = true) : sk β i = sk β (i + 1) := by
  unfold sk; rw [rl_s hB isW0 hi h1]; omega
theorem sk_0 (h1 : isW (β i) = false) : sk β i = i := by unfold sk; rw [rl_0 h1]; rfl
theorem tlz_le (hB : BV β n) (hi : i < n) : 0 < tlz β i ∧ i + tlz β i ≤ n := by
  unfold tlz
  cases hL : isL (β i) with
  | true => exact ⟨rl_pos hB isL0 hi hL, (rl_at hB isL0 (by omega)).1⟩
  | false =>
    cases hD : isD (β i) with
    | true => exact ⟨rl_pos hB isD0 hi hD, (rl_at hB isD0 (by omega)).1⟩
    | false => exact ⟨Nat.one_pos, by show i + 1 ≤ n; omega⟩
theorem kyz_b (v : Nat) : kyz v = 1 ∨ (20 ≤ kyz v ∧ kyz v ≤ 40) := by
  have : ∀ m, m ≤ 21 → itn m (fun k a => if mKy k = lN v then 20 + k else a) 1 = 1 ∨ (20 ≤ itn m (fun k a => if mKy k = lN v then 20 + k else a) 1 ∧ itn m (fun k a => if mKy k = lN v then 20 + k else a) 1 ≤ 40) := by
    intro m
    induction m with
    | zero => intro _; exact Or.inl rfl
    | succ m ih =>
      intro hm
      show (if mKy m = lN v then 20 + m else itn m _ 1) = 1 ∨ (20 ≤ (if mKy m = lN v then 20 + m else itn m _ 1) ∧ (if mKy m = lN v then 20 + m else itn m _ 1) ≤ 40)
      by_cases q : mKy m = lN v
      · rw [if_pos q]; omega
      · rw [if_neg q]; exact ih (by omega)
  exact this 21 (Nat.le_refl _)
theorem sgz_b (c : Nat) : 3 ≤ sgz c ∧ sgz c ≤ 15 := by
  unfold sgz
  repeat' split
  all_goals omega
theorem kdz_0 (hi : i < n) : kdz β n i ≠ 0 ∧ kdz β n i < 64 := by
  unfold kdz
  rw [if_neg (by omega)]
  cases isL (β i) with
  | true =>
    show (if 8 < rl isL β i then 3 else kyz (nmN β i (rl isL β i))) ≠ 0 ∧ (if 8 < rl isL β i then 3 else kyz (nmN β i (rl isL β i))) < 64
    split
    · decide
    · have := kyz_b (nmN β i (rl isL β i)); omega
  | false =>
    cases isD (β i) with
    | true =>
      show (if 4 < rl isD β i then 3 else 2) ≠ 0 ∧ (if 4 < rl isD β i then 3 else 2) < 64
      split <;> decide
    | false =>
      have := sgz_b (β i)
      show sgz (β i) ≠ 0 ∧ sgz (β i) < 64
      omega
theorem kdz_e (hi : n ≤ i) : kdz β n i = 0 := if_pos hi
theorem vlN_b (hB : ∀ k, k < j → isD (β (i + k)) = true) : vlN β i j < 10 ^ j := by
  induction j with
  | zero => exact Nat.one_pos
  | succ j ih =>
    have h1 := ih (fun k hk => hB k (by omega))
    have h2 := of_decide_eq_true (hB j (by omega))
    show 10 * vlN β i j + (β (i + j) - 48) < 10 ^ (j + 1)
    rw [Nat.pow_succ]
    omega
theorem tvz_b (hB : BV β n) (i : Nat) : tvz β i ≤ 9999 := by
  unfold tvz
  cases hD : isD (β i) with
  | false => exact Nat.zero_le _
  | true =>
    have hi : i < n := by
      by_cases q : i < n
      · exact q
      · rw [hB.2.2 i (by omega)] at hD; cases hD
    obtain ⟨a1, a2, a3⟩ := rl_at (p := isD) hB isD0 (i := i) (by omega)
    have := vlN_b (β := β) (i := i) (j := min (rl isD β i) 4) (fun k hk => a2 k (by omega))
    have h4 : 10 ^ min (rl isD β i) 4 ≤ 10 ^ 4 := Nat.pow_le_pow_right (by decide) (by omega)
    show vlN β i (min (rl isD β i) 4) ≤ 9999
    omega
/-- N and what lies below it -/
theorem Nz_b : Nz β n ≤ 400 ∧ (∀ j, j < Nz β n → kdz β n (pz β j) ≠ 0 ∧ kdz β n (pz β j) ≠ 3) ∧ (Nz β n < 400 → kdz β n (pz β (Nz β n)) = 0 ∨ kdz β n (pz β (Nz β n)) = 3) := by
  unfold Nz
  cases hf : fnd (fun j => decide (kdz β n (pz β j) = 0 ∨ kdz β n (pz β j) = 3)) 400 0 with
  | some m =>
    obtain ⟨-, h1, h2, h3⟩ := fnd_some _ _ _ hf
    exact ⟨by show m ≤ 400; omega, fun j hj => by have := of_decide_eq_false (h3 j (Nat.zero_le _) hj); omega, fun _ => of_decide_eq_true h2⟩
  | none =>
    have h3 := fnd_none _ _ hf
    exact ⟨Nat.le_refl _, fun j hj => by have := of_decide_eq_false (h3 j (Nat.zero_le _) (by have hj : j < 400 := hj; omega)); omega, fun z => absurd z (Nat.lt_irrefl _)⟩
theorem pz_lt (hB : BV β n) : ∀ j, j ≤ Nz β n → pz β j ≤ n ∧ (j < Nz β n → pz β j < n)
  | 0, _ => by
    have h1 := sk_le hB (Nat.zero_le n)
    refine ⟨h1.2.1, fun h => ?_⟩
    have := (Nz_b (β := β) (n := n)).2.1 0 h
    by_cases q : pz β 0 < n
    · exact q
    · exact absurd (kdz_e (by omega)) this.1
  | j + 1, hj => by
    have hi := (pz_lt hB j (by omega)).2 (by omega)
    have h2 := tlz_le hB hi
    have h1 := sk_le hB h2.2
    refine ⟨h1.2.1, fun h => ?_⟩
    have := (Nz_b (β := β) (n := n)).2.1 (j + 1) h
    by_cases q : pz β (j + 1) < n
    · exact q
    · exact absurd (kdz_e (by omega)) this.1
theorem pz_s (hB : BV β n) (hj : j < Nz β n) : pz β j < pz β (j + 1) := by
  have hi := (pz_lt hB j (by omega)).2 hj
  have h2 := tlz_le hB hi
  have h1 := sk_le hB h2.2
  show pz β j < sk β (pz β j + tlz β (pz β j))
  omega
theorem pz_m (hB : BV β n) : ∀ k, j + k + 1 ≤ Nz β n → pz β j < pz β (j + k + 1)
  | 0, h => pz_s hB (by omega)
  | k + 1, h => by
    have h1 := pz_m hB k (by omega)
    have h2 := pz_s (j := j + k + 1) hB (by omega)
    rw [show j + (k + 1) + 1 = j + k + 1 + 1 by omega]
    omega
theorem tz_TK (hB : BV β n) : TK (tz β n) (Nz β n) := by
  obtain ⟨h1, h2, h3⟩ := Nz_b (β := β) (n := n)
  refine ⟨h1, fun j hj => ⟨?_, ?_, tvz_b hB _⟩, fun i j hij hj => ?_, h3⟩
  · show kdz β n (pz β j) < 64
    by_cases q : pz β j < n
    · exact (kdz_0 q).2
    · rw [kdz_e (by omega)]; decide
  · have := (pz_lt hB j hj).1
    have := hB.1
    show pz β j ≤ 2000
    omega
  · show pz β i < pz β j
    have := pz_m (j := i) hB (j - i - 1) (by omega)
    rw [show i + (j - i - 1) + 1 = j by omega] at this
    exact this
end TKN
