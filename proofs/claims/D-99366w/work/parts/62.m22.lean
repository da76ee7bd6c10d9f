set_option maxRecDepth 100000
/-! A LAW READ: plain functions -/
def stX {α : Type} (x : aEr (aPs × α)) : aEr aPs := eB x (fun q => .inr q.1)
/-- one if: u < v then w else -/
def ifO (τ : aTok) (σ : aPs) : aEr (aPs × (cdT × cdT × cdT)) := eB (goX τ σ) fun s => eB (sumX τ s) fun a => eB (mustX τ a.1 13) fun s => eB (sumX τ s) fun b => eB (mustX τ b.1 30) fun s => eB (sumX τ s) fun c => eB (mustX τ c.1 31) fun s => .inr (s, (a.2, b.2, c.2))
/-- r ifs may follow -/
def ifX (τ : aTok) : Nat → aPs → aEr (aPs × aLw)
  | 0, σ => if tk_ τ σ.1 = 29 then .inl (2, tp_ τ σ.1) else eB (sumX τ σ) fun q => .inr (q.1, ([], q.2))
  | r + 1, σ => if tk_ τ σ.1 = 29 then eB (ifO τ σ) fun q => eB (ifX τ r q.1) fun y => .inr (y.1, (q.2 :: y.2.1, y.2.2)) else eB (sumX τ σ) fun q => .inr (q.1, ([], q.2))
def lawX (τ : aTok) (σ : aPs) : aEr (aPs × aLw) := eB (mustX τ σ 5) (ifX τ 4)
/-- how many codes -/
def ln3 (q : cdT × cdT × cdT) : Nat := q.1.length + q.2.1.length + q.2.2.length
def lnL : List (cdT × cdT × cdT) → Nat
  | [] => 0
  | q :: l => ln3 q + lnL l
def good3 (q : cdT × cdT × cdT) : Prop := goodC q.1 ∧ goodC q.2.1 ∧ goodC q.2.2
section PL
variable {τ : aTok} {σ s : aPs}
theorem ifO_mono (hv : ∀ j, tv_ τ j ≤ 9999) {q : cdT × cdT × cdT} (h : ifO τ σ = .inr (s, q)) : σ.1 + ln3 q + 4 ≤ s.1 ∧ s.2 = σ.2 ∧ good3 q := by
  unfold ifO at h
  obtain ⟨s0, h1, h⟩ := eB_inr h
  obtain ⟨⟨s1, u1⟩, h2, h⟩ := eB_inr h
  obtain ⟨s2, h3, h⟩ := eB_inr h
  obtain ⟨⟨s3, u3⟩, h4, h⟩ := eB_inr h
  obtain ⟨s4, h5, h⟩ := eB_inr h
  obtain ⟨⟨s5, u5⟩, h6, h⟩ := eB_inr h
  obtain ⟨s6, h7, h⟩ := eB_inr h
  cases h
  obtain ⟨-, g1⟩ := go_inr h1
  obtain ⟨-, -, g3⟩ := must_inr h3
  obtain ⟨-, -, g5⟩ := must_inr h5
  obtain ⟨-, -, g7⟩ := must_inr h7
  obtain ⟨a1, a2, a3, a4⟩ := sum_mono hv h2
  obtain ⟨b1, b2, b3, b4⟩ := sum_mono hv h4
  obtain ⟨c1, c2, c3, c4⟩ := sum_mono hv h6
  subst g1; subst g3; subst g5; subst g7
  simp only at *
  refine ⟨?_, by rw [c3, b3, a3], a4, b4, c4⟩
  show σ.1 + (u1.length + u3.length + u5.length) + 4 ≤ s5.1 + 1
  omega
theorem ifX_mono (hv : ∀ j, tv_ τ j ≤ 9999) : ∀ (r : Nat) (σ s : aPs) (L : aLw), ifX τ r σ = .inr (s, L) → L.1.length ≤ r ∧ σ.1 + lnL L.1 + L.2.length + 4 * L.1.length ≤ s.1 ∧ σ.1 + 4 * L.1.length < s.1 ∧ s.2 = σ.2 ∧ (∀ q ∈ L.1, good3 q) ∧ goodC L.2
  | 0, σ, s, L, h => by
    unfold ifX at h
    split at h
    · cases h
    · obtain ⟨⟨s1, u1⟩, h2, h⟩ := eB_inr h
      cases h
      obtain ⟨a1, a2, a3, a4⟩ := sum_mono hv h2
      exact ⟨Nat.le_refl _, a1, a2, a3, fun q hq => absurd hq List.not_mem_nil, a4⟩
  | r + 1, σ, s, L, h => by
    unfold ifX at h
    split at h
    · obtain ⟨⟨s1, q1⟩, h2, h⟩ := eB_inr h
      obtain ⟨⟨s2, L2⟩, h3, h⟩ := eB_inr h
      cases h
      obtain ⟨a1, a2, a3⟩ := ifO_mono hv h2
      obtain ⟨b1, b2, b3, b4, b5, b6⟩ := ifX_mono hv r _ _ _ h3
      simp only at *
      refine ⟨by rw [List.length_cons]; omega, ?_, ?_, by rw [b4, a2], fun q hq => ?_, b6⟩
      · show σ.1 + (ln3 q1 + lnL L2.1) + L2.2.length + 4 * (q1 :: L2.1).length ≤ s2.1
        rw [List.length_cons]; omega
      · rw [List.length_cons]; omega
      · rcases List.mem_cons.mp hq with z | z
        · rw [z]; exact a3
        · exact b5 q z
    · obtain ⟨⟨s1, u1⟩, h2, h⟩ := eB_inr h
      cases h
      obtain ⟨a1, a2, a3, a4⟩ := sum_mono hv h2
      exact ⟨Nat.zero_le _, a1, a2, a3, fun q hq => absurd hq List.not_mem_nil, a4⟩
end PL
