set_option maxRecDepth 100000
/-! A SUM READ: plain functions -/
def opn (σ : aPs) : aPs := (σ.1, σ.2.1 + 1, σ.2.2)
def cls (σ : aPs) : aPs := (σ.1, σ.2.1 - 1, σ.2.2)
/-- n: fuel; m: 0 a unit, 1 what follows in a part, 2 what follows in a sum -/
def exX (τ : aTok) : Nat → Nat → aPs → cdT → aEr (aPs × cdT)
  | 0, _, _, _ => .inl (0, 0)
  | n + 1, m, σ, c => if m = 0 then
      (if tk_ τ σ.1 = 2 ∨ (32 ≤ tk_ τ σ.1 ∧ tk_ τ σ.1 ≤ 40) then eB (goX τ σ) (fun s => .inr (s, unC τ σ))
      else if tk_ τ σ.1 = 6 then (if σ.2.1 = 6 then .inl (2, tp_ τ σ.1) else
        eB (goX τ (opn σ)) fun s => eB (exX τ n 0 s []) fun q => eB (exX τ n 1 q.1 q.2) fun q => eB (exX τ n 2 q.1 q.2) fun q => eB (mustX τ q.1 7) fun s => .inr (cls s, q.2))
      else .inl (1, tp_ τ σ.1))
    else if m = 1 then
      (if tk_ τ σ.1 = 10 ∨ tk_ τ σ.1 = 15 then eB (goX τ σ) fun s => eB (exX τ n 0 s []) fun q => exX τ n 1 q.1 (c ++ q.2 ++ [(oc (tk_ τ σ.1), 0)]) else .inr (σ, c))
    else
      (if tk_ τ σ.1 = 8 ∨ tk_ τ σ.1 = 9 then eB (goX τ σ) fun s => eB (exX τ n 0 s []) fun q => eB (exX τ n 1 q.1 q.2) fun q => exX τ n 2 q.1 (c ++ q.2 ++ [(oc (tk_ τ σ.1), 0)]) else .inr (σ, c))
def sumN (τ : aTok) (n : Nat) (σ : aPs) : aEr (aPs × cdT) := eB (exX τ n 0 σ []) fun q => eB (exX τ n 1 q.1 q.2) fun q => exX τ n 2 q.1 q.2
def sumX (τ : aTok) (σ : aPs) : aEr (aPs × cdT) := sumN τ 402 σ
theorem eB_inr {α β : Type} {x : aEr α} {f : α → aEr β} {b : β} (h : eB x f = .inr b) : ∃ a, x = .inr a ∧ f a = .inr b := by
  cases x with
  | inl e => exact absurd h (by intro z; cases z)
  | inr a => exact ⟨a, rfl, h⟩
theorem go_inr {τ : aTok} {σ s : aPs} (h : goX τ σ = .inr s) : σ.1 ≠ 400 ∧ s = (σ.1 + 1, σ.2) := by
  unfold goX at h
  by_cases q : σ.1 = 400
  · rw [if_pos q] at h; cases h
  · rw [if_neg q] at h; cases h; exact ⟨q, rfl⟩
theorem must_inr {τ : aTok} {σ s : aPs} {k : Nat} (h : mustX τ σ k = .inr s) : tk_ τ σ.1 = k ∧ σ.1 ≠ 400 ∧ s = (σ.1 + 1, σ.2) := by
  unfold mustX at h
  by_cases q : tk_ τ σ.1 = k
  · rw [if_pos q] at h; exact ⟨q, go_inr h⟩
  · rw [if_neg q] at h; cases h
section PP
variable {τ : aTok} {n : Nat} {σ s : aPs} {c u : cdT}
theorem ex0 : exX τ (n + 1) 0 σ c = (if tk_ τ σ.1 = 2 ∨ (32 ≤ tk_ τ σ.1 ∧ tk_ τ σ.1 ≤ 40) then eB (goX τ σ) (fun s => .inr (s, unC τ σ))
      else if tk_ τ σ.1 = 6 then (if σ.2.1 = 6 then .inl (2, tp_ τ σ.1) else
        eB (goX τ (opn σ)) fun s => eB (exX τ n 0 s []) fun q => eB (exX τ n 1 q.1 q.2) fun q => eB (exX τ n 2 q.1 q.2) fun q => eB (mustX τ q.1 7) fun s => .inr (cls s, q.2))
      else .inl (1, tp_ τ σ.1)) := rfl
theorem ex1 : exX τ (n + 1) 1 σ c = (if tk_ τ σ.1 = 10 ∨ tk_ τ σ.1 = 15 then eB (goX τ σ) fun s => eB (exX τ n 0 s []) fun q => exX τ n 1 q.1 (c ++ q.2 ++ [(oc (tk_ τ σ.1), 0)]) else .inr (σ, c)) := rfl
theorem ex2 : exX τ (n + 1) 2 σ c = (if tk_ τ σ.1 = 8 ∨ tk_ τ σ.1 = 9 then eB (goX τ σ) fun s => eB (exX τ n 0 s []) fun q => eB (exX τ n 1 q.1 q.2) fun q => exX τ n 2 q.1 (c ++ q.2 ++ [(oc (tk_ τ σ.1), 0)]) else .inr (σ, c)) := rfl
/-- what a sum read is like: the token moves on, the rest stays; codes that leave one number more -/
def goodC (c : cdT) : Prop := (∀ k, dep_ c k = some (k + 1)) ∧ ∀ q ∈ c, q.1 ≤ 5 ∧ (q.1 = 1 → q.2 < 9) ∧ q.2 < 2147483648
theorem dep_app : ∀ (c u : cdT) (k : Nat), dep_ (c ++ u) k = (dep_ c k).bind (dep_ u)
  | [], u, k => rfl
  | (a, b) :: c, u, k => by
    show dep_ ((a, b) :: (c ++ u)) k = (dep_ ((a, b) :: c) k).bind (dep_ u)
    by_cases q : a < 2
    · rw [dep_0 q, dep_0 q]; exact dep_app c u _
    · by_cases q2 : k < 2
      · rw [dep_n (by omega) q2, dep_n (by omega) q2]; rfl
      · rw [dep_2 (by omega) (by omega), dep_2 (by omega) (by omega)]; exact dep_app c u _
theorem oc_le (w : Nat) : 2 ≤ oc w ∧ oc w ≤ 5 := by
  unfold oc
  repeat' split
  all_goals omega
theorem goodC.op (hc : goodC c) (hu : goodC u) (w : Nat) : goodC (c ++ u ++ [(oc w, 0)]) := by
  have hw := oc_le w
  refine ⟨fun k => ?_, fun q hq => ?_⟩
  · rw [dep_app, dep_app, hc.1 k, Option.bind_some, hu.1, Option.bind_some, dep_2 hw.1 (by omega)]
    rfl
  · rw [List.mem_append, List.mem_append, List.mem_singleton] at hq
    rcases hq with (hq | hq) | hq
    · exact hc.2 q hq
    · exact hu.2 q hq
    · subst hq
      exact ⟨hw.2, fun z => by have : oc w = 1 := z; omega, by show 0 < 2147483648; decide⟩
theorem unC.good (ht : tk_ τ σ.1 = 2 ∨ (32 ≤ tk_ τ σ.1 ∧ tk_ τ σ.1 ≤ 40)) (hv : tv_ τ σ.1 ≤ 9999) : goodC (unC τ σ) ∧ (unC τ σ).length = 1 := by
  unfold unC
  by_cases q : tk_ τ σ.1 = 2
  · rw [if_pos q]
    refine ⟨⟨fun k => rfl, fun z hz => ?_⟩, rfl⟩
    rw [List.mem_singleton] at hz; subst hz
    exact ⟨by show 0 ≤ 5; decide, fun z => by have : 0 = 1 := z; omega, by show tv_ τ σ.1 < _; omega⟩
  · rw [if_neg q, if_pos (by omega)]
    refine ⟨⟨fun k => rfl, fun z hz => ?_⟩, rfl⟩
    rw [List.mem_singleton] at hz; subst hz
    exact ⟨by show 1 ≤ 5; decide, fun _ => by show tk_ τ σ.1 - 32 < 9; omega, by show tk_ τ σ.1 - 32 < _; omega⟩
theorem ex_mono (hv : ∀ j, tv_ τ j ≤ 9999) : ∀ (n : Nat), (∀ σ c s u, exX τ n 0 σ c = .inr (s, u) → σ.1 + u.length ≤ s.1 ∧ σ.1 < s.1 ∧ s.2 = σ.2 ∧ goodC u) ∧
    (∀ m, m = 1 ∨ m = 2 → ∀ σ c s u, exX τ n m σ c = .inr (s, u) → σ.1 + u.length ≤ s.1 + c.length ∧ σ.1 ≤ s.1 ∧ s.2 = σ.2 ∧ (goodC c → goodC u))
  | 0 => ⟨fun σ c s u h => (by cases h), fun m _ σ c s u h => (by cases h)⟩
  | n + 1 => by
    obtain ⟨i0, i1⟩ := ex_mono hv n
    refine ⟨fun σ c s u h => ?_, fun m hm σ c s u h => ?_⟩
    · rw [ex0] at h
      split at h
      · rename_i q
        obtain ⟨a, h1, h2⟩ := eB_inr h
        obtain ⟨-, h3⟩ := go_inr h1
        obtain ⟨g1, g2⟩ := unC.good q (hv _)
        cases h2
        rw [h3, g2]
        exact ⟨Nat.le_refl _, Nat.lt_succ_self _, rfl, g1⟩
      · split at h
        · split at h
          · cases h
          · obtain ⟨a, h1, h2⟩ := eB_inr h
            obtain ⟨⟨s1, u1⟩, h3, h4⟩ := eB_inr h2
            obtain ⟨⟨s2, u2⟩, h5, h6⟩ := eB_inr h4
            obtain ⟨⟨s3, u3⟩, h7, h8⟩ := eB_inr h6
            obtain ⟨s4, h9, h10⟩ := eB_inr h8
            obtain ⟨-, g1⟩ := go_inr h1
            obtain ⟨-, -, g2⟩ := must_inr h9
            obtain ⟨a1, a2, a3, a4⟩ := i0 _ _ _ _ h3
            obtain ⟨b1, b2, b3, b4⟩ := i1 1 (Or.inl rfl) _ _ _ _ h5
            obtain ⟨c1, c2, c3, c4⟩ := i1 2 (Or.inr rfl) _ _ _ _ h7
            cases h10
            subst g2
            subst g1
            simp only [opn, cls] at *
            refine ⟨by omega, by omega, ?_, c4 (b4 a4)⟩
            rw [c3, b3, a3]
            rfl
        · cases h
    · rcases hm with hm | hm
      · subst hm
        rw [ex1] at h
        split at h
        · obtain ⟨a, h1, h2⟩ := eB_inr h
          obtain ⟨⟨s1, u1⟩, h3, h4⟩ := eB_inr h2
          obtain ⟨-, g1⟩ := go_inr h1
          obtain ⟨a1, a2, a3, a4⟩ := i0 _ _ _ _ h3
          obtain ⟨b1, b2, b3, b4⟩ := i1 1 (Or.inl rfl) _ _ _ _ h4
          subst g1
          simp only [List.length_append, List.length_singleton] at *
          exact ⟨by omega, by omega, by rw [b3, a3], fun g => b4 (g.op a4 _)⟩
        · cases h
          exact ⟨Nat.le_refl _, Nat.le_refl _, rfl, fun g => g⟩
      · subst hm
        rw [ex2] at h
        split at h
        · obtain ⟨a, h1, h2⟩ := eB_inr h
          obtain ⟨⟨s1, u1⟩, h3, h4⟩ := eB_inr h2
          obtain ⟨⟨s2, u2⟩, h5, h6⟩ := eB_inr h4
          obtain ⟨-, g1⟩ := go_inr h1
          obtain ⟨a1, a2, a3, a4⟩ := i0 _ _ _ _ h3
          obtain ⟨b1, b2, b3, b4⟩ := i1 1 (Or.inl rfl) _ _ _ _ h5
          obtain ⟨c1, c2, c3, c4⟩ := i1 2 (Or.inr rfl) _ _ _ _ h6
          subst g1
          simp only [List.length_append, List.length_singleton] at *
          exact ⟨by omega, by omega, by rw [c3, b3, a3], fun g => c4 (g.op (b4 a4) _)⟩
        · cases h
          exact ⟨Nat.le_refl _, Nat.le_refl _, rfl, fun g => g⟩
theorem sumN_mono (hv : ∀ j, tv_ τ j ≤ 9999) (h : sumN τ n σ = .inr (s, u)) : σ.1 + u.length ≤ s.1 ∧ σ.1 < s.1 ∧ s.2 = σ.2 ∧ goodC u := by
  unfold sumN at h
  obtain ⟨⟨s1, u1⟩, h3, h4⟩ := eB_inr h
  obtain ⟨⟨s2, u2⟩, h5, h6⟩ := eB_inr h4
  obtain ⟨i0, i1⟩ := ex_mono hv n
  obtain ⟨a1, a2, a3, a4⟩ := i0 _ _ _ _ h3
  obtain ⟨b1, b2, b3, b4⟩ := i1 1 (Or.inl rfl) _ _ _ _ h5
  obtain ⟨c1, c2, c3, c4⟩ := i1 2 (Or.inr rfl) _ _ _ _ h6
  simp only at *
  exact ⟨by omega, by omega, by rw [c3, b3, a3], c4 (b4 a4)⟩
theorem sum_mono (hv : ∀ j, tv_ τ j ≤ 9999) (h : sumX τ σ = .inr (s, u)) : σ.1 + u.length ≤ s.1 ∧ σ.1 < s.1 ∧ s.2 = σ.2 ∧ goodC u := sumN_mono hv h
end PP
