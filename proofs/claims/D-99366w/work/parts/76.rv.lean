set_option maxRecDepth 100000
/-! WHAT HOLDS WHILE LINES ARE READ: plain -/
/-- numbers as they may be -/
def WBt (T : aTx) : Prop := (∀ g, g < ng_ T → (0 ≤ (hr_ T g).toInt ∧ (hr_ T g).toInt ≤ 23) ∧ (1 ≤ (hs_ T g).toInt ∧ (hs_ T g).toInt ≤ 12) ∧ (0 ≤ (fe_ T g).toInt ∧ (fe_ T g).toInt ≤ 99)) ∧ (∀ s, s < ns_ T → (1 ≤ (lo_ T s).toInt ∧ (lo_ T s).toInt ≤ 24) ∧ (0 ≤ (wo_ T s).toInt ∧ (wo_ T s).toInt ≤ 99)) ∧ (1 ≤ (de_ T).toInt ∧ (de_ T).toInt ≤ 999) ∧ (0 ≤ (se_ T).toInt ∧ (se_ T).toInt ≤ 9999)
def FSy (f : Nat → Int32) : Prop := ∃ F : Nat → Nat, (∀ g, f g = nI (F g) ∧ F g < 128) ∧ ∀ g o, (F g).testBit o = (F o).testBit g
def RVt (ρ : aRd) : Prop := NV ρ.2.1 ρ.2.2.1 ∧ ρ.2.2.2 ≤ 8 ∧ ρ.1.2.1 = 0 ∧ (∀ k, lwV (la_ ρ.2.2.1 k)) ∧ FSy (fo_ ρ.2.2.1) ∧ (ρ.1.2.2.1 = 0 → WBt ρ.2.2.1)
section RVs
variable {τ : aTok} {σ s : aPs} {ν : aNs} {T : aTx} {nf : Nat}
theorem go_le (h : goX τ σ = .inr s) (h4 : σ.1 ≤ 400) : s.1 ≤ 400 := by
  obtain ⟨h1, h2⟩ := go_inr h
  rw [h2]; show σ.1 + 1 ≤ 400; omega
theorem must_le {k : Nat} (h : mustX τ σ k = .inr s) (h4 : σ.1 ≤ 400) : s.1 ≤ 400 := by
  obtain ⟨-, h1, h2⟩ := must_inr h
  rw [h2]; show σ.1 + 1 ≤ 400; omega
theorem ex_le : ∀ (n m : Nat) (σ s : aPs) (c u : cdT), m = 0 ∨ m = 1 ∨ m = 2 → exX τ n m σ c = .inr (s, u) → σ.1 ≤ 400 → s.1 ≤ 400
  | 0, m, σ, s, c, u, _, h, _ => by cases h
  | n + 1, m, σ, s, c, u, hm, h, h4 => by
    have ih := fun m σ s c u hm h h4 => ex_le n m σ s c u hm h h4
    rcases hm with hm | hm | hm <;> subst hm
    · rw [ex0] at h
      split at h
      · obtain ⟨a, h1, h2⟩ := eB_inr h
        cases h2
        exact go_le h1 h4
      · split at h
        · split at h
          · cases h
          · obtain ⟨a, h1, h2⟩ := eB_inr h
            obtain ⟨⟨s1, u1⟩, h3, h4'⟩ := eB_inr h2
            obtain ⟨⟨s2, u2⟩, h5, h6⟩ := eB_inr h4'
            obtain ⟨⟨s3, u3⟩, h7, h8⟩ := eB_inr h6
            obtain ⟨s4, h9, h10⟩ := eB_inr h8
            cases h10
            show s4.1 ≤ 400
            exact must_le h9 (ih 2 _ _ _ _ (by omega) h7 (ih 1 _ _ _ _ (by omega) h5 (ih 0 _ _ _ _ (by omega) h3 (go_le h1 h4))))
        · cases h
    · rw [ex1] at h
      split at h
      · obtain ⟨a, h1, h2⟩ := eB_inr h
        obtain ⟨⟨s1, u1⟩, h3, h4'⟩ := eB_inr h2
        exact ih 1 _ _ _ _ (by omega) h4' (ih 0 _ _ _ _ (by omega) h3 (go_le h1 h4))
      · cases h; exact h4
    · rw [ex2] at h
      split at h
      · obtain ⟨a, h1, h2⟩ := eB_inr h
        obtain ⟨⟨s1, u1⟩, h3, h4'⟩ := eB_inr h2
        obtain ⟨⟨s2, u2⟩, h5, h6⟩ := eB_inr h4'
        exact ih 2 _ _ _ _ (by omega) h6 (ih 1 _ _ _ _ (by omega) h5 (ih 0 _ _ _ _ (by omega) h3 (go_le h1 h4)))
      · cases h; exact h4
theorem sumN_le {n : Nat} {u : cdT} (h : sumN τ n σ = .inr (s, u)) (h4 : σ.1 ≤ 400) : s.1 ≤ 400 := by
  unfold sumN at h
  obtain ⟨⟨s1, u1⟩, h3, h⟩ := eB_inr h
  obtain ⟨⟨s2, u2⟩, h5, h6⟩ := eB_inr h
  exact ex_le n 2 _ _ _ _ (by omega) h6 (ex_le n 1 _ _ _ _ (by omega) h5 (ex_le n 0 _ _ _ _ (by omega) h3 h4))
theorem sum_le {u : cdT} (h : sumX τ σ = .inr (s, u)) (h4 : σ.1 ≤ 400) : s.1 ≤ 400 := sumN_le h h4
theorem ifX_le : ∀ (r : Nat) (σ s : aPs) (L : aLw), ifX τ r σ = .inr (s, L) → σ.1 ≤ 400 → s.1 ≤ 400
  | 0, σ, s, L, h, h4 => by
    unfold ifX at h
    split at h
    · cases h
    · obtain ⟨⟨s1, u1⟩, h2, h⟩ := eB_inr h
      cases h
      exact sum_le h2 h4
  | r + 1, σ, s, L, h, h4 => by
    unfold ifX at h
    split at h
    · obtain ⟨⟨s1, q1⟩, h2, h⟩ := eB_inr h
      obtain ⟨⟨s2, L2⟩, h3, h⟩ := eB_inr h
      cases h
      refine ifX_le r _ _ _ h3 ?_
      unfold ifO at h2
      obtain ⟨t0, g1, h2⟩ := eB_inr h2
      obtain ⟨⟨t1, u1⟩, g2, h2⟩ := eB_inr h2
      obtain ⟨t2, g3, h2⟩ := eB_inr h2
      obtain ⟨⟨t3, u3⟩, g4, h2⟩ := eB_inr h2
      obtain ⟨t4, g5, h2⟩ := eB_inr h2
      obtain ⟨⟨t5, u5⟩, g6, h2⟩ := eB_inr h2
      obtain ⟨t6, g7, h2⟩ := eB_inr h2
      cases h2
      exact must_le g7 (sum_le g6 (must_le g5 (sum_le g4 (must_le g3 (sum_le g2 (go_le g1 h4))))))
    · obtain ⟨⟨s1, u1⟩, h2, h⟩ := eB_inr h
      cases h
      exact sum_le h2 h4
theorem lawT_le {L : aLw} (h : lawT τ σ = .inr (s, L)) (h4 : σ.1 ≤ 400) : s.1 ≤ 400 := by
  unfold lawT ifT at h
  obtain ⟨s1, h1, h⟩ := eB_inr h
  obtain ⟨⟨s2, L2⟩, h2, h⟩ := eB_inr h
  obtain ⟨s3, h3, h⟩ := eB_inr h
  cases h
  exact must_le h3 (ifX_le _ _ _ _ h2 (must_le h1 h4))
theorem ln3_le {l : List (cdT × cdT × cdT)} : ∀ q ∈ l, ln3 q ≤ lnL l := by
  induction l with
  | nil => intro q hq; exact absurd hq List.not_mem_nil
  | cons w l ih =>
    intro q hq
    show ln3 q ≤ ln3 w + lnL l
    rcases List.mem_cons.mp hq with z | z
    · rw [z]; omega
    · have := ih q z; omega
theorem good_wf {c : cdT} (h : goodC c) : cwf c := ⟨h.1 0, h.2⟩
theorem lawT_V {L : aLw} (hv : ∀ j, tv_ τ j ≤ 9999) (h : lawT τ σ = .inr (s, L)) (h4 : σ.1 ≤ 400) : lwV (some L) := by
  obtain ⟨l, e⟩ := L
  have hs := lawT_le h h4
  obtain ⟨a1, a2, a3, a4, a5, a6⟩ := lawT_mono hv h
  simp only at *
  refine ⟨a1, fun q hq => ?_, good_wf a6, by omega⟩
  obtain ⟨b1, b2, b3⟩ := a5 q hq
  have hb := ln3_le q hq
  have e3 : ln3 q = q.1.length + q.2.1.length + q.2.2.length := rfl
  exact ⟨⟨good_wf b1, by omega⟩, ⟨good_wf b2, by omega⟩, ⟨good_wf b3, by omega⟩⟩
theorem wrong_o {c j : Nat} (hc : c ≠ 0) : (wrongX σ c j).2.1 = σ.2.1 ∧ (wrongX σ c j).2.2.1 ≠ 0 := by
  unfold wrongX
  split
  · rename_i q; exact ⟨rfl, q.1⟩
  · exact ⟨rfl, hc⟩
theorem room_i {has most : Nat} (h : roomX τ has most σ = .inr s) : has ≠ most ∧ σ.1 ≠ 400 ∧ s = (σ.1 + 1, σ.2) := by
  unfold roomX at h
  by_cases q : has = most
  · rw [if_pos q] at h; cases h
  · rw [if_neg q] at h; exact ⟨q, go_inr h⟩
theorem bnd_i {lo hi : Nat} (h : bndX τ σ lo hi = .inr s) : tk_ τ σ.1 = 2 ∧ σ.1 ≠ 400 ∧ s.1 = σ.1 + 1 ∧ s.2.1 = σ.2.1 ∧ (s.2.2.1 = 0 → σ.2.2.1 = 0 ∧ lo ≤ tv_ τ σ.1 ∧ tv_ τ σ.1 ≤ hi) := by
  unfold bndX at h
  by_cases q : tk_ τ σ.1 = 2
  · rw [if_pos q] at h
    obtain ⟨e1, e⟩ := go_inr h
    by_cases q2 : tv_ τ σ.1 < lo ∨ hi < tv_ τ σ.1
    · rw [if_pos q2] at e e1
      rw [wrong_t] at e1
      obtain ⟨w1, w2⟩ := wrong_o (σ := σ) (c := 5) (j := σ.1) (by decide)
      rw [e]
      refine ⟨q, e1, by show (wrongX σ 5 σ.1).1 + 1 = _; rw [wrong_t], w1, fun z => absurd z w2⟩
    · rw [if_neg q2] at e e1
      rw [e]
      exact ⟨q, e1, rfl, rfl, fun z => ⟨z, by omega, by omega⟩⟩
  · rw [if_neg q] at h; cases h
theorem nam_i (h : namX τ ν σ = .inr s) : σ.1 ≠ 400 ∧ s.1 = σ.1 + 1 ∧ s.2.1 = σ.2.1 ∧ (s.2.2.1 = 0 → σ.2.2.1 = 0) := by
  unfold namX at h
  obtain ⟨a, h1, h2⟩ := eB_inr h
  obtain ⟨-, h3, e⟩ := must_inr h1
  cases h2
  cases hasN ν (tn_ τ σ.1) ν.2.2 with
  | true =>
    obtain ⟨w1, w2⟩ := wrong_o (σ := a) (c := 3) (j := σ.1) (by decide)
    refine ⟨h3, by show (wrongX a 3 σ.1).1 = _; rw [wrong_t, e], by show (wrongX a 3 σ.1).2.1 = _; rw [w1, e], fun z => absurd z w2⟩
  | false =>
    refine ⟨h3, by show a.1 = _; rw [e], by show a.2.1 = _; rw [e], fun z => ?_⟩
    have z : a.2.2.1 = 0 := z
    rw [e] at z; exact z
theorem kn_i (h : knX τ ν σ = .inr s) : σ.1 ≠ 400 ∧ s.1 = σ.1 + 1 ∧ s.2.1 = σ.2.1 ∧ (s.2.2.1 = 0 → σ.2.2.1 = 0) := by
  unfold knX at h
  obtain ⟨a, h1, h2⟩ := eB_inr h
  obtain ⟨-, h3, e⟩ := must_inr h1
  cases h2
  cases gueN ν (tn_ τ σ.1) with
  | none =>
    obtain ⟨w1, w2⟩ := wrong_o (σ := a) (c := 4) (j := σ.1) (by decide)
    refine ⟨h3, by show (wrongX a 4 σ.1).1 = _; rw [wrong_t, e], by show (wrongX a 4 σ.1).2.1 = _; rw [w1, e], fun z => absurd z w2⟩
  | some k =>
    refine ⟨h3, by show a.1 = _; rw [e], by show a.2.1 = _; rw [e], fun z => ?_⟩
    have z : a.2.2.1 = 0 := z
    rw [e] at z; exact z
theorem foe_i {f : Nat → Int32} {z : Option (Nat × Nat)} (h : foeX τ ν f σ = .inr (s, z)) (h4 : σ.1 ≤ 400) : s.1 ≤ 400 ∧ s.1 = σ.1 + 3 ∧ s.2.1 = σ.2.1 ∧ (s.2.2.1 = 0 → σ.2.2.1 = 0) ∧ (∀ g o, z = some (g, o) → (∃ v, gueN ν v = some g) ∧ ∃ v, gueN ν v = some o) := by
  unfold foeX at h
  obtain ⟨a, h1, h⟩ := eB_inr h
  obtain ⟨b, h2, h⟩ := eB_inr h
  obtain ⟨c, h3, h⟩ := eB_inr h
  cases h
  obtain ⟨a0, a1, a2, a3⟩ := kn_i h1
  obtain ⟨b0, b1, b2, b3⟩ := kn_i h2
  have hw : ∀ z, (foeW f z b a.1).1 = b.1 ∧ (foeW f z b a.1).2.1 = b.2.1 ∧ ((foeW f z b a.1).2.2.1 = 0 → b.2.2.1 = 0) := by
    intro z
    unfold foeW
    split
    · split
      · obtain ⟨w1, w2⟩ := wrong_o (σ := b) (c := 3) (j := a.1) (by decide)
        exact ⟨wrong_t, w1, fun z => absurd z w2⟩
      · exact ⟨rfl, rfl, id⟩
    · exact ⟨rfl, rfl, id⟩
  obtain ⟨-, c0, e⟩ := must_inr h3
  obtain ⟨w1, w2, w3⟩ := hw (twoN (gueN ν (tn_ τ σ.1)) (gueN ν (tn_ τ a.1)))
  rw [w1] at c0 e
  subst e
  refine ⟨by show b.1 + 1 ≤ 400; omega, by show b.1 + 1 = _; omega, by show (foeW _ _ b a.1).2.1 = _; rw [w2, b2, a2], fun z => a3 (b3 (w3 z)), fun g o hz => ?_⟩
  revert hz
  cases hg : gueN ν (tn_ τ σ.1) with
  | none => intro hz; cases hz
  | some g' =>
    cases ho : gueN ν (tn_ τ a.1) with
    | none => intro hz; cases hz
    | some o' => intro hz; cases hz; exact ⟨⟨_, hg⟩, ⟨_, ho⟩⟩
theorem FSy.add {f : Nat → Int32} (hf : FSy f) {z : Option (Nat × Nat)} (hz : ∀ g o, z = some (g, o) → g < 7 ∧ o < 7) : FSy (addF f z) := by
  obtain ⟨F, h1, h2⟩ := hf
  cases z with
  | none => exact ⟨F, h1, h2⟩
  | some go =>
    obtain ⟨g, o⟩ := go
    obtain ⟨hg, ho⟩ := hz g o rfl
    have p7 : ∀ k, k < 7 → 2 ^ k < 128 := fun k hk => Nat.lt_of_lt_of_le (Nat.pow_lt_pow_right (by decide) hk) (by decide)
    let G : Nat → Nat := fun k => if k = g then F g ||| 2 ^ o else F k
    have G1 : ∀ k, up_ f g (f g ||| nI (2 ^ o)) k = nI (G k) ∧ G k < 128 := fun k => by
      show (if k = g then f g ||| nI (2 ^ o) else f k) = nI (if k = g then F g ||| 2 ^ o else F k) ∧ (if k = g then F g ||| 2 ^ o else F k) < 128
      by_cases q : k = g
      · rw [if_pos q, if_pos q, (h1 g).1, nI_or]
        exact ⟨rfl, Nat.or_lt_two_pow (n := 7) (h1 g).2 (p7 o ho)⟩
      · rw [if_neg q, if_neg q]; exact h1 k
    refine ⟨fun k => if k = o then G o ||| 2 ^ g else G k, fun k => ?_, fun k l => ?_⟩
    · show (if k = o then up_ f g (f g ||| nI (2 ^ o)) o ||| nI (2 ^ g) else up_ f g (f g ||| nI (2 ^ o)) k) = nI (if k = o then G o ||| 2 ^ g else G k) ∧ (if k = o then G o ||| 2 ^ g else G k) < 128
      by_cases q : k = o
      · rw [if_pos q, if_pos q, (G1 o).1, nI_or]
        exact ⟨rfl, Nat.or_lt_two_pow (n := 7) (G1 o).2 (p7 g hg)⟩
      · rw [if_neg q, if_neg q]; exact G1 k
    · have key : ∀ k l, (if k = o then G o ||| 2 ^ g else G k).testBit l = ((F k).testBit l || (decide (k = g) && decide (l = o)) || (decide (k = o) && decide (l = g))) := by
        intro k l
        have gk : ∀ k, (G k).testBit l = ((F k).testBit l || (decide (k = g) && decide (l = o))) := by
          intro k
          show (if k = g then F g ||| 2 ^ o else F k).testBit l = _
          by_cases q : k = g
          · rw [if_pos q, Nat.testBit_or, Nat.testBit_two_pow, q]
            simp only [decide_true, Bool.true_and]
            congr 1
            exact decide_eq_decide.mpr ⟨fun z => z.symm, fun z => z.symm⟩
          · rw [if_neg q, decide_eq_false q, Bool.false_and, Bool.or_false]
        by_cases q : k = o
        · rw [if_pos q, Nat.testBit_or, Nat.testBit_two_pow, gk o, q]
          simp only [decide_true, Bool.true_and]
          congr 1
          exact decide_eq_decide.mpr ⟨fun z => z.symm, fun z => z.symm⟩
        · rw [if_neg q, gk k, decide_eq_false q, Bool.false_and, Bool.or_false]
      show (if k = o then G o ||| 2 ^ g else G k).testBit l = (if l = o then G o ||| 2 ^ g else G l).testBit k
      rw [key k l, key l k, h2 k l]
      cases (F l).testBit k <;> cases decide (k = g) <;> cases decide (l = o) <;> cases decide (k = o) <;> cases decide (l = g) <;> rfl
end RVs
