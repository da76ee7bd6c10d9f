set_option maxRecDepth 100000
/-! WHAT HOLDS WHILE LINES ARE READ (2): kept by every line; a text read is as it may be -/
section RV2
variable {τ : aTok} {σ s : aPs} {ν : aNs} {T : aTx} {nf : Nat}
theorem nI_b {v lo hi : Nat} (h1 : lo ≤ v) (h2 : v ≤ hi) (h3 : hi < 2147483648) : (lo : Int) ≤ (nI v).toInt ∧ (nI v).toInt ≤ (hi : Int) := by
  rw [nI_toInt (by omega)]; omega
theorem NV_addS {v : Int64} {a b : Int32} (hV : NV ν T) (hn : ns_ T ≠ 4) : NV (addN ν v (ns_ T)) (addS T a b) := by
  obtain ⟨h1, h2, h3, h4⟩ := hV
  have e1 : ns_ (addS T a b) = ns_ T + 1 := rfl
  have e2 : ng_ (addS T a b) = ng_ T := rfl
  refine ⟨by rw [e1, e2]; show ν.2.2 + 1 = _; omega, by omega, by omega, fun k hk => ?_⟩
  have hk : k < ν.2.2 + 1 := hk
  rw [e1, e2]
  show (if k = ν.2.2 then ns_ T else ν.2.1 k) < ns_ T + 1 ∨ (10 ≤ (if k = ν.2.2 then ns_ T else ν.2.1 k) ∧ (if k = ν.2.2 then ns_ T else ν.2.1 k) < 10 + ng_ T)
  by_cases q : k = ν.2.2
  · rw [if_pos q]; omega
  · rw [if_neg q]; have := h4 k (by omega); omega
theorem NV_addG {v : Int64} {a b c : Int32} (hV : NV ν T) (hn : ng_ T ≠ 7) : NV (addN ν v (10 + ng_ T)) (addG T a b c) := by
  obtain ⟨h1, h2, h3, h4⟩ := hV
  have e1 : ns_ (addG T a b c) = ns_ T := rfl
  have e2 : ng_ (addG T a b c) = ng_ T + 1 := rfl
  refine ⟨by rw [e1, e2]; show ν.2.2 + 1 = _; omega, by omega, by omega, fun k hk => ?_⟩
  have hk : k < ν.2.2 + 1 := hk
  rw [e1, e2]
  show (if k = ν.2.2 then 10 + ng_ T else ν.2.1 k) < ns_ T ∨ (10 ≤ (if k = ν.2.2 then 10 + ng_ T else ν.2.1 k) ∧ (if k = ν.2.2 then 10 + ng_ T else ν.2.1 k) < 10 + (ng_ T + 1))
  by_cases q : k = ν.2.2
  · rw [if_pos q]; omega
  · rw [if_neg q]; have := h4 k (by omega); omega
theorem tell_RV (hv : ∀ j, tv_ τ j ≤ 9999) {ρ ρ' : aRd} (hR : RVt ρ) (h4 : ρ.1.1 ≤ 400) (h : tellX τ ρ = .inr ρ') : RVt ρ' ∧ ρ.1.1 < ρ'.1.1 ∧ ρ'.1.1 ≤ 400 := by
  obtain ⟨σ, ν, T, nf⟩ := ρ
  obtain ⟨r1, r2, r3, r4, r5, r6⟩ := hR
  simp only at r1 r2 r3 r4 r5 r6 h4
  unfold tellX at h
  simp only at h
  split at h
  · -- a sunday
    unfold tlS at h
    obtain ⟨s1, h1, h⟩ := eB_inr h
    obtain ⟨s2, h2, h⟩ := eB_inr h
    obtain ⟨s3, h3, h⟩ := eB_inr h
    obtain ⟨s4, h4', h⟩ := eB_inr h
    obtain ⟨s5, h5, h⟩ := eB_inr h
    cases h
    obtain ⟨a1, a2, a3⟩ := room_i h1
    obtain ⟨b1, b2, b3, b4⟩ := nam_i h2
    obtain ⟨c1, c2, c3, c4, c5⟩ := bnd_i h3
    obtain ⟨d1, d2, d3, d4, d5⟩ := bnd_i h4'
    obtain ⟨-, e1, e2⟩ := must_inr h5
    subst e2
    subst a3
    simp only at b1 b2 b3 b4 e1 ⊢
    refine ⟨⟨NV_addS r1 a1, r2, by show s4.2.1 = 0; rw [d4, c4, b3]; exact r3, r4, r5, fun z => ?_⟩, by omega, by omega⟩
    obtain ⟨z4, y4⟩ := d5 z
    obtain ⟨z3, y3⟩ := c5 z4
    obtain ⟨w1, w2, w3, w4⟩ := r6 (b4 z3)
    refine ⟨w1, fun k hk => ?_, w3, w4⟩
    have hk : k < ns_ T + 1 := hk
    show (1 ≤ (up_ T.2.2.1.1 T.1.1 (nI (tv_ τ s2.1)) k).toInt ∧ (up_ T.2.2.1.1 T.1.1 (nI (tv_ τ s2.1)) k).toInt ≤ 24) ∧ (0 ≤ (up_ T.2.2.1.2 T.1.1 (nI (tv_ τ s3.1)) k).toInt ∧ (up_ T.2.2.1.2 T.1.1 (nI (tv_ τ s3.1)) k).toInt ≤ 99)
    have en : T.1.1 = ns_ T := rfl
    rw [en]
    unfold up_
    by_cases q : k = ns_ T
    · rw [if_pos q, if_pos q]
      exact ⟨nI_b y3.1 y3.2 (by decide), nI_b y4.1 y4.2 (by decide)⟩
    · rw [if_neg q, if_neg q]; exact w2 k (by omega)
  · split at h
    · -- a guest
      unfold tlG at h
      obtain ⟨s1, h1, h⟩ := eB_inr h
      obtain ⟨s2, h2, h⟩ := eB_inr h
      obtain ⟨s3, h3, h⟩ := eB_inr h
      obtain ⟨s4, h4', h⟩ := eB_inr h
      obtain ⟨s5, h5, h⟩ := eB_inr h
      obtain ⟨s6, h6, h⟩ := eB_inr h
      cases h
      obtain ⟨a1, a2, a3⟩ := room_i h1
      obtain ⟨b1, b2, b3, b4⟩ := nam_i h2
      obtain ⟨c1, c2, c3, c4, c5⟩ := bnd_i h3
      obtain ⟨d1, d2, d3, d4, d5⟩ := bnd_i h4'
      obtain ⟨f1, f2, f3, f4, f5⟩ := bnd_i h5
      obtain ⟨-, e1, e2⟩ := must_inr h6
      subst e2
      subst a3
      simp only at b1 b2 b3 b4 e1 ⊢
      refine ⟨⟨NV_addG r1 a1, r2, by show s5.2.1 = 0; rw [f4, d4, c4, b3]; exact r3, r4, r5, fun z => ?_⟩, by omega, by omega⟩
      obtain ⟨z5, y5⟩ := f5 z
      obtain ⟨z4, y4⟩ := d5 z5
      obtain ⟨z3, y3⟩ := c5 z4
      obtain ⟨w1, w2, w3, w4⟩ := r6 (b4 z3)
      refine ⟨fun k hk => ?_, w2, w3, w4⟩
      have hk : k < ng_ T + 1 := hk
      show (0 ≤ (up_ T.2.1.1 T.1.2 (nI (tv_ τ s2.1)) k).toInt ∧ (up_ T.2.1.1 T.1.2 (nI (tv_ τ s2.1)) k).toInt ≤ 23) ∧ (1 ≤ (up_ T.2.1.2.1 T.1.2 (nI (tv_ τ s3.1)) k).toInt ∧ (up_ T.2.1.2.1 T.1.2 (nI (tv_ τ s3.1)) k).toInt ≤ 12) ∧ (0 ≤ (up_ T.2.1.2.2.1 T.1.2 (nI (tv_ τ s4.1)) k).toInt ∧ (up_ T.2.1.2.2.1 T.1.2 (nI (tv_ τ s4.1)) k).toInt ≤ 99)
      have en : T.1.2 = ng_ T := rfl
      rw [en]
      unfold up_
      by_cases q : k = ng_ T
      · rw [if_pos q, if_pos q, if_pos q]
        exact ⟨nI_b y3.1 y3.2 (by decide), nI_b y4.1 y4.2 (by decide), nI_b y5.1 y5.2 (by decide)⟩
      · rw [if_neg q, if_neg q, if_neg q]; exact w1 k (by omega)
    · split at h
      · -- foes
        unfold tlF at h
        obtain ⟨s1, h1, h⟩ := eB_inr h
        obtain ⟨⟨s2, z⟩, h2, h⟩ := eB_inr h
        cases h
        obtain ⟨a1, a2, a3⟩ := room_i h1
        subst a3
        obtain ⟨b1, b2, b3, b4, b5⟩ := foe_i h2 (by show σ.1 + 1 ≤ 400; omega)
        simp only at b1 b2 b3 b4 ⊢
        refine ⟨⟨r1, by show nf + 1 ≤ 8; omega, by show s2.2.1 = 0; rw [b3]; exact r3, r4, ?_, fun z => r6 (b4 z)⟩, by omega, by omega⟩
        refine r5.add (fun g o hz => ?_)
        obtain ⟨⟨v1, q1⟩, ⟨v2, q2⟩⟩ := b5 g o hz
        have := gue7 r1 q1
        have := gue7 r1 q2
        have := r1.2.2.1
        omega
      · split at h
        · -- death
          unfold tlD at h
          obtain ⟨s1, h1, h⟩ := eB_inr h
          obtain ⟨s2, h2, h⟩ := eB_inr h
          obtain ⟨s3, h3, h⟩ := eB_inr h
          cases h
          obtain ⟨a2, a3⟩ := go_inr h1
          subst a3
          obtain ⟨c1, c2, c3, c4, c5⟩ := bnd_i h2
          obtain ⟨-, e1, e2⟩ := must_inr h3
          subst e2
          simp only at c1 c2 c3 c4 c5 e1 ⊢
          refine ⟨⟨r1, r2, by show s2.2.1 = 0; rw [c4]; exact r3, r4, r5, fun z => ?_⟩, by omega, by omega⟩
          obtain ⟨z3, y3⟩ := c5 z
          obtain ⟨w1, w2, w3, w4⟩ := r6 z3
          exact ⟨w1, w2, nI_b y3.1 y3.2 (by decide), w4⟩
        · split at h
          · -- seed
            unfold tlE at h
            obtain ⟨s1, h1, h⟩ := eB_inr h
            obtain ⟨s2, h2, h⟩ := eB_inr h
            obtain ⟨s3, h3, h⟩ := eB_inr h
            cases h
            obtain ⟨a2, a3⟩ := go_inr h1
            subst a3
            obtain ⟨c1, c2, c3, c4, c5⟩ := bnd_i h2
            obtain ⟨-, e1, e2⟩ := must_inr h3
            subst e2
            simp only at c1 c2 c3 c4 c5 e1 ⊢
            refine ⟨⟨r1, r2, by show s2.2.1 = 0; rw [c4]; exact r3, r4, r5, fun z => ?_⟩, by omega, by omega⟩
            obtain ⟨z3, y3⟩ := c5 z
            obtain ⟨w1, w2, w3, w4⟩ := r6 z3
            exact ⟨w1, w2, w3, nI_b y3.1 y3.2 (by decide)⟩
          · split at h
            · -- a law
              unfold tlL at h
              obtain ⟨s1, h1, h⟩ := eB_inr h
              obtain ⟨⟨s2, L⟩, h2, h⟩ := eB_inr h
              cases h
              obtain ⟨a2, a3⟩ := go_inr h1
              subst a3
              have b1 := lawT_V hv h2 (by show σ.1 + 1 ≤ 400; omega)
              have b2 := lawT_le h2 (by show σ.1 + 1 ≤ 400; omega)
              obtain ⟨-, m2, m3, m4, -⟩ := lawT_mono hv h2
              simp only at b2 m2 m3 m4 ⊢
              refine ⟨⟨r1, r2, by show s2.2.1 = 0; rw [m4]; exact r3, fun j => ?_, r5, fun z => ?_⟩, by omega, b2⟩
              · show lwV (if j = _ then some L else la_ T j)
                split
                · exact b1
                · exact r4 j
              · have z : s2.2.2.1 = 0 := z
                rw [m4] at z
                exact r6 z
            · cases h
/-- lines read: all that holds -/
theorem lines_RV (hv : ∀ j, tv_ τ j ≤ 9999) : ∀ (n : Nat) (ρ ρ' : aRd), RVt ρ → ρ.1.1 ≤ 400 → linesX τ n ρ = .inr ρ' → RVt ρ' ∧ ρ'.1.1 ≤ 400
  | 0, ρ, ρ', _, _, h => by cases h
  | n + 1, ρ, ρ', hR, h4, h => by
    unfold linesX at h
    split at h
    · cases h; exact ⟨hR, h4⟩
    · obtain ⟨ρ1, h1, h2⟩ := eB_inr h
      obtain ⟨a1, a2, a3⟩ := tell_RV hv hR h4 h1
      exact lines_RV hv n ρ1 ρ' a1 a3 h2
def r0 : aRd := ((0, 0, 0, 0), (fun _ => 0, fun _ => 0, 0), T0, 0)
theorem RV0 : RVt r0 := by
  refine ⟨⟨rfl, by decide, by decide, fun k hk => absurd hk (Nat.not_lt_zero k)⟩, by decide, rfl, fun k => trivial, ⟨fun _ => 0, fun g => ⟨rfl, by show 0 < 128; decide⟩, fun g o => by rw [Nat.zero_testBit, Nat.zero_testBit]⟩, fun _ => ⟨fun g hg => absurd hg (Nat.not_lt_zero g), fun s hs => absurd hs (Nat.not_lt_zero s), ⟨by decide, by decide⟩, ⟨by decide, by decide⟩⟩⟩
theorem RV_TV {ρ : aRd} (hR : RVt ρ) (h0 : ρ.1.2.2.1 = 0) : TV ρ.2.2.1 := by
  obtain ⟨r1, r2, r3, r4, ⟨F, f1, f2⟩, r6⟩ := hR
  obtain ⟨w1, w2, w3, w4⟩ := r6 h0
  have n7 := r1.2.2.1
  refine ⟨r1.2.1, r1.2.2.1, fun g hg => ?_, w2, w3, w4, fun k _ => r4 k⟩
  obtain ⟨a1, a2, a3⟩ := w1 g hg
  refine ⟨a1, a2, a3, F g, (f1 g).2, (f1 g).1, fun o ho => ?_⟩
  have l1 := (f1 o).2
  rw [(f1 o).1, nI_shr (by omega) (by omega), bit_and1, f2 g o]
end RV2
