set_option maxRecDepth 100000
/-! THE TWO SIDES AGREE, plainly (2) -/
section EQ2
variable {T : aTx} {w : Nat → Int32}
/-- letting: the dead count for nothing -/
theorem pv_L {s k : Nat} (hV : TV T) (h : 0 ≤ pv_ T w s k) {i : Nat} (hi : i < ng_ T) (hk : k.testBit i = true) : (lB_ T w).testBit i = true := by
  rw [pv_ge hV] at h
  have := (okB_iff.mp h i hi hk).1
  unfold lB_
  rw [orN_bit, decide_eq_true hi, this]
  rfl
theorem cb_L {s k A : Nat} (hV : TV T) (hA : A < 2 ^ ng_ T) : cb_ T w s k (A &&& lB_ T w) = cb_ T w s k A := by
  apply Bool.eq_iff_iff.mpr
  rw [cb_iff, cb_iff]
  constructor
  · rintro ⟨h1, h2⟩
    refine ⟨fun i hi => ?_, h2⟩
    have := h1 i hi
    rw [Nat.testBit_and, Bool.and_eq_true] at this
    exact this.1
  · rintro ⟨h1, h2⟩
    refine ⟨fun i hi => ?_, h2⟩
    have := h1 i hi
    rw [Nat.testBit_and, this, Bool.true_and]
    exact pv_L hV h2 (bit_lt hA this) hi
theorem dif_and {A B k : Nat} : dif A k &&& B = dif (A &&& B) k := by
  apply Nat.eq_of_testBit_eq
  intro i
  rw [Nat.testBit_and, dif_bit, dif_bit, Nat.testBit_and]
  cases A.testBit i <;> cases B.testBit i <;> cases k.testBit i <;> rfl
theorem cb_le {s k A : Nat} (h : cb_ T w s k A = true) : k ≤ A := Nat.le_of_testBit (fun i hi => (cb_iff.mp h).1 i hi)
theorem mo_L (hV : TV T) : ∀ s A, A < 2 ^ ng_ T → mo_ T w s A = mo_ T w s (A &&& lB_ T w) := by
  intro s
  induction s with
  | zero => intro A _; rfl
  | succ s ih =>
    intro A hA
    have hv : ∀ k, pv_ T w s k + mo_ T w s (dif A k) = pv_ T w s k + mo_ T w s (dif (A &&& lB_ T w) k) := fun k => by
      rw [ih (dif A k) (dif_lt hA), dif_and]
    obtain ⟨h1, h2, h3⟩ := mx_s (fun k => cb_ T w s k A) (fun k => pv_ T w s k + mo_ T w s (dif A k)) (fun j => j) (nI 0) (A + 1)
    obtain ⟨k1, k2, k3⟩ := mx_s (fun k => cb_ T w s k (A &&& lB_ T w)) (fun k => pv_ T w s k + mo_ T w s (dif (A &&& lB_ T w) k)) (fun j => j) (nI 0) ((A &&& lB_ T w) + 1)
    rw [mo_, mo_]
    apply Int32.le_antisymm
    · rcases h1 with e | ⟨j, hj, hc, e⟩
      · rw [e]; exact k2
      · rw [← e]
        have hc' : cb_ T w s j (A &&& lB_ T w) = true := by rw [cb_L hV hA]; exact hc
        have := k3 j (Nat.lt_succ_of_le (cb_le hc')) hc'
        show pv_ T w s j + mo_ T w s (dif A j) ≤ _
        rw [hv j]
        exact this
    · rcases k1 with e | ⟨j, hj, hc, e⟩
      · rw [e]; exact h2
      · rw [← e]
        have hc' : cb_ T w s j A = true := by rw [← cb_L hV hA]; exact hc
        have := h3 j (Nat.lt_succ_of_le (cb_le hc')) hc'
        show pv_ T w s j + mo_ T w s (dif (A &&& lB_ T w) j) ≤ _
        rw [← hv j]
        exact this
theorem lfP_L (hV : TV T) {s A k : Nat} (hA : A < 2 ^ ng_ T) : lfP T w s (A &&& lB_ T w) k = lfP T w s A k := by
  unfold lfP
  rw [cb_L hV hA, ← mo_L hV (s + 1) A hA, ← dif_and, ← mo_L hV s (dif A k) (dif_lt hA)]
theorem lf_L (hV : TV T) {s A : Nat} (hA : A < 2 ^ ng_ T) : lf_ T w s (A &&& lB_ T w) = lf_ T w s A := by
  obtain ⟨h1, h2, h3, h4⟩ := fnd_some _ _ _ (lf_f (T := T) (w := w) s A)
  obtain ⟨k1, k2, k3, k4⟩ := fnd_some _ _ _ (lf_f (T := T) (w := w) s (A &&& lB_ T w))
  generalize lf_ T w s A = a at h1 h2 h3 h4 ⊢
  generalize lf_ T w s (A &&& lB_ T w) = b at k1 k2 k3 k4 ⊢
  by_cases q : b < a
  · have := h4 b (by omega) q
    rw [← lfP_L hV hA, k3] at this
    cases this
  · by_cases q2 : a < b
    · have := k4 a (by omega) q2
      rw [lfP_L hV hA, h3] at this
      cases this
    · omega
theorem all_and (hV : TV T) : (2 ^ ng_ T - 1) &&& lB_ T w = lB_ T w := by
  apply Nat.eq_of_testBit_eq
  intro i
  rw [Nat.testBit_and, Nat.testBit_two_pow_sub_one]
  unfold lB_
  rw [orN_bit]
  cases decide (i < ng_ T) <;> rfl
theorem let_L (hV : TV T) : ∀ j, itn j (fun k of => dif of (lf_ T w (ns_ T - 1 - k) of)) (2 ^ ng_ T - 1) &&& lB_ T w = itn j (fun k of => dif of (lf_ T w (ns_ T - 1 - k) of)) (lB_ T w) := by
  intro j
  induction j with
  | zero => exact all_and hV
  | succ j ih =>
    rw [itn, itn, ← ih]
    have hb := letx_b (T := T) (w := w) j
    generalize itn j (fun k of => dif of (lf_ T w (ns_ T - 1 - k) of)) (2 ^ ng_ T - 1) = A at hb ⊢
    rw [lf_L hV hb, dif_and]
theorem eq_let (hV : TV T) (i : Int32) : qLetX T w i = qLetM T w i := by
  have hp1 : 1 ≤ 2 ^ ng_ T := Nat.one_le_two_pow
  unfold qLetX qLetM
  have e1 : mo_ T w (ns_ T) (2 ^ ng_ T - 1) = mo_ T w (ns_ T) (lB_ T w) := by
    rw [mo_L hV _ _ (show 2 ^ ng_ T - 1 < 2 ^ ng_ T by omega), all_and hV]
  have e2 : lf_ T w (kk i) (letx_ T w (kk i)) = lf_ T w (kk i) (lets_ T w (kk i)) := by
    unfold letx_ lets_
    rw [← let_L hV, lf_L hV (letx_b (T := T) (w := w) (ns_ T - 1 - kk i))]
  rw [e1, e2]
/-- colours -/
theorem mn_s (c : Nat → Bool) (v : Nat → Int32) (b0 : Int32) : ∀ n, (itn n (fun j b => if c j = true ∧ v j < b then v j else b) b0 = b0 ∨ ∃ j, j < n ∧ c j = true ∧ v j = itn n (fun j b => if c j = true ∧ v j < b then v j else b) b0) ∧ itn n (fun j b => if c j = true ∧ v j < b then v j else b) b0 ≤ b0 ∧ ∀ j, j < n → c j = true → itn n (fun j b => if c j = true ∧ v j < b then v j else b) b0 ≤ v j := by
  intro n
  induction n with
  | zero => exact ⟨Or.inl rfl, Int32.le_refl _, fun j hj => absurd hj (Nat.not_lt_zero j)⟩
  | succ n ih =>
    rw [itn]
    generalize itn n (fun j b => if c j = true ∧ v j < b then v j else b) b0 = b at ih ⊢
    obtain ⟨h1, h2, h3⟩ := ih
    by_cases q : c n = true ∧ v n < b
    · rw [if_pos q]
      refine ⟨Or.inr ⟨n, by omega, q.1, rfl⟩, Int32.le_trans (Int32.le_of_lt q.2) h2, fun j hj hc => ?_⟩
      by_cases e : j = n
      · rw [e]; exact Int32.le_refl _
      · exact Int32.le_trans (Int32.le_of_lt q.2) (h3 j (by omega) hc)
    · rw [if_neg q]
      refine ⟨h1.imp id (fun ⟨j, hj, hc⟩ => ⟨j, by omega, hc⟩), h2, fun j hj hc => ?_⟩
      by_cases e : j = n
      · rw [e] at hc ⊢
        exact Int32.not_lt.mp (fun z => q ⟨hc, z⟩)
      · exact h3 j (by omega) hc
def pcN (k : Nat) : Nat := itn 7 (fun i a => bif k.testBit i then a + 1 else a) 0
theorem pc_low : ∀ k, k < 128 → ¬ k = 0 → pcN (dif k (2 ^ low_ k)) + 1 = pcN k ∧ pcN k ≤ 7 ∧ 1 ≤ 2 ^ low_ k ∧ dif (2 ^ low_ k) k = 0 ∧ 2 ^ low_ k ≤ k := by decide +kernel
theorem calm1 (hV : TV T) {g : Nat} : calm T (2 ^ g) = true := by
  refine decide_eq_true_iff.mpr (fun o ho hb => ?_)
  rw [Nat.testBit_two_pow, decide_eq_true_eq] at hb
  subst hb
  refine and0.mpr (fun i hi => ?_)
  rw [Nat.testBit_two_pow, decide_eq_true_eq] at hi
  obtain ⟨h1, h2⟩ := hi
  subst h1
  rw [cB_bit, cl_self] at h2
  simp at h2
theorem co_n (n k : Nat) : coT T (n + 1) k = if k = n then coV T (coT T n) n else coT T n k := rfl
theorem cx_n (n k : Nat) : cxT T (n + 1) k = if k = n then cxV T (cxT T n) n else cxT T n k := rfl
theorem part_lt {k of : Nat} (h : dif k of = 0) (hk : 1 ≤ k) : dif of k < of := by
  refine Nat.lt_of_le_of_ne dif_le (fun e => ?_)
  have hz : k = 0 := by
    apply Nat.eq_of_testBit_eq
    intro n
    rw [Nat.zero_testBit]
    cases hb : k.testBit n with
    | false => rfl
    | true =>
      have h1 := dif0.mp h n hb
      have e1 := congrArg (fun x => x.testBit n) e
      rw [dif_bit, h1, hb] at e1
      cases e1
  omega
theorem co_eq (hV : TV T) : ∀ n, n ≤ 128 → ∀ k, k < n → cxT T n k = coT T n k ∧ 0 ≤ (coT T n k).toInt ∧ (coT T n k).toInt ≤ pcN k := by
  intro n
  induction n with
  | zero => intro _ k hk; omega
  | succ n ih =>
    intro hn k hk
    have ih := ih (by omega)
    rw [co_n, cx_n]
    by_cases q : k = n
    · rw [if_pos q, if_pos q, q]
      by_cases q0 : n = 0
      · subst q0
        exact ⟨rfl, (by decide : 0 ≤ (nI 0).toInt ∧ (nI 0).toInt ≤ (pcN 0 : Int))⟩
      · obtain ⟨p1, p2, p3, p4, p5⟩ := pc_low n (by omega) q0
        have hlow : 2 ^ low_ n = (2 ^ low_ n - 1) + 1 := by omega
        -- both as the least of the same
        have eM : coV T (coT T n) n = itn n (fun i b => if (decide (dif (i + 1) n = 0) && calm T (i + 1)) = true ∧ coT T n (dif n (i + 1)) + nI 1 < b then coT T n (dif n (i + 1)) + nI 1 else b) (nI 7) := by
          unfold coV
          rw [if_neg q0]
          refine itn_congr (fun i b hi => ?_)
          by_cases c1 : dif (i + 1) n = 0
          · cases c2 : calm T (i + 1) <;> by_cases c3 : coT T n (dif n (i + 1)) + nI 1 < b <;> simp [c1, c3]
          · simp [c1]
        have eX : cxV T (cxT T n) n = itn n (fun i b => if (decide (dif (i + 1) n = 0) && calm T (i + 1)) = true ∧ coT T n (dif n (i + 1)) + nI 1 < b then coT T n (dif n (i + 1)) + nI 1 else b) (nI 1000000) := by
          unfold cxV
          rw [if_neg q0]
          refine itn_congr (fun i b hi => ?_)
          by_cases c1 : dif (i + 1) n = 0
          · have := (ih (dif n (i + 1)) (part_lt c1 (by omega))).1
            rw [this, Int32.add_comm (nI 1)]
            unfold min_
            cases c2 : calm T (i + 1) <;> by_cases c3 : coT T n (dif n (i + 1)) + nI 1 < b <;> simp [c1, c3]
          · simp [c1]
        rw [eM, eX]
        obtain ⟨m1, m2, m3⟩ := mn_s (fun i => decide (dif (i + 1) n = 0) && calm T (i + 1)) (fun i => coT T n (dif n (i + 1)) + nI 1) (nI 7) n
        obtain ⟨x1, x2, x3⟩ := mn_s (fun i => decide (dif (i + 1) n = 0) && calm T (i + 1)) (fun i => coT T n (dif n (i + 1)) + nI 1) (nI 1000000) n
        generalize itn n (fun i b => if (decide (dif (i + 1) n = 0) && calm T (i + 1)) = true ∧ coT T n (dif n (i + 1)) + nI 1 < b then coT T n (dif n (i + 1)) + nI 1 else b) (nI 7) = m at m1 m2 m3 ⊢
        generalize itn n (fun i b => if (decide (dif (i + 1) n = 0) && calm T (i + 1)) = true ∧ coT T n (dif n (i + 1)) + nI 1 < b then coT T n (dif n (i + 1)) + nI 1 else b) (nI 1000000) = x at x1 x2 x3 ⊢
        -- one alone
        have c1 : (decide (dif ((2 ^ low_ n - 1) + 1) n = 0) && calm T ((2 ^ low_ n - 1) + 1)) = true := by
          rw [← hlow, decide_eq_true p4, calm1 hV]; rfl
        have s1 := m3 (2 ^ low_ n - 1) (by omega) c1
        have s2 := x3 (2 ^ low_ n - 1) (by omega) c1
        have dl : dif n (2 ^ low_ n) < n := part_lt p4 p3
        obtain ⟨-, b1, b2⟩ := ih _ dl
        have val : (coT T n (dif n (2 ^ low_ n)) + nI 1).toInt = (coT T n (dif n (2 ^ low_ n))).toInt + 1 := by
          rw [ti_add (by rw [n1_toInt]; omega) (by rw [n1_toInt]; omega), n1_toInt]
        simp only [← hlow] at s1 s2
        rw [Int32.le_iff_toInt_le, val] at s1 s2
        have t7 : (nI 7).toInt = 7 := by decide
        have tf : (nI 1000000).toInt = 1000000 := by decide
        have pos : ∀ j, j < n → (decide (dif (j + 1) n = 0) && calm T (j + 1)) = true → 0 ≤ (coT T n (dif n (j + 1)) + nI 1).toInt := fun j hj hc => by
          rw [Bool.and_eq_true, decide_eq_true_eq] at hc
          obtain ⟨-, c1, c2⟩ := ih _ (part_lt hc.1 (by omega))
          have hp : pcN (dif n (j + 1)) ≤ 7 := by
            by_cases qq : dif n (j + 1) = 0
            · rw [qq]; decide
            · exact (pc_low _ (by have := part_lt hc.1 (show 1 ≤ j + 1 by omega); omega) qq).2.1
          rw [ti_add (by rw [n1_toInt]; omega) (by rw [n1_toInt]; omega), n1_toInt]
          omega
        refine ⟨?_, ?_, by omega⟩
        · apply Int32.toInt_inj.mp
          have le1 : x.toInt ≤ m.toInt := by
            rcases m1 with e | ⟨j, hj, hc, e⟩
            · rw [e, t7]; omega
            · rw [← e]; exact Int32.le_iff_toInt_le.mp (x3 j hj hc)
          have le2 : m.toInt ≤ x.toInt := by
            rcases x1 with e | ⟨j, hj, hc, e⟩
            · rw [e, tf] at s2; omega
            · rw [← e]; exact Int32.le_iff_toInt_le.mp (m3 j hj hc)
          omega
        · rcases m1 with e | ⟨j, hj, hc, e⟩
          · rw [e, t7]; omega
          · rw [← e]; exact pos j hj hc
    · rw [if_neg q, if_neg q]
      exact ih k (by omega)
theorem eq_col (hV : TV T) : qColX T w = qColM T w := by
  have h128 : 2 ^ ng_ T ≤ 128 := Nat.pow_le_pow_right (n := 2) (by decide) hV.2.1
  unfold qColX qColM
  exact (co_eq hV _ h128 _ (orN_lt _ _)).1
end EQ2
