set_option maxRecDepth 100000
/-! THE TWO SIDES AGREE, plainly (3): first, rows -/
section EQ3
variable {T : aTx} {w : Nat → Int32}
theorem ah_de (n : Nat) {g : Nat} (hg : g < 7) : ah_ T w n (14 + g) = w (14 + g) := by
  induction n with
  | zero => rfl
  | succ n ih =>
    rw [ah_s, wk_de hg, if_neg (fun z => by cases z.2.1)]
    exact ih
/-- when one is weary first -/
def vW (T : aTx) (w : Nat → Int32) (g : Nat) : Option Nat := if w (14 + g) = 0 then fnd (fun n => decide (de_ T ≤ ah_ T w n (7 + g))) 101 0 else none
theorem vW_s {g n : Nat} (h : vW T w g = some n) : w (14 + g) = 0 ∧ n < 101 ∧ de_ T ≤ ah_ T w n (7 + g) ∧ ∀ i, i < n → ¬ de_ T ≤ ah_ T w i (7 + g) := by
  unfold vW at h
  by_cases q : w (14 + g) = 0
  · rw [if_pos q] at h
    obtain ⟨h1, h2, h3, h4⟩ := fnd_some _ _ _ h
    rw [decide_eq_true_eq] at h3
    exact ⟨q, by omega, h3, fun i hi => by have := h4 i (by omega) hi; rwa [decide_eq_false_iff_not] at this⟩
  · rw [if_neg q] at h; cases h
theorem vW_n {g : Nat} (h : vW T w g = none) (h0 : w (14 + g) = 0) : ∀ n, n < 101 → ¬ de_ T ≤ ah_ T w n (7 + g) := by
  unfold vW at h
  rw [if_pos h0] at h
  intro n hn
  have := fnd_none _ _ h n (by omega) (by omega)
  rwa [decide_eq_false_iff_not] at this
theorem fs_v (g : Nat) (q : Int32 × Int32) : fsF T w g q = match vW T w g with
    | some n => if nI n < q.2 then (nI g, nI n) else q
    | none => q := by
  unfold fsF vW
  by_cases c : w (14 + g) = 0
  · simp only [c, ↓reduceIte]
    cases hf : fnd (fun n => decide (de_ T ≤ ah_ T w n (7 + g))) 101 0 with
    | none =>
      have e : fnI none = -2 := rfl
      simp only [e]
      rw [if_neg (fun z => absurd z.1 (by decide))]
    | some n =>
      obtain ⟨h1, h2, -⟩ := fnd_some _ _ _ hf
      show (if 0 ≤ nI n ∧ nI n < q.2 then (nI g, nI n) else q) = if nI n < q.2 then (nI g, nI n) else q
      have : 0 ≤ nI n := nI_pos' (by omega)
      simp only [this, true_and]
  · simp only [c, ↓reduceIte]
    rw [if_neg (fun z => absurd z.1 (by decide))]
theorem fs_inv (hV : TV T) : ∀ j, j ≤ ng_ T → ((∀ g, g < j → vW T w g = none) ∧ itn j (fsF T w) (-2, nI 1000000) = (-2, nI 1000000)) ∨ ∃ g n, g < j ∧ vW T w g = some n ∧ itn j (fsF T w) (-2, nI 1000000) = (nI g, nI n) ∧ (∀ g' n', g' < j → vW T w g' = some n' → n ≤ n') ∧ ∀ g', g' < g → vW T w g' ≠ some n := by
  intro j
  induction j with
  | zero => intro _; exact Or.inl ⟨fun g hg => absurd hg (Nat.not_lt_zero g), rfl⟩
  | succ j ih =>
    intro hj
    have e : itn (j + 1) (fsF T w) (-2, nI 1000000) = fsF T w j (itn j (fsF T w) (-2, nI 1000000)) := rfl
    rw [e, fs_v]
    rcases ih (by omega) with ⟨h1, h2⟩ | ⟨g, n, h1, h2, h3, h4, h5⟩
    · rw [h2]
      cases hv : vW T w j with
      | none =>
        refine Or.inl ⟨fun g hg => ?_, rfl⟩
        by_cases q : g = j
        · rw [q]; exact hv
        · exact h1 g (by omega)
      | some n =>
        have hn := (vW_s hv).2.1
        refine Or.inr ⟨j, n, by omega, hv, ?_, fun g' n' hg' hv' => ?_, fun g' hg' hv' => ?_⟩
        · show (if nI n < nI 1000000 then (nI j, nI n) else _) = _
          rw [if_pos (nI_lt (by omega) (by decide))]
        · by_cases q : g' = j
          · rw [q, hv] at hv'; cases hv'; exact Nat.le_refl _
          · rw [h1 g' (by omega)] at hv'; cases hv'
        · rw [h1 g' hg'] at hv'; cases hv'
    · rw [h3]
      have hn := (vW_s h2).2.1
      cases hv : vW T w j with
      | none =>
        refine Or.inr ⟨g, n, by omega, h2, rfl, fun g' n' hg' hv' => ?_, h5⟩
        by_cases q : g' = j
        · rw [q, hv] at hv'; cases hv'
        · exact h4 g' n' (by omega) hv'
      | some m =>
        have hm := (vW_s hv).2.1
        show (((∀ g, g < j + 1 → vW T w g = none) ∧ (if nI m < nI n then (nI j, nI m) else (nI g, nI n)) = _) ∨ _)
        by_cases c : m < n
        · refine Or.inr ⟨j, m, by omega, hv, ?_, fun g' n' hg' hv' => ?_, fun g' hg' hv' => ?_⟩
          · show (if nI m < nI n then (nI j, nI m) else (nI g, nI n)) = _
            rw [if_pos (nI_lt c (by omega))]
          · by_cases q : g' = j
            · rw [q, hv] at hv'; cases hv'; exact Nat.le_refl _
            · have := h4 g' n' (by omega) hv'; omega
          · have := h4 g' m hg' hv'; omega
        · refine Or.inr ⟨g, n, by omega, h2, ?_, fun g' n' hg' hv' => ?_, h5⟩
          · show (if nI m < nI n then (nI j, nI m) else (nI g, nI n)) = _
            rw [if_neg (nI_nlt (by omega) (by omega))]
          · by_cases q : g' = j
            · rw [q, hv] at hv'; cases hv'; omega
            · exact h4 g' n' (by omega) hv'
theorem eq_fst (hV : TV T) (what : Int32) : qFstX T w what = qFstM T w what := by
  have h7 := hV.2.1
  unfold qFstX qFstM
  cases hq : in_ what (nI 0) (nI 1) with
  | false => rfl
  | true =>
    rw [if_pos rfl, if_pos rfl]
    obtain ⟨c, hc, rfl⟩ := in_n (by decide) hq
    have hcc : c = 0 ∨ c = 1 := by omega
    rcases fs_inv (w := w) hV (ng_ T) (Nat.le_refl _) with ⟨h1, h2⟩ | ⟨g, n, h1, h2, h3, h4, h5⟩
    · have hf : fnd (fun n => (fw_ T w n).isSome) 101 0 = none := fnd_nn (fun n hn => by
        show (fw_ T w n).isSome = false
        have : fw_ T w n = none := fnd_nn (fun g hg => by
          rw [ah_de n (by omega)]
          by_cases q : w (14 + g) = 0
          · rw [decide_eq_false (vW_n (h1 g hg) q n hn), Bool.and_false]
          · rw [decide_eq_false q, Bool.false_and])
        rw [this]; rfl)
      rw [hf]
      unfold fs_
      rw [h2, if_pos (Or.inl (by decide))]
    · obtain ⟨v1, v2, v3, v4⟩ := vW_s h2
      have hfw : fw_ T w n = some g := fnd_eq h1 (by
          rw [ah_de n (by omega), decide_eq_true v1, decide_eq_true v3]; rfl) (fun g' hg' => by
          rw [ah_de n (by omega)]
          by_cases q : w (14 + g') = 0
          · by_cases q2 : de_ T ≤ ah_ T w n (7 + g')
            · exfalso
              cases hv : vW T w g' with
              | none => exact vW_n hv q n v2 q2
              | some n' =>
                have a1 := h4 g' n' (by omega) hv
                obtain ⟨-, -, -, b4⟩ := vW_s hv
                have a2 : n' = n := by
                  by_cases qq : n < n'
                  · exact absurd q2 (b4 n qq)
                  · omega
                exact h5 g' hg' (by rw [hv, a2])
            · rw [decide_eq_false q2, Bool.and_false]
          · rw [decide_eq_false q, Bool.false_and])
      have hf : fnd (fun n => (fw_ T w n).isSome) 101 0 = some n := fnd_eq v2 (by show (fw_ T w n).isSome = true; rw [hfw]; rfl) (fun i hi => by
        show (fw_ T w i).isSome = false
        have : fw_ T w i = none := fnd_nn (fun g' hg' => by
          rw [ah_de i (by omega)]
          by_cases q : w (14 + g') = 0
          · by_cases q2 : de_ T ≤ ah_ T w i (7 + g')
            · exfalso
              cases hv : vW T w g' with
              | none => exact vW_n hv q i (by omega) q2
              | some n' =>
                have a1 := h4 g' n' hg' hv
                obtain ⟨-, -, -, b4⟩ := vW_s hv
                exact absurd q2 (b4 i (by omega))
            · rw [decide_eq_false q2, Bool.and_false]
          · rw [decide_eq_false q, Bool.false_and])
        rw [this]; rfl)
      rw [hf]
      unfold fs_
      rw [h3]
      dsimp only
      rw [hfw]
      have hb : ¬ nI g < 0 := nI_pos (by omega)
      rcases hcc with rfl | rfl
      · rw [if_neg (fun z => z.elim hb (by decide)), if_pos rfl]
      · rw [if_pos (Or.inr rfl), if_neg (by decide)]
        rfl
/-- rows: two guests of one sunday are never there at once -/
theorem nI_st {x : Int32} (h0 : 0 ≤ x.toInt) : x = nI x.toInt.toNat := by
  apply Int32.toInt_inj.mp
  have := Int32.toInt_lt x
  rw [nI_toInt (by omega)]
  omega
theorem who_g (hV : TV T) (hW : WV T w) {s x : Int32} (hs : 0 ≤ s) {g : Nat} (hg : g < ng_ T) (h1 : w g = s) (h2 : th_ T g x = true) : who_ T w s x = nI g := by
  have : fnd (fun g => decide (w g = s) && th_ T g x) (ng_ T) 0 = some g := fnd_eq hg (by rw [decide_eq_true h1, h2]; rfl) (fun o ho => by
    cases hq : (decide (w o = s) && th_ T o x) with
    | false => rfl
    | true =>
      exfalso
      rw [Bool.and_eq_true, decide_eq_true_eq] at hq
      have hc := hW.2.2.2.2.2.2.2.2.2 o g (by omega) hg (hq.1.trans h1.symm) (by rw [hq.1]; exact hs)
      unfold th_ at h2 hq
      simp only [Bool.and_eq_true, decide_eq_true_eq] at h2 hq
      unfold cl_ at hc
      have e1 : Nat.beq o g = false := by
        cases hb : Nat.beq o g with
        | false => rfl
        | true => have := Nat.eq_of_beq_eq_true hb; omega
      have e2 : decide (hr_ T o < ti_ T g) = true := decide_eq_true (by
        rw [Int32.lt_iff_toInt_lt]
        have := Int32.le_iff_toInt_le.mp hq.2.1
        have := Int32.lt_iff_toInt_lt.mp h2.2
        omega)
      have e3 : decide (hr_ T g < ti_ T o) = true := decide_eq_true (by
        rw [Int32.lt_iff_toInt_lt]
        have := Int32.le_iff_toInt_le.mp h2.1
        have := Int32.lt_iff_toInt_lt.mp hq.2.2
        omega)
      rw [e1, e2, e3] at hc
      simp at hc)
  unfold who_
  rw [this]
theorem who_s (hV : TV T) {s x : Int32} {g : Nat} (hg : g < 2147483648) (h : who_ T w s x = nI g) : g < ng_ T ∧ w g = s ∧ th_ T g x = true := by
  have h7 := hV.2.1
  unfold who_ at h
  cases hf : fnd (fun g => decide (w g = s) && th_ T g x) (ng_ T) 0 with
  | none =>
    rw [hf] at h
    exact absurd h.symm (nIne2 hg)
  | some k =>
    rw [hf] at h
    obtain ⟨h1, h2, h3, -⟩ := fnd_some _ _ _ hf
    have : k = g := (nI_eq (by omega) hg).mp h
    rw [this] at h2 h3
    rw [Bool.and_eq_true, decide_eq_true_eq] at h3
    exact ⟨by omega, h3.1, h3.2⟩
def rowI (T : aTx) (w : Nat → Int32) (s : Int32) (h : Nat) : Prop := (rx_ T w s h).2 = rwC T w s h ∧ ((rx_ T w s h).1 = -1 ∨ ∃ g, g < ng_ T ∧ (rx_ T w s h).1 = nI g ∧ (hr_ T g).toInt < h) ∧ (∀ g, g < ng_ T → 1 ≤ h → who_ T w s (nI (h - 1)) = nI g → (rx_ T w s h).1 = nI g)
theorem nIne1 {g : Nat} (hg : g < 2147483648) : nI g ≠ -1 := by
  intro e
  have := congrArg Int32.toInt e
  rw [nI_toInt (by omega)] at this
  have h2 : (-1 : Int32).toInt = -1 := by decide
  omega
theorem row_e (hV : TV T) (hW : WV T w) {s : Int32} (hs : 0 ≤ s) {h : Nat} (hh : h < 24) (hI : rowI T w s h) : rwO T w s h = (!(decide (who_ T w s (nI h) < 0)) && !(decide (who_ T w s (nI h) = (rx_ T w s h).1))) := by
  have h7 := hV.2.1
  obtain ⟨-, i2, i3⟩ := hI
  unfold rwO
  rcases who_c (T := T) (w := w) s (nI h) with e | ⟨g, hg, e⟩
  · rw [e, decide_eq_true (show (-2 : Int32) < 0 by decide)]; rfl
  · have hp : ¬ nI g < 0 := nI_pos (by omega)
    rw [e, decide_eq_false hp, kk_n (by omega)]
    congr 1
    obtain ⟨-, w1, w2⟩ := who_s hV (by omega) e
    unfold th_ at w2
    simp only [Bool.and_eq_true, decide_eq_true_eq] at w2
    obtain ⟨t1, t2⟩ := w2
    rw [Int32.le_iff_toInt_le, nI_toInt (by omega)] at t1
    rw [Int32.lt_iff_toInt_lt, nI_toInt (by omega)] at t2
    obtain ⟨r1, -⟩ := hV.2.2.1 g hg
    by_cases q : hr_ T g = nI h
    · have qh : (hr_ T g).toInt = h := by rw [q]; exact nI_toInt (by omega)
      rw [decide_eq_true q, decide_eq_false]
      · rfl
      · intro z
        rcases i2 with l | ⟨g', hg', l, lh⟩
        · rw [l] at z; exact nIne1 (by omega) z
        · rw [l] at z
          have : g = g' := (nI_eq (by omega) (by omega)).mp z
          rw [← this] at lh
          omega
    · have qh : (hr_ T g).toInt < h := by
        have : (hr_ T g).toInt ≠ h := fun z => q (Int32.toInt_inj.mp (by rw [z, nI_toInt (by omega)]))
        omega
      have hw : who_ T w s (nI (h - 1)) = nI g := who_g hV hW hs hg w1 (by
        unfold th_
        rw [decide_eq_true (by rw [Int32.le_iff_toInt_le, nI_toInt (by omega)]; omega), decide_eq_true (by rw [Int32.lt_iff_toInt_lt, nI_toInt (by omega)]; omega)]
        rfl)
      rw [decide_eq_false q, i3 g hg (by omega) hw, decide_eq_true rfl]
      rfl
theorem row_i (hV : TV T) (hW : WV T w) {s : Int32} (hs : 0 ≤ s) : ∀ h, h ≤ 24 → rowI T w s h := by
  have h7 := hV.2.1
  intro h
  induction h with
  | zero => intro _; exact ⟨rfl, Or.inl rfl, fun g _ h1 => by omega⟩
  | succ h ih =>
    intro hh
    have hI := ih (by omega)
    have he := row_e hV hW hs (by omega) hI
    obtain ⟨i1, i2, i3⟩ := hI
    have ex : rx_ T w s (h + 1) = rxF T w s h (rx_ T w s h) := rfl
    have ec : rwC T w s (h + 1) = bif rwO T w s h then rwC T w s h + 1 else rwC T w s h := rfl
    unfold rowI
    rw [ex, ec, he, ← i1]
    generalize rx_ T w s h = q at i2 i3 ⊢
    unfold rxF
    by_cases c1 : who_ T w s (nI h) < 0
    · rw [if_pos (Or.inl c1), decide_eq_true c1]
      refine ⟨rfl, i2.imp id (fun ⟨g, a, b, c⟩ => ⟨g, a, b, by omega⟩), fun g hg _ hw => ?_⟩
      rw [show h + 1 - 1 = h by omega] at hw
      rw [hw] at c1
      exact absurd c1 (nI_pos (by omega))
    · by_cases c2 : who_ T w s (nI h) = q.1
      · rw [if_pos (Or.inr c2), decide_eq_false c1, decide_eq_true c2]
        refine ⟨rfl, i2.imp id (fun ⟨g, a, b, c⟩ => ⟨g, a, b, by omega⟩), fun g hg _ hw => ?_⟩
        rw [show h + 1 - 1 = h by omega] at hw
        rw [← c2, hw]
      · rw [if_neg (fun z => z.elim c1 c2), decide_eq_false c1, decide_eq_false c2]
        refine ⟨rfl, Or.inr ?_, fun g hg _ hw => ?_⟩
        · rcases who_c (T := T) (w := w) s (nI h) with e | ⟨g, hg, e⟩
          · rw [e] at c1; exact absurd (by decide) c1
          · obtain ⟨-, w1, w2⟩ := who_s hV (by omega) e
            unfold th_ at w2
            simp only [Bool.and_eq_true, decide_eq_true_eq] at w2
            have t1 := w2.1
            rw [Int32.le_iff_toInt_le, nI_toInt (by omega)] at t1
            exact ⟨g, hg, e, by omega⟩
        · rw [show h + 1 - 1 = h by omega] at hw
          exact hw
theorem eq_row (hV : TV T) (hW : WV T w) (s i : Int32) : qRowX T w s i = qRowM T w s i := by
  unfold qRowX qRowM
  by_cases q : isS T s = true ∧ 0 ≤ i
  · rw [if_pos q, if_pos q]
    obtain ⟨k, hk, rfl⟩ := isS_n hV q.1
    have h4 := hV.1
    have hs : 0 ≤ nI k := nI_pos' (by omega)
    have e : fnd (rxP T w (nI k) i) 24 0 = fnd (fun h => rwO T w (nI k) h && decide (nI (rwC T w (nI k) h) = i)) 24 0 := fnd_congr 24 0 (fun h _ hh => by
      have hI := row_i (T := T) (w := w) hV hW hs h (by omega)
      have he := row_e hV hW hs (show h < 24 by omega) hI
      unfold rxP
      rw [he, hI.1])
    rw [e]
    cases fnd (fun h => rwO T w (nI k) h && decide (nI (rwC T w (nI k) h) = i)) 24 0 <;> rfl
  · rw [if_neg q, if_neg q]
end EQ3
