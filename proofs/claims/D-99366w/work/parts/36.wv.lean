set_option maxRecDepth 100000
/-! ROWS THAT MAY STAND, plainly -/
section WVS
variable {T : aTx} {w : Nat → Int32} {still : Bool} {sd : Int32}
theorem wk_in {g : Nat} (hg : g < 7) : wk_ T still sd w g = if g < ng_ T ∧ still = false ∧ dies_ T w sd g = true then -2 else w g := by
  unfold wk_; rw [if_pos hg]
theorem wk_re {g : Nat} (hg : g < 7) : wk_ T still sd w (7 + g) = if g < ng_ T then rs_ T w g else w (7 + g) := by
  unfold wk_; rw [if_neg (by omega), if_pos (by omega), Nat.add_sub_cancel_left]
theorem wk_de {g : Nat} (hg : g < 7) : wk_ T still sd w (14 + g) = if g < ng_ T ∧ still = false ∧ dies_ T w sd g = true then nI 1 else w (14 + g) := by
  unfold wk_; rw [if_neg (by omega), if_neg (by omega), if_pos (by omega), Nat.add_sub_cancel_left]
theorem wk_wo {s : Nat} (hs : s < 4) : wk_ T still sd w (21 + s) = if s < ns_ T then wi_ (w (21 + s) + wO_ T w s) (nI 0) (nI 99) else w (21 + s) := by
  unfold wk_; rw [if_neg (by omega), if_neg (by omega), if_neg (by omega), if_pos (by omega), Nat.add_sub_cancel_left]
theorem wk_so {s : Nat} (hs : s < 4) : wk_ T still sd w (25 + s) = w (25 + s) := by
  unfold wk_; rw [if_neg (by omega), if_neg (by omega), if_neg (by omega), if_neg (by omega), if_neg (by omega), if_neg (by omega)]
theorem wk_29 : wk_ T still sd w 29 = w 29 + nI 1 := rfl
theorem wk_30 : wk_ T still sd w 30 = w 30 + due_ T w := rfl
theorem wi_b9 (v : Int32) : 0 ≤ (wi_ v (nI 0) (nI 999)).toInt ∧ (wi_ v (nI 0) (nI 999)).toInt ≤ 999 := by
  unfold wi_
  split
  · rw [nI_toInt (by decide)]; omega
  · rename_i h1
    rw [Int32.lt_iff_toInt_lt, nI_toInt (by decide)] at h1
    split
    · rw [nI_toInt (by decide)]; omega
    · rename_i h2
      rw [Int32.lt_iff_toInt_lt, nI_toInt (by decide)] at h2
      omega
theorem m2_lt : ((-2 : Int32) < 0) = True := by decide
theorem m2_ge : (0 ≤ (-2 : Int32)) = False := by decide
theorem wk_same {g : Nat} (hg : g < 7) (h : 0 ≤ wk_ T still sd w g) : wk_ T still sd w g = w g := by
  rw [wk_in hg] at h ⊢
  split at h
  · rw [m2_ge] at h; exact h.elim
  · rename_i h1; rw [if_neg h1]
theorem WV.wk (hV : TV T) (hW : WV T w) : WV T (wk_ T still sd w) := by
  obtain ⟨a1, a2, a3, a4, a5, a6, a7, a8, a9, a10⟩ := hW
  have h7 := hV.2.1
  have h4 := hV.1
  refine ⟨fun g hg => ?_, fun g h1 h2 => ⟨?_, ?_⟩, fun g hg => ?_, fun g hg h1 => ?_, fun s hs => ?_, fun s h1 h2 => ?_, fun g hg => ?_, fun s hs => ?_, fun g s hg hs h1 => ?_, fun g o hg ho h1 h2 => ?_⟩
  · rw [wk_in hg]
    split
    · exact Or.inl rfl
    · exact a1 g hg
  · rw [wk_in h2, if_neg (by omega)]; exact (a2 g h1 h2).1
  · rw [wk_de h2, if_neg (by omega)]; exact (a2 g h1 h2).2
  · rw [wk_de hg]
    split
    · exact Or.inr rfl
    · exact a3 g hg
  · rw [wk_de hg] at h1
    rw [wk_in hg]
    split
    · rfl
    · rename_i h2
      rw [if_neg h2] at h1
      exact a4 g hg h1
  · rw [wk_so hs]; exact a5 s hs
  · rw [wk_so h2]; exact a6 s h1 h2
  · rw [wk_re hg]
    split
    · unfold rs_
      split
      · exact wi_b9 _
      · split
        · exact wi_b9 _
        · exact a7 g hg
    · exact a7 g hg
  · rw [wk_wo hs]
    split
    · exact wi_b _
    · exact a8 s hs
  · have h2 : 0 ≤ wk_ T still sd w g := by rw [h1]; exact nI_pos' (by omega)
    rw [wk_same (by omega) h2] at h1
    exact a9 g s hg hs h1
  · have e1 := wk_same (by omega) h2
    have h3 : 0 ≤ wk_ T still sd w o := by rw [← h1]; exact h2
    have e2 := wk_same (by omega) h3
    rw [e1] at h1 h2
    rw [e2] at h1
    exact a10 g o hg ho h1 h2
theorem WV.wks (hV : TV T) (hW : WV T w) (n : Nat) : WV T (wks_ T still sd n w) := by
  induction n with
  | zero => exact hW
  | succ n ih => exact ih.wk hV
theorem due_b (hV : TV T) : 0 ≤ (due_ T w).toInt ∧ (due_ T w).toInt ≤ 693 := by
  have h7 := hV.2.1
  have : ∀ n, n ≤ ng_ T → 0 ≤ (itn n (fun g a => a + pO_ T w g) (nI 0)).toInt ∧ (itn n (fun g a => a + pO_ T w g) (nI 0)).toInt ≤ 99 * n := by
    intro n
    induction n with
    | zero => intro _; exact (by decide : 0 ≤ (nI 0).toInt ∧ (nI 0).toInt ≤ 99 * 0)
    | succ n ih =>
      intro hn
      have h1 := ih (by omega)
      have h2 := pO_b (w := w) hV (show n < ng_ T by omega)
      rw [itn, ti_add (by omega) (by omega)]
      omega
  have h1 := this (ng_ T) (Nat.le_refl _)
  unfold due_
  omega
theorem wks_30 (hV : TV T) {B : Int} (hB : B + 693 * 200 < 2147483648) (n : Nat) (hn : n ≤ 200) (h0 : 0 ≤ (w 30).toInt ∧ (w 30).toInt ≤ B) : 0 ≤ (wks_ T still sd n w 30).toInt ∧ (wks_ T still sd n w 30).toInt ≤ B + 693 * n := by
  induction n with
  | zero => exact ⟨h0.1, by have := h0.2; show (w 30).toInt ≤ _; omega⟩
  | succ n ih =>
    have h1 := ih (by omega)
    have h2 := due_b (w := wks_ T still sd n w) hV
    show 0 ≤ (wks_ T still sd n w 30 + due_ T (wks_ T still sd n w)).toInt ∧ (wks_ T still sd n w 30 + due_ T (wks_ T still sd n w)).toInt ≤ _
    rw [ti_add (by omega) (by omega)]
    omega
theorem gB_bit {s : Int32} {g : Nat} : (gB_ T w s).testBit g = (decide (g < ng_ T) && decide (w g = s)) := orN_bit _ _ _
/-- one goes out -/
theorem WV.out (hV : TV T) (hW : WV T w) {g : Nat} (hg : g < 7) : WV T (up_ w g (-2)) := by
  obtain ⟨a1, a2, a3, a4, a5, a6, a7, a8, a9, a10⟩ := hW
  have h7 := hV.2.1
  have h4 := hV.1
  have ne : ∀ {k : Nat}, k ≠ g → up_ w g (-2) k = w k := fun hk => if_neg hk
  have eq : up_ w g (-2) g = -2 := if_pos rfl
  refine ⟨fun k hk => ?_, fun k h1 h2 => ⟨?_, ?_⟩, fun k hk => ?_, fun k hk h1 => ?_, fun s hs => ?_, fun s h1 h2 => ?_, fun k hk => ?_, fun s hs => ?_, fun k s hk hs h1 => ?_, fun k o hk ho h1 h2 => ?_⟩
  · by_cases q : k = g
    · rw [q, eq]; exact Or.inl rfl
    · rw [ne q]; exact a1 k hk
  · by_cases q : k = g
    · rw [q, eq]
    · rw [ne q]; exact (a2 k h1 h2).1
  · rw [ne (by omega)]; exact (a2 k h1 h2).2
  · rw [ne (by omega)]; exact a3 k hk
  · rw [ne (by omega)] at h1
    by_cases q : k = g
    · rw [q, eq]
    · rw [ne q]; exact a4 k hk h1
  · rw [ne (by omega)]; exact a5 s hs
  · rw [ne (by omega)]; exact a6 s h1 h2
  · rw [ne (by omega)]; exact a7 k hk
  · rw [ne (by omega)]; exact a8 s hs
  · by_cases q : k = g
    · rw [q, eq] at h1
      exact absurd h1.symm (by
        intro e
        have := congrArg Int32.toInt e
        rw [nI_toInt (by omega)] at this
        have h2 : (-2 : Int32).toInt = -2 := by decide
        omega)
    · rw [ne q] at h1; exact a9 k s hk hs h1
  · by_cases q : k = g
    · rw [q, eq, m2_ge] at h2; exact h2.elim
    · by_cases q2 : o = g
      · rw [ne q] at h2
        rw [q2, eq, ne q] at h1
        rw [h1, m2_ge] at h2
        exact h2.elim
      · rw [ne q] at h1 h2
        rw [ne q2] at h1
        exact a10 k o hk ho h1 h2
/-- one goes in -/
theorem WV.go (hV : TV T) (hW : WV T w) {g s : Nat} (hg : g < ng_ T) (hs : s < ns_ T) (hm : mgi_ T w g s = true) (hn : w g < 0) : WV T (up_ w g (nI s)) := by
  obtain ⟨a1, a2, a3, a4, a5, a6, a7, a8, a9, a10⟩ := hW
  have h7 := hV.2.1
  have h4 := hV.1
  have ne : ∀ {k : Nat}, k ≠ g → up_ w g (nI s) k = w k := fun hk => if_neg hk
  have eq : up_ w g (nI s) g = nI s := if_pos rfl
  unfold mgi_ fit_ at hm
  simp only [Bool.and_eq_true, decide_eq_true_eq] at hm
  obtain ⟨⟨m1, m2, m3⟩, m4⟩ := hm
  have hcl : ∀ o, o < ng_ T → o ≠ g → w o = nI s → cl_ T g o = false := by
    intro o ho hog e
    have := and0.mp m4 o
    rw [gB_bit, cB_bit] at this
    cases hc : cl_ T g o with
    | false => rfl
    | true => exact absurd ⟨by simp [ho, e], by simp [ho, hc]⟩ this
  refine ⟨fun k hk => ?_, fun k h1 h2 => ⟨?_, ?_⟩, fun k hk => ?_, fun k hk h1 => ?_, fun t ht => ?_, fun t h1 h2 => ?_, fun k hk => ?_, fun t ht => ?_, fun k t hk ht h1 => ?_, fun k o hk ho h1 h2 => ?_⟩
  · by_cases q : k = g
    · rw [q, eq]; exact Or.inr ⟨s, hs, rfl⟩
    · rw [ne q]; exact a1 k hk
  · rw [ne (by omega)]; exact (a2 k h1 h2).1
  · rw [ne (by omega)]; exact (a2 k h1 h2).2
  · rw [ne (by omega)]; exact a3 k hk
  · rw [ne (by omega)] at h1
    by_cases q : k = g
    · rw [q, m1] at h1
      exact absurd h1 (by decide)
    · rw [ne q]; exact a4 k hk h1
  · rw [ne (by omega)]; exact a5 t ht
  · rw [ne (by omega)]; exact a6 t h1 h2
  · rw [ne (by omega)]; exact a7 k hk
  · rw [ne (by omega)]; exact a8 t ht
  · by_cases q : k = g
    · rw [q, eq, nI_eq (by omega) (by omega)] at h1
      rw [q, ← h1]; exact m3
    · rw [ne q] at h1; exact a9 k t hk ht h1
  · by_cases q : k = g
    · by_cases q2 : o = g
      · rw [q, q2]; exact cl_self
      · rw [q, eq, ne q2] at h1
        rw [q]; exact hcl o ho q2 h1.symm
    · by_cases q2 : o = g
      · rw [q2, eq, ne q] at h1
        rw [q2, cl_sym hV hk hg]
        exact hcl k hk q h1
      · rw [ne q] at h1 h2
        rw [ne q2] at h1
        exact a10 k o hk ho h1 h2
/-- week, money, worn, sold changed -/
theorem WV.else_ (hW : WV T w) {w' : Nat → Int32} (h1 : ∀ k, k < 21 → w' k = w k) (h2 : ∀ s, s < 4 → w' (25 + s) = 0 ∨ w' (25 + s) = nI 1) (h3 : ∀ s, ns_ T ≤ s → s < 4 → w' (25 + s) = 0) (h4 : ∀ s, s < 4 → 0 ≤ (w' (21 + s)).toInt ∧ (w' (21 + s)).toInt ≤ 99) (hV : TV T) : WV T w' := by
  obtain ⟨a1, a2, a3, a4, a5, a6, a7, a8, a9, a10⟩ := hW
  have h7 := hV.2.1
  refine ⟨fun k hk => ?_, fun k b1 b2 => ⟨?_, ?_⟩, fun k hk => ?_, fun k hk b1 => ?_, h2, h3, fun k hk => ?_, h4, fun k s hk hs b1 => ?_, fun k o hk ho b1 b2 => ?_⟩
  · rw [h1 k (by omega)]; exact a1 k hk
  · rw [h1 k (by omega)]; exact (a2 k b1 b2).1
  · rw [h1 _ (by omega)]; exact (a2 k b1 b2).2
  · rw [h1 _ (by omega)]; exact a3 k hk
  · rw [h1 _ (by omega)] at b1
    rw [h1 k (by omega)]; exact a4 k hk b1
  · rw [h1 _ (by omega)]; exact a7 k hk
  · rw [h1 k (by omega)] at b1; exact a9 k s hk hs b1
  · rw [h1 k (by omega)] at b1 b2
    rw [h1 o (by omega)] at b1
    exact a10 k o hk ho b1 b2
end WVS
