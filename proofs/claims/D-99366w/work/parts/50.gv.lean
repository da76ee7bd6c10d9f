set_option maxRecDepth 100000
/-! WHAT STAYS TRUE OF THE STATE: rows may stand, money is bounded by the calls -/
section GVS
variable {T : aTx} {w : Nat → Int32} {n : Nat} {Ω : aSg}
def rOK (n : Nat) (T : aTx) (w : Nat → Int32) : Prop := WV T w ∧ 0 ≤ (w 30).toInt ∧ (w 30).toInt ≤ 40000 * n
def GV (n : Nat) (Ω : aSg) : Prop := TV (gT Ω) ∧ rOK n (gT Ω) (gw Ω) ∧ gu Ω ≤ 40 ∧ (∀ i, i < gu Ω → rOK n (gT Ω) (gh Ω i)) ∧ ∀ i, i < 3 → gb Ω i = true → rOK n (gT Ω) (gr Ω i)
theorem rOK.up (h : rOK n T w) : rOK (n + 1) T w := ⟨h.1, h.2.1, by have := h.2.2; omega⟩
theorem GV.V (h : GV n Ω) : TV (gT Ω) := h.1
theorem GV.W (h : GV n Ω) : WV (gT Ω) (gw Ω) := h.2.1.1
theorem GV.m (h : GV n Ω) : 0 ≤ (gw Ω 30).toInt := h.2.1.2.1
theorem GV.up (h : GV n Ω) : GV (n + 1) Ω := ⟨h.1, h.2.1.up, h.2.2.1, fun i hi => (h.2.2.2.1 i hi).up, fun i hi hb => (h.2.2.2.2 i hi hb).up⟩
theorem GV.do_ (h : GV n Ω) {r : Nat → Int32} (hr : rOK (n + 1) (gT Ω) r) : GV (n + 1) (gDo Ω r) := by
  refine ⟨h.1, hr, ?_, fun i hi => ?_, fun i hi hb => (h.2.2.2.2 i hi hb).up⟩
  · have := h.2.2.1
    show pu (gu Ω) ≤ 40
    unfold pu; split <;> omega
  · have hu := h.2.2.1
    have hi : i < pu (gu Ω) := hi
    show rOK (n + 1) (gT Ω) (ph (gu Ω) (gh Ω) (gw Ω) i)
    unfold ph
    unfold pu at hi
    by_cases q : gu Ω = 40
    · rw [if_pos q]
      split
      · exact (h.2.2.2.1 (i + 1) (by omega)).up
      · exact h.2.1.up
    · rw [if_neg q]
      split
      · rename_i q2; exact (h.2.2.2.1 i q2).up
      · exact h.2.1.up
theorem GV.feed (h : GV n Ω) (a b c d e : Int32) : GV (n + 1) (aFeed Ω a b c d e).1 := by
  unfold aFeed; split <;> exact h.up
theorem GV.back (h : GV n Ω) (x : Int32) : GV (n + 1) (aBack Ω x).1 := by
  unfold aBack; split <;> exact h.up
theorem GV.tel (h : GV n Ω) (x : Int32) (b : Bool) : GV (n + 1) (aTel Ω x b).1 := by
  unfold aTel; split <;> exact h.up
theorem GV.fgt (h : GV n Ω) : GV (n + 1) (aFgt Ω).1 := h.up
theorem GV.und (h : GV n Ω) : GV (n + 1) (aUnd Ω).1 := by
  unfold aUnd
  split
  · exact h.up
  · rename_i q
    have hu := h.2.2.1
    exact ⟨h.1, (h.2.2.2.1 (gu Ω - 1) (by omega)).up, by show gu Ω - 1 ≤ 40; omega, fun i hi => (h.2.2.2.1 i (by have hi : i < gu Ω - 1 := hi; omega)).up, fun i hi hb => (h.2.2.2.2 i hi hb).up⟩
theorem GV.hld (h : GV n Ω) (s : Int32) : GV (n + 1) (aHld Ω s).1 := by
  unfold aHld
  split
  · refine ⟨h.1, h.2.1.up, h.2.2.1, fun i hi => (h.2.2.2.1 i hi).up, fun i hi hb => ?_⟩
    show rOK (n + 1) (gT Ω) ((fun i => if i = kk s then gw Ω else gr Ω i) i)
    have hb : (if i = kk s then true else gb Ω i) = true := hb
    dsimp only
    by_cases q : i = kk s
    · rw [if_pos q]; exact h.2.1.up
    · rw [if_neg q] at hb ⊢; exact (h.2.2.2.2 i hi hb).up
  · exact h.up
theorem GV.rst (h : GV n Ω) (s : Int32) : GV (n + 1) (aRsr Ω s).1 := by
  unfold aRsr
  by_cases q : in_ s (nI 0) (nI 2) = true ∧ gb Ω (kk s) = true
  · rw [if_pos q]
    obtain ⟨k, hk, e⟩ := in_n (by decide) q.1
    have ek : kk s = k := by rw [e]; exact kk_n (by omega)
    exact ⟨h.1, (h.2.2.2.2 (kk s) (by omega) q.2).up, Nat.zero_le _, fun i hi => absurd hi (Nat.not_lt_zero i), fun i hi hb => (h.2.2.2.2 i hi hb).up⟩
  · rw [if_neg q]; exact h.up
theorem GV.put (h : GV n Ω) (g : Int32) : GV (n + 1) (aPut Ω g).1 := by
  unfold aPut
  by_cases q : isG (gT Ω) g = true ∧ 0 ≤ gw Ω (kk g)
  · rw [if_pos q]
    obtain ⟨k, hk, rfl⟩ := isG_n h.V q.1
    have h7 := h.V.2.1
    rw [kk_n (by omega)]
    refine h.do_ ⟨h.W.out h.V (by omega), ?_, ?_⟩
    · show 0 ≤ (up_ (gw Ω) k (-2) 30).toInt
      rw [up_ne (by omega)]; exact h.m
    · show (up_ (gw Ω) k (-2) 30).toInt ≤ _
      rw [up_ne (by omega)]; have := h.2.1.2.2; omega
  · rw [if_neg q]; exact h.up
theorem GV.let_ (h : GV n Ω) (g s : Int32) : GV (n + 1) (aLet Ω g s).1 := by
  unfold aLet
  by_cases q : isG (gT Ω) g = true ∧ isS (gT Ω) s = true ∧ gw Ω (kk g) < 0 ∧ mgi_ (gT Ω) (gw Ω) (kk g) (kk s) = true
  · rw [if_pos q]
    obtain ⟨k, hk, rfl⟩ := isG_n h.V q.1
    obtain ⟨j, hj, rfl⟩ := isS_n h.V q.2.1
    have h7 := h.V.2.1
    have h4 := h.V.1
    obtain ⟨-, -, q3, q4⟩ := q
    rw [kk_n (by omega)] at q3 q4 ⊢
    rw [kk_n (by omega)] at q4
    refine h.do_ ⟨h.W.go h.V hk hj q4 q3, ?_, ?_⟩
    · show 0 ≤ (up_ (gw Ω) k (nI j) 30).toInt
      rw [up_ne (by omega)]; exact h.m
    · show (up_ (gw Ω) k (nI j) 30).toInt ≤ _
      rw [up_ne (by omega)]; have := h.2.1.2.2; omega
  · rw [if_neg q]; exact h.up
theorem GV.sel (h : GV n Ω) (hn : n ≤ 1000) (s : Int32) : GV (n + 1) (aSel Ω s).1 := by
  unfold aSel
  by_cases q : isS (gT Ω) s = true ∧ ¬ gw Ω (25 + kk s) = nI 1 ∧ gB_ (gT Ω) (gw Ω) s = 0
  · rw [if_pos q]
    obtain ⟨k, hk, rfl⟩ := isS_n h.V q.1
    have h4 := h.V.1
    rw [kk_n (by omega)]
    have hb := sO_b (w := gw Ω) h.V hk
    have hm := h.2.1.2
    have e : (gw Ω 30 + sO_ (gT Ω) (gw Ω) k).toInt = (gw Ω 30).toInt + (sO_ (gT Ω) (gw Ω) k).toInt := ti_add (by omega) (by omega)
    refine h.do_ ⟨h.W.else_ (fun i hi => ?_) (fun i hi => ?_) (fun i h1 h2 => ?_) (fun i hi => ?_) h.V, ?_, ?_⟩
    · rw [up_ne (by omega), up_ne (by omega)]
    · rw [up_ne (by omega)]
      by_cases q2 : i = k
      · rw [q2, up_eq]; exact Or.inr rfl
      · rw [up_ne (by omega)]; exact h.W.2.2.2.2.1 i hi
    · rw [up_ne (by omega), up_ne (by omega)]; exact h.W.2.2.2.2.2.1 i h1 h2
    · rw [up_ne (by omega), up_ne (by omega)]; exact h.W.2.2.2.2.2.2.2.1 i hi
    · rw [up_eq, e]; omega
    · rw [up_eq, e]; omega
  · rw [if_neg q]; exact h.up
theorem GV.air (h : GV n Ω) (hn : n ≤ 1000) (s : Int32) : GV (n + 1) (aAir Ω s).1 := by
  unfold aAir
  by_cases q : isS (gT Ω) s = true ∧ ¬ gw Ω (25 + kk s) = nI 1 ∧ ¬ gw Ω (21 + kk s) = 0 ∧ gB_ (gT Ω) (gw Ω) s = 0
  · rw [if_pos q]
    obtain ⟨k, hk, rfl⟩ := isS_n h.V q.1
    have h4 := h.V.1
    rw [kk_n (by omega)]
    have hm := h.2.1.2
    have e : 0 ≤ (if gw Ω 30 ≤ 0 then gw Ω 30 else gw Ω 30 - nI 1).toInt ∧ (if gw Ω 30 ≤ 0 then gw Ω 30 else gw Ω 30 - nI 1).toInt ≤ 40000 * n := by
      split
      · exact hm
      · rename_i c
        rw [Int32.le_iff_toInt_le] at c
        have z1 : (0 : Int32).toInt = 0 := by decide
        rw [ti_sub (by rw [n1_toInt]; omega) (by rw [n1_toInt]; omega), n1_toInt]
        omega
    refine h.do_ ⟨h.W.else_ (fun i hi => ?_) (fun i hi => ?_) (fun i h1 h2 => ?_) (fun i hi => ?_) h.V, ?_, ?_⟩
    · rw [up_ne (by omega), up_ne (by omega)]
    · rw [up_ne (by omega), up_ne (by omega)]; exact h.W.2.2.2.2.1 i hi
    · rw [up_ne (by omega), up_ne (by omega)]; exact h.W.2.2.2.2.2.1 i h1 h2
    · rw [up_ne (by omega)]
      by_cases q2 : i = k
      · rw [q2, up_eq]; decide
      · rw [up_ne (by omega)]; exact h.W.2.2.2.2.2.2.2.1 i hi
    · rw [up_eq]; exact e.1
    · rw [up_eq]; have := e.2; omega
  · rw [if_neg q]; exact h.up
theorem GV.wks (h : GV n Ω) (hn : n ≤ 1000) (x : Int32) : GV (n + 1) (aWks Ω x).1 := by
  unfold aWks
  by_cases q : lng_ x = true
  · rw [if_pos q]
    split
    · exact h.up
    · obtain ⟨k, hk, rfl⟩ := lng_n q
      rw [kk_n (by omega)]
      have hm := h.2.1.2
      have hb := wks_30 (still := false) (sd := se_ (gT Ω)) (B := 40000 * n) h.V (by omega) k (by omega) hm
      exact h.do_ ⟨h.W.wks h.V k, hb.1, by have := hb.2; show (wks_ (gT Ω) false (se_ (gT Ω)) k (gw Ω) 30).toInt ≤ _; omega⟩
  · rw [if_neg q]; exact h.up
end GVS
