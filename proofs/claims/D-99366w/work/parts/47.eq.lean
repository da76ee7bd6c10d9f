set_option maxRecDepth 100000
/-! THE TWO SIDES AGREE, plainly (1) -/
section EQ
variable {T : aTx} {w : Nat → Int32}
theorem fnd_eq {P : Nat → Bool} {n k : Nat} (hk : k < n) (hp : P k = true) (hm : ∀ i, i < k → P i = false) : fnd P n 0 = some k := by
  cases hf : fnd P n 0 with
  | none => have := fnd_none _ _ hf k (by omega) (by omega); rw [hp] at this; cases this
  | some j =>
    obtain ⟨h1, h2, h3, h4⟩ := fnd_some _ _ _ hf
    by_cases q : j < k
    · rw [hm j q] at h3; cases h3
    · by_cases q2 : k < j
      · rw [h4 k (by omega) q2] at hp; cases hp
      · rw [show j = k by omega]
theorem fnd_nn {P : Nat → Bool} {n : Nat} (h : ∀ i, i < n → P i = false) : fnd P n 0 = none := by
  cases hf : fnd P n 0 with
  | none => rfl
  | some j =>
    obtain ⟨h1, h2, h3, h4⟩ := fnd_some _ _ _ hf
    rw [h j (by omega)] at h3; cases h3
/-- best -/
theorem bs_any {s : Nat} (hV : TV T) (hs : s < ns_ T) (n : Nat) (a b : Int32) : bs_ T w s n a = bs_ T w s n b := by
  unfold bs_
  induction n with
  | zero =>
    have h := (sO_b (w := ah_ T w 0) hV hs).1
    have q : ¬ sO_ T (ah_ T w 0) s ≤ -1 := by
      rw [Int32.le_iff_toInt_le]
      have : (-1 : Int32).toInt = -1 := by decide
      omega
    show bsF T w s 0 (a, -1) = bsF T w s 0 (b, -1)
    unfold bsF
    rw [if_neg q, if_neg q]
  | succ n ih => rw [itn, ih]; rfl
theorem eq_best (hV : TV T) (s n what : Int32) : qBstX T w s n what = qBstM T w s n what := by
  unfold qBstX qBstM
  by_cases q : sale_ T w s = true ∧ lng_ n = true ∧ in_ what (nI 0) (nI 1) = true
  · obtain ⟨k, hk, rfl⟩ := sale_s hV q.1
    have h4 := hV.1
    rw [if_pos q, if_pos q, kk_n (by omega), bs_any hV hk _ (nI 0) (-1)]
  · rw [if_neg q, if_neg q]
/-- look -/
theorem bc_7 : ∀ k, k < 128 → 0 ≤ (bc_ (nI k)).toInt ∧ (bc_ (nI k)).toInt ≤ 7 := by decide +kernel
theorem lkN_7 (hV : TV T) (set h : Nat) : lkN T set h ≤ 7 := by
  have h7 := hV.2.1
  have : ∀ n, itn n (fun g a => bif set.testBit g && th_ T g (nI h) then a + 1 else a) 0 ≤ n := by
    intro n
    induction n with
    | zero => exact Nat.le_refl 0
    | succ n ih =>
      rw [itn]
      generalize itn n (fun g a => bif set.testBit g && th_ T g (nI h) then a + 1 else a) 0 = b at ih ⊢
      cases (set.testBit n && th_ T n (nI h)) <;> simp only [cond_true, cond_false] <;> omega
  have := this (ng_ T)
  unfold lkN
  omega
theorem lkW_b (hV : TV T) {set : Nat} (hs : set < 128) (h : Nat) : lkW T set h < nI 1000000 := by
  have h1 := bc_7 set hs
  have h2 := lkN_7 hV set h
  have e : (nI (lkN T set h)).toInt = (lkN T set h : Int) := nI_toInt (by omega)
  rw [Int32.lt_iff_toInt_lt, nI_toInt (by decide)]
  show (if nI (lkN T set h) ≤ bc_ (nI set) - nI (lkN T set h) then bc_ (nI set) - nI (lkN T set h) else nI (lkN T set h)).toInt < _
  split
  · rw [ti_sub (by omega) (by omega)]; omega
  · omega
theorem lk_eq (hV : TV T) {set : Nat} (hs : set < 128) (n : Nat) (hn : n < 1000) : itn (n + 1) (lxF T set) (-2, nI 1000000) = itn (n + 1) (lkF T set) (-2, nI 0) ∧ 0 ≤ (itn (n + 1) (lkF T set) (-2, nI 0)).1 := by
  induction n with
  | zero =>
    have e1 : itn 1 (lxF T set) (-2, nI 1000000) = (nI 0, lkW T set 0) := by
      show lxF T set 0 (-2, nI 1000000) = _
      unfold lxF
      rw [if_pos (lkW_b hV hs 0)]
    have e2 : itn 1 (lkF T set) (-2, nI 0) = (nI 0, lkW T set 0) := by
      show lkF T set 0 (-2, nI 0) = _
      unfold lkF
      rw [if_neg (fun z => absurd z.1 (by decide))]
    rw [e1, e2]
    exact ⟨rfl, (by decide : (0 : Int32) ≤ nI 0)⟩
  | succ n ih =>
    have ih := ih (by omega)
    have e1 : itn (n + 1 + 1) (lxF T set) (-2, nI 1000000) = lxF T set (n + 1) (itn (n + 1) (lxF T set) (-2, nI 1000000)) := rfl
    have e2 : itn (n + 1 + 1) (lkF T set) (-2, nI 0) = lkF T set (n + 1) (itn (n + 1) (lkF T set) (-2, nI 0)) := rfl
    rw [e1, e2, ih.1]
    have h0 := ih.2
    generalize itn (n + 1) (lkF T set) (-2, nI 0) = q at h0 ⊢
    unfold lxF lkF
    by_cases c : lkW T set (n + 1) < q.2
    · rw [if_pos c, if_neg (fun z => Int32.not_le.mpr c z.2)]
      exact ⟨rfl, nI_pos' (show n + 1 < 2 ^ 31 by omega)⟩
    · rw [if_neg c, if_pos ⟨h0, Int32.not_lt.mp c⟩]
      exact ⟨rfl, h0⟩
theorem eq_look (hV : TV T) (th : Nat → Int32) (ts : Nat → Bool) (m : Nat) (k : Int32) : qLkX T th ts m k = qLkM T th ts m k := by
  unfold qLkX qLkM
  rw [(lk_eq hV (wB_128 (th := th) (ts := ts) (k := kk k) hV) 23 (by decide)).1]
/-- tangles -/
theorem dead_L (hV : TV T) (hW : WV T w) {set : Nat} (hs : set < 2 ^ ng_ T) : (set &&& dB_ w = 0) ↔ (dif set (lB_ T w) = 0) := by
  have h7 := hV.2.1
  constructor
  · intro h
    apply Nat.eq_of_testBit_eq
    intro i
    rw [dif_bit, Nat.zero_testBit]
    cases hb : set.testBit i with
    | false => rfl
    | true =>
      have hi := bit_lt hs hb
      have := and0.mp h i
      unfold dB_ at this
      rw [orN_bit, decide_eq_true (show i < 7 by omega), Bool.true_and] at this
      unfold lB_
      rw [orN_bit, decide_eq_true hi, Bool.true_and, Bool.true_and]
      by_cases q : w (14 + i) = 0
      · rw [decide_eq_true q]; rfl
      · exact absurd ⟨hb, by rw [decide_eq_false q]; rfl⟩ this
  · intro h
    refine and0.mpr (fun i hi => ?_)
    have h1 := congrArg (fun x => x.testBit i) h
    simp only [dif_bit, Nat.zero_testBit, hi.1, Bool.true_and] at h1
    unfold lB_ at h1
    unfold dB_ at hi
    rw [orN_bit] at h1 hi
    have hin := bit_lt hs hi.1
    rw [decide_eq_true hin, Bool.true_and] at h1
    rw [decide_eq_true (show i < 7 by omega), Bool.true_and] at hi
    rw [hi.2] at h1
    cases h1
theorem itn_shift {α : Type} (f : Nat → α → α) (a : α) (n : Nat) : itn (n + 1) f a = itn n (fun i => f (i + 1)) (f 0 a) := by
  induction n with
  | zero => rfl
  | succ n ih => rw [itn, ih]; rfl
theorem itn_more {α : Type} (f : Nat → α → α) (a : α) (n m : Nat) (hnm : n ≤ m) (h : ∀ i x, n ≤ i → i < m → f i x = x) : itn m f a = itn n f a := by
  induction hnm with
  | refl => rfl
  | step hk ih => rw [itn, h _ _ hk (Nat.lt_succ_self _)]; exact ih (fun i x h1 h2 => h i x h1 (Nat.lt_succ_of_lt h2))
theorem eq_tan (hV : TV T) (hW : WV T w) (what : Int32) : qTanX T w what = qTanM T w what := by
  have hL : lB_ T w < 2 ^ ng_ T := orN_lt _ _
  have e : tgX T w = tgM T w := by
    unfold tgX tgM
    rw [itn_shift]
    have h0 : tgF T (lB_ T w) 0 0 = 0 := by unfold tgF; split <;> rfl
    rw [h0]
    have e1 : itn (2 ^ ng_ T - 1) (txF T w) 0 = itn (2 ^ ng_ T - 1) (fun i => tgF T (lB_ T w) (i + 1)) 0 := itn_congr (fun i b hi => by
      unfold txF tgF
      have hd := dead_L (T := T) (w := w) hV hW (show i + 1 < 2 ^ ng_ T by omega)
      by_cases c1 : dif (i + 1) (lB_ T w) = 0
      · have c2 := hd.mpr c1
        simp only [c1, c2, decide_true, Bool.and_true, true_and]
      · have c2 : ¬ (i + 1) &&& dB_ w = 0 := fun z => c1 (hd.mp z)
        simp only [c1, c2, decide_false, Bool.and_false, false_and, and_false, Bool.false_eq_true])
    rw [e1]
    refine itn_more _ _ _ _ (by omega) (fun i b h1 h2 => ?_)
    unfold tgF
    rw [if_neg (fun z => ?_)]
    have : i + 1 ≤ lB_ T w := Nat.le_of_testBit (fun j hj => by
      have := congrArg (fun x => x.testBit j) z.1
      simp only [dif_bit, Nat.zero_testBit, hj, Bool.true_and, Bool.not_eq_false'] at this
      exact this)
    omega
  unfold qTanX qTanM
  rw [e]
/-- fewest -/
theorem en_iff {s : Nat} {l : List Nat} {of : Nat} : enL T w (s :: l) of = true ↔ ∃ k, cb_ T w s k of = true ∧ enL T w l (dif of k) = true := by
  rw [enL, fnd_iff]
  constructor
  · rintro ⟨k, hk, h⟩
    rw [Bool.and_eq_true] at h
    exact ⟨k, h⟩
  · rintro ⟨k, h1, h2⟩
    refine ⟨k, ?_, by rw [h1, h2]; rfl⟩
    unfold cb_ at h1
    rw [Bool.and_eq_true, decide_eq_true_eq] at h1
    have : k ≤ of := Nat.le_of_testBit (fun j hj => by
      have := congrArg (fun x => x.testBit j) h1.1
      simp only [dif_bit, Nat.zero_testBit, hj, Bool.true_and, Bool.not_eq_false'] at this
      exact this)
    omega
theorem dif0 {a b : Nat} : dif a b = 0 ↔ ∀ i, a.testBit i = true → b.testBit i = true := by
  constructor
  · intro h i hi
    have := congrArg (fun x => x.testBit i) h
    simp only [dif_bit, Nat.zero_testBit, hi, Bool.true_and, Bool.not_eq_false'] at this
    exact this
  · intro h
    apply Nat.eq_of_testBit_eq
    intro i
    rw [dif_bit, Nat.zero_testBit]
    cases ha : a.testBit i with
    | false => rfl
    | true => rw [h i ha]; rfl
theorem cb_iff {s k of : Nat} : cb_ T w s k of = true ↔ ((∀ i, k.testBit i = true → of.testBit i = true) ∧ 0 ≤ pv_ T w s k) := by
  unfold cb_
  rw [Bool.and_eq_true, decide_eq_true_eq, decide_eq_true_eq, dif0]
theorem en_sw1 {s t : Nat} {l : List Nat} {of : Nat} (h : enL T w (s :: t :: l) of = true) : enL T w (t :: s :: l) of = true := by
  obtain ⟨k, h1, h2⟩ := en_iff.mp h
  obtain ⟨m, h3, h4⟩ := en_iff.mp h2
  obtain ⟨a1, a2⟩ := cb_iff.mp h1
  obtain ⟨b1, b2⟩ := cb_iff.mp h3
  refine en_iff.mpr ⟨m, cb_iff.mpr ⟨fun i hi => ?_, b2⟩, en_iff.mpr ⟨k, cb_iff.mpr ⟨fun i hi => ?_, a2⟩, ?_⟩⟩
  · have := b1 i hi
    rw [dif_bit, Bool.and_eq_true] at this
    exact this.1
  · rw [dif_bit, a1 i hi, Bool.true_and]
    cases hm : m.testBit i with
    | false => rfl
    | true =>
      have := b1 i hm
      rw [dif_bit, hi] at this
      simp at this
  · have e : dif (dif of m) k = dif (dif of k) m := by
      apply Nat.eq_of_testBit_eq
      intro i
      simp only [dif_bit]
      cases of.testBit i <;> cases m.testBit i <;> cases k.testBit i <;> rfl
    rw [e]; exact h4
theorem en_sw {s t : Nat} {l : List Nat} {of : Nat} : enL T w (s :: t :: l) of = enL T w (t :: s :: l) of := Bool.eq_iff_iff.mpr ⟨en_sw1, en_sw1⟩
theorem en_cg {s : Nat} {l l' : List Nat} (h : ∀ of, enL T w l of = enL T w l' of) (of : Nat) : enL T w (s :: l) of = enL T w (s :: l') of := by
  rw [enL, enL]
  simp only [h]
theorem en_perm {l l' : List Nat} (h : List.Perm l l') : ∀ of, enL T w l of = enL T w l' of := by
  induction h with
  | nil => intro _; rfl
  | cons s _ ih => exact en_cg ih
  | swap s t l => intro of; exact en_sw
  | trans _ _ ih1 ih2 => intro of; rw [ih1, ih2]
theorem lx_ss : ∀ n, n < 5 → ∀ t, t < 16 → t < 2 ^ n → lx_ t n = (ss_ t).reverse := by decide
theorem eq_few (hV : TV T) (what : Int32) : qFewX T w what = qFewM T w what := by
  have h4 := hV.1
  have h16 : 2 ^ ns_ T ≤ 16 := Nat.pow_le_pow_right (n := 2) (by decide) h4
  have e : fxB T w = fwB T w := by
    unfold fxB fwB
    refine itn_congr (fun t b ht => ?_)
    unfold fxF fwF
    have : enL T w (lx_ t (ns_ T)) (lB_ T w) = enL T w (ss_ t) (lB_ T w) := by
      rw [lx_ss (ns_ T) (by omega) t (by omega) ht]
      exact en_perm (List.reverse_perm _) _
    rw [this]
    simp only [And.comm]
  unfold qFewX qFewM
  rw [e]
end EQ
