set_option maxRecDepth 100000
/-! X: reading (1): what is thrown; the parser's state -/
theorem bx_84 {d pc q : Nat} {ls rest : List Value} {h : aH} : aBk d 84 pc ls rest true (some (.threw q, h)) = some (.threw q, h) := aBk_x rfl
theorem bx_85 {d pc q : Nat} {ls rest : List Value} {h : aH} : aBk d 85 pc ls rest true (some (.threw q, h)) = some (.threw q, h) := aBk_x rfl
theorem bx_86 {d pc q : Nat} {ls rest : List Value} {h : aH} : aBk d 86 pc ls rest true (some (.threw q, h)) = some (.threw q, h) := aBk_x rfl
theorem bx_87 {d pc q : Nat} {ls rest : List Value} {h : aH} : aBk d 87 pc ls rest true (some (.threw q, h)) = some (.threw q, h) := aBk_x rfl
theorem bx_88 {d pc q : Nat} {ls rest : List Value} {h : aH} : aBk d 88 pc ls rest true (some (.threw q, h)) = some (.threw q, h) := aBk_x rfl
theorem bx_89 {d pc q : Nat} {ls rest : List Value} {h : aH} : aBk d 89 pc ls rest true (some (.threw q, h)) = some (.threw q, h) := aBk_x rfl
theorem bx_90 {d pc q : Nat} {ls rest : List Value} {h : aH} : aBk d 90 pc ls rest true (some (.threw q, h)) = some (.threw q, h) := aBk_x rfl
theorem bx_91 {d pc q : Nat} {ls rest : List Value} {h : aH} : aBk d 91 pc ls rest true (some (.threw q, h)) = some (.threw q, h) := aBk_x rfl
theorem bx_92 {d pc q : Nat} {ls rest : List Value} {h : aH} : aBk d 92 pc ls rest true (some (.threw q, h)) = some (.threw q, h) := aBk_x rfl
theorem bx_93 {d pc q : Nat} {ls rest : List Value} {h : aH} : aBk d 93 pc ls rest true (some (.threw q, h)) = some (.threw q, h) := aBk_x rfl
theorem bx_94 {d pc q : Nat} {ls rest : List Value} {h : aH} : aBk d 94 pc ls rest true (some (.threw q, h)) = some (.threw q, h) := aBk_x rfl
theorem bx_95 {d pc q : Nat} {ls rest : List Value} {h : aH} : aBk d 95 pc ls rest true (some (.threw q, h)) = some (.threw q, h) := aBk_x rfl
theorem bx_96 {d pc q : Nat} {ls rest : List Value} {h : aH} : aBk d 96 pc ls rest true (some (.threw q, h)) = some (.threw q, h) := aBk_x rfl
theorem bx_97 {d pc q : Nat} {ls rest : List Value} {h : aH} : aBk d 97 pc ls rest true (some (.threw q, h)) = some (.threw q, h) := aBk_x rfl
theorem bx_98 {d pc q : Nat} {ls rest : List Value} {h : aH} : aBk d 98 pc ls rest true (some (.threw q, h)) = some (.threw q, h) := aBk_x rfl
theorem bx_99 {d pc q : Nat} {ls rest : List Value} {h : aH} : aBk d 99 pc ls rest true (some (.threw q, h)) = some (.threw q, h) := aBk_x rfl
theorem bx_100 {d pc q : Nat} {ls rest : List Value} {h : aH} : aBk d 100 pc ls rest true (some (.threw q, h)) = some (.threw q, h) := aBk_x rfl
theorem bx_101 {d pc q : Nat} {ls rest : List Value} {h : aH} : aBk d 101 pc ls rest true (some (.threw q, h)) = some (.threw q, h) := aBk_x rfl
theorem bx_102 {d pc q : Nat} {ls rest : List Value} {h : aH} : aBk d 102 pc ls rest true (some (.threw q, h)) = some (.threw q, h) := aBk_x rfl
theorem bx_103 {d pc q : Nat} {ls rest : List Value} {h : aH} : aBk d 103 pc ls rest true (some (.threw q, h)) = some (.threw q, h) := aBk_x rfl
theorem bx_104 {d pc q : Nat} {ls rest : List Value} {h : aH} : aBk d 104 pc ls rest true (some (.threw q, h)) = some (.threw q, h) := aBk_x rfl
/-- kinds of tokens in X: sort; a sign's byte -/
def srt (k : Nat) : Nat := if k = 0 then 4 else if k = 1 then 0 else if k = 2 then 1 else if k = 3 then 5 else if 20 ≤ k then 3 else 2
def chr (k : Nat) : Nat := if k = 4 then 59 else if k = 5 then 61 else if k = 6 then 40 else if k = 7 then 41 else if k = 8 then 43 else if k = 9 then 45 else if k = 10 then 42 else if k = 15 then 47 else 60
def sgk (k : Nat) : Prop := k = 4 ∨ k = 5 ∨ k = 6 ∨ k = 7 ∨ k = 8 ∨ k = 9 ∨ k = 10 ∨ k = 13 ∨ k = 15
/-- kinds as they may be -/
def kok (k : Nat) : Prop := k ≤ 3 ∨ sgk k ∨ (20 ≤ k ∧ k ≤ 40)
/-- the tokens lie in X -/
def XK (h : aH) (τ : aTok) (N : Nat) : Prop := ∀ j, j ≤ N → kok (tk_ τ j) ∧ hi_ h 69 j = nI (srt (tk_ τ j)) ∧ hi_ h 70 j = nI (tp_ τ j) ∧ (20 ≤ tk_ τ j → hi_ h 72 j = nI (tk_ τ j - 20)) ∧ (sgk (tk_ τ j) → hi_ h 72 j = nI (chr (tk_ τ j)))
/-- X reads on -/
def XR (h : aH) (τ : aTok) (N : Nat) (σ : aPs) : Prop := XS h ∧ TK τ N ∧ XK h τ N ∧ σ.1 ≤ N ∧ hi_ h 73 40 = nI σ.1 ∧ hi_ h 73 41 = nI σ.2.1 ∧ σ.2.2.1 < 10 ∧ hi_ h 73 42 = nI σ.2.2.1 ∧ (σ.2.2.1 ≠ 0 → σ.2.2.2 ≤ N ∧ hi_ h 73 43 = nI σ.2.2.2)
/-- a fault lies ready -/
def XF (h : aH) (c p : Nat) : Prop := XS h ∧ hi_ h 65 27 = nI c ∧ hi_ h 65 28 = nI p
def XPF (a f : Nat) : Prop := (a = 73 ∧ 40 ≤ f ∧ f ≤ 43) ∨ (a = 65 ∧ (f = 27 ∨ f = 28))
/-- what comes of a step -/
def XO (h : aH) (τ : aTok) (N : Nat) (x : aEr aPs) (v : Option Value) (o : Outcome) : Prop := match x with
  | .inl e => o = .threw 65 ∧ XF h e.1 e.2
  | .inr σ => o = .returned v ∧ XR h τ N σ
section XR1
variable {d N : Nat} {h h' : aH} {τ : aTok} {σ : aPs}
theorem XK.on {S : Nat → Nat → Prop} (hK : XK h τ N) (o : On S h h') (hs : ∀ a f, S a f → a < 69 ∨ 72 < a) : XK h' τ N := fun j hj => by
  obtain ⟨h0, h1, h2, h3, h4⟩ := hK j hj
  exact ⟨h0, (o.i (fun q => by have := hs _ _ q; omega)).trans h1, (o.i (fun q => by have := hs _ _ q; omega)).trans h2, fun q => (o.i (fun q => by have := hs _ _ q; omega)).trans (h3 q), fun q => (o.i (fun q => by have := hs _ _ q; omega)).trans (h4 q)⟩
theorem XR.le (hR : XR h τ N σ) : σ.1 ≤ 400 := Nat.le_trans hR.2.2.2.1 hR.2.1.1
theorem srt_b (k : Nat) : srt k ≤ 5 := by
  unfold srt
  repeat' split
  all_goals omega
theorem p_wrongAt (hR : XR h τ N σ) {c j : Nat} (hj : j ≤ N) : ∃ h', (∀ d, (run (d + 1) 87 0 [.ref 73, .int (nI c), .int (nI j)] [] h) = some (.returned (some (.ref 65)), h')) ∧ On XPF h h' ∧ XF h' c (tp_ τ j) := by
  obtain ⟨hX, hT, hK, h1, h2, -⟩ := hR
  have h40 := hT.1
  have g1 : j < 2001 := by omega
  have ej := (hK j hj).2.2.1
  have o : On XPF h (si_ (si_ h 65 27 (nI c)) 65 28 (nI (tp_ τ j))) := (On.si (Or.inr ⟨rfl, Or.inl rfl⟩)).trans (On.si (Or.inr ⟨rfl, Or.inr rfl⟩))
  have of : ∀ d, (run (d) 72 0 [.ref 65, .int (nI c), .int (nI (tp_ τ j))] [] h) = some (.returned (some (.ref 65)), si_ (si_ h 65 27 (nI c)) 65 28 (nI (tp_ τ j))) := fun d => by
    simp only [e72_0, e72_1, e72_2, e72_5, e72_6, e72_7, e72_10, e72_11, xk_64 hX, xk_65 hX, ↓reduceIte, Nat.reduceAdd, Nat.reduceLeDiff, Nat.reduceLT, Nat.reduceEqDiff, not_false_eq_true, false_or, true_or, or_true, or_false, n0_e, n1_ne, n1_11, bI_z, bI_1, bI_fo, va_rf_some, aBk_1, aBk_0, nI_add, nI_mul, hk_si, hp_si, hl_si, hk_sp, hk_sl, hk_cp, hp_cp]
  refine ⟨_, fun d => ?_, o, hX.on o, (hi_ne (by omega)).trans hi_same, hi_same⟩
  simp only [e87_0, e87_1, e87_4, e87_5, e87_6, e87_9, e87_12, e87_13, e87_14, e87_17, xk_64 hX, xk_73 hX, xk_66 hX, xk_65 hX, xp_33 hX, xk_70 hX, xp_37 hX, xp_38 hX, ↓reduceIte, Nat.reduceAdd, Nat.reduceLeDiff, Nat.reduceLT, Nat.reduceEqDiff, not_false_eq_true, false_or, true_or, or_true, or_false, n0_e, n1_ne, n1_11, bI_z, bI_1, bI_fo, va_rf_some, aBk_1, aBk_0, nI_add, nI_mul, hk_si, hp_si, hl_si, hk_sp, hk_sl, hk_cp, hp_cp, g1, ej, of]
theorem p_wrong (hR : XR h τ N σ) {c : Nat} : ∃ h', (∀ d, (run (d + 2) 86 0 [.ref 73, .int (nI c)] [] h) = some (.returned (some (.ref 65)), h')) ∧ On XPF h h' ∧ XF h' c (tp_ τ σ.1) := by
  obtain ⟨hX, hT, hK, h1, h2, -⟩ := id hR
  obtain ⟨h', e, o, f⟩ := p_wrongAt (c := c) hR h1
  refine ⟨h', fun d => ?_, o, f⟩
  simp only [e86_0, e86_1, e86_2, e86_3, e86_6, e86_9, xk_64 hX, xk_73 hX, xk_66 hX, xk_65 hX, ↓reduceIte, Nat.reduceAdd, Nat.reduceLeDiff, Nat.reduceLT, Nat.reduceEqDiff, not_false_eq_true, false_or, true_or, or_true, or_false, n0_e, n1_ne, n1_11, bI_z, bI_1, bI_fo, va_rf_some, aBk_1, aBk_0, nI_add, nI_mul, hk_si, hp_si, hl_si, hk_sp, hk_sl, hk_cp, hp_cp, h2, e]
theorem p_pass (hR : XR h τ N σ) (hN : N < 400 → σ.1 < N) : ∃ o h', (∀ d, (run (d + 3) 89 0 [.ref 73] [] h) = some (o, h')) ∧ On XPF h h' ∧ XO h' τ N (goX τ σ) none o := by
  obtain ⟨hX, hT, hK, h1, h2, h3, h5, h6, h7⟩ := id hR
  have h40 := hT.1
  have e4 : (nI σ.1 < nI 400) = (σ.1 < 400) := nI_ltL (by omega) (by decide)
  unfold goX
  by_cases q : σ.1 = 400
  · rw [if_pos q]
    obtain ⟨h', e, o, f⟩ := p_wrong (c := 2) hR
    have hX' := f.1
    refine ⟨_, h', fun d => ?_, o, rfl, f⟩
    have q' : ¬ σ.1 < 400 := by omega
    simp only [e89_0, e89_1, e89_4, e89_7, e89_10, e89_11, e89_12, e89_15, e89_16, e89_17, e89_18, e89_21, e89_22, e89_23, e89_26, xk_64 hX, xk_73 hX, xk_66 hX, xk_65 hX, xk_64 hX', xk_73 hX', xk_66 hX', xk_65 hX', ↓reduceIte, Nat.reduceAdd, Nat.reduceLeDiff, Nat.reduceLT, Nat.reduceEqDiff, not_false_eq_true, false_or, true_or, or_true, or_false, n0_e, n1_ne, n1_11, bI_z, bI_1, bI_fo, va_rf_some, aBk_1, aBk_0, nI_add, nI_mul, hk_si, hp_si, hl_si, hk_sp, hk_sl, hk_cp, hp_cp, h2, e4, q', e, bx_84, bx_85, bx_86, bx_87, bx_88, bx_89, bx_90, bx_91, bx_92, bx_93, bx_94, bx_95, bx_96, bx_97, bx_98, bx_99, bx_100, bx_101, bx_102, bx_103, bx_104]
  · rw [if_neg q]
    have o : On XPF h (si_ h 73 40 (nI (σ.1 + 1))) := On.si (Or.inl ⟨rfl, by decide, by decide⟩)
    refine ⟨_, si_ h 73 40 (nI (σ.1 + 1)), fun d => ?_, o, rfl, hX.on o, hT, hK.on o (fun a f q => by unfold XPF at q; omega), ?_, hi_same, ?_, h5, ?_, fun h0 => ⟨(h7 h0).1, ?_⟩⟩
    · have q' : σ.1 < 400 := by omega
      simp only [e89_0, e89_1, e89_4, e89_7, e89_10, e89_11, e89_12, e89_15, e89_16, e89_17, e89_18, e89_21, e89_22, e89_23, e89_26, xk_64 hX, xk_73 hX, xk_66 hX, xk_65 hX, ↓reduceIte, Nat.reduceAdd, Nat.reduceLeDiff, Nat.reduceLT, Nat.reduceEqDiff, not_false_eq_true, false_or, true_or, or_true, or_false, n0_e, n1_ne, n1_11, bI_z, bI_1, bI_fo, va_rf_some, aBk_1, aBk_0, nI_add, nI_mul, hk_si, hp_si, hl_si, hk_sp, hk_sl, hk_cp, hp_cp, h2, e4, q']
    · show σ.1 + 1 ≤ N; omega
    · rw [hi_ne (by omega)]; exact h3
    · rw [hi_ne (by omega)]; exact h6
    · rw [hi_ne (by omega)]; exact (h7 h0).2
theorem XR.nx (hR : XR h τ N σ) (h0 : tk_ τ σ.1 ≠ 0) (h3 : tk_ τ σ.1 ≠ 3) : N < 400 → σ.1 < N := by
  intro hN
  have := hR.2.2.2.1
  by_cases q : σ.1 = N
  · rcases hR.2.1.2.2.2 hN with e | e
    · rw [← q] at e; exact absurd e h0
    · rw [← q] at e; exact absurd e h3
  · omega
theorem srt_2 {k : Nat} (h : kok k) : srt k = 2 ↔ sgk k := by
  unfold srt; unfold kok sgk at *
  repeat' split
  all_goals omega
theorem srt_3 {k : Nat} (h : kok k) : srt k = 3 ↔ 20 ≤ k := by
  unfold srt; unfold kok sgk at h
  repeat' split
  all_goals omega
theorem chr_i {k l : Nat} (hk : sgk k) (hl : sgk l) : chr k = chr l ↔ k = l := by
  unfold sgk at *
  rcases hk with q | q | q | q | q | q | q | q | q <;> subst q <;> rcases hl with q | q | q | q | q | q | q | q | q <;> subst q <;> decide
theorem chr_b (k : Nat) : chr k < 64 := by
  unfold chr
  repeat' split
  all_goals omega
theorem p_isSign (hR : XR h τ N σ) {k : Nat} (hk : sgk k) : (run (d) 92 0 [.ref 73, .int (nI (chr k))] [] h) = some (.returned (some (.int (bI (decide (tk_ τ σ.1 = k))))), h) := by
  obtain ⟨hX, hT, hK, h1, h2, -⟩ := hR
  have h40 := hT.1
  have g1 : σ.1 < 2001 := by omega
  obtain ⟨k0, k1, -, -, k4⟩ := hK σ.1 h1
  have b5 := srt_b (tk_ τ σ.1)
  have e2 : (nI (srt (tk_ τ σ.1)) = nI 2) = (srt (tk_ τ σ.1) = 2) := nI_eqL (by omega) (by decide)
  by_cases q : sgk (tk_ τ σ.1)
  · have q2 : srt (tk_ τ σ.1) = 2 := (srt_2 k0).mpr q
    have k4 := k4 q
    have c1 := chr_b (tk_ τ σ.1)
    have c2 := chr_b k
    have e3 : (nI (chr (tk_ τ σ.1)) = nI (chr k)) = (tk_ τ σ.1 = k) := by rw [nI_eqL (by omega) (by omega)]; exact propext (chr_i q hk)
    rw [q2] at k1
    by_cases q3 : tk_ τ σ.1 = k
    · have e3' : (nI (chr (tk_ τ σ.1)) = nI (chr k)) = True := by rw [e3]; exact eq_true q3
      rw [decide_eq_true q3]
      simp only [e92_0, e92_1, e92_4, e92_7, e92_8, e92_11, e92_12, e92_13, e92_16, e92_17, e92_20, e92_23, e92_24, e92_27, e92_28, e92_29, e92_32, e92_33, e92_36, e92_37, xk_64 hX, xk_73 hX, xk_66 hX, xk_65 hX, xp_32 hX, xk_69 hX, xp_35 hX, xk_72 hX, xp_37 hX, ↓reduceIte, Nat.reduceAdd, Nat.reduceLeDiff, Nat.reduceLT, Nat.reduceEqDiff, not_false_eq_true, false_or, true_or, or_true, or_false, n0_e, n1_ne, n1_11, bI_z, bI_1, bI_fo, va_rf_some, aBk_1, aBk_0, nI_add, nI_mul, hk_si, hp_si, hl_si, hk_sp, hk_sl, hk_cp, hp_cp, h2, g1, k1, k4, e3']
      rfl
    · have e3' : (nI (chr (tk_ τ σ.1)) = nI (chr k)) = False := by rw [e3]; exact eq_false q3
      rw [decide_eq_false q3]
      simp only [e92_0, e92_1, e92_4, e92_7, e92_8, e92_11, e92_12, e92_13, e92_16, e92_17, e92_20, e92_23, e92_24, e92_27, e92_28, e92_29, e92_32, e92_33, e92_36, e92_37, xk_64 hX, xk_73 hX, xk_66 hX, xk_65 hX, xp_32 hX, xk_69 hX, xp_35 hX, xk_72 hX, xp_37 hX, ↓reduceIte, Nat.reduceAdd, Nat.reduceLeDiff, Nat.reduceLT, Nat.reduceEqDiff, not_false_eq_true, false_or, true_or, or_true, or_false, n0_e, n1_ne, n1_11, bI_z, bI_1, bI_fo, va_rf_some, aBk_1, aBk_0, nI_add, nI_mul, hk_si, hp_si, hl_si, hk_sp, hk_sl, hk_cp, hp_cp, h2, g1, k1, k4, e3']
      rfl
  · have q2 : ¬ srt (tk_ τ σ.1) = 2 := fun z => q ((srt_2 k0).mp z)
    rw [decide_eq_false (fun z => q (by rw [z]; exact hk))]
    simp only [e92_0, e92_1, e92_4, e92_7, e92_8, e92_11, e92_12, e92_13, e92_16, e92_17, e92_20, e92_23, e92_24, e92_27, e92_28, e92_29, e92_32, e92_33, e92_36, e92_37, xk_64 hX, xk_73 hX, xk_66 hX, xk_65 hX, xp_32 hX, xk_69 hX, xp_35 hX, xk_72 hX, xp_37 hX, ↓reduceIte, Nat.reduceAdd, Nat.reduceLeDiff, Nat.reduceLT, Nat.reduceEqDiff, not_false_eq_true, false_or, true_or, or_true, or_false, n0_e, n1_ne, n1_11, bI_z, bI_1, bI_fo, va_rf_some, aBk_1, aBk_0, nI_add, nI_mul, hk_si, hp_si, hl_si, hk_sp, hk_sl, hk_cp, hp_cp, h2, g1, k1, e2, q2]
    rfl
theorem p_isWord (hR : XR h τ N σ) {w : Nat} (hw : w < 21) : (run (d) 93 0 [.ref 73, .int (nI w)] [] h) = some (.returned (some (.int (bI (decide (tk_ τ σ.1 = 20 + w))))), h) := by
  obtain ⟨hX, hT, hK, h1, h2, -⟩ := hR
  have h40 := hT.1
  have g1 : σ.1 < 2001 := by omega
  obtain ⟨k0, k1, -, k4, -⟩ := hK σ.1 h1
  have kt := (hT.2.1 σ.1 h1).1
  have b5 := srt_b (tk_ τ σ.1)
  have e2 : (nI (srt (tk_ τ σ.1)) = nI 3) = (srt (tk_ τ σ.1) = 3) := nI_eqL (by omega) (by decide)
  by_cases q : 20 ≤ tk_ τ σ.1
  · have q2 : srt (tk_ τ σ.1) = 3 := (srt_3 k0).mpr q
    have k4 := k4 q
    rw [q2] at k1
    by_cases q3 : tk_ τ σ.1 = 20 + w
    · have e3' : (nI (tk_ τ σ.1 - 20) = nI w) = True := by rw [nI_eqL (by omega) (by omega)]; exact eq_true (by omega)
      rw [decide_eq_true q3]
      simp only [e93_0, e93_1, e93_4, e93_7, e93_8, e93_11, e93_12, e93_13, e93_16, e93_17, e93_20, e93_23, e93_24, e93_27, e93_28, e93_29, e93_32, e93_33, e93_36, e93_37, xk_64 hX, xk_73 hX, xk_66 hX, xk_65 hX, xp_32 hX, xk_69 hX, xp_35 hX, xk_72 hX, xp_37 hX, ↓reduceIte, Nat.reduceAdd, Nat.reduceLeDiff, Nat.reduceLT, Nat.reduceEqDiff, not_false_eq_true, false_or, true_or, or_true, or_false, n0_e, n1_ne, n1_11, bI_z, bI_1, bI_fo, va_rf_some, aBk_1, aBk_0, nI_add, nI_mul, hk_si, hp_si, hl_si, hk_sp, hk_sl, hk_cp, hp_cp, h2, g1, k1, k4, e3']
      rfl
    · have e3' : (nI (tk_ τ σ.1 - 20) = nI w) = False := by rw [nI_eqL (by omega) (by omega)]; exact eq_false (by omega)
      rw [decide_eq_false q3]
      simp only [e93_0, e93_1, e93_4, e93_7, e93_8, e93_11, e93_12, e93_13, e93_16, e93_17, e93_20, e93_23, e93_24, e93_27, e93_28, e93_29, e93_32, e93_33, e93_36, e93_37, xk_64 hX, xk_73 hX, xk_66 hX, xk_65 hX, xp_32 hX, xk_69 hX, xp_35 hX, xk_72 hX, xp_37 hX, ↓reduceIte, Nat.reduceAdd, Nat.reduceLeDiff, Nat.reduceLT, Nat.reduceEqDiff, not_false_eq_true, false_or, true_or, or_true, or_false, n0_e, n1_ne, n1_11, bI_z, bI_1, bI_fo, va_rf_some, aBk_1, aBk_0, nI_add, nI_mul, hk_si, hp_si, hl_si, hk_sp, hk_sl, hk_cp, hp_cp, h2, g1, k1, k4, e3']
      rfl
  · have q2 : ¬ srt (tk_ τ σ.1) = 3 := fun z => q ((srt_3 k0).mp z)
    rw [decide_eq_false (by omega)]
    simp only [e93_0, e93_1, e93_4, e93_7, e93_8, e93_11, e93_12, e93_13, e93_16, e93_17, e93_20, e93_23, e93_24, e93_27, e93_28, e93_29, e93_32, e93_33, e93_36, e93_37, xk_64 hX, xk_73 hX, xk_66 hX, xk_65 hX, xp_32 hX, xk_69 hX, xp_35 hX, xk_72 hX, xp_37 hX, ↓reduceIte, Nat.reduceAdd, Nat.reduceLeDiff, Nat.reduceLT, Nat.reduceEqDiff, not_false_eq_true, false_or, true_or, or_true, or_false, n0_e, n1_ne, n1_11, bI_z, bI_1, bI_fo, va_rf_some, aBk_1, aBk_0, nI_add, nI_mul, hk_si, hp_si, hl_si, hk_sp, hk_sl, hk_cp, hp_cp, h2, g1, k1, e2, q2]
    rfl
end XR1
