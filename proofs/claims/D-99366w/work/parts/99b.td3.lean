set_option maxRecDepth 100000
/-! X: reading (16): names told, plain; new things named -/
theorem fnd_succ {P : Nat → Bool} {n : Nat} : fnd P (n + 1) 0 = match fnd P n 0 with
    | some k => some k
    | none => if P n = true then some n else none := by
  cases hf : fnd P n 0 with
  | some k =>
    obtain ⟨-, h1, h2, h3⟩ := fnd_some _ _ _ hf
    exact fnd_eq (by omega) h2 (fun i hi => h3 i (Nat.zero_le _) hi)
  | none =>
    have h0 := fnd_none _ _ hf
    by_cases q : P n = true
    · rw [if_pos q]
      exact fnd_eq (Nat.lt_succ_self _) q (fun i hi => h0 i (Nat.zero_le _) (by omega))
    · rw [if_neg q]
      refine fnd_nn (fun i hi => ?_)
      by_cases z : i = n
      · rw [z]; exact Bool.eq_false_iff.mpr q
      · exact h0 i (Nat.zero_le _) (by omega)
def up6 (v : Nat → Int64) (n : Nat) (x : Int64) : Nat → Int64 := fun k => if k = n then x else v k
section TD3
variable {ν : aNs} {T : aTx} {vs vg : Nat → Int64} {v : Int64}
theorem up6_fnd {n : Nat} {u : Int64} : fnd (fun i => decide (up6 vs n v i = u)) (n + 1) 0 = match fnd (fun i => decide (vs i = u)) n 0 with
    | some k => some k
    | none => if v = u then some n else none := by
  rw [fnd_succ]
  have e : fnd (fun i => decide (up6 vs n v i = u)) n 0 = fnd (fun i => decide (vs i = u)) n 0 := fnd_congr n 0 (fun i h1 h2 => by
    show decide ((if i = n then v else vs i) = u) = _
    rw [if_neg (by omega)])
  rw [e]
  have en : decide (up6 vs n v n = u) = decide (v = u) := by show decide ((if n = n then v else vs n) = u) = _; rw [if_pos rfl]
  rw [en]
  cases fnd (fun i => decide (vs i = u)) n 0 with
  | some k => rfl
  | none =>
    by_cases q : v = u
    · rw [decide_eq_true q, if_pos rfl, if_pos q]
    · rw [decide_eq_false q, if_neg (by decide), if_neg q]
theorem hasN_add {a : Nat} {u : Int64} : hasN (addN ν v a) u (addN ν v a).2.2 = (hasN ν u ν.2.2 || decide (v = u)) := by
  have : ∀ k, k ≤ ν.2.2 → hasN (addN ν v a) u k = hasN ν u k := by
    intro k
    induction k with
    | zero => intro _; rfl
    | succ k ih =>
      intro hk
      show (hasN (addN ν v a) u k || decide ((if k = ν.2.2 then v else ν.1 k) = u)) = (hasN ν u k || decide (ν.1 k = u))
      rw [ih (by omega), if_neg (by omega)]
  show (hasN (addN ν v a) u ν.2.2 || decide ((if ν.2.2 = ν.2.2 then v else ν.1 ν.2.2) = u)) = _
  rw [this _ (Nat.le_refl _), if_pos rfl]
theorem gueN_add {a : Nat} {u : Int64} : gueN (addN ν v a) u = match gueN ν u with
    | some k => some k
    | none => if v = u ∧ 10 ≤ a then some (a - 10) else none := by
  unfold gueN
  have e : fnd (gueP (addN ν v a) u) ν.2.2 0 = fnd (gueP ν u) ν.2.2 0 := fnd_congr _ 0 (fun i h1 h2 => by
    show (decide ((if i = ν.2.2 then v else ν.1 i) = u) && decide (10 ≤ (if i = ν.2.2 then a else ν.2.1 i))) = _
    rw [if_neg (by omega), if_neg (by omega)]; rfl)
  have es : (addN ν v a).2.2 = ν.2.2 + 1 := rfl
  rw [es, fnd_succ, e]
  have en : gueP (addN ν v a) u ν.2.2 = (decide (v = u) && decide (10 ≤ a)) := by
    show (decide ((if ν.2.2 = ν.2.2 then v else ν.1 ν.2.2) = u) && decide (10 ≤ (if ν.2.2 = ν.2.2 then a else ν.2.1 ν.2.2))) = _
    rw [if_pos rfl, if_pos rfl]
  rw [en]
  cases hf : fnd (gueP ν u) ν.2.2 0 with
  | some k =>
    have hk := (fnd_some _ _ _ hf).2.1
    show some ((if k = ν.2.2 then a else ν.2.1 k) - 10) = some (ν.2.1 k - 10)
    rw [if_neg (by omega)]
  | none =>
    by_cases q : v = u ∧ 10 ≤ a
    · rw [if_pos q, decide_eq_true q.1, decide_eq_true q.2, Bool.true_and, if_pos rfl]
      show some ((if ν.2.2 = ν.2.2 then a else _) - 10) = _
      rw [if_pos rfl]
    · rw [if_neg q]
      have : (decide (v = u) && decide (10 ≤ a)) = false := by
        rw [Bool.eq_false_iff]
        intro z
        rw [Bool.and_eq_true] at z
        exact q ⟨of_decide_eq_true z.1, of_decide_eq_true z.2⟩
      rw [this, if_neg (by decide)]
theorem NRx_S (hN : NRx ν T vs vg) (h4 : ns_ T ≤ 4) {a b : Int32} : NRx (addN ν v (ns_ T)) (addS T a b) (up6 vs (ns_ T) v) vg := by
  intro u
  obtain ⟨h1, h2⟩ := hN u
  have e1 : ns_ (addS T a b) = ns_ T + 1 := rfl
  have e2 : ng_ (addS T a b) = ng_ T := rfl
  rw [hasN_add, gueN_add, e1, e2, up6_fnd, h1, h2]
  constructor
  · cases fnd (fun i => decide (vs i = u)) (ns_ T) 0 with
    | some k => rfl
    | none =>
      by_cases q : v = u
      · rw [decide_eq_true q, if_pos q]
        cases (fnd (fun i => decide (vg i = u)) (ng_ T) 0) <;> rfl
      · rw [decide_eq_false q, if_neg q, Bool.or_false]
  · cases fnd (fun i => decide (vg i = u)) (ng_ T) 0 with
    | some k => rfl
    | none => exact if_neg (fun z => by omega)
theorem NRx_G (hN : NRx ν T vs vg) {a b c : Int32} : NRx (addN ν v (10 + ng_ T)) (addG T a b c) vs (up6 vg (ng_ T) v) := by
  intro u
  obtain ⟨h1, h2⟩ := hN u
  have e1 : ns_ (addG T a b c) = ns_ T := rfl
  have e2 : ng_ (addG T a b c) = ng_ T + 1 := rfl
  rw [hasN_add, gueN_add, e1, e2, up6_fnd, h1, h2]
  constructor
  · cases fnd (fun i => decide (vg i = u)) (ng_ T) 0 with
    | some k => cases (fnd (fun i => decide (vs i = u)) (ns_ T) 0) <;> simp
    | none =>
      by_cases q : v = u
      · rw [decide_eq_true q, if_pos q]
        cases (fnd (fun i => decide (vs i = u)) (ns_ T) 0) <;> rfl
      · rw [decide_eq_false q, if_neg q, Bool.or_false]
  · cases fnd (fun i => decide (vg i = u)) (ng_ T) 0 with
    | some k => rfl
    | none =>
      show (if v = u ∧ 10 ≤ 10 + ng_ T then some (10 + ng_ T - 10) else none) = (if v = u then some (ng_ T) else none)
      by_cases q : v = u
      · rw [if_pos ⟨q, by omega⟩, if_pos q]; congr 1; omega
      · rw [if_neg (fun z => q z.1), if_neg q]
theorem NRx_0 : NRx (fun _ => 0, fun _ => 0, 0) T0 vs vg := fun u => ⟨rfl, rfl⟩
end TD3
/-- a named thing is begun -/
theorem nm_init {d : Nat} {h : aH} {x a : Nat} (hk : aHas (hk_ h x).1 146 = true) (h98 : (hk_ h x).1 < 98) (h6 : 64 ≤ x) : (run (d) 312 0 [.ref x, .ref a] [] h) = some (.returned none, sp_ h x 146 (some a)) := by
  simp only [e312_0, e312_1, e312_4, e312_5, e312_6, e312_6n, e312_9, ↓reduceIte, Nat.reduceAdd, Nat.reduceLeDiff, Nat.reduceLT, Nat.reduceEqDiff, not_false_eq_true, false_or, true_or, or_true, or_false, n0_e, n1_ne, n1_11, bI_z, bI_1, bI_fo, va_rf_some, aBk_1, aBk_0, nI_add, nI_mul, hk_si, hp_si, hl_si, hk_sp, hk_sl, hk_cp, hp_cp, hk, h98, h6]
theorem y_init {d : Nat} {h : aH} {x a : Nat} (hk : hk_ h x = (16, 0)) (h6 : 64 ≤ x) : (run (d + 1) 313 0 [.ref x, .ref a] [] h) = some (.returned none, sp_ h x 146 (some a)) := by
  have e := fun d => nm_init (d := d) (h := h) (x := x) (a := a) (by rw [hk]; rfl) (by rw [hk]; decide) h6
  have h98 : (16 : Nat) < 98 := by decide
  simp only [e313_0, e313_1, e313_2, e313_5, ↓reduceIte, Nat.reduceAdd, Nat.reduceLeDiff, Nat.reduceLT, Nat.reduceEqDiff, not_false_eq_true, false_or, true_or, or_true, or_false, n0_e, n1_ne, n1_11, bI_z, bI_1, bI_fo, va_rf_some, aBk_1, aBk_0, nI_add, nI_mul, hk_si, hp_si, hl_si, hk_sp, hk_sl, hk_cp, hp_cp, hk, h98, e]
theorem g_init {d : Nat} {h : aH} {x a : Nat} (hk : hk_ h x = (18, 0)) (h6 : 64 ≤ x) : (run (d + 1) 337 0 [.ref x, .ref a] [] h) = some (.returned none, sp_ h x 146 (some a)) := by
  have e := fun d => nm_init (d := d) (h := h) (x := x) (a := a) (by rw [hk]; rfl) (by rw [hk]; decide) h6
  have h98 : (18 : Nat) < 98 := by decide
  simp only [e337_0, e337_1, e337_2, e337_5, ↓reduceIte, Nat.reduceAdd, Nat.reduceLeDiff, Nat.reduceLT, Nat.reduceEqDiff, not_false_eq_true, false_or, true_or, or_true, or_false, n0_e, n1_ne, n1_11, bI_z, bI_1, bI_fo, va_rf_some, aBk_1, aBk_0, nI_add, nI_mul, hk_si, hp_si, hl_si, hk_sp, hk_sl, hk_cp, hp_cp, hk, h98, e]
