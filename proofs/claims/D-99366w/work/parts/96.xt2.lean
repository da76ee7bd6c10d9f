set_option maxRecDepth 100000
/-! X: reading (12): a text in the making; names looked up -/
def NmE (h : aH) (x : Nat) (v : Int64) : Prop := ∃ a, hp_ h x 146 = some a ∧ NmR h a v
def LaR (h : aH) (la k : Nat) (L : Option aLw) : Prop := match L with
  | none => hp_ h la k = none
  | some L => ∃ l, hp_ h la k = some l ∧ XL h l L
def XTq (h : aH) (T : aTx) (nf tx sa ga la es eg : Nat) (qs qg : Nat → Nat) (vs vg : Nat → Int64) : Prop := (504 ≤ tx ∧ hk_ h tx = (4, 0) ∧ hp_ h tx 44 = some sa ∧ hp_ h tx 45 = some ga ∧ hp_ h tx 46 = some la ∧ hi_ h tx 47 = nI nf ∧ hi_ h tx 48 = de_ T ∧ hi_ h tx 49 = se_ T) ∧
  (ALq h sa es (ns_ T) 16 qs ∧ ALq h ga eg (ng_ T) 18 qg ∧ sa ≠ ga ∧ (0 < ns_ T → 0 < ng_ T → es ≠ eg)) ∧
  (∀ s, s < ns_ T → hi_ h (qs s) 147 = lo_ T s ∧ hi_ h (qs s) 148 = wo_ T s ∧ NmE h (qs s) (vs s)) ∧
  (∀ g, g < ng_ T → (hi_ h (qg g) 153 = hr_ T g ∧ hi_ h (qg g) 154 = hs_ T g ∧ hi_ h (qg g) 155 = fe_ T g ∧ hi_ h (qg g) 156 = fo_ T g) ∧ NmE h (qg g) (vg g)) ∧
  (∀ g g', g < ng_ T → g' < ng_ T → qg g = qg g' → g = g') ∧ (504 ≤ la ∧ hk_ h la = (112, 4) ∧ ∀ k, k < 4 → LaR h la k (la_ T k))
section XT96
variable {d c s : Nat} {S P : Nat → Nat → Prop} {h h' : aH} {T : aTx} {nf tx sa ga la es eg : Nat} {qs qg : Nat → Nat} {vs vg : Nat → Int64}
theorem NmE.oa {x : Nat} {v : Int64} (hN : NmE h x v) (hF : FZ h) (hx : x < hz_ h) (o : OA c s S P h h') (hp : ¬ P x 146) (hS : ∀ x f, S x f → x < 504 ∨ ((hk_ h x).1 ≠ 11 ∧ (hk_ h x).1 ≠ 101)) (hP : ∀ x f, P x f → x < 504 ∨ (hk_ h x).1 ≠ 11) : NmE h' x v := by
  obtain ⟨a, h1, h2⟩ := hN
  exact ⟨a, (o.p hx hp).trans h1, h2.oa hF o hS hP⟩
/-- only the parser's own cells, and new ones -/
theorem XTq.px (hT : XTq h T nf tx sa ga la es eg qs qg vs vg) (hF : FZ h) (o : OA c s XPF NPx h h') : XTq h' T nf tx sa ga la es eg qs qg vs vg := by
  obtain ⟨⟨a1, a2, a3, a4, a5, a6, a7, a8⟩, ⟨b1, b2, b3, b4⟩, c1, c2, c3, ⟨d1, d2, d3⟩⟩ := hT
  have z5 := hF.1
  have nS : ∀ x f, 504 ≤ x → ¬ XPF x f := fun x f hx q => by unfold XPF at q; omega
  have tl := hF.lt a2 (by decide)
  have ll := hF.lt d2 (by decide)
  have hS : ∀ x f, XPF x f → x < 504 ∨ ((hk_ h x).1 ≠ 11 ∧ (hk_ h x).1 ≠ 101) := fun x f q => Or.inl (by unfold XPF at q; omega)
  have hP : ∀ x f, NPx x f → x < 504 ∨ (hk_ h x).1 ≠ 11 := fun _ _ q => q.elim
  refine ⟨⟨a1, (o.k tl).trans a2, (o.p tl (fun q => q)).trans a3, (o.p tl (fun q => q)).trans a4, (o.p tl (fun q => q)).trans a5, (o.i tl (nS _ _ a1)).trans a6, (o.i tl (nS _ _ a1)).trans a7, (o.i tl (nS _ _ a1)).trans a8⟩, ⟨b1.oa hF (by decide) o (nS _ _ b1.1) (fun f => ⟨fun q => q, fun _ q => q⟩), b2.oa hF (by decide) o (nS _ _ b2.1) (fun f => ⟨fun q => q, fun _ q => q⟩), b3, b4⟩, fun s hs => ?_, fun g hg => ?_, c3, ⟨d1, (o.k ll).trans d2, fun k hk => ?_⟩⟩
  · obtain ⟨k1, k2⟩ := b1.2.2.2.2.2.2 s hs
    have kl := hF.lt k2 (by decide)
    obtain ⟨e1, e2, e3⟩ := c1 s hs
    exact ⟨(o.i kl (nS _ _ k1)).trans e1, (o.i kl (nS _ _ k1)).trans e2, e3.oa hF kl o (fun q => q) hS hP⟩
  · obtain ⟨k1, k2⟩ := b2.2.2.2.2.2.2 g hg
    have kl := hF.lt k2 (by decide)
    obtain ⟨⟨e1, e2, e3, e4⟩, e5⟩ := c2 g hg
    exact ⟨⟨(o.i kl (nS _ _ k1)).trans e1, (o.i kl (nS _ _ k1)).trans e2, (o.i kl (nS _ _ k1)).trans e3, (o.i kl (nS _ _ k1)).trans e4⟩, e5.oa hF kl o (fun q => q) hS hP⟩
  · have := d3 k hk
    revert this
    cases la_ T k with
    | none => intro w; exact (o.p ll (fun q => q)).trans w
    | some L =>
      rintro ⟨l, w1, w2⟩
      exact ⟨l, (o.p ll (fun q => q)).trans w1, w2.oa hF o (fun x f q => Or.inl q.na) (fun _ _ q => q.elim)⟩
/-- a name looked up in a list -/
theorem t_at {a n κ b : Nat} {q : Nat → Nat} {vv : Nat → Int64} {v : Int64} (hA : AL h a n κ q) (hκ : κ = 16 ∨ κ = 18) (hN : ∀ i, i < n → NmE h (q i) (vv i)) (hb : NmR h b v) : (run (d + 3) 107 0 [.ref a, .ref b, aU] [] h) = some (.returned (some (.int (opI (fnd (fun i => decide (vv i = v)) n 0)))), h) := by
  have sz := fun d => x_size (d := d) hA
  have n4 := hA.2.2.2.1
  have key : (run (d + 3) 107 2 [.ref a, .ref b, .int (nI 0)] [] h) = _ := run_find (F := fun j => (run (d + 3) 107 2 [.ref a, .ref b, .int (nI j)] [] h)) (R := fun j => some (.returned (some (.int (nI j))), h)) (P := fun i => decide (vv i = v)) (n := n) (fun j hj => by
    have g1 : ¬ nI n ≤ nI j := nI_ge hj (by omega)
    have gt := fun d => x_get (d := d) hA hj
    obtain ⟨nm, p1, p2⟩ := hN j hj
    have kq := (hA.2.2.2.2.2 j hj).2
    have eq := fun d => nm_equals (d := d) p2 hb
    have h16 : aHas 16 146 = true := rfl
    have h18 : aHas 18 146 = true := rfl
    have kn : hk_ h nm = (11, 0) := by obtain ⟨_, _, y, -⟩ := p2; exact y.2.1
    have ka := hA.2.1
    have km : κ ∈ ([16, 18] : List Nat) := by rcases hκ with z | z <;> subst z <;> decide
    have kz : κ = 16 ∨ κ = 18 := hκ
    refine (e107_2).trans ?_
    by_cases z : vv j = v
    · rw [decide_eq_true z] at eq ⊢
      rcases hκ with y | y <;> subst y <;> simp only [e107_0, e107_1, e107_3, e107_4, e107_7, e107_10, e107_11, e107_12, e107_15, e107_18, e107_21, e107_22, e107_25, e107_28, e107_29, e107_30, e107_33, e107_36, e107_37, List.mem_cons, List.not_mem_nil, ↓reduceIte, Nat.reduceAdd, Nat.reduceLeDiff, Nat.reduceLT, Nat.reduceEqDiff, not_false_eq_true, false_or, true_or, or_true, or_false, n0_e, n1_ne, n1_11, bI_z, bI_1, bI_fo, aBk_1, aBk_0, nI_add, nI_mul, hk_si, hp_si, hl_si, hk_sp, hk_sl, hk_cp, hp_cp, ka, sz, g1, gt, kq, p1, h16, h18, kn, eq, reduceCtorEq, va_rf_some]
    · rw [decide_eq_false z] at eq ⊢
      rcases hκ with y | y <;> subst y <;> simp only [e107_0, e107_1, e107_3, e107_4, e107_7, e107_10, e107_11, e107_12, e107_15, e107_18, e107_21, e107_22, e107_25, e107_28, e107_29, e107_30, e107_33, e107_36, e107_37, List.mem_cons, List.not_mem_nil, ↓reduceIte, Nat.reduceAdd, Nat.reduceLeDiff, Nat.reduceLT, Nat.reduceEqDiff, not_false_eq_true, false_or, true_or, or_true, or_false, n0_e, n1_ne, n1_11, bI_z, bI_1, bI_fo, aBk_1, aBk_0, nI_add, nI_mul, hk_si, hp_si, hl_si, hk_sp, hk_sl, hk_cp, hp_cp, ka, sz, g1, gt, kq, p1, h16, h18, kn, eq, reduceCtorEq, va_rf_some])
  simp only [e107_0, e107_1, e107_3, e107_4, e107_7, e107_10, e107_11, e107_12, e107_15, e107_18, e107_21, e107_22, e107_25, e107_28, e107_29, e107_30, e107_33, e107_36, e107_37, List.mem_cons, List.not_mem_nil, ↓reduceIte, Nat.reduceAdd, Nat.reduceLeDiff, Nat.reduceLT, Nat.reduceEqDiff, not_false_eq_true, false_or, true_or, or_true, or_false, n0_e, n1_ne, n1_11, bI_z, bI_1, bI_fo, va_rf_some, aBk_1, aBk_0, nI_add, nI_mul, hk_si, hp_si, hl_si, hk_sp, hk_sl, hk_cp, hp_cp]
  refine key.trans ?_
  cases fnd (fun i => decide (vv i = v)) n 0 with
  | some k => rfl
  | none =>
    dsimp only
    have g1 : nI n ≤ nI n := Int32.le_refl _
    have ka := hA.2.1
    refine (e107_2).trans ?_
    simp only [e107_0, e107_1, e107_3, e107_4, e107_7, e107_10, e107_11, e107_12, e107_15, e107_18, e107_21, e107_22, e107_25, e107_28, e107_29, e107_30, e107_33, e107_36, e107_37, List.mem_cons, List.not_mem_nil, ↓reduceIte, Nat.reduceAdd, Nat.reduceLeDiff, Nat.reduceLT, Nat.reduceEqDiff, not_false_eq_true, false_or, true_or, or_true, or_false, n0_e, n1_ne, n1_11, bI_z, bI_1, bI_fo, va_rf_some, aBk_1, aBk_0, nI_add, nI_mul, hk_si, hp_si, hl_si, hk_sp, hk_sl, hk_cp, hp_cp, ka, sz, g1]
    rfl
theorem opI_lt {o : Option Nat} {n : Nat} (h : ∀ k, o = some k → k < n) (hn : n ≤ 1000) : (opI o < 0) = (o = none) := by
  cases o with
  | none => exact propext ⟨fun _ => rfl, fun _ => by show (-1 : Int32) < 0; decide⟩
  | some k =>
    have := h k rfl
    exact propext ⟨fun z => absurd z (nI_pos (by omega)), fun z => by cases z⟩
theorem t_has (hT : XTq h T nf tx sa ga la es eg qs qg vs vg) {b : Nat} {v : Int64} (hb : NmR h b v) : (run (d + 4) 106 0 [.ref tx, .ref b] [] h) = some (.returned (some (.int (bI ((fnd (fun i => decide (vs i = v)) (ns_ T) 0).isSome || (fnd (fun i => decide (vg i = v)) (ng_ T) 0).isSome)))), h) := by
  obtain ⟨⟨a1, a2, a3, a4, a5, a6, a7, a8⟩, ⟨b1, b2, b3, b4⟩, c1, c2, -⟩ := hT
  have e1 := fun d => t_at (d := d) b1.A (Or.inl rfl) (fun i hi => (c1 i hi).2.2) hb
  have e2 := fun d => t_at (d := d) b2.A (Or.inr rfl) (fun i hi => (c2 i hi).2) hb
  have n1 : ns_ T ≤ 10 := b1.2.2.2.1
  have n2 : ng_ T ≤ 10 := b2.2.2.2.1
  have l1 : (opI (fnd (fun i => decide (vs i = v)) (ns_ T) 0) < 0) = (fnd (fun i => decide (vs i = v)) (ns_ T) 0 = none) := opI_lt (n := ns_ T) (fun k hk => by have := (fnd_some _ _ _ hk).2.1; omega) (by omega)
  have l2 : (opI (fnd (fun i => decide (vg i = v)) (ng_ T) 0) < 0) = (fnd (fun i => decide (vg i = v)) (ng_ T) 0 = none) := opI_lt (n := ng_ T) (fun k hk => by have := (fnd_some _ _ _ hk).2.1; omega) (by omega)
  have g1 : (0 ≤ opI (fnd (fun i => decide (vs i = v)) (ns_ T) 0)) = ¬ (fnd (fun i => decide (vs i = v)) (ns_ T) 0 = none) := by rw [← l1]; exact propext Int32.not_lt.symm
  have g2 : (0 ≤ opI (fnd (fun i => decide (vg i = v)) (ng_ T) 0)) = ¬ (fnd (fun i => decide (vg i = v)) (ng_ T) 0 = none) := by rw [← l2]; exact propext Int32.not_lt.symm
  cases q1 : fnd (fun i => decide (vs i = v)) (ns_ T) 0 with
  | some k =>
    rw [q1] at g1 l1
    rw [q1] at e1
    simp only [e106_0, e106_1, e106_4, e106_5, e106_8, e106_11, e106_12, e106_15, e106_16, e106_19, e106_22, e106_23, e106_26, e106_27, ↓reduceIte, Nat.reduceAdd, Nat.reduceLeDiff, Nat.reduceLT, Nat.reduceEqDiff, not_false_eq_true, false_or, true_or, or_true, or_false, n0_e, n1_ne, n1_11, bI_z, bI_1, bI_fo, aBk_1, aBk_0, nI_add, nI_mul, hk_si, hp_si, hl_si, hk_sp, hk_sl, hk_cp, hp_cp, a2, a3, a4, e1, g1, l1, reduceCtorEq, va_rf_some]
    rfl
  | none =>
    rw [q1] at g1 l1
    rw [q1] at e1
    cases q2 : fnd (fun i => decide (vg i = v)) (ng_ T) 0 with
    | some k =>
      rw [q2] at g2 l2
      rw [q2] at e2
      simp only [e106_0, e106_1, e106_4, e106_5, e106_8, e106_11, e106_12, e106_15, e106_16, e106_19, e106_22, e106_23, e106_26, e106_27, ↓reduceIte, Nat.reduceAdd, Nat.reduceLeDiff, Nat.reduceLT, Nat.reduceEqDiff, not_false_eq_true, false_or, true_or, or_true, or_false, n0_e, n1_ne, n1_11, bI_z, bI_1, bI_fo, aBk_1, aBk_0, nI_add, nI_mul, hk_si, hp_si, hl_si, hk_sp, hk_sl, hk_cp, hp_cp, a2, a3, a4, e1, e2, g1, l1, g2, l2, not_true_eq_false, reduceCtorEq, va_rf_some]
      rfl
    | none =>
      rw [q2] at g2 l2
      rw [q2] at e2
      simp only [e106_0, e106_1, e106_4, e106_5, e106_8, e106_11, e106_12, e106_15, e106_16, e106_19, e106_22, e106_23, e106_26, e106_27, ↓reduceIte, Nat.reduceAdd, Nat.reduceLeDiff, Nat.reduceLT, Nat.reduceEqDiff, not_false_eq_true, false_or, true_or, or_true, or_false, n0_e, n1_ne, n1_11, bI_z, bI_1, bI_fo, aBk_1, aBk_0, nI_add, nI_mul, hk_si, hp_si, hl_si, hk_sp, hk_sl, hk_cp, hp_cp, a2, a3, a4, e1, e2, g1, l1, g2, l2, not_true_eq_false, reduceCtorEq, va_rf_some]
      rfl
end XT96
