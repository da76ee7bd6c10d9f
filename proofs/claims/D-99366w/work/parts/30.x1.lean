set_option maxRecDepth 100000
/-! X: its cells, its text; sums and laws -/
theorem e336_3n {d : Nat} {a0 a1 : Value} {x0 x1 : Int32} {h : aH} : run (d + 1) 336 3 [a0, a1] [.null, .int x1, .int x0] h = aBk (d + 1) 336 3 [a0, a1] [] false (run d 288 0 [.int x0, .int x1, .null] [] h) := (run_act (c336_3)).trans (e_stat (m := 3) (ν := 288) (as := [.int x0, .int x1, .null]) (rest := []) (md := 0) (κ := 0) rfl rfl rfl rfl rfl)
/-- where a text's cells lie -/
def xa (a : Nat) : Prop := (74 ≤ a ∧ a ≤ 77) ∨ 504 ≤ a
theorem xa_64 {a : Nat} (h : xa a) : 64 ≤ a := by unfold xa at h; omega
/-- a list of n things of kind κ at a -/
def AL (h : aH) (a n κ : Nat) (q : Nat → Nat) : Prop := xa a ∧ hk_ h a = (5, 0) ∧ hi_ h a 52 = nI n ∧ n ≤ 1000 ∧ (0 < n → ∃ e m, hp_ h a 51 = some e ∧ hk_ h e = (114, m) ∧ n ≤ m ∧ m ≤ 1000 ∧ ∀ i, i < n → hp_ h e i = some (q i)) ∧ ∀ i, i < n → xa (q i) ∧ hk_ h (q i) = (κ, 0)
/-- a sum of depth at most n at a, with its code -/
def SR (h : aH) : Nat → Nat → cdT → Prop
  | 0, _, _ => False
  | n + 1, a, c => xa a ∧ ((hk_ h a = (13, 0) ∧ ∃ v, c = [(0, v)] ∧ hi_ h a 141 = nI v) ∨ (hk_ h a = (14, 0) ∧ ∃ k, k < 9 ∧ c = [(1, k)] ∧ hi_ h a 142 = nI k) ∨
    (hk_ h a = (15, 0) ∧ ∃ x y cx cy k, (k = 2 ∧ hi_ h a 143 = nI 43 ∨ k = 3 ∧ hi_ h a 143 = nI 45 ∨ k = 4 ∧ hi_ h a 143 = nI 42 ∨ k = 5 ∧ hi_ h a 143 = nI 47) ∧ hp_ h a 144 = some x ∧ hp_ h a 145 = some y ∧ SR h n x cx ∧ SR h n y cy ∧ c = cx ++ (cy ++ [(k, 0)])))
/-- a law -/
def XL (h : aH) (l : Nat) (L : aLw) : Prop := xa l ∧ hk_ h l = (12, 0) ∧ L.1.length ≤ 4 ∧ hi_ h l 140 = nI L.1.length ∧ ∃ x y z, hp_ h l 137 = some x ∧ hp_ h l 138 = some y ∧ hp_ h l 139 = some z ∧ xa x ∧ xa y ∧ xa z ∧ hk_ h x = (111, 4) ∧ hk_ h y = (111, 4) ∧ hk_ h z = (111, 5) ∧
  (∀ i (hi : i < L.1.length), ∃ a b c, hp_ h x i = some a ∧ hp_ h y i = some b ∧ hp_ h z i = some c ∧ SR h 400 a (L.1[i]).1 ∧ SR h 400 b (L.1[i]).2.1 ∧ SR h 400 c (L.1[i]).2.2) ∧ ∃ c, hp_ h z L.1.length = some c ∧ SR h 400 c L.2
/-- a text at tx: its lists sa, ga of sundays qs and guests qg; its laws la -/
def XT (h : aH) (T : aTx) (tx sa ga la : Nat) (qs qg : Nat → Nat) : Prop := TV T ∧ (xa tx ∧ hk_ h tx = (4, 0) ∧ hp_ h tx 44 = some sa ∧ hp_ h tx 45 = some ga ∧ hp_ h tx 46 = some la) ∧ AL h sa (ns_ T) 16 qs ∧ AL h ga (ng_ T) 18 qg ∧
  (∀ s, s < ns_ T → hi_ h (qs s) 147 = lo_ T s ∧ hi_ h (qs s) 148 = wo_ T s) ∧ (∀ g, g < ng_ T → hi_ h (qg g) 153 = hr_ T g ∧ hi_ h (qg g) 154 = hs_ T g ∧ hi_ h (qg g) 155 = fe_ T g ∧ hi_ h (qg g) 156 = fo_ T g) ∧
  (hi_ h tx 48 = de_ T ∧ hi_ h tx 49 = se_ T) ∧ xa la ∧ hk_ h la = (112, 4) ∧ ∀ k, k < 4 → match la_ T k with
    | none => hp_ h la k = none
    | some L => ∃ l, hp_ h la k = some l ∧ XL h l L
section X1
variable {d : Nat} {h h' : aH} {S : Nat → Nat → Prop}
theorem AL.on {a n κ : Nat} {q : Nat → Nat} (hA : AL h a n κ q) (o : On S h h') (hS : ∀ x f, S x f → ¬ xa x) : AL h' a n κ q := by
  obtain ⟨h1, h2, h3, h4, h5, h6⟩ := hA
  refine ⟨h1, (o.k _).trans h2, (o.i (fun z => hS _ _ z h1)).trans h3, h4, fun hn => ?_, fun i hi => ⟨(h6 i hi).1, (o.k _).trans (h6 i hi).2⟩⟩
  obtain ⟨e, m, e1, e2, e3, e4, e5⟩ := h5 hn
  exact ⟨e, m, (o.p _ _).trans e1, (o.k _).trans e2, e3, e4, fun i hi => (o.p _ _).trans (e5 i hi)⟩
theorem SR.on (o : On S h h') (hS : ∀ x f, S x f → ¬ xa x) : ∀ {n a : Nat} {c : cdT}, SR h n a c → SR h' n a c := by
  intro n
  induction n with
  | zero => intro a c hs; exact hs.elim
  | succ n ih =>
    intro a c hs
    obtain ⟨h1, h2⟩ := hs
    have e : ∀ f, hi_ h' a f = hi_ h a f := fun f => o.i (fun z => hS _ _ z h1)
    refine ⟨h1, ?_⟩
    rcases h2 with ⟨k1, v, k2, k3⟩ | ⟨k1, k, k2, k3, k4⟩ | ⟨k1, x, y, cx, cy, k, k2, k3, k4, k5, k6, k7⟩
    · exact Or.inl ⟨(o.k _).trans k1, v, k2, (e _).trans k3⟩
    · exact Or.inr (Or.inl ⟨(o.k _).trans k1, k, k2, k3, (e _).trans k4⟩)
    · refine Or.inr (Or.inr ⟨(o.k _).trans k1, x, y, cx, cy, k, ?_, (o.p _ _).trans k3, (o.p _ _).trans k4, ih k5, ih k6, k7⟩)
      rw [e]; exact k2
theorem XL.on {l : Nat} {L : aLw} (hL : XL h l L) (o : On S h h') (hS : ∀ x f, S x f → ¬ xa x) : XL h' l L := by
  obtain ⟨h1, h2, h3, h4, x, y, z, h5, h6, h7, h8, h9, h10, h11, h12, h13, h14, c, h15, h16⟩ := hL
  refine ⟨h1, (o.k _).trans h2, h3, (o.i (fun z => hS _ _ z h1)).trans h4, x, y, z, (o.p _ _).trans h5, (o.p _ _).trans h6, (o.p _ _).trans h7, h8, h9, h10, (o.k _).trans h11, (o.k _).trans h12, (o.k _).trans h13, fun i hi => ?_, c, (o.p _ _).trans h15, h16.on o hS⟩
  obtain ⟨a, b, c, k1, k2, k3, k4, k5, k6⟩ := h14 i hi
  exact ⟨a, b, c, (o.p _ _).trans k1, (o.p _ _).trans k2, (o.p _ _).trans k3, k4.on o hS, k5.on o hS, k6.on o hS⟩
theorem XT.on {T : aTx} {tx sa ga la : Nat} {qs qg : Nat → Nat} (hT : XT h T tx sa ga la qs qg) (o : On S h h') (hS : ∀ x f, S x f → ¬ xa x) : XT h' T tx sa ga la qs qg := by
  obtain ⟨h1, ⟨h2, h3, h4, h5, h6⟩, h7, h8, h9, h10, ⟨h11, h12⟩, h13, h14, h15⟩ := hT
  have e : ∀ {a f : Nat}, xa a → hi_ h' a f = hi_ h a f := fun ha => o.i (fun z => hS _ _ z ha)
  refine ⟨h1, ⟨h2, (o.k _).trans h3, (o.p _ _).trans h4, (o.p _ _).trans h5, (o.p _ _).trans h6⟩, h7.on o hS, h8.on o hS, fun s hs => ?_, fun g hg => ?_, ⟨(e h2).trans h11, (e h2).trans h12⟩, h13, (o.k _).trans h14, fun k hk => ?_⟩
  · have hx := (h7.2.2.2.2.2 s hs).1
    exact ⟨(e hx).trans (h9 s hs).1, (e hx).trans (h9 s hs).2⟩
  · have hx := (h8.2.2.2.2.2 g hg).1
    obtain ⟨k1, k2, k3, k4⟩ := h10 g hg
    exact ⟨(e hx).trans k1, (e hx).trans k2, (e hx).trans k3, (e hx).trans k4⟩
  · have := h15 k hk
    revert this
    cases la_ T k with
    | none => intro this; exact (o.p _ _).trans this
    | some L =>
      rintro ⟨l, k1, k2⟩
      exact ⟨l, (o.p _ _).trans k1, k2.on o hS⟩
/-- lists -/
theorem x_size {a n κ : Nat} {q : Nat → Nat} (hA : AL h a n κ q) : (run (d) 114 0 [.ref a] [] h) = some (.returned (some (.int (nI n))), h) := by
  obtain ⟨h1, h2, h3, h4, h5, h6⟩ := hA
  simp only [e114_0, e114_1, e114_4, ↓reduceIte, Nat.reduceAdd, Nat.reduceLeDiff, Nat.reduceLT, Nat.reduceEqDiff, not_false_eq_true, false_or, true_or, or_true, or_false, n0_e, n1_ne, n1_11, bI_z, bI_1, bI_fo, va_rf_some, aBk_1, aBk_0, nI_add, nI_mul, hk_si, hp_si, hl_si, hk_sp, hk_sl, hk_cp, hp_cp, h2, h3]
theorem x_get {a n κ i : Nat} {q : Nat → Nat} (hA : AL h a n κ q) (hi : i < n) : (run (d + 2) 115 0 [.ref a, .int (nI i)] [] h) = some (.returned (some (.ref (q i))), h) := by
  obtain ⟨h1, h2, h3, h4, h5, h6⟩ := hA
  obtain ⟨e, m, e1, e2, e3, e4, e5⟩ := h5 (by omega)
  have g1 : (nI i < 0) = False := nI_lt0 (by omega)
  have g2 : nI i < nI n := nI_lt hi (by omega)
  have g3 : i < m := by omega
  have g4 : m ≤ 2147483647 := by omega
  have c1 : (run (d) 288 0 [.int (nI i), .int (nI n), .null] [] h) = some (.returned (some (.int (nI i))), h) := by
    simp only [e288_0, e288_1, e288_4, e288_5, e288_6, e288_9, e288_10, e288_11, e288_16, e288_17, ↓reduceIte, Nat.reduceAdd, Nat.reduceLeDiff, Nat.reduceLT, Nat.reduceEqDiff, not_false_eq_true, false_or, true_or, or_true, or_false, n0_e, n1_ne, n1_11, bI_z, bI_1, bI_fo, va_rf_some, aBk_1, aBk_0, nI_add, nI_mul, hk_si, hp_si, hl_si, hk_sp, hk_sl, hk_cp, hp_cp, g1, g2]
  have c2 : (run (d + 1) 336 0 [.int (nI i), .int (nI n)] [] h) = some (.returned (some (.int (nI i))), h) := by
    simp only [e336_0, e336_1, e336_2, e336_3, e336_6, ↓reduceIte, Nat.reduceAdd, Nat.reduceLeDiff, Nat.reduceLT, Nat.reduceEqDiff, not_false_eq_true, false_or, true_or, or_true, or_false, n0_e, n1_ne, n1_11, bI_z, bI_1, bI_fo, va_rf_some, aBk_1, aBk_0, nI_add, nI_mul, hk_si, hp_si, hl_si, hk_sp, hk_sl, hk_cp, hp_cp, e336_3n, c1]
  have c3 : (run (d + 1) 116 0 [.ref a, .int (nI i)] [] h) = some (.returned (some (.ref (q i))), h) := by
    simp only [e116_0, e116_1, e116_4, e116_5, e116_6, ↓reduceIte, Nat.reduceAdd, Nat.reduceLeDiff, Nat.reduceLT, Nat.reduceEqDiff, not_false_eq_true, false_or, true_or, or_true, or_false, n0_e, n1_ne, n1_11, bI_z, bI_1, bI_fo, va_rf_some, aBk_1, aBk_0, nI_add, nI_mul, hk_si, hp_si, hl_si, hk_sp, hk_sl, hk_cp, hp_cp, h2, e1, e2, g3, g4, e5 i hi]
  simp only [e115_0, e115_1, e115_2, e115_5, e115_8, e115_9, e115_10, e115_11, e115_14, ↓reduceIte, Nat.reduceAdd, Nat.reduceLeDiff, Nat.reduceLT, Nat.reduceEqDiff, not_false_eq_true, false_or, true_or, or_true, or_false, n0_e, n1_ne, n1_11, bI_z, bI_1, bI_fo, va_rf_some, aBk_1, aBk_0, nI_add, nI_mul, hk_si, hp_si, hl_si, hk_sp, hk_sl, hk_cp, hp_cp, h2, h3, c2, c3]
theorem bc_c : ∀ k, k < 128 → (let x := nI k
    let a := x - (ush_ x (nI 1) &&& nI 1431655765)
    let b := (a &&& nI 858993459) + (ush_ a (nI 2) &&& nI 858993459)
    let c := (b + ush_ b (nI 4)) &&& nI 252645135
    let e := c + ush_ c (nI 8)
    let f := e + ush_ e (nI 16)
    f &&& nI 63) = bc_ (nI k) := by decide +kernel
theorem x_bits {k : Nat} (hk : k < 128) : (run (d) 340 0 [.int (nI k)] [] h) = some (.returned (some (.int (bc_ (nI k)))), h) := by
  rw [← bc_c k hk]
  simp only [e340_0, e340_1, e340_2, e340_3, e340_4, e340_7, e340_8, e340_9, e340_10, e340_11, e340_14, e340_15, e340_16, e340_17, e340_18, e340_21, e340_22, e340_23, e340_24, e340_25, e340_26, e340_27, e340_28, e340_29, e340_32, e340_33, e340_34, e340_35, e340_36, e340_38, e340_39, e340_40, e340_41, e340_42, e340_43, e340_45, e340_46, e340_47, e340_48, e340_49, e340_51, e340_52, ↓reduceIte, Nat.reduceAdd, Nat.reduceLeDiff, Nat.reduceLT, Nat.reduceEqDiff, not_false_eq_true, false_or, true_or, or_true, or_false, n0_e, n1_ne, n1_11, bI_z, bI_1, bI_fo, va_rf_some, aBk_1, aBk_0, nI_add, nI_mul, hk_si, hp_si, hl_si, hk_sp, hk_sl, hk_cp, hp_cp]
theorem ev1_eq {v : Nat → Int32} {c : cdT} : ev1 v c = (evc v c []).bind List.head? := by
  unfold ev1
  cases evc v c [] with
  | none => rfl
  | some st => cases st <;> rfl
/-- the code of a sum leaves one number -/
theorem evc_app {v : Nat → Int32} : ∀ (c1 c2 : cdT) (st : List Int32), evc v (c1 ++ c2) st = (evc v c1 st).bind (evc v c2) := by
  intro c1
  induction c1 with
  | nil => intro c2 st; rfl
  | cons q c ih =>
    intro c2 st
    obtain ⟨k, x⟩ := q
    rw [List.cons_append]
    by_cases q0 : k = 0
    · subst q0; rw [evc_0, evc_0]; exact ih _ _
    · by_cases q1 : k = 1
      · subst q1; rw [evc_1, evc_1]; exact ih _ _
      · have hk : 2 ≤ k := by omega
        match st with
        | [] => rw [evc_n0 hk, evc_n0 hk]; rfl
        | [_] => rw [evc_n1 hk, evc_n1 hk]; rfl
        | b :: a :: st =>
          rw [evc_op hk, evc_op hk]
          by_cases h5 : k = 5 ∧ b = 0
          · rw [if_pos h5, if_pos h5]; rfl
          · rw [if_neg h5, if_neg h5]; exact ih _ _
theorem SR.one {v : Nat → Int32} : ∀ {n a : Nat} {c : cdT}, SR h n a c → ∀ st, evc v c st = (ev1 v c).map (fun x => x :: st) := by
  intro n
  induction n with
  | zero => intro a c hs; exact hs.elim
  | succ n ih =>
    intro a c hs st
    obtain ⟨-, h2⟩ := hs
    rcases h2 with ⟨-, x, k2, -⟩ | ⟨-, k, -, k3, -⟩ | ⟨-, x, y, cx, cy, k, k2, -, -, k5, k6, k7⟩
    · subst k2; rfl
    · subst k3; rfl
    · subst k7
      have hk : 2 ≤ k := by omega
      have e : ∀ st, evc v (cx ++ (cy ++ [(k, 0)])) st = (ev1 v cx).bind (fun a => (ev1 v cy).bind (fun b => if k = 5 ∧ b = 0 then none else some (op_ k a b :: st))) := by
        intro st
        rw [evc_app, ih k5]
        cases ev1 v cx with
        | none => rfl
        | some a =>
          show evc v (cy ++ [(k, 0)]) (a :: st) = _
          rw [evc_app, ih k6]
          cases ev1 v cy with
          | none => rfl
          | some b =>
            show evc v [(k, 0)] (b :: a :: st) = _
            rw [evc_op hk]
            rfl
      have e1 : ev1 v (cx ++ (cy ++ [(k, 0)])) = (ev1 v cx).bind (fun a => (ev1 v cy).bind (fun b => if k = 5 ∧ b = 0 then none else some (op_ k a b))) := by
        rw [ev1_eq (c := cx ++ (cy ++ [(k, 0)])), e []]
        cases ev1 v cx with
        | none => rfl
        | some a =>
          cases ev1 v cy with
          | none => rfl
          | some b =>
            show (if k = 5 ∧ b = 0 then none else some (op_ k a b :: [])).bind List.head? = (if k = 5 ∧ b = 0 then none else some (op_ k a b))
            split <;> rfl
      rw [e st, e1]
      cases ev1 v cx with
      | none => rfl
      | some a =>
        cases ev1 v cy with
        | none => rfl
        | some b =>
          show (if k = 5 ∧ b = 0 then none else some (op_ k a b :: st)) = Option.map _ (if k = 5 ∧ b = 0 then none else some (op_ k a b))
          split <;> rfl
theorem SR.join {v : Nat → Int32} {n m a b : Nat} {cx cy : cdT} {k : Nat} (hk : 2 ≤ k) (hx : SR h n a cx) (hy : SR h m b cy) : ev1 v (cx ++ (cy ++ [(k, 0)])) = (ev1 v cx).bind (fun a => (ev1 v cy).bind (fun b => if k = 5 ∧ b = 0 then none else some (op_ k a b))) := by
  rw [ev1_eq (c := cx ++ (cy ++ [(k, 0)])), evc_app, hx.one]
  cases ev1 v cx with
  | none => rfl
  | some a =>
    show (evc v (cy ++ [(k, 0)]) (a :: [])).bind List.head? = _
    rw [evc_app, hy.one]
    cases ev1 v cy with
    | none => rfl
    | some b =>
      show (evc v [(k, 0)] (b :: a :: [])).bind List.head? = _
      rw [evc_op hk]
      show (if k = 5 ∧ b = 0 then none else some (op_ k a b :: [])).bind List.head? = (if k = 5 ∧ b = 0 then none else some (op_ k a b))
      split <;> rfl
/-- asking a sum: which method runs -/
noncomputable def ofR (d : Nat) (h : aH) (a q : Nat) : aR := if (hk_ h a).1 = 13 then run d 307 0 [.ref a, .ref q] [] h else if (hk_ h a).1 = 14 then run d 309 0 [.ref a, .ref q] [] h else run d 311 0 [.ref a, .ref q, aU, aU] [] h
def sK (h : aH) (a : Nat) : Prop := (hk_ h a).1 = 13 ∨ (hk_ h a).1 = 14 ∨ (hk_ h a).1 = 15
theorem SR.k {n a : Nat} {c : cdT} (hs : SR h n a c) : sK h a := by
  cases n with
  | zero => exact hs.elim
  | succ n =>
    rcases hs.2 with ⟨k1, -⟩ | ⟨k1, -⟩ | ⟨k1, -⟩
    · exact Or.inl (by rw [k1])
    · exact Or.inr (Or.inl (by rw [k1]))
    · exact Or.inr (Or.inr (by rw [k1]))
theorem of_13 {a q : Nat} (hk : (hk_ h a).1 = 13) : run d 307 0 [.ref a, .ref q] [] h = ofR d h a q := (if_pos hk).symm
theorem of_14 {a q : Nat} (hk : (hk_ h a).1 = 14) : run d 309 0 [.ref a, .ref q] [] h = ofR d h a q := ((if_neg (by rw [hk]; decide)).trans (if_pos hk)).symm
theorem of_15 {a q : Nat} (hk : (hk_ h a).1 = 15) : run d 311 0 [.ref a, .ref q, aU, aU] [] h = ofR d h a q := ((if_neg (by rw [hk]; decide)).trans (if_neg (by rw [hk]; decide))).symm
theorem o311_5 {a0 a1 a2 a3 : Value} {q a : Nat} (hk : sK h a) : run (d + 1) 311 5 [a0, a1, a2, a3] [.ref q, .ref a] h = aBk (d + 1) 311 5 [a0, a1, a2, a3] [] false (ofR d h a q) := by
  rcases hk with hk | hk | hk
  · rw [e311_5_13 hk, of_13 hk]
  · rw [e311_5_14 hk, of_14 hk]
  · rw [e311_5_15 hk, of_15 hk]
theorem o311_14 {a0 a1 a2 a3 : Value} {q a : Nat} (hk : sK h a) : run (d + 1) 311 14 [a0, a1, a2, a3] [.ref q, .ref a] h = aBk (d + 1) 311 14 [a0, a1, a2, a3] [] false (ofR d h a q) := by
  rcases hk with hk | hk | hk
  · rw [e311_14_13 hk, of_13 hk]
  · rw [e311_14_14 hk, of_14 hk]
  · rw [e311_14_15 hk, of_15 hk]
theorem o304_22 {a0 a1 a2 a3 : Value} {q a : Nat} (hk : sK h a) : run (d + 1) 304 22 [a0, a1, a2, a3] [.ref q, .ref a] h = aBk (d + 1) 304 22 [a0, a1, a2, a3] [] false (ofR d h a q) := by
  rcases hk with hk | hk | hk
  · rw [e304_22_13 hk, of_13 hk]
  · rw [e304_22_14 hk, of_14 hk]
  · rw [e304_22_15 hk, of_15 hk]
theorem o304_32 {a0 a1 a2 a3 : Value} {q a : Nat} {r : Int32} (hk : sK h a) : run (d + 1) 304 32 [a0, a1, a2, a3] [.ref q, .ref a, .int r] h = aBk (d + 1) 304 32 [a0, a1, a2, a3] [.int r] false (ofR d h a q) := by
  rcases hk with hk | hk | hk
  · rw [e304_32_13 hk, of_13 hk]
  · rw [e304_32_14 hk, of_14 hk]
  · rw [e304_32_15 hk, of_15 hk]
theorem o304_51 {a0 a1 a2 a3 : Value} {q a : Nat} (hk : sK h a) : run (d + 1) 304 51 [a0, a1, a2, a3] [.ref q, .ref a] h = aBk (d + 1) 304 51 [a0, a1, a2, a3] [] false (ofR d h a q) := by
  rcases hk with hk | hk | hk
  · rw [e304_51_13 hk, of_13 hk]
  · rw [e304_51_14 hk, of_14 hk]
  · rw [e304_51_15 hk, of_15 hk]
/-- what asking writes -/
def NP (q a f : Nat) : Prop := a = q ∧ f = 65
/-- one who is asked: q, its nine numbers at q + 1 -/
def AQ (h : aH) (q : Nat) (v : Nat → Int32) : Prop := 64 ≤ q ∧ ¬ xa q ∧ hk_ h q = (7, 0) ∧ hp_ h q 64 = some (q + 1) ∧ hk_ h (q + 1) = (100, 9) ∧ (∀ k, k < 9 → hi_ h (q + 1) k = v k)
theorem AQ.on {q : Nat} {v : Nat → Int32} (hA : AQ h q v) (o : On (NP q) h h') : AQ h' q v := by
  obtain ⟨h1, h0, h2, h3, h4, h5⟩ := hA
  exact ⟨h1, h0, (o.k _).trans h2, (o.p _ _).trans h3, (o.k _).trans h4, fun k hk => (o.i (fun z => by unfold NP at z; omega)).trans (h5 k hk)⟩
theorem x_of {q : Nat} {v : Nat → Int32} : ∀ (n a : Nat) (c : cdT) (h : aH), SR h n a c → AQ h q v → ∃ h' y, (∀ d, n ≤ d → ofR d h a q = some (.returned (some (.int y)), h')) ∧ On (NP q) h h' ∧ (match ev1 v c with
    | some x => y = x ∧ hi_ h' q 65 = hi_ h q 65
    | none => hi_ h' q 65 = nI 1) := by
  intro n
  induction n with
  | zero => intro a c h hs; exact hs.elim
  | succ n ih =>
    intro a c h hs hA
    obtain ⟨A1, A0, A2, A3, A4, A5⟩ := id hA
    obtain ⟨h1, h2⟩ := hs
    rcases h2 with ⟨k1, x, k2, k3⟩ | ⟨k1, k, k9, k3, k4⟩ | ⟨k1, x, y, cx, cy, k, k2, k3, k4, k5, k6, k7⟩
    · subst k2
      refine ⟨h, nI x, fun d _ => ?_, On.refl, rfl, rfl⟩
      rw [← of_13 (by rw [k1])]
      simp only [e307_0, e307_1, e307_4, ↓reduceIte, Nat.reduceAdd, Nat.reduceLeDiff, Nat.reduceLT, Nat.reduceEqDiff, not_false_eq_true, false_or, true_or, or_true, or_false, n0_e, n1_ne, n1_11, bI_z, bI_1, bI_fo, va_rf_some, aBk_1, aBk_0, nI_add, nI_mul, hk_si, hp_si, hl_si, hk_sp, hk_sl, hk_cp, hp_cp, k1, k3]
    · subst k3
      refine ⟨h, v k, fun d _ => ?_, On.refl, rfl, rfl⟩
      rw [← of_14 (by rw [k1])]
      simp only [e309_0, e309_1, e309_4, e309_5, e309_8, e309_9, ↓reduceIte, Nat.reduceAdd, Nat.reduceLeDiff, Nat.reduceLT, Nat.reduceEqDiff, not_false_eq_true, false_or, true_or, or_true, or_false, n0_e, n1_ne, n1_11, bI_z, bI_1, bI_fo, va_rf_some, aBk_1, aBk_0, nI_add, nI_mul, hk_si, hp_si, hl_si, hk_sp, hk_sl, hk_cp, hp_cp, k1, k4, A2, A3, A4, k9, A5 k k9]
    · subst k7
      obtain ⟨ha, ya, ea, oa, ra⟩ := ih x cx h k5 hA
      have hAa := hA.on oa
      have hS : ∀ z f, NP q z f → ¬ xa z := fun z f w => by
        obtain ⟨w1, -⟩ := w
        subst w1
        exact A0
      obtain ⟨hb, yb, eb, ob, rb⟩ := ih y cy ha (k6.on oa hS) hAa
      have hk2 : 2 ≤ k := by omega
      have oab := oa.trans ob
      have ka : hk_ ha a = (15, 0) := (oa.k _).trans k1
      have pa : hp_ ha a 145 = some y := (oa.p _ _).trans k4
      have kb : hk_ hb a = (15, 0) := (oab.k _).trans k1
      have kq : hk_ hb q = (7, 0) := (oab.k _).trans A2
      have na : ∀ f, ¬ NP q a f := fun f z => hS _ _ z h1
      have k2b : k = 2 ∧ hi_ hb a 143 = nI 43 ∨ k = 3 ∧ hi_ hb a 143 = nI 45 ∨ k = 4 ∧ hi_ hb a 143 = nI 42 ∨ k = 5 ∧ hi_ hb a 143 = nI 47 := by
        rw [oab.i (na _)]; exact k2
      have sx := k5.k
      have sy : sK ha y := by unfold sK; rw [oa.k]; exact k6.k
      rw [SR.join hk2 k5 k6]
      have hk4 : k = 5 ∨ k ≤ 4 := by omega
      -- what comes of the flag
      have flag : (∀ hb' yb', hi_ hb' q 65 = hi_ hb q 65 → (∀ x y, ev1 v cx = some x → ev1 v cy = some y → ¬ (k = 5 ∧ y = 0) → yb' = op_ k x y) → ¬ (k = 5 ∧ yb = 0) → (match (ev1 v cx).bind (fun a => (ev1 v cy).bind (fun b => if k = 5 ∧ b = 0 then none else some (op_ k a b))) with
          | some x => yb' = x ∧ hi_ hb' q 65 = hi_ h q 65
          | none => hi_ hb' q 65 = nI 1)) := by
        intro hb' yb' e1 e2 e3
        revert ra rb e2
        cases ev1 v cx with
        | none =>
          intro ra rb e2
          show hi_ hb' q 65 = nI 1
          rw [e1]
          revert rb
          cases ev1 v cy with
          | none => intro rb; exact rb
          | some b => rintro ⟨-, rb⟩; rw [rb]; exact ra
        | some a =>
          rintro ⟨ra1, ra2⟩
          cases ev1 v cy with
          | none => intro rb e2; show hi_ hb' q 65 = nI 1; rw [e1]; exact rb
          | some b =>
            rintro ⟨rb1, rb2⟩ e2
            subst rb1
            show (match (if k = 5 ∧ yb = 0 then none else some (op_ k a yb)) with
              | some x => yb' = x ∧ hi_ hb' q 65 = hi_ h q 65
              | none => hi_ hb' q 65 = nI 1)
            rw [if_neg e3]
            exact ⟨e2 a yb rfl rfl e3, by rw [e1, rb2, ra2]⟩
      have vals : ∀ x y, ev1 v cx = some x → ev1 v cy = some y → ya = x ∧ yb = y := by
        intro x y hx hy
        rw [hx] at ra
        rw [hy] at rb
        exact ⟨ra.1, rb.1⟩
      rcases k2b with ⟨hk, hop⟩ | ⟨hk, hop⟩ | ⟨hk, hop⟩ | ⟨hk, hop⟩
      · subst hk
        refine ⟨hb, ya + yb, fun d hd => ?_, oab, flag hb (ya + yb) rfl (fun x y hx hy _ => by obtain ⟨rfl, rfl⟩ := vals x y hx hy; rfl) (by omega)⟩
        obtain ⟨d, rfl⟩ : ∃ e, d = e + 1 := ⟨d - 1, by omega⟩
        rw [← of_15 (by rw [k1])]
        simp only [e311_0, e311_1, e311_4, e311_5_15, e311_5_13, e311_5_14, e311_8, e311_9, e311_10, e311_13, e311_14_15, e311_14_13, e311_14_14, e311_17, e311_18, e311_19, e311_22_42, e311_22_43, e311_22_44, e311_22_45, e311_22_d, e311_52, e311_53, e311_54, e311_55, e311_56, e311_57, e311_58, e311_59, e311_60, e311_61, e311_62, e311_63, e311_64, e311_65, e311_68, e311_69, e311_70, e311_71, e311_72, e311_73, e311_74, e311_77, e311_78, ↓reduceIte, Nat.reduceAdd, Nat.reduceLeDiff, Nat.reduceLT, Nat.reduceEqDiff, not_false_eq_true, false_or, true_or, or_true, or_false, n0_e, n1_ne, n1_11, bI_z, bI_1, bI_fo, va_rf_some, aBk_1, aBk_0, nI_add, nI_mul, hk_si, hp_si, hl_si, hk_sp, hk_sl, hk_cp, hp_cp, k1, k3, o311_5 sx, ea d (by omega), ka, pa, o311_14 sy, eb d (by omega), kb, hop]
      · subst hk
        refine ⟨hb, ya - yb, fun d hd => ?_, oab, flag hb (ya - yb) rfl (fun x y hx hy _ => by obtain ⟨rfl, rfl⟩ := vals x y hx hy; rfl) (by omega)⟩
        obtain ⟨d, rfl⟩ : ∃ e, d = e + 1 := ⟨d - 1, by omega⟩
        rw [← of_15 (by rw [k1])]
        simp only [e311_0, e311_1, e311_4, e311_5_15, e311_5_13, e311_5_14, e311_8, e311_9, e311_10, e311_13, e311_14_15, e311_14_13, e311_14_14, e311_17, e311_18, e311_19, e311_22_42, e311_22_43, e311_22_44, e311_22_45, e311_22_d, e311_52, e311_53, e311_54, e311_55, e311_56, e311_57, e311_58, e311_59, e311_60, e311_61, e311_62, e311_63, e311_64, e311_65, e311_68, e311_69, e311_70, e311_71, e311_72, e311_73, e311_74, e311_77, e311_78, ↓reduceIte, Nat.reduceAdd, Nat.reduceLeDiff, Nat.reduceLT, Nat.reduceEqDiff, not_false_eq_true, false_or, true_or, or_true, or_false, n0_e, n1_ne, n1_11, bI_z, bI_1, bI_fo, va_rf_some, aBk_1, aBk_0, nI_add, nI_mul, hk_si, hp_si, hl_si, hk_sp, hk_sl, hk_cp, hp_cp, k1, k3, o311_5 sx, ea d (by omega), ka, pa, o311_14 sy, eb d (by omega), kb, hop]
      · subst hk
        refine ⟨hb, ya * yb, fun d hd => ?_, oab, flag hb (ya * yb) rfl (fun x y hx hy _ => by obtain ⟨rfl, rfl⟩ := vals x y hx hy; rfl) (by omega)⟩
        obtain ⟨d, rfl⟩ : ∃ e, d = e + 1 := ⟨d - 1, by omega⟩
        rw [← of_15 (by rw [k1])]
        simp only [e311_0, e311_1, e311_4, e311_5_15, e311_5_13, e311_5_14, e311_8, e311_9, e311_10, e311_13, e311_14_15, e311_14_13, e311_14_14, e311_17, e311_18, e311_19, e311_22_42, e311_22_43, e311_22_44, e311_22_45, e311_22_d, e311_52, e311_53, e311_54, e311_55, e311_56, e311_57, e311_58, e311_59, e311_60, e311_61, e311_62, e311_63, e311_64, e311_65, e311_68, e311_69, e311_70, e311_71, e311_72, e311_73, e311_74, e311_77, e311_78, ↓reduceIte, Nat.reduceAdd, Nat.reduceLeDiff, Nat.reduceLT, Nat.reduceEqDiff, not_false_eq_true, false_or, true_or, or_true, or_false, n0_e, n1_ne, n1_11, bI_z, bI_1, bI_fo, va_rf_some, aBk_1, aBk_0, nI_add, nI_mul, hk_si, hp_si, hl_si, hk_sp, hk_sl, hk_cp, hp_cp, k1, k3, o311_5 sx, ea d (by omega), ka, pa, o311_14 sy, eb d (by omega), kb, hop]
      · subst hk
        by_cases hz : yb = 0
        · refine ⟨si_ hb q 65 (nI 1), nI 0, fun d hd => ?_, oab.trans (On.si ⟨rfl, rfl⟩), ?_⟩
          · obtain ⟨d, rfl⟩ : ∃ e, d = e + 1 := ⟨d - 1, by omega⟩
            rw [← of_15 (by rw [k1])]
            have h47 : (nI 47).toInt < 42 ∨ 45 < (nI 47).toInt := by decide
            simp only [e311_0, e311_1, e311_4, e311_5_15, e311_5_13, e311_5_14, e311_8, e311_9, e311_10, e311_13, e311_14_15, e311_14_13, e311_14_14, e311_17, e311_18, e311_19, e311_22_42, e311_22_43, e311_22_44, e311_22_45, e311_22_d, e311_52, e311_53, e311_54, e311_55, e311_56, e311_57, e311_58, e311_59, e311_60, e311_61, e311_62, e311_63, e311_64, e311_65, e311_68, e311_69, e311_70, e311_71, e311_72, e311_73, e311_74, e311_77, e311_78, ↓reduceIte, Nat.reduceAdd, Nat.reduceLeDiff, Nat.reduceLT, Nat.reduceEqDiff, not_false_eq_true, false_or, true_or, or_true, or_false, n0_e, n1_ne, n1_11, bI_z, bI_1, bI_fo, va_rf_some, aBk_1, aBk_0, nI_add, nI_mul, hk_si, hp_si, hl_si, hk_sp, hk_sl, hk_cp, hp_cp, k1, k3, o311_5 sx, ea d (by omega), ka, pa, o311_14 sy, eb d (by omega), kb, hop, h47, hz, kq, A1, n1_01]
          · have hn : (ev1 v cx).bind (fun a => (ev1 v cy).bind (fun b => if 5 = 5 ∧ b = 0 then none else some (op_ 5 a b))) = none := by
              revert ra rb
              cases ev1 v cx with
              | none => intro _ _; rfl
              | some a =>
                cases ev1 v cy with
                | none => intro _ _; rfl
                | some b =>
                  rintro - ⟨rb1, -⟩
                  show (if 5 = 5 ∧ b = 0 then none else some (op_ 5 a b)) = none
                  rw [if_pos ⟨rfl, by rw [← rb1]; exact hz⟩]
            rw [hn]
            show hi_ (si_ hb q 65 (nI 1)) q 65 = nI 1
            exact hi_same
        · refine ⟨hb, ya / yb, fun d hd => ?_, oab, flag hb (ya / yb) rfl (fun x y hx hy _ => by obtain ⟨rfl, rfl⟩ := vals x y hx hy; rfl) (fun z => hz z.2)⟩
          obtain ⟨d, rfl⟩ : ∃ e, d = e + 1 := ⟨d - 1, by omega⟩
          rw [← of_15 (by rw [k1])]
          have h47 : (nI 47).toInt < 42 ∨ 45 < (nI 47).toInt := by decide
          simp only [e311_0, e311_1, e311_4, e311_5_15, e311_5_13, e311_5_14, e311_8, e311_9, e311_10, e311_13, e311_14_15, e311_14_13, e311_14_14, e311_17, e311_18, e311_19, e311_22_42, e311_22_43, e311_22_44, e311_22_45, e311_22_d, e311_52, e311_53, e311_54, e311_55, e311_56, e311_57, e311_58, e311_59, e311_60, e311_61, e311_62, e311_63, e311_64, e311_65, e311_68, e311_69, e311_70, e311_71, e311_72, e311_73, e311_74, e311_77, e311_78, ↓reduceIte, Nat.reduceAdd, Nat.reduceLeDiff, Nat.reduceLT, Nat.reduceEqDiff, not_false_eq_true, false_or, true_or, or_true, or_false, n0_e, n1_ne, n1_11, bI_z, bI_1, bI_fo, va_rf_some, aBk_1, aBk_0, nI_add, nI_mul, hk_si, hp_si, hl_si, hk_sp, hk_sl, hk_cp, hp_cp, k1, k3, o311_5 sx, ea d (by omega), ka, pa, o311_14 sy, eb d (by omega), kb, hop, h47, hz]
end X1
