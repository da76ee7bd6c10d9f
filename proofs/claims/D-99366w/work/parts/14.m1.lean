set_option maxRecDepth 100000
/-! M: what changes nothing -/
/-- a code lies from p on -/
def cdM (h : aH) (p : Nat) (c : cdT) : Prop := p + c.length ≤ 840 ∧ ∀ i (hi : i < c.length), hi_ h 486 (p + i) = nI (c[i]).1 ∧ hi_ h 487 (p + i) = nI (c[i]).2
/-- branches from b on: ifs, then else -/
def brM (h : aH) : Nat → List (cdT × cdT × cdT) → cdT → Prop
  | b, [], e => b < 260 ∧ hi_ h 481 b = 0 ∧ ∃ q, hi_ h 484 b = nI q ∧ hi_ h 485 b = nI (q + e.length) ∧ cdM h q e
  | b, (x, y, z) :: l, e => b < 260 ∧ hi_ h 481 b = 1 ∧ (∃ p m q, hi_ h 482 b = nI p ∧ hi_ h 483 b = nI m ∧ hi_ h 484 b = nI q ∧ m = p + x.length ∧ q = m + y.length ∧ hi_ h 485 b = nI (q + z.length) ∧ cdM h p x ∧ cdM h m y ∧ cdM h q z) ∧ brM h (b + 1) l e
def lwM (h : aH) (lv k : Nat) (L : Option aLw) : Prop := match L with
  | none => hi_ h 479 (4 * lv + k) = hi_ h 480 (4 * lv + k)
  | some (l, e) => ∃ f, hi_ h 479 (4 * lv + k) = nI f ∧ hi_ h 480 (4 * lv + k) = nI (f + l.length + 1) ∧ brM h f l e
def lwV (L : Option aLw) : Prop := match L with
  | none => True
  | some (l, e) => l.length ≤ 4 ∧ (∀ q ∈ l, (cwf q.1 ∧ q.1.length ≤ 400) ∧ (cwf q.2.1 ∧ q.2.1.length ≤ 400) ∧ (cwf q.2.2 ∧ q.2.2.length ≤ 400)) ∧ cwf e ∧ e.length ≤ 400
/-- a text as it may be told -/
def TV (T : aTx) : Prop := ns_ T ≤ 4 ∧ ng_ T ≤ 7 ∧ (∀ g, g < ng_ T → (0 ≤ (hr_ T g).toInt ∧ (hr_ T g).toInt ≤ 23) ∧ (1 ≤ (hs_ T g).toInt ∧ (hs_ T g).toInt ≤ 12) ∧ (0 ≤ (fe_ T g).toInt ∧ (fe_ T g).toInt ≤ 99) ∧ ∃ f, f < 128 ∧ fo_ T g = nI f ∧ ∀ o, o < ng_ T → (f.testBit o = true ↔ (shr_ (fo_ T o) (nI g) &&& nI 1 = nI 1))) ∧
  (∀ s, s < ns_ T → (1 ≤ (lo_ T s).toInt ∧ (lo_ T s).toInt ≤ 24) ∧ (0 ≤ (wo_ T s).toInt ∧ (wo_ T s).toInt ≤ 99)) ∧ (1 ≤ (de_ T).toInt ∧ (de_ T).toInt ≤ 999) ∧ (0 ≤ (se_ T).toInt ∧ (se_ T).toInt ≤ 9999) ∧ ∀ k, k < 4 → lwV (la_ T k)
/-- M holds the text T on its side lv -/
def MT (h : aH) (T : aTx) (lv : Nat) : Prop := MS h ∧ TV T ∧ lv < 2 ∧ hi_ h 458 84 = nI lv ∧ hi_ h 468 lv = nI (ns_ T) ∧ hi_ h 471 lv = nI (ng_ T) ∧
  (∀ g, g < ng_ T → hi_ h 472 (7 * lv + g) = hr_ T g ∧ hi_ h 473 (7 * lv + g) = hs_ T g ∧ hi_ h 474 (7 * lv + g) = fe_ T g ∧ hi_ h 475 (7 * lv + g) = fo_ T g) ∧
  (∀ s, s < ns_ T → hi_ h 469 (4 * lv + s) = lo_ T s ∧ hi_ h 470 (4 * lv + s) = wo_ T s) ∧ hi_ h 477 lv = de_ T ∧ hi_ h 478 lv = se_ T ∧ ∀ k, k < 4 → lwM h lv k (la_ T k)
section M1
variable {d lv : Nat} {h : aH} {T : aTx} {r : Nat → Int32}
theorem MT.m (hT : MT h T lv) : MS h := hT.1
theorem MT.v (hT : MT h T lv) : TV T := hT.2.1
theorem MT.l2 (hT : MT h T lv) : lv < 2 := hT.2.2.1
theorem MT.live (hT : MT h T lv) : hi_ h 458 84 = nI lv := hT.2.2.2.1
theorem MT.ns (hT : MT h T lv) : hi_ h 468 lv = nI (ns_ T) := hT.2.2.2.2.1
theorem MT.ng (hT : MT h T lv) : hi_ h 471 lv = nI (ng_ T) := hT.2.2.2.2.2.1
theorem MT.hr (hT : MT h T lv) {g : Nat} (hg : g < ng_ T) : hi_ h 472 (7 * lv + g) = hr_ T g := (hT.2.2.2.2.2.2.1 g hg).1
theorem MT.hs (hT : MT h T lv) {g : Nat} (hg : g < ng_ T) : hi_ h 473 (7 * lv + g) = hs_ T g := (hT.2.2.2.2.2.2.1 g hg).2.1
theorem MT.fe (hT : MT h T lv) {g : Nat} (hg : g < ng_ T) : hi_ h 474 (7 * lv + g) = fe_ T g := (hT.2.2.2.2.2.2.1 g hg).2.2.1
theorem MT.fo (hT : MT h T lv) {g : Nat} (hg : g < ng_ T) : hi_ h 475 (7 * lv + g) = fo_ T g := (hT.2.2.2.2.2.2.1 g hg).2.2.2
theorem MT.lo (hT : MT h T lv) {s : Nat} (hs : s < ns_ T) : hi_ h 469 (4 * lv + s) = lo_ T s := (hT.2.2.2.2.2.2.2.1 s hs).1
theorem MT.wo (hT : MT h T lv) {s : Nat} (hs : s < ns_ T) : hi_ h 470 (4 * lv + s) = wo_ T s := (hT.2.2.2.2.2.2.2.1 s hs).2
theorem MT.de (hT : MT h T lv) : hi_ h 477 lv = de_ T := hT.2.2.2.2.2.2.2.2.1
theorem MT.se (hT : MT h T lv) : hi_ h 478 lv = se_ T := hT.2.2.2.2.2.2.2.2.2.1
theorem MT.la (hT : MT h T lv) {k : Nat} (hk : k < 4) : lwM h lv k (la_ T k) := hT.2.2.2.2.2.2.2.2.2.2 k hk
theorem MT.g7 (hT : MT h T lv) {g : Nat} (hg : g < ng_ T) : 7 * lv + g < 14 := by
  have := hT.l2; have := hT.v.2.1; omega
theorem MT.s4 (hT : MT h T lv) {s : Nat} (hs : s < ns_ T) : 4 * lv + s < 8 := by
  have := hT.l2; have := hT.v.1; omega
theorem MT.ng7 (hT : MT h T lv) : ng_ T ≤ 7 := hT.v.2.1
theorem MT.ns4 (hT : MT h T lv) : ns_ T ≤ 4 := hT.v.1
/-- a row of 31 lies at a -/
def RA (h : aH) (a : Nat) (r : Nat → Int32) : Prop := ∀ k, k < 31 → hi_ h a k = r k
theorem ti_add {x y : Int32} (h1 : -2147483648 ≤ x.toInt + y.toInt) (h2 : x.toInt + y.toInt < 2147483648) : (x + y).toInt = x.toInt + y.toInt := by
  rw [Int32.toInt_add]
  dsimp only [Int.bmod]
  split <;> omega
theorem ti_sub {x y : Int32} (h1 : -2147483648 ≤ x.toInt - y.toInt) (h2 : x.toInt - y.toInt < 2147483648) : (x - y).toInt = x.toInt - y.toInt := by
  rw [Int32.toInt_sub]
  dsimp only [Int.bmod]
  split <;> omega
theorem n1_toInt : (nI 1).toInt = 1 := by decide
theorem TV.ti (hV : TV T) {g : Nat} (hg : g < ng_ T) : (ti_ T g).toInt = (hr_ T g).toInt + (hs_ T g).toInt := by
  obtain ⟨h1, h2, -⟩ := hV.2.2.1 g hg
  exact ti_add (by omega) (by omega)
theorem in_th (hV : TV T) {g : Nat} (hg : g < ng_ T) (x : Int32) : in_ x (hr_ T g) (ti_ T g - nI 1) = th_ T g x := by
  obtain ⟨h1, h2, -⟩ := hV.2.2.1 g hg
  have e := hV.ti hg
  unfold in_ th_
  congr 1
  apply decide_eq_decide.mpr
  rw [Int32.le_iff_toInt_le, Int32.lt_iff_toInt_lt, ti_sub (by rw [n1_toInt]; omega) (by rw [n1_toInt]; omega), n1_toInt]
  omega
theorem i_lt {x y : Int32} : (x < y) = ¬ (y ≤ x) := propext Int32.not_le.symm
theorem m_in {v a b : Int32} : (run (d) 184 0 [.int v, .int a, .int b] [] h) = some (.returned (some (.int (bI (in_ v a b)))), h) := by
  simp only [e184_0, e184_1, e184_2, e184_5, e184_6, e184_7, e184_10, e184_11, e184_14, e184_15, ↓reduceIte, Nat.reduceAdd, Nat.reduceLeDiff, Nat.reduceLT, Nat.reduceEqDiff, not_false_eq_true, false_or, true_or, or_true, or_false, n0_e, n1_ne, n1_11, bI_z, bI_1, bI_fo, va_rf_some, aBk_1, aBk_0, nI_add, nI_mul, hk_si, hp_si, hl_si, hk_sp, hk_sl, hk_cp, hp_cp, n1_01, n0_01]
  unfold in_
  by_cases q1 : a ≤ v <;> by_cases q2 : v ≤ b <;> simp only [q1, q2, i_lt, not_true_eq_false, not_false_eq_true, ↓reduceIte, decide_true, decide_false, cond_true, cond_false, Bool.true_and, Bool.false_and, Bool.and_true, Bool.and_false, Bool.true_or, Bool.false_or, Bool.or_true, Bool.or_false, Bool.not_true, Bool.not_false, reduceCtorEq] <;> rfl
theorem m_within {v a b : Int32} : (run (d) 193 0 [.int v, .int a, .int b] [] h) = some (.returned (some (.int (wi_ v a b))), h) := by
  simp only [e193_0, e193_1, e193_2, e193_5, e193_6, e193_9, e193_10, e193_11, e193_14, e193_15, e193_18, e193_19, ↓reduceIte, Nat.reduceAdd, Nat.reduceLeDiff, Nat.reduceLT, Nat.reduceEqDiff, not_false_eq_true, false_or, true_or, or_true, or_false, n0_e, n1_ne, n1_11, bI_z, bI_1, bI_fo, va_rf_some, aBk_1, aBk_0, nI_add, nI_mul, hk_si, hp_si, hl_si, hk_sp, hk_sl, hk_cp, hp_cp]
  unfold wi_
  by_cases h1 : a ≤ v <;> by_cases h2 : v ≤ b <;> simp [i_lt, h1, h2]
theorem m_bits {x : Int32} : (run (d) 191 0 [.int x, aU, aU] [] h) = some (.returned (some (.int (bc_ x))), h) := by
  simp only [e191_0, e191_1, e191_2, e191_3, e191_5, e191_7, e191_10, e191_11, e191_12, e191_13, e191_14, e191_15, e191_16, e191_17, e191_18, e191_21, e191_24, e191_25, ↓reduceIte, Nat.reduceAdd, Nat.reduceLeDiff, Nat.reduceLT, Nat.reduceEqDiff, not_false_eq_true, false_or, true_or, or_true, or_false, n0_e, n1_ne, n1_11, bI_z, bI_1, bI_fo, va_rf_some, aBk_1, aBk_0, nI_add, nI_mul, hk_si, hp_si, hl_si, hk_sp, hk_sl, hk_cp, hp_cp]
  refine (run_for (F := fun j a => (run (d) 191 4 [.int x, .int a, .int (nI j)] [] h)) (f := fun k a => a + (shr_ x (nI k) &&& nI 1)) (n := 24) (fun j hj => ?_)).trans ?_
  · have h1 : ¬ nI 24 ≤ nI j := nI_ge hj (by decide)
    refine (e191_4).trans ?_
    simp only [e191_0, e191_1, e191_2, e191_3, e191_5, e191_7, e191_10, e191_11, e191_12, e191_13, e191_14, e191_15, e191_16, e191_17, e191_18, e191_21, e191_24, e191_25, ↓reduceIte, Nat.reduceAdd, Nat.reduceLeDiff, Nat.reduceLT, Nat.reduceEqDiff, not_false_eq_true, false_or, true_or, or_true, or_false, n0_e, n1_ne, n1_11, bI_z, bI_1, bI_fo, va_rf_some, aBk_1, aBk_0, nI_add, nI_mul, hk_si, hp_si, hl_si, hk_sp, hk_sl, hk_cp, hp_cp, h1]
  · refine (e191_4).trans ?_
    simp only [e191_0, e191_1, e191_2, e191_3, e191_5, e191_7, e191_10, e191_11, e191_12, e191_13, e191_14, e191_15, e191_16, e191_17, e191_18, e191_21, e191_24, e191_25, ↓reduceIte, Nat.reduceAdd, Nat.reduceLeDiff, Nat.reduceLT, Nat.reduceEqDiff, not_false_eq_true, false_or, true_or, or_true, or_false, n0_e, n1_ne, n1_11, bI_z, bI_1, bI_fo, va_rf_some, aBk_1, aBk_0, nI_add, nI_mul, hk_si, hp_si, hl_si, hk_sp, hk_sl, hk_cp, hp_cp, Int32.le_refl]
    rfl
theorem m_isSunday (hT : MT h T lv) {s : Int32} : (run (d + 1) 183 0 [.ref 458, .int s] [] h) = some (.returned (some (.int (bI (isS T s)))), h) := by
  have hM := hT.m
  simp only [e183_0, e183_1, e183_2, e183_3, e183_6, e183_7, e183_10, e183_11, e183_12, e183_13, e183_16, mk_458 hM, mp_89 hM, mk_468 hM, ↓reduceIte, Nat.reduceAdd, Nat.reduceLeDiff, Nat.reduceLT, Nat.reduceEqDiff, not_false_eq_true, false_or, true_or, or_true, or_false, n0_e, n1_ne, n1_11, bI_z, bI_1, bI_fo, va_rf_some, aBk_1, aBk_0, nI_add, nI_mul, hk_si, hp_si, hl_si, hk_sp, hk_sl, hk_cp, hp_cp, hT.live, hT.ns, hT.l2, m_in, bI_01]
  rfl
theorem m_isGuest (hT : MT h T lv) {g : Int32} : (run (d + 1) 197 0 [.ref 458, .int g] [] h) = some (.returned (some (.int (bI (isG T g)))), h) := by
  have hM := hT.m
  simp only [e197_0, e197_1, e197_2, e197_3, e197_6, e197_7, e197_10, e197_11, e197_12, e197_13, e197_16, mk_458 hM, mp_92 hM, mk_471 hM, ↓reduceIte, Nat.reduceAdd, Nat.reduceLeDiff, Nat.reduceLT, Nat.reduceEqDiff, not_false_eq_true, false_or, true_or, or_true, or_false, n0_e, n1_ne, n1_11, bI_z, bI_1, bI_fo, va_rf_some, aBk_1, aBk_0, nI_add, nI_mul, hk_si, hp_si, hl_si, hk_sp, hk_sl, hk_cp, hp_cp, hT.live, hT.ng, hT.l2, m_in, bI_01]
  rfl
theorem m_fromAt (hT : MT h T lv) {g : Nat} (hg : g < ng_ T) : (run (d) 198 0 [.ref 458, .int (nI g)] [] h) = some (.returned (some (.int (hr_ T g))), h) := by
  have hM := hT.m
  simp only [e198_0, e198_1, e198_4, e198_6, e198_7, e198_10, e198_11, e198_12, e198_13, e198_14, mk_458 hM, mp_93 hM, mk_472 hM, ↓reduceIte, Nat.reduceAdd, Nat.reduceLeDiff, Nat.reduceLT, Nat.reduceEqDiff, not_false_eq_true, false_or, true_or, or_true, or_false, n0_e, n1_ne, n1_11, bI_z, bI_1, bI_fo, va_rf_some, aBk_1, aBk_0, nI_add, nI_mul, hk_si, hp_si, hl_si, hk_sp, hk_sl, hk_cp, hp_cp, hT.live, hT.hr hg, hT.g7 hg]
theorem m_tillAt (hT : MT h T lv) {g : Nat} (hg : g < ng_ T) : (run (d) 207 0 [.ref 458, .int (nI g)] [] h) = some (.returned (some (.int (ti_ T g))), h) := by
  have hM := hT.m
  simp only [e207_0, e207_1, e207_4, e207_6, e207_7, e207_10, e207_11, e207_12, e207_13, e207_14, e207_15, e207_18, e207_20, e207_21, e207_24, e207_25, e207_26, e207_27, e207_28, e207_29, mk_458 hM, mp_93 hM, mk_472 hM, mp_94 hM, mk_473 hM, ↓reduceIte, Nat.reduceAdd, Nat.reduceLeDiff, Nat.reduceLT, Nat.reduceEqDiff, not_false_eq_true, false_or, true_or, or_true, or_false, n0_e, n1_ne, n1_11, bI_z, bI_1, bI_fo, va_rf_some, aBk_1, aBk_0, nI_add, nI_mul, hk_si, hp_si, hl_si, hk_sp, hk_sl, hk_cp, hp_cp, hT.live, hT.hr hg, hT.hs hg, hT.g7 hg]
  rfl
theorem m_isThere (hT : MT h T lv) {g : Nat} (hg : g < ng_ T) {x : Int32} : (run (d + 1) 269 0 [.ref 458, .int (nI g), .int x] [] h) = some (.returned (some (.int (bI (th_ T g x)))), h) := by
  have hM := hT.m
  simp only [e269_0, e269_1, e269_2, e269_3, e269_6, e269_7, e269_8, e269_11, e269_12, e269_13, e269_16, mk_458 hM, ↓reduceIte, Nat.reduceAdd, Nat.reduceLeDiff, Nat.reduceLT, Nat.reduceEqDiff, not_false_eq_true, false_or, true_or, or_true, or_false, n0_e, n1_ne, n1_11, bI_z, bI_1, bI_fo, va_rf_some, aBk_1, aBk_0, nI_add, nI_mul, hk_si, hp_si, hl_si, hk_sp, hk_sl, hk_cp, hp_cp, m_fromAt hT hg, m_tillAt hT hg, m_in, in_th hT.v hg, bI_01]
theorem m_doClash (hT : MT h T lv) {g o : Nat} (hg : g < ng_ T) (ho : o < ng_ T) : (run (d + 1) 212 0 [.ref 458, .int (nI g), .int (nI o)] [] h) = some (.returned (some (.int (bI (cl_ T g o)))), h) := by
  have hM := hT.m
  have h7 := hT.ng7
  have e : (nI g = nI o) = (g = o) := propext (nI_eq (by omega) (by omega))
  simp only [e212_0, e212_1, e212_2, e212_5, e212_6, e212_7, e212_8, e212_11, e212_13, e212_14, e212_17, e212_18, e212_19, e212_20, e212_21, e212_22, e212_23, e212_24, e212_25, e212_26, e212_29, e212_30, e212_31, e212_34, e212_35, e212_36, e212_39, e212_42, e212_43, e212_44, e212_47, e212_48, e212_49, e212_52, e212_55, e212_56, e212_59, e212_60, mk_458 hM, mp_96 hM, mk_475 hM, ↓reduceIte, Nat.reduceAdd, Nat.reduceLeDiff, Nat.reduceLT, Nat.reduceEqDiff, not_false_eq_true, false_or, true_or, or_true, or_false, n0_e, n1_ne, n1_11, bI_z, bI_1, bI_fo, va_rf_some, aBk_1, aBk_0, nI_add, nI_mul, hk_si, hp_si, hl_si, hk_sp, hk_sl, hk_cp, hp_cp, hT.live, hT.fo hg, hT.g7 hg, m_fromAt hT hg, m_tillAt hT hg, m_fromAt hT ho, m_tillAt hT ho, n1_01, n0_01, e]
  unfold cl_
  by_cases q1 : g = o
  · simp [q1, bI_f]
  · have q0 : Nat.beq g o = false := by
      cases hb : Nat.beq g o with
      | true => exact absurd (Nat.eq_of_beq_eq_true hb) q1
      | false => rfl
    simp only [q1, q0]
    by_cases q1 : shr_ (fo_ T g) (nI o) &&& nI 1 = nI 1 <;> by_cases q2 : ti_ T o ≤ hr_ T g <;> by_cases q3 : ti_ T g ≤ hr_ T o <;> simp only [q1, q2, q3, i_lt, not_true_eq_false, not_false_eq_true, ↓reduceIte, decide_true, decide_false, cond_true, cond_false, Bool.true_and, Bool.false_and, Bool.and_true, Bool.and_false, Bool.true_or, Bool.false_or, Bool.or_true, Bool.or_false, Bool.not_true, Bool.not_false, reduceCtorEq] <;> rfl
theorem m_clashBits (hT : MT h T lv) {g : Nat} (hg : g < ng_ T) : (run (d + 2) 211 0 [.ref 458, .int (nI g), aU, aU] [] h) = some (.returned (some (.int (nI (cB_ T g)))), h) := by
  have hM := hT.m
  have h7 := hT.ng7
  simp only [e211_0, e211_1, e211_2, e211_3, e211_5, e211_6, e211_9, e211_10, e211_13, e211_14, e211_17, e211_18, e211_19, e211_20, e211_23, e211_26, e211_27, e211_28, e211_29, e211_30, e211_31, e211_32, e211_35, e211_38, e211_39, ↓reduceIte, Nat.reduceAdd, Nat.reduceLeDiff, Nat.reduceLT, Nat.reduceEqDiff, not_false_eq_true, false_or, true_or, or_true, or_false, n0_e, n1_ne, n1_11, bI_z, bI_1, bI_fo, va_rf_some, aBk_1, aBk_0, nI_add, nI_mul, hk_si, hp_si, hl_si, hk_sp, hk_sl, hk_cp, hp_cp]
  refine (run_for (F := fun j a => (run (d + 2) 211 4 [.ref 458, .int (nI g), .int (nI a), .int (nI j)] [] h)) (f := fun o a => bif cl_ T g o then a ||| 2 ^ o else a) (a := 0) (n := ng_ T) (fun j hj => ?_)).trans ?_
  · have h1 : ¬ nI (ng_ T) ≤ nI j := nI_ge hj (by omega)
    refine (e211_4).trans ?_
    simp only [e211_0, e211_1, e211_2, e211_3, e211_5, e211_6, e211_9, e211_10, e211_13, e211_14, e211_17, e211_18, e211_19, e211_20, e211_23, e211_26, e211_27, e211_28, e211_29, e211_30, e211_31, e211_32, e211_35, e211_38, e211_39, mk_458 hM, mp_92 hM, mk_471 hM, ↓reduceIte, Nat.reduceAdd, Nat.reduceLeDiff, Nat.reduceLT, Nat.reduceEqDiff, not_false_eq_true, false_or, true_or, or_true, or_false, n0_e, n1_ne, n1_11, bI_1, bI_fo, va_rf_some, aBk_1, aBk_0, nI_add, nI_mul, hk_si, hp_si, hl_si, hk_sp, hk_sl, hk_cp, hp_cp, hT.live, hT.ng, hT.l2, h1, m_doClash hT hg hj, bI_z, shl_1 j (by omega), nI_or]
    cases cl_ T g j <;> rfl
  · refine (e211_4).trans ?_
    simp only [e211_0, e211_1, e211_2, e211_3, e211_5, e211_6, e211_9, e211_10, e211_13, e211_14, e211_17, e211_18, e211_19, e211_20, e211_23, e211_26, e211_27, e211_28, e211_29, e211_30, e211_31, e211_32, e211_35, e211_38, e211_39, mk_458 hM, mp_92 hM, mk_471 hM, ↓reduceIte, Nat.reduceAdd, Nat.reduceLeDiff, Nat.reduceLT, Nat.reduceEqDiff, not_false_eq_true, false_or, true_or, or_true, or_false, n0_e, n1_ne, n1_11, bI_z, bI_1, bI_fo, va_rf_some, aBk_1, aBk_0, nI_add, nI_mul, hk_si, hp_si, hl_si, hk_sp, hk_sl, hk_cp, hp_cp, hT.live, hT.ng, hT.l2, Int32.le_refl]
    rfl
theorem m_doesFit (hT : MT h T lv) (hr : RA h 492 r) {g s : Nat} (hg : g < ng_ T) (hs : s < ns_ T) : (run (d + 1) 210 0 [.ref 458, .int (nI g), .int (nI s)] [] h) = some (.returned (some (.int (bI (fit_ T r g s)))), h) := by
  have hM := hT.m
  have h4 := hT.ns4
  have h2 : 25 + s < 31 := by omega
  simp only [e210_0, e210_1, e210_4, e210_6, e210_7, e210_8, e210_9, e210_12, e210_13, e210_14, e210_17, e210_18, e210_21, e210_22, e210_23, e210_26, e210_27, e210_28, e210_29, e210_30, e210_33, e210_34, e210_37, e210_38, mk_458 hM, mp_90 hM, mk_469 hM, mp_117 hM, mk_492 hM, ↓reduceIte, Nat.reduceAdd, Nat.reduceLeDiff, Nat.reduceLT, Nat.reduceEqDiff, not_false_eq_true, false_or, true_or, or_true, or_false, n0_e, n1_ne, n1_11, bI_z, bI_1, bI_fo, va_rf_some, aBk_1, aBk_0, nI_add, nI_mul, hk_si, hp_si, hl_si, hk_sp, hk_sl, hk_cp, hp_cp, hT.live, hT.l2, h2, hr _ h2, hT.lo hs, hT.s4 hs, m_tillAt hT hg, n1_01, n0_01]
  unfold fit_
  by_cases q1 : r (25 + s) = 0 <;> by_cases q2 : ti_ T g ≤ lo_ T s <;> simp only [q1, q2, i_lt, not_true_eq_false, not_false_eq_true, ↓reduceIte, decide_true, decide_false, cond_true, cond_false, Bool.true_and, Bool.false_and, Bool.and_true, Bool.and_false, Bool.true_or, Bool.false_or, Bool.or_true, Bool.or_false, Bool.not_true, Bool.not_false, reduceCtorEq] <;> rfl
theorem m_guestBits (hT : MT h T lv) (hr : RA h 492 r) {s : Int32} : (run (d) 186 0 [.ref 458, .int s, aU, aU] [] h) = some (.returned (some (.int (nI (gB_ T r s)))), h) := by
  have hM := hT.m
  have h7 := hT.ng7
  simp only [e186_0, e186_1, e186_2, e186_3, e186_5, e186_6, e186_9, e186_10, e186_13, e186_14, e186_17, e186_18, e186_21, e186_22, e186_23, e186_24, e186_27, e186_28, e186_29, e186_30, e186_31, e186_32, e186_33, e186_36, e186_39, e186_40, ↓reduceIte, Nat.reduceAdd, Nat.reduceLeDiff, Nat.reduceLT, Nat.reduceEqDiff, not_false_eq_true, false_or, true_or, or_true, or_false, n0_e, n1_ne, n1_11, bI_z, bI_1, bI_fo, va_rf_some, aBk_1, aBk_0, nI_add, nI_mul, hk_si, hp_si, hl_si, hk_sp, hk_sl, hk_cp, hp_cp]
  refine (run_for (F := fun j a => (run (d) 186 4 [.ref 458, .int s, .int (nI a), .int (nI j)] [] h)) (f := fun g a => bif decide (r g = s) then a ||| 2 ^ g else a) (a := 0) (n := ng_ T) (fun j hj => ?_)).trans ?_
  · have h1 : ¬ nI (ng_ T) ≤ nI j := nI_ge hj (by omega)
    have h2 : j < 31 := by omega
    refine (e186_4).trans ?_
    simp only [e186_0, e186_1, e186_2, e186_3, e186_5, e186_6, e186_9, e186_10, e186_13, e186_14, e186_17, e186_18, e186_21, e186_22, e186_23, e186_24, e186_27, e186_28, e186_29, e186_30, e186_31, e186_32, e186_33, e186_36, e186_39, e186_40, mk_458 hM, mp_92 hM, mk_471 hM, mp_117 hM, mk_492 hM, ↓reduceIte, Nat.reduceAdd, Nat.reduceLeDiff, Nat.reduceLT, Nat.reduceEqDiff, not_false_eq_true, false_or, true_or, or_true, or_false, n0_e, n1_ne, n1_11, bI_z, bI_1, bI_fo, va_rf_some, aBk_1, aBk_0, nI_add, nI_mul, hk_si, hp_si, hl_si, hk_sp, hk_sl, hk_cp, hp_cp, hT.live, hT.ng, hT.l2, h1, h2, hr j h2, shl_1 j (by omega), nI_or]
    by_cases q1 : r j = s <;> simp only [q1, i_lt, not_true_eq_false, not_false_eq_true, ↓reduceIte, decide_true, decide_false, cond_true, cond_false, Bool.true_and, Bool.false_and, Bool.and_true, Bool.and_false, Bool.true_or, Bool.false_or, Bool.or_true, Bool.or_false, Bool.not_true, Bool.not_false, reduceCtorEq] <;> rfl
  · refine (e186_4).trans ?_
    simp only [e186_0, e186_1, e186_2, e186_3, e186_5, e186_6, e186_9, e186_10, e186_13, e186_14, e186_17, e186_18, e186_21, e186_22, e186_23, e186_24, e186_27, e186_28, e186_29, e186_30, e186_31, e186_32, e186_33, e186_36, e186_39, e186_40, mk_458 hM, mp_92 hM, mk_471 hM, mp_117 hM, mk_492 hM, ↓reduceIte, Nat.reduceAdd, Nat.reduceLeDiff, Nat.reduceLT, Nat.reduceEqDiff, not_false_eq_true, false_or, true_or, or_true, or_false, n0_e, n1_ne, n1_11, bI_z, bI_1, bI_fo, va_rf_some, aBk_1, aBk_0, nI_add, nI_mul, hk_si, hp_si, hl_si, hk_sp, hk_sl, hk_cp, hp_cp, hT.live, hT.ng, hT.l2, Int32.le_refl]
    rfl
theorem m_livingBits (hT : MT h T lv) (hr : RA h 492 r) : (run (d) 236 0 [.ref 458, aU, aU] [] h) = some (.returned (some (.int (nI (lB_ T r)))), h) := by
  have hM := hT.m
  have h7 := hT.ng7
  simp only [e236_0, e236_1, e236_2, e236_3, e236_5, e236_6, e236_9, e236_10, e236_13, e236_14, e236_17, e236_18, e236_21, e236_23, e236_24, e236_25, e236_26, e236_29, e236_30, e236_31, e236_32, e236_33, e236_34, e236_35, e236_38, e236_41, e236_42, ↓reduceIte, Nat.reduceAdd, Nat.reduceLeDiff, Nat.reduceLT, Nat.reduceEqDiff, not_false_eq_true, false_or, true_or, or_true, or_false, n0_e, n1_ne, n1_11, bI_z, bI_1, bI_fo, va_rf_some, aBk_1, aBk_0, nI_add, nI_mul, hk_si, hp_si, hl_si, hk_sp, hk_sl, hk_cp, hp_cp]
  refine (run_for (F := fun j a => (run (d) 236 4 [.ref 458, .int (nI a), .int (nI j)] [] h)) (f := fun g a => bif decide (r (14 + g) = 0) then a ||| 2 ^ g else a) (a := 0) (n := ng_ T) (fun j hj => ?_)).trans ?_
  · have h1 : ¬ nI (ng_ T) ≤ nI j := nI_ge hj (by omega)
    have h2 : 14 + j < 31 := by omega
    refine (e236_4).trans ?_
    simp only [e236_0, e236_1, e236_2, e236_3, e236_5, e236_6, e236_9, e236_10, e236_13, e236_14, e236_17, e236_18, e236_21, e236_23, e236_24, e236_25, e236_26, e236_29, e236_30, e236_31, e236_32, e236_33, e236_34, e236_35, e236_38, e236_41, e236_42, mk_458 hM, mp_92 hM, mk_471 hM, mp_117 hM, mk_492 hM, ↓reduceIte, Nat.reduceAdd, Nat.reduceLeDiff, Nat.reduceLT, Nat.reduceEqDiff, not_false_eq_true, false_or, true_or, or_true, or_false, n0_e, n1_ne, n1_11, bI_z, bI_1, bI_fo, va_rf_some, aBk_1, aBk_0, nI_add, nI_mul, hk_si, hp_si, hl_si, hk_sp, hk_sl, hk_cp, hp_cp, hT.live, hT.ng, hT.l2, h1, h2, hr _ h2, shl_1 j (by omega), nI_or]
    by_cases q1 : r (14 + j) = 0 <;> simp only [q1, i_lt, not_true_eq_false, not_false_eq_true, ↓reduceIte, decide_true, decide_false, cond_true, cond_false, Bool.true_and, Bool.false_and, Bool.and_true, Bool.and_false, Bool.true_or, Bool.false_or, Bool.or_true, Bool.or_false, Bool.not_true, Bool.not_false, reduceCtorEq] <;> rfl
  · refine (e236_4).trans ?_
    simp only [e236_0, e236_1, e236_2, e236_3, e236_5, e236_6, e236_9, e236_10, e236_13, e236_14, e236_17, e236_18, e236_21, e236_23, e236_24, e236_25, e236_26, e236_29, e236_30, e236_31, e236_32, e236_33, e236_34, e236_35, e236_38, e236_41, e236_42, mk_458 hM, mp_92 hM, mk_471 hM, mp_117 hM, mk_492 hM, ↓reduceIte, Nat.reduceAdd, Nat.reduceLeDiff, Nat.reduceLT, Nat.reduceEqDiff, not_false_eq_true, false_or, true_or, or_true, or_false, n0_e, n1_ne, n1_11, bI_z, bI_1, bI_fo, va_rf_some, aBk_1, aBk_0, nI_add, nI_mul, hk_si, hp_si, hl_si, hk_sp, hk_sl, hk_cp, hp_cp, hT.live, hT.ng, hT.l2, Int32.le_refl]
    rfl
theorem m_hoursTaken (hT : MT h T lv) (hr : RA h 492 r) {s : Int32} : (run (d) 190 0 [.ref 458, .int s, aU, aU] [] h) = some (.returned (some (.int (hT_ T r s))), h) := by
  have hM := hT.m
  have h7 := hT.ng7
  simp only [e190_0, e190_1, e190_2, e190_3, e190_5, e190_6, e190_9, e190_10, e190_13, e190_14, e190_17, e190_18, e190_21, e190_22, e190_23, e190_24, e190_27, e190_28, e190_29, e190_32, e190_34, e190_35, e190_38, e190_39, e190_40, e190_41, e190_42, e190_43, e190_44, e190_47, e190_50, e190_51, ↓reduceIte, Nat.reduceAdd, Nat.reduceLeDiff, Nat.reduceLT, Nat.reduceEqDiff, not_false_eq_true, false_or, true_or, or_true, or_false, n0_e, n1_ne, n1_11, bI_z, bI_1, bI_fo, va_rf_some, aBk_1, aBk_0, nI_add, nI_mul, hk_si, hp_si, hl_si, hk_sp, hk_sl, hk_cp, hp_cp]
  refine (run_for (F := fun j a => (run (d) 190 4 [.ref 458, .int s, .int a, .int (nI j)] [] h)) (f := fun g a => if r g = s then a + hs_ T g else a) (a := nI 0) (n := ng_ T) (fun j hj => ?_)).trans ?_
  · have h1 : ¬ nI (ng_ T) ≤ nI j := nI_ge hj (by omega)
    have h2 : j < 31 := by omega
    refine (e190_4).trans ?_
    simp only [e190_0, e190_1, e190_2, e190_3, e190_5, e190_6, e190_9, e190_10, e190_13, e190_14, e190_17, e190_18, e190_21, e190_22, e190_23, e190_24, e190_27, e190_28, e190_29, e190_32, e190_34, e190_35, e190_38, e190_39, e190_40, e190_41, e190_42, e190_43, e190_44, e190_47, e190_50, e190_51, mk_458 hM, mp_92 hM, mk_471 hM, mp_94 hM, mk_473 hM, mp_117 hM, mk_492 hM, ↓reduceIte, Nat.reduceAdd, Nat.reduceLeDiff, Nat.reduceLT, Nat.reduceEqDiff, not_false_eq_true, false_or, true_or, or_true, or_false, n0_e, n1_ne, n1_11, bI_z, bI_1, bI_fo, va_rf_some, aBk_1, aBk_0, nI_add, nI_mul, hk_si, hp_si, hl_si, hk_sp, hk_sl, hk_cp, hp_cp, hT.live, hT.ng, hT.l2, h1, h2, hr j h2, hT.hs hj, hT.g7 hj]
    by_cases q1 : r j = s <;> simp only [q1, i_lt, not_true_eq_false, not_false_eq_true, ↓reduceIte, decide_true, decide_false, cond_true, cond_false, Bool.true_and, Bool.false_and, Bool.and_true, Bool.and_false, Bool.true_or, Bool.false_or, Bool.or_true, Bool.or_false, Bool.not_true, Bool.not_false, reduceCtorEq] <;> rfl
  · refine (e190_4).trans ?_
    simp only [e190_0, e190_1, e190_2, e190_3, e190_5, e190_6, e190_9, e190_10, e190_13, e190_14, e190_17, e190_18, e190_21, e190_22, e190_23, e190_24, e190_27, e190_28, e190_29, e190_32, e190_34, e190_35, e190_38, e190_39, e190_40, e190_41, e190_42, e190_43, e190_44, e190_47, e190_50, e190_51, mk_458 hM, mp_92 hM, mk_471 hM, mp_94 hM, mk_473 hM, mp_117 hM, mk_492 hM, ↓reduceIte, Nat.reduceAdd, Nat.reduceLeDiff, Nat.reduceLT, Nat.reduceEqDiff, not_false_eq_true, false_or, true_or, or_true, or_false, n0_e, n1_ne, n1_11, bI_z, bI_1, bI_fo, va_rf_some, aBk_1, aBk_0, nI_add, nI_mul, hk_si, hp_si, hl_si, hk_sp, hk_sl, hk_cp, hp_cp, hT.live, hT.ng, hT.l2, Int32.le_refl]
    rfl
theorem m_whoIsAt (hT : MT h T lv) (hr : RA h 492 r) {s x : Int32} : (run (d + 1) 206 0 [.ref 458, .int s, .int x, aU] [] h) = some (.returned (some (.int (who_ T r s x))), h) := by
  have hM := hT.m
  have h7 := hT.ng7
  simp only [e206_0, e206_1, e206_3, e206_4, e206_7, e206_8, e206_11, e206_12, e206_15, e206_16, e206_19, e206_20, e206_21, e206_22, e206_25, e206_26, e206_27, e206_28, e206_31, e206_32, e206_33, e206_36, e206_37, e206_38, e206_41, e206_44, e206_45, e206_46, e206_49, e206_52, e206_54, ↓reduceIte, Nat.reduceAdd, Nat.reduceLeDiff, Nat.reduceLT, Nat.reduceEqDiff, not_false_eq_true, false_or, true_or, or_true, or_false, n0_e, n1_ne, n1_11, bI_z, bI_1, bI_fo, va_rf_some, aBk_1, aBk_0, nI_add, nI_mul, hk_si, hp_si, hl_si, hk_sp, hk_sl, hk_cp, hp_cp]
  refine (run_find (F := fun j => (run (d + 1) 206 2 [.ref 458, .int s, .int x, .int (nI j)] [] h)) (R := fun j => some (.returned (some (.int (nI j))), h)) (P := fun g => decide (r g = s) && th_ T g x) (n := ng_ T) (fun j hj => ?_)).trans ?_
  · have h1 : ¬ nI (ng_ T) ≤ nI j := nI_ge hj (by omega)
    have h2 : j < 31 := by omega
    refine (e206_2).trans ?_
    simp only [e206_0, e206_1, e206_3, e206_4, e206_7, e206_8, e206_11, e206_12, e206_15, e206_16, e206_19, e206_20, e206_21, e206_22, e206_25, e206_26, e206_27, e206_28, e206_31, e206_32, e206_33, e206_36, e206_37, e206_38, e206_41, e206_44, e206_45, e206_46, e206_49, e206_52, e206_54, mk_458 hM, mp_92 hM, mk_471 hM, mp_117 hM, mk_492 hM, ↓reduceIte, Nat.reduceAdd, Nat.reduceLeDiff, Nat.reduceLT, Nat.reduceEqDiff, not_false_eq_true, false_or, true_or, or_true, or_false, n0_e, n1_ne, n1_11, bI_1, bI_fo, va_rf_some, aBk_1, aBk_0, nI_add, nI_mul, hk_si, hp_si, hl_si, hk_sp, hk_sl, hk_cp, hp_cp, hT.live, hT.ng, hT.l2, h1, h2, hr j h2, m_fromAt hT hj, m_tillAt hT hj, m_in, in_th hT.v hj, bI_z]
    cases th_ T j x <;> by_cases q2 : r j = s <;> simp only [q2, i_lt, not_true_eq_false, not_false_eq_true, ↓reduceIte, decide_true, decide_false, cond_true, cond_false, Bool.true_and, Bool.false_and, Bool.and_true, Bool.and_false, Bool.true_or, Bool.false_or, Bool.or_true, Bool.or_false, Bool.not_true, Bool.not_false, reduceCtorEq] <;> rfl
  · unfold who_
    cases fnd (fun g => decide (r g = s) && th_ T g x) (ng_ T) 0 with
    | some g => rfl
    | none =>
      dsimp only
      refine (e206_2).trans ?_
      simp only [e206_0, e206_1, e206_3, e206_4, e206_7, e206_8, e206_11, e206_12, e206_15, e206_16, e206_19, e206_20, e206_21, e206_22, e206_25, e206_26, e206_27, e206_28, e206_31, e206_32, e206_33, e206_36, e206_37, e206_38, e206_41, e206_44, e206_45, e206_46, e206_49, e206_52, e206_54, mk_458 hM, mp_92 hM, mk_471 hM, mp_117 hM, mk_492 hM, ↓reduceIte, Nat.reduceAdd, Nat.reduceLeDiff, Nat.reduceLT, Nat.reduceEqDiff, not_false_eq_true, false_or, true_or, or_true, or_false, n0_e, n1_ne, n1_11, bI_z, bI_1, bI_fo, va_rf_some, aBk_1, aBk_0, nI_add, nI_mul, hk_si, hp_si, hl_si, hk_sp, hk_sl, hk_cp, hp_cp, hT.live, hT.ng, hT.l2, Int32.le_refl]
end M1
