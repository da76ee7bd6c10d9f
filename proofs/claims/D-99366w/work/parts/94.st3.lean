set_option maxRecDepth 100000
/-! STRINGS (3): names as numbers; a token's text -/
def nmW (w : Nat → Nat) : Nat → Nat
  | 0 => 0
  | k + 1 => 27 * nmW w k + (w k - 96)
/-- a name at a, v its number -/
def NmR (h : aH) (a : Nat) (v : Int64) : Prop := ∃ w m, StR h a w m ∧ (∀ i, i < m → isL (w i) = true) ∧ v = lN (nmW w m)
section ST3
variable {d : Nat} {h h' : aH} {w w' : Nat → Nat} {m m' a b : Nat} {c s : Nat} {S P : Nat → Nat → Prop}
theorem nmN_W {β : Nat → Nat} {p : Nat} : ∀ k, nmN β p k = nmW (fun i => β (p + i)) k
  | 0 => rfl
  | k + 1 => by show 27 * nmN β p k + _ = 27 * nmW _ k + _; rw [nmN_W k]
theorem nmW_b : ∀ m, (∀ i, i < m → isL (w i) = true) → nmW w m < 27 ^ m
  | 0, _ => Nat.one_pos
  | m + 1, h => by
    have h1 := nmW_b m (fun i hi => h i (by omega))
    have h2 := of_decide_eq_true (h m (by omega))
    show 27 * nmW w m + (w m - 96) < 27 ^ (m + 1)
    rw [Nat.pow_succ]
    omega
theorem nmW_i : ∀ m m', (∀ i, i < m → isL (w i) = true) → (∀ i, i < m' → isL (w' i) = true) → nmW w m = nmW w' m' → m = m' ∧ ∀ i, i < m → w i = w' i
  | 0, 0, _, _, _ => ⟨rfl, fun i hi => absurd hi (Nat.not_lt_zero i)⟩
  | 0, m' + 1, _, h2, h => by
    have h3 := of_decide_eq_true (h2 m' (by omega))
    have h : 0 = 27 * nmW w' m' + (w' m' - 96) := h
    omega
  | m + 1, 0, h1, _, h => by
    have h3 := of_decide_eq_true (h1 m (by omega))
    have h : 27 * nmW w m + (w m - 96) = 0 := h
    omega
  | m + 1, m' + 1, h1, h2, h => by
    have h3 := of_decide_eq_true (h1 m (by omega))
    have h4 := of_decide_eq_true (h2 m' (by omega))
    have h : 27 * nmW w m + (w m - 96) = 27 * nmW w' m' + (w' m' - 96) := h
    obtain ⟨e1, e2⟩ := nmW_i m m' (fun i hi => h1 i (by omega)) (fun i hi => h2 i (by omega)) (by omega)
    refine ⟨by omega, fun i hi => ?_⟩
    by_cases q : i = m
    · subst q; subst e1; omega
    · exact e2 i (by omega)
theorem lN_i63 {a b : Nat} (ha : a < 2 ^ 63) (hb : b < 2 ^ 63) (h : lN a = lN b) : a = b := by
  have h1 : (lN a).toBitVec = (lN b).toBitVec := by rw [h]
  have h2 : BitVec.ofNat 64 a = BitVec.ofNat 64 b := h1
  have h3 := congrArg BitVec.toNat h2
  rw [BitVec.toNat_ofNat, BitVec.toNat_ofNat] at h3
  omega
theorem NmR.oa {v : Int64} (hA : NmR h a v) (hF : FZ h) (o : OA c s S P h h') (hS : ∀ x f, S x f → x < 504 ∨ ((hk_ h x).1 ≠ 11 ∧ (hk_ h x).1 ≠ 101)) (hP : ∀ x f, P x f → x < 504 ∨ (hk_ h x).1 ≠ 11) : NmR h' a v := by
  obtain ⟨w, m, h1, h2, h3⟩ := hA
  exact ⟨w, m, h1.oa hF o hS hP, h2, h3⟩
theorem nm_equals {v v' : Int64} (hA : NmR h a v) (hB : NmR h b v') : (run (d + 1) 283 0 [.ref a, .ref b, aU] [] h) = some (.returned (some (.int (bI (decide (v = v'))))), h) := by
  obtain ⟨w, m, h1, h2, h3⟩ := hA
  obtain ⟨w', m', g1, g2, g3⟩ := hB
  have e : eqW w m w' m' = decide (v = v') := by
    have l1 := nmW_b m h2
    have l2 := nmW_b m' g2
    have m8 : m ≤ 8 := h1.2.2.2.1
    have n8 : m' ≤ 8 := g1.2.2.2.1
    have p1 : 27 ^ m ≤ 27 ^ 8 := Nat.pow_le_pow_right (by decide) m8
    have p2 : 27 ^ m' ≤ 27 ^ 8 := Nat.pow_le_pow_right (by decide) n8
    have p3 : (27 : Nat) ^ 8 < 2 ^ 63 := by decide
    rw [Bool.eq_iff_iff, eqW_iff, decide_eq_true_iff]
    constructor
    · rintro ⟨e1, e2⟩
      rw [h3, g3]
      congr 1
      subst e1
      have : ∀ k, k ≤ m → nmW w k = nmW w' k := by
        intro k
        induction k with
        | zero => intro _; rfl
        | succ k ih => intro hk; show 27 * nmW w k + _ = 27 * nmW w' k + _; rw [ih (by omega), e2 k (by omega)]
      exact this m (Nat.le_refl _)
    · intro z
      rw [h3, g3] at z
      exact nmW_i m m' h2 g2 (lN_i63 (by omega) (by omega) z)
  rw [← e]
  exact st_equals h1 g1
variable {n N : Nat} {β : Nat → Nat} {σ : aPs}
theorem k_text (hV : BV β n) (hE : EXr h β n N σ) {j : Nat} (hj : j ≤ N) (hk : tk_ (tz β n) j = 1) : ∃ h' a, (∀ d, (run (d + 8) 82 0 [.ref 66, .int (nI j), aU, aU] [] h) = some (.returned (some (.ref a)), h')) ∧ OA 4 32 NPx NPx h h' ∧ FZ h' ∧ NmR h' a (tn_ (tz β n) j) := by
  obtain ⟨hR, hW, hF⟩ := id hE
  obtain ⟨w1, w2, w3⟩ := id hW
  have hX := hR.1
  have h40 := hR.2.1.1
  have hn := hV.1
  obtain ⟨p1, p2, p3, p4, p5⟩ := kd1 (show kdz β n (pz β j) = 1 from hk)
  obtain ⟨a1, a2, a3⟩ := rl_at (p := isL) hV isL0 (i := pz β j) (by omega)
  have g1 : j < 2001 := by omega
  -- the builder
  have E1 := hE.nw (κ := 17) (m := 0) (u := 4)
  have k1 : hk_ (nw_ h 17 0 4) (hz_ h) = (17, 0) := if_pos rfl
  have i1 : hi_ (nw_ h 17 0 4) (hz_ h) 152 = 0 := ((hF.2 (hz_ h) (Nat.le_refl _)).2 152).2
  have z5 := hF.1
  obtain ⟨h2, e2, o2, F2, B2⟩ := sb_init (w := fun i => β (pz β j + i)) E1.2.2 k1 z5 i1
  have o1 : OA (0 + 1) (0 + 4) NPx NPx h (nw_ h 17 0 4) := OA.refl.nw
  have o12 : OA (0 + 1 + 1) (0 + 4 + 16) NPx NPx h h2 := o1.tf o2 (fun a f q => Or.inr (by have : a = hz_ h := q; omega)) (fun a f q => Or.inr (by have : a = hz_ h := q; omega))
  have hX1 := E1.1.1
  have h98 : (17 : Nat) < 98 := by decide
  -- the letters
  have zv : hz_ (nw_ h 17 0 4) = hz_ h + 1 := rfl
  rw [zv] at B2
  have key : ∀ m, m ≤ rl isL β (pz β j) → ∃ h3, (∀ d, (run (d + 8) 82 15 [.ref 66, .int (nI j), .ref (hz_ h), .int (nI (pz β j))] [] h2) = (run (d + 8) 82 15 [.ref 66, .int (nI j), .ref (hz_ h), .int (nI (pz β j + m))] [] h3)) ∧ OA 2 20 NPx NPx h h3 ∧ FZ h3 ∧ SBR h3 (hz_ h) (hz_ h + 1) (fun i => β (pz β j + i)) m := by
    intro m
    induction m with
    | zero => intro _; exact ⟨h2, fun d => rfl, o12, F2, B2⟩
    | succ m ih =>
      intro hm
      obtain ⟨h3, e3, o3, F3, B3⟩ := ih (by omega)
      have hl := of_decide_eq_true (a2 m (by omega))
      obtain ⟨h4, e4, o4, F4, B4⟩ := sb_append F3 B3 (by omega) (by show β (pz β j + m) < 128; omega)
      have hX3 := hX.oa o3 z5 NPx.t
      have c1 : hi_ h3 71 j = nI (pz β j + rl isL β (pz β j)) := by rw [o3.i (by omega) (fun q => q), ← p4]; exact w3 j hj (Or.inl hk)
      have c2 : hi_ h3 68 (pz β j + m) = nI (β (pz β j + m)) := by rw [o3.i (by omega) (fun q => q), w2 _ (by omega)]; exact sb_d (by omega)
      have g2 : ¬ nI (pz β j + rl isL β (pz β j)) ≤ nI (pz β j + m) := nI_ge (by omega) (by omega)
      have g3 : pz β j + m < 2000 := by omega
      have u1 := u16_c (β (pz β j + m)) (by omega)
      have kb := B3.1.2.1
      refine ⟨h4, fun d => (e3 d).trans ?_, (o3.tf o4 (fun a f q => Or.inr (by have : a = hz_ h ∨ a = hz_ h + 1 := q; omega)) (fun _ _ q => q.elim)), F4, B4⟩
      refine (e82_15).trans ?_
      simp only [e82_0, e82_3, e82_4, e82_7, e82_8, e82_9, e82_12, e82_13, e82_14, e82_16, e82_17, e82_20, e82_21, e82_22, e82_25, e82_26, e82_27, e82_30, e82_31, e82_32, e82_33, e82_36, e82_37, e82_40, e82_43, e82_44, e82_47, xk_64 hX3, xk_66 hX3, xp_30 hX3, xk_68 hX3, xp_33 hX3, xk_70 hX3, xp_34 hX3, xk_71 hX3, ↓reduceIte, Nat.reduceAdd, Nat.reduceLeDiff, Nat.reduceLT, Nat.reduceEqDiff, not_false_eq_true, false_or, true_or, or_true, or_false, n0_e, n1_ne, n1_11, bI_z, bI_1, bI_fo, va_rf_some, aBk_1, aBk_0, nI_add, nI_mul, hk_si, hp_si, hl_si, hk_sp, hk_sl, hk_cp, hp_cp, g1, c1, g2, c2, g3, u1, kb, e4, Nat.add_assoc]
  obtain ⟨h3, e3, o3, F3, B3⟩ := key _ (Nat.le_refl _)
  obtain ⟨h4, a, e4, o4, F4, S4⟩ := sb_toString F3 B3
  have hX3 := hX.oa o3 z5 NPx.t
  have hX2 := hX.oa o12 z5 NPx.t
  have c1 : hi_ h3 71 j = nI (pz β j + rl isL β (pz β j)) := by rw [o3.i (by omega) (fun q => q), ← p4]; exact w3 j hj (Or.inl hk)
  have c0 : hi_ h2 70 j = nI (pz β j) := by rw [o12.i (by omega) (fun q => q)]; exact (hR.2.2.1 j hj).2.2.1
  have g2 : nI (pz β j + rl isL β (pz β j)) ≤ nI (pz β j + rl isL β (pz β j)) := Int32.le_refl _
  have kb := B3.1.2.1
  refine ⟨h4, a, fun d => ?_, (o3.trans o4).le (by omega) (by omega), F4, _, _, S4, fun i hi => a2 i hi, ?_⟩
  · simp only [e82_0, e82_3, e82_4, e82_7, e82_8, e82_9, e82_12, e82_13, e82_14, e82_16, e82_17, e82_20, e82_21, e82_22, e82_25, e82_26, e82_27, e82_30, e82_31, e82_32, e82_33, e82_36, e82_37, e82_40, e82_43, e82_44, e82_47, xk_64 hX, xk_66 hX, xp_30 hX, xk_68 hX, xp_33 hX, xk_70 hX, xp_34 hX, xk_71 hX, xk_64 hX1, xk_66 hX1, xp_30 hX1, xk_68 hX1, xp_33 hX1, xk_70 hX1, xp_34 hX1, xk_71 hX1, xk_64 hX2, xk_66 hX2, xp_30 hX2, xk_68 hX2, xp_33 hX2, xk_70 hX2, xp_34 hX2, xk_71 hX2, ↓reduceIte, Nat.reduceAdd, Nat.reduceLeDiff, Nat.reduceLT, Nat.reduceEqDiff, not_false_eq_true, false_or, true_or, or_true, or_false, n0_e, n1_ne, n1_11, bI_z, bI_1, bI_fo, va_rf_some, aBk_1, aBk_0, nI_add, nI_mul, hk_si, hp_si, hl_si, hk_sp, hk_sl, hk_cp, hp_cp, k1, h98, e2, g1, c0]
    refine (e3 d).trans ?_
    refine (e82_15).trans ?_
    simp only [e82_0, e82_3, e82_4, e82_7, e82_8, e82_9, e82_12, e82_13, e82_14, e82_16, e82_17, e82_20, e82_21, e82_22, e82_25, e82_26, e82_27, e82_30, e82_31, e82_32, e82_33, e82_36, e82_37, e82_40, e82_43, e82_44, e82_47, xk_64 hX3, xk_66 hX3, xp_30 hX3, xk_68 hX3, xp_33 hX3, xk_70 hX3, xp_34 hX3, xk_71 hX3, ↓reduceIte, Nat.reduceAdd, Nat.reduceLeDiff, Nat.reduceLT, Nat.reduceEqDiff, not_false_eq_true, false_or, true_or, or_true, or_false, n0_e, n1_ne, n1_11, bI_z, bI_1, bI_fo, va_rf_some, aBk_1, aBk_0, nI_add, nI_mul, hk_si, hp_si, hl_si, hk_sp, hk_sl, hk_cp, hp_cp, g1, c1, g2, kb, e4]
  · show lN (tnz β (pz β j)) = _
    rw [p5, nmN_W]
end ST3
