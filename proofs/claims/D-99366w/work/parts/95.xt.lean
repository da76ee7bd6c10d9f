set_option maxRecDepth 100000
/-! X: reading (11): lists that grow; laws kept -/
def ALq (h : aH) (a e n κ : Nat) (q : Nat → Nat) : Prop := 504 ≤ a ∧ hk_ h a = (5, 0) ∧ hi_ h a 52 = nI n ∧ n ≤ 10 ∧ (n = 0 → hp_ h a 51 = some 45) ∧ (0 < n → 504 ≤ e ∧ hp_ h a 51 = some e ∧ hk_ h e = (114, 10) ∧ ∀ i, i < n → hp_ h e i = some (q i)) ∧ ∀ i, i < n → 504 ≤ q i ∧ hk_ h (q i) = (κ, 0)
def upN (q : Nat → Nat) (n x : Nat) : Nat → Nat := fun k => if k = n then x else q k
section XT95
variable {c s : Nat} {S P : Nat → Nat → Prop} {h h' : aH} {a e n κ x : Nat} {q : Nat → Nat}
theorem ALq.A (hA : ALq h a e n κ q) : AL h a n κ q := by
  obtain ⟨h1, h2, h3, h4, h5, h6, h7⟩ := hA
  refine ⟨Or.inr h1, h2, h3, by omega, fun hn => ?_, fun i hi => ⟨Or.inr (h7 i hi).1, (h7 i hi).2⟩⟩
  obtain ⟨g1, g2, g3, g4⟩ := h6 hn
  exact ⟨e, 10, g2, g3, h4, by decide, g4⟩
theorem ALq.oa (hA : ALq h a e n κ q) (hF : FZ h) (hκ : κ ≠ 99) (o : OA c s S P h h') (hS : ¬ S a 52) (hP : ∀ f, ¬ P a f ∧ (0 < n → ¬ P e f)) : ALq h' a e n κ q := by
  obtain ⟨h1, h2, h3, h4, h5, h6, h7⟩ := hA
  have al := hF.lt h2 (by decide)
  refine ⟨h1, (o.k al).trans h2, (o.i al hS).trans h3, h4, fun hn => (o.p al (hP _).1).trans (h5 hn), fun hn => ?_, fun i hi => ⟨(h7 i hi).1, (o.k (hF.lt (h7 i hi).2 hκ)).trans (h7 i hi).2⟩⟩
  obtain ⟨g1, g2, g3, g4⟩ := h6 hn
  have el := hF.lt g3 (by decide)
  exact ⟨g1, (o.p al (hP _).1).trans g2, (o.k el).trans g3, fun i hi => (o.p el ((hP _).2 hn)).trans (g4 i hi)⟩
theorem sto_114 (h : κ = 16 ∨ κ = 18) : aSto 114 κ = true := by
  rcases h with h | h <;> subst h <;> decide
theorem al_add (hF : FZ h) (h45 : hk_ h 45 = (114, 0)) (hA : ALq h a e n κ q) (hn : n < 10) (hκ : κ = 16 ∨ κ = 18) (hx : hk_ h x = (κ, 0)) (hx5 : 504 ≤ x) : ∃ h' e', (∀ d, (run (d + 5) 117 0 [.ref a, .ref x] [] h) = some (.returned (some (.int (nI 1))), h')) ∧ OA 1 10 (fun y _ => y = a) (fun y _ => y = a ∨ (0 < n ∧ y = e)) h h' ∧ FZ h' ∧ ALq h' a e' (n + 1) κ (upN q n x) ∧ (0 < n → e' = e) ∧ (n = 0 → e' = hz_ h) := by
  obtain ⟨h1, h2, h3, h4, h5, h6, h7⟩ := id hA
  have al := hF.lt h2 (by decide)
  have a6 : 64 ≤ a := by omega
  have st := sto_114 hκ
  have z5 := hF.1
  have n114 : (100 : Nat) ≤ 114 := by decide
  have o0 : OA 0 0 (fun y _ => y = a) (fun y _ => y = a ∨ (0 < n ∧ y = e)) h (si_ h a 50 (hi_ h a 50 + nI 1)) := OA.refl.sis rfl
  have F0 := hF.si (x := a) (f := 50) (v := hi_ h a 50 + nI 1) al
  have i0 : hi_ (si_ h a 50 (hi_ h a 50 + nI 1)) a 52 = nI n := (hi_ne (by omega)).trans h3
  have k0 : hk_ (si_ h a 50 (hi_ h a 50 + nI 1)) a = (5, 0) := h2
  have x0 : hk_ (si_ h a 50 (hi_ h a 50 + nI 1)) x = (κ, 0) := hx
  have p0 : ∀ y f, hp_ (si_ h a 50 (hi_ h a 50 + nI 1)) y f = hp_ h y f := fun _ _ => rfl
  have kk0 : ∀ y, hk_ (si_ h a 50 (hi_ h a 50 + nI 1)) y = hk_ h y := fun _ => rfl
  have z0 : hz_ (si_ h a 50 (hi_ h a 50 + nI 1)) = hz_ h := rfl
  have go : ∀ (y : Nat) (w : aH), hp_ h a 51 = some y → (∀ d, (run (d + 4) 118 0 [.ref a, .ref x, .ref y, .int (nI n)] [] (si_ h a 50 (hi_ h a 50 + nI 1))) = some (.returned none, w)) → ∀ d, (run (d + 5) 117 0 [.ref a, .ref x] [] h) = some (.returned (some (.int (nI 1))), w) := fun y w hy hw d => by
    simp only [e117_0, e117_1, e117_2, e117_5, e117_6, e117_7, e117_10, e117_11, e117_12, e117_13, e117_16, e117_17, e117_20, e117_23, e117_24, ↓reduceIte, Nat.reduceAdd, Nat.reduceLeDiff, Nat.reduceLT, not_false_eq_true, false_or, true_or, or_true, or_false, n0_e, n1_ne, n1_11, bI_z, bI_1, bI_fo, aBk_1, aBk_0, nI_add, nI_mul, hk_si, hp_si, hl_si, hk_sp, hk_sl, hk_cp, hp_cp, h2, a6, h3, hy, hw, va_rf_some, hi_si, Nat.reduceEqDiff, false_and, true_and, and_false, and_true]
  generalize si_ h a 50 (hi_ h a 50 + nI 1) = g at o0 F0 i0 k0 x0 p0 kk0 z0 go
  by_cases q0 : n = 0
  · -- the first: a row of ten
    subst q0
    have p45 : hp_ g a 51 = some 45 := (p0 _ _).trans (h5 rfl)
    have k45 : hk_ g 45 = (114, 0) := (kk0 _).trans h45
    have o1 := o0.nw (κ := 114) (n := 10) (u := 10)
    have F1 := F0.nw (κ := 114) (n := 10) (u := 10)
    have k1 : hk_ (nw_ g 114 10 10) a = (5, 0) := (o1.k al).trans h2
    have ke : hk_ (nw_ g 114 10 10) (hz_ h) = (114, 10) := by show (if hz_ h = hz_ g then _ else _) = _; rw [z0, if_pos rfl]
    have m10 : (10 : Nat) ≤ 1000000 := by decide
    have mx : max_ (nI 10) (nI 1) = nI 10 := by decide
    have gt0 : ¬ 0 < nI 0 := by decide
    have g2 : ∀ d, (run (d + 2) 120 0 [.ref a, .int (nI 1), aU, aU] [] g) = some (.returned (some (.ref (hz_ h))), sp_ (nw_ g 114 10 10) a 51 (some (hz_ h))) := fun d => by
      simp only [e120_0, e120_1, e120_4, e120_5, e120_6, e120_7, e120_10, e120_11, e120_14, e120_17s, e120_17d, e120_20, e120_21, e120_22, e120_23, e120_24, e120_25, e120_26, e120_27, e120_30, e120_31, e120_32, e120_33, e120_36, e120_37, e120_40, e120_41, e120_41n, e120_44, e120_45, e120_46, e120_48, e120_49, e120_52, e120_55, e120_56, e120_56n, e120_59, ↓reduceIte, Nat.reduceAdd, Nat.reduceLeDiff, Nat.reduceLT, Nat.reduceEqDiff, not_false_eq_true, false_or, true_or, or_true, or_false, n0_e, n1_ne, n1_11, bI_z, bI_1, bI_fo, aBk_1, aBk_0, nI_add, nI_mul, hk_si, hp_si, hl_si, hk_sp, hk_sl, hk_cp, hp_cp, k0, p45, k45, n114, gt0, mx, m10, k1, a6, z0, va_rf_some]
    have g1 : ∀ d, (run (d + 3) 119 0 [.ref a] [] g) = some (.returned (some (.ref (hz_ h))), sp_ (nw_ g 114 10 10) a 51 (some (hz_ h))) := fun d => by
      simp only [e119_0, e119_1, e119_2, e119_5, e119_6, e119_7, e119_10, ↓reduceIte, Nat.reduceAdd, Nat.reduceLeDiff, Nat.reduceLT, Nat.reduceEqDiff, not_false_eq_true, false_or, true_or, or_true, or_false, n0_e, n1_ne, n1_11, bI_z, bI_1, bI_fo, va_rf_some, aBk_1, aBk_0, nI_add, nI_mul, hk_si, hp_si, hl_si, hk_sp, hk_sl, hk_cp, hp_cp, k0, i0, g2]
    have z6 : 64 ≤ hz_ h := by omega
    have kx1 : hk_ (nw_ g 114 10 10) x = (κ, 0) := (o1.k (hF.lt hx (by rcases hκ with z | z <;> rw [z] <;> decide))).trans hx
    have l10 : (0 : Nat) < 10 := by decide
    have ad : ∀ d, (run (d + 4) 118 0 [.ref a, .ref x, .ref 45, .int (nI 0)] [] g) = some (.returned none, si_ (sp_ (sp_ (nw_ g 114 10 10) a 51 (some (hz_ h))) (hz_ h) 0 (some x)) a 52 (nI 1)) := fun d => by
      simp only [e118_0, e118_1, e118_2, e118_3, e118_6, e118_7, e118_10, e118_11, e118_12, e118_13, e118_14, e118_15, e118_16, e118_17, e118_18, e118_19, e118_22, ↓reduceIte, Nat.reduceAdd, Nat.reduceLeDiff, Nat.reduceLT, Nat.reduceEqDiff, not_false_eq_true, false_or, true_or, or_true, or_false, n0_e, n1_ne, n1_11, bI_z, bI_1, bI_fo, va_rf_some, aBk_1, aBk_0, nI_add, nI_mul, hk_si, hp_si, hl_si, hk_sp, hk_sl, hk_cp, hp_cp, k45, n114, k0, g1, z6, ke, kx1, st, l10, k1, a6]
    have al1 : a < hz_ (nw_ g 114 10 10) := by show a < hz_ g + 1; omega
    have el1 : hz_ h < hz_ (nw_ g 114 10 10) := by show hz_ h < hz_ g + 1; omega
    have o2 := ((o1.sps (x := a) (f := 51) (v := some (hz_ h)) (Or.inl rfl)).spf (x := hz_ h) (f := 0) (v := some x) (Nat.le_refl _)).sis (x := a) (f := 52) (v := nI 1) rfl
    refine ⟨_, hz_ h, go 45 _ (h5 rfl) ad, o2.le (by omega) (by omega), ((F1.sp al1).sp el1).si al1, ⟨h1, k1, hi_same, by decide, fun z => absurd z (by decide), fun _ => ⟨z5, ?_, ke, fun i hi => ?_⟩, fun i hi => ?_⟩, fun z => absurd z (by decide), fun _ => rfl⟩
    · show (if a = hz_ h ∧ 51 = 0 then _ else if a = a ∧ 51 = 51 then _ else _) = _
      rw [if_neg (by omega), if_pos ⟨rfl, rfl⟩]
    · have : i = 0 := by omega
      subst this
      exact if_pos ⟨rfl, rfl⟩
    · have : i = 0 := by omega
      subst this
      exact ⟨hx5, kx1⟩
  · have hn0 : 0 < n := by omega
    obtain ⟨g1, g2, g3, g4⟩ := h6 hn0
    have el := hF.lt g3 (by decide)
    have ke : hk_ g e = (114, 10) := (kk0 _).trans g3
    have ne : ¬ nI n = nI 10 := by rw [nI_eqL (by omega) (by decide)]; omega
    have e6 : 64 ≤ e := by omega
    have ad : ∀ d, (run (d + 4) 118 0 [.ref a, .ref x, .ref e, .int (nI n)] [] g) = some (.returned none, si_ (sp_ g e n (some x)) a 52 (nI (n + 1))) := fun d => by
      simp only [e118_0, e118_1, e118_2, e118_3, e118_6, e118_7, e118_10, e118_11, e118_12, e118_13, e118_14, e118_15, e118_16, e118_17, e118_18, e118_19, e118_22, ↓reduceIte, Nat.reduceAdd, Nat.reduceLeDiff, Nat.reduceLT, Nat.reduceEqDiff, not_false_eq_true, false_or, true_or, or_true, or_false, n0_e, n1_ne, n1_11, bI_z, bI_1, bI_fo, va_rf_some, aBk_1, aBk_0, nI_add, nI_mul, hk_si, hp_si, hl_si, hk_sp, hk_sl, hk_cp, hp_cp, ke, n114, ne, e6, x0, st, hn, k0, a6]
    have o2 := (o0.sps (x := e) (f := n) (v := some x) (Or.inr ⟨hn0, rfl⟩)).sis (x := a) (f := 52) (v := nI (n + 1)) rfl
    have aeq : a ≠ e := fun z => by rw [z, g3] at h2; exact absurd (congrArg Prod.fst h2) (by decide)
    refine ⟨_, e, go e _ g2 ad, o2.le (by omega) (by omega), (F0.sp (by rw [z0]; exact el)).si (by show a < hz_ g; rw [z0]; exact al), ⟨h1, k0, hi_same, hn, fun z => absurd z (by omega), fun _ => ⟨g1, ?_, ke, fun i hi => ?_⟩, fun i hi => ?_⟩, fun _ => rfl, fun z => absurd z q0⟩
    · show (if a = e ∧ 51 = n then _ else hp_ g a 51) = _
      rw [if_neg (fun z => aeq z.1), p0]; exact g2
    · show (if e = e ∧ i = n then some x else hp_ g e i) = some (if i = n then x else q i)
      by_cases z : i = n
      · rw [if_pos ⟨rfl, z⟩, if_pos z]
      · rw [if_neg (fun y => z y.2), if_neg z, p0]; exact g4 i (by omega)
    · show 504 ≤ (if i = n then x else q i) ∧ hk_ g (if i = n then x else q i) = (κ, 0)
      by_cases z : i = n
      · rw [if_pos z]; exact ⟨hx5, x0⟩
      · rw [if_neg z, kk0]; exact h7 i (by omega)
theorem XL.oa {l : Nat} {L : aLw} (hL : XL h l L) (hl : FZ h) (o : OA c s S P h h') (hS : ∀ x f, S x f → ¬ xa x ∨ (hk_ h x).1 < 12 ∨ 15 < (hk_ h x).1) (hP : ∀ x f, P x f → (hk_ h x).1 ≠ 15 ∧ (hk_ h x).1 ≠ 12 ∧ (hk_ h x).1 ≠ 111) : XL h' l L := by
  obtain ⟨h1, h2, h3, h4, x, y, z, h5, h6, h7, h8, h9, h10, h11, h12, h13, h14, c', h15, h16⟩ := hL
  have hS' : ∀ x f, S x f → ¬ xa x ∨ (hk_ h x).1 < 13 ∨ 15 < (hk_ h x).1 := fun x f q => (hS x f q).imp id (fun w => w.imp (fun w => by omega) id)
  have hP' : ∀ x f, P x f → (hk_ h x).1 ≠ 15 := fun x f q => (hP x f q).1
  have ll := hl.lt h2 (by decide)
  have lx := hl.lt h11 (by decide)
  have ly := hl.lt h12 (by decide)
  have lz := hl.lt h13 (by decide)
  have pl : ∀ f, ¬ P l f := fun f q => (hP _ _ q).2.1 (by rw [h2])
  have px : ∀ f, ¬ P x f := fun f q => (hP _ _ q).2.2 (by rw [h11])
  have py : ∀ f, ¬ P y f := fun f q => (hP _ _ q).2.2 (by rw [h12])
  have pz' : ∀ f, ¬ P z f := fun f q => (hP _ _ q).2.2 (by rw [h13])
  refine ⟨h1, (o.k ll).trans h2, h3, (o.i ll (fun q => ?_)).trans h4, x, y, z, (o.p ll (pl _)).trans h5, (o.p ll (pl _)).trans h6, (o.p ll (pl _)).trans h7, h8, h9, h10, (o.k lx).trans h11, (o.k ly).trans h12, (o.k lz).trans h13, fun i hi => ?_, c', (o.p lz (pz' _)).trans h15, h16.oa2 hl o hS' hP'⟩
  · rcases hS _ _ q with w | w | w
    · exact w h1
    · rw [h2] at w; exact absurd w (by decide)
    · rw [h2] at w; exact absurd w (by decide)
  · obtain ⟨a, b, c, k1, k2, k3, k4, k5, k6⟩ := h14 i hi
    exact ⟨a, b, c, (o.p lx (px _)).trans k1, (o.p ly (py _)).trans k2, (o.p lz (pz' _)).trans k3, k4.oa2 hl o hS' hP', k5.oa2 hl o hS' hP', k6.oa2 hl o hS' hP'⟩
end XT95
