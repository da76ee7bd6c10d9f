set_option maxRecDepth 100000
/-! X: laws; houses -/
section X2
variable {d : Nat} {h h' : aH} {T : aTx} {w : Nat → Int32} {sd : Int32} {a tx sa ga la : Nat} {qs qg : Nat → Nat}
def lwY (v : Nat → Int32) (l : List (cdT × cdT × cdT)) (e : cdT) : Int32 := match tlO v l e with
  | some x => max_ (nI 0) x
  | none => nI 0
def lwZ (v : Nat → Int32) (e : cdT) : Int32 := match ev1 v e with
  | some x => max_ (nI 0) x
  | none => nI 0
theorem x_lawEnd {l q z c k : Nat} {v : Nat → Int32} {e : cdT} (hk1 : xa l) (hk2 : hk_ h l = (12, 0)) (hz : hp_ h l 139 = some z) (hz2 : hk_ h z = (111, 5)) (hk : k < 5) (hc : hp_ h z k = some c) (hs : SR h 400 c e) (hA : AQ h q v) :
    ∃ h' y, (∀ d, (run (d + 401) 304 44 [.ref l, .ref q, .int (nI k), aU] [] h) = some (.returned (some (.int y)), h')) ∧ On (NP q) h h' ∧ (hi_ h q 65 = nI 0 → y = lwZ v e) ∧ (hi_ h q 65 = nI 1 → y = nI 0) := by
  obtain ⟨h', y, e1, o1, r1⟩ := x_of 400 c e h hs hA
  have kq : hk_ h' q = (7, 0) := (o1.k _).trans hA.2.2.1
  have e1 : ∀ d, ofR (d + 400) h c q = some (.returned (some (.int y)), h') := fun d => e1 (d + 400) (by omega)
  have sc := hs.k
  by_cases hf : hi_ h' q 65 = 0
  · refine ⟨h', max_ (nI 0) y, fun d => ?_, o1, fun h0 => ?_, fun h1 => ?_⟩
    · simp only [e304_0, e304_1, e304_2, e304_5, e304_6, e304_8, e304_9, e304_12, e304_15, e304_16, e304_19, e304_20, e304_21, e304_22_15, e304_22_13, e304_22_14, e304_25, e304_26, e304_29, e304_30, e304_31, e304_32_15, e304_32_13, e304_32_14, e304_35, e304_38, e304_41, e304_44, e304_45, e304_48, e304_49, e304_50, e304_51_15, e304_51_13, e304_51_14, e304_54, e304_55, e304_56, e304_59, e304_62, e304_63, e304_66, e304_67, e304_68, e304_71, ↓reduceIte, Nat.reduceAdd, Nat.reduceLeDiff, Nat.reduceLT, Nat.reduceEqDiff, not_false_eq_true, false_or, true_or, or_true, or_false, n0_e, n1_ne, n1_11, bI_z, bI_1, bI_fo, va_rf_some, aBk_1, aBk_0, nI_add, nI_mul, hk_si, hp_si, hl_si, hk_sp, hk_sl, hk_cp, hp_cp, hk2, hz, hz2, hk, hc, o304_51 sc, e1, kq, hf]
    · unfold lwZ
      revert r1
      cases ev1 v e with
      | none => intro r1; rw [r1] at hf; exact absurd hf (by decide)
      | some x => rintro ⟨r1, -⟩; rw [r1]
    · exfalso
      revert r1
      cases ev1 v e with
      | none => intro r1; rw [r1] at hf; revert hf; decide
      | some x => rintro ⟨-, r1⟩; rw [r1, h1] at hf; revert hf; decide
  · refine ⟨h', nI 0, fun d => ?_, o1, fun h0 => ?_, fun _ => rfl⟩
    · simp only [e304_0, e304_1, e304_2, e304_5, e304_6, e304_8, e304_9, e304_12, e304_15, e304_16, e304_19, e304_20, e304_21, e304_22_15, e304_22_13, e304_22_14, e304_25, e304_26, e304_29, e304_30, e304_31, e304_32_15, e304_32_13, e304_32_14, e304_35, e304_38, e304_41, e304_44, e304_45, e304_48, e304_49, e304_50, e304_51_15, e304_51_13, e304_51_14, e304_54, e304_55, e304_56, e304_59, e304_62, e304_63, e304_66, e304_67, e304_68, e304_71, ↓reduceIte, Nat.reduceAdd, Nat.reduceLeDiff, Nat.reduceLT, Nat.reduceEqDiff, not_false_eq_true, false_or, true_or, or_true, or_false, n0_e, n1_ne, n1_11, bI_z, bI_1, bI_fo, va_rf_some, aBk_1, aBk_0, nI_add, nI_mul, hk_si, hp_si, hl_si, hk_sp, hk_sl, hk_cp, hp_cp, hk2, hz, hz2, hk, hc, o304_51 sc, e1, kq, hf]
    · unfold lwZ
      revert r1
      cases ev1 v e with
      | none => intro _; rfl
      | some x => rintro ⟨-, r1⟩; rw [r1, h0] at hf; exact absurd rfl hf
theorem x_lawGo {l q : Nat} {v : Nat → Int32} {L : aLw} : ∀ (m k : Nat) (h : aH), k + m = L.1.length → XL h l L → AQ h q v →
    ∃ h' y, (∀ d, (run (d + 401) 304 7 [.ref l, .ref q, .int (nI k), aU] [] h) = some (.returned (some (.int y)), h')) ∧ On (NP q) h h' ∧ (hi_ h q 65 = nI 0 → y = lwY v (L.1.drop k) L.2) ∧ (hi_ h q 65 = nI 1 → y = nI 0) := by
  intro m
  induction m with
  | zero =>
    intro k h hkm hL hA
    have hk : k = L.1.length := hkm
    obtain ⟨h1, h2, h3, h4, x, y, z, h5, h6, h7, h8, h9, h10, h11, h12, h13, h14, c, h15, h16⟩ := hL
    rw [← hk] at h4 h15
    obtain ⟨h', y', e1, o1, r1, r2⟩ := x_lawEnd h1 h2 h7 h13 (show k < 5 by omega) h15 h16 hA
    refine ⟨h', y', fun d => ?_, o1, ?_, r2⟩
    · refine (e304_7).trans ?_
      simp only [e304_0, e304_1, e304_2, e304_5, e304_6, e304_8, e304_9, e304_12, e304_15, e304_16, e304_19, e304_20, e304_21, e304_22_15, e304_22_13, e304_22_14, e304_25, e304_26, e304_29, e304_30, e304_31, e304_32_15, e304_32_13, e304_32_14, e304_35, e304_38, e304_41, e304_45, e304_48, e304_49, e304_50, e304_51_15, e304_51_13, e304_51_14, e304_54, e304_55, e304_56, e304_59, e304_62, e304_63, e304_66, e304_67, e304_68, e304_71, ↓reduceIte, Nat.reduceAdd, Nat.reduceLeDiff, Nat.reduceLT, Nat.reduceEqDiff, not_false_eq_true, false_or, true_or, or_true, or_false, n0_e, n1_ne, n1_11, bI_z, bI_1, bI_fo, va_rf_some, aBk_1, aBk_0, nI_add, nI_mul, hk_si, hp_si, hl_si, hk_sp, hk_sl, hk_cp, hp_cp, h2, h4, Int32.le_refl]
      exact e1 d
    · intro h0
      rw [r1 h0, hk, List.drop_length]
      rfl
  | succ m ih =>
    intro k h hkm hL hA
    have hkl : k < L.1.length := by omega
    obtain ⟨h1, h2, h3, h4, x, y, z, h5, h6, h7, h8, h9, h10, h11, h12, h13, h14, -⟩ := id hL
    obtain ⟨xa', xb, xc, p1, p2, p3, s1, s2, s3⟩ := h14 k hkl
    have hS : ∀ z f, NP q z f → ¬ xa z := fun z f w => by
      obtain ⟨w1, -⟩ := w
      subst w1
      exact hA.2.1
    obtain ⟨ha, ya, ea, oa, ra⟩ := x_of 400 xa' _ h s1 hA
    have hAa := hA.on oa
    obtain ⟨hb, yb, eb, ob, rb⟩ := x_of 400 xb _ ha (s2.on oa hS) hAa
    have hAb := hAa.on ob
    have oab := oa.trans ob
    have hLb := hL.on oab hS
    have ea : ∀ d, ofR (d + 400) h xa' q = some (.returned (some (.int ya)), ha) := fun d => ea (d + 400) (by omega)
    have eb : ∀ d, ofR (d + 400) ha xb q = some (.returned (some (.int yb)), hb) := fun d => eb (d + 400) (by omega)
    have ka : hk_ ha l = (12, 0) := (oa.k _).trans h2
    have pa : hp_ ha l 138 = some y := (oa.p _ _).trans h6
    have pa2 : hk_ ha y = (111, 4) := (oa.k _).trans h12
    have pa3 : hp_ ha y k = some xb := (oa.p _ _).trans p2
    have sx := s1.k
    have sy : sK ha xb := by unfold sK; rw [oa.k]; exact s2.k
    have g1 : ¬ nI L.1.length ≤ nI k := nI_ge hkl (by omega)
    have g2 : k < 4 := by omega
    have hd : L.1.drop k = L.1[k] :: L.1.drop (k + 1) := List.drop_eq_getElem_cons hkl
    -- the flag behind the two
    have fl : (hi_ h q 65 = nI 0 → (match ev1 v (L.1[k]).1, ev1 v (L.1[k]).2.1 with
        | some x, some y => ya = x ∧ yb = y ∧ hi_ hb q 65 = nI 0
        | _, _ => hi_ hb q 65 = nI 1)) ∧ (hi_ h q 65 = nI 1 → hi_ hb q 65 = nI 1) := by
      revert ra rb
      cases ev1 v (L.1[k]).1 with
      | none =>
        cases ev1 v (L.1[k]).2.1 with
        | none => intro ra rb; exact ⟨fun _ => rb, fun _ => rb⟩
        | some y => rintro ra ⟨-, rb⟩; exact ⟨fun _ => rb.trans ra, fun _ => rb.trans ra⟩
      | some x =>
        cases ev1 v (L.1[k]).2.1 with
        | none => rintro ⟨-, -⟩ rb; exact ⟨fun _ => rb, fun _ => rb⟩
        | some y => rintro ⟨ra1, ra2⟩ ⟨rb1, rb2⟩; exact ⟨fun h0 => ⟨ra1, rb1, (rb2.trans ra2).trans h0⟩, fun h1 => (rb2.trans ra2).trans h1⟩
    by_cases q : yb ≤ ya
    · have q' : ¬ ya < yb := Int32.not_lt.mpr q
      obtain ⟨hc, yc, ec, oc, r1, r2⟩ := ih (k + 1) hb (by omega) hLb hAb
      refine ⟨hc, yc, fun d => ?_, oab.trans oc, fun h0 => ?_, fun h1 => r2 (fl.2 h1)⟩
      · refine Eq.trans ?_ (ec d)
        refine (e304_7).trans ?_
        simp only [e304_0, e304_1, e304_2, e304_5, e304_6, e304_8, e304_9, e304_12, e304_15, e304_16, e304_19, e304_20, e304_21, e304_22_15, e304_22_13, e304_22_14, e304_25, e304_26, e304_29, e304_30, e304_31, e304_32_15, e304_32_13, e304_32_14, e304_35, e304_38, e304_41, e304_45, e304_48, e304_49, e304_50, e304_51_15, e304_51_13, e304_51_14, e304_54, e304_55, e304_56, e304_59, e304_62, e304_63, e304_66, e304_67, e304_68, e304_71, ↓reduceIte, Nat.reduceAdd, Nat.reduceLeDiff, Nat.reduceLT, Nat.reduceEqDiff, not_false_eq_true, false_or, true_or, or_true, or_false, n0_e, n1_ne, n1_11, bI_z, bI_1, bI_fo, va_rf_some, aBk_1, aBk_0, nI_add, nI_mul, hk_si, hp_si, hl_si, hk_sp, hk_sl, hk_cp, hp_cp, h2, h4, g1, h5, h11, g2, p1, o304_22 sx, ea, ka, pa, pa2, pa3, o304_32 sy, eb, q']
      · have f0 := fl.1 h0
        rw [hd]
        unfold lwY
        rw [show L.1[k] = ((L.1[k]).1, (L.1[k]).2.1, (L.1[k]).2.2) from rfl, tlO]
        revert f0
        cases ev1 v (L.1[k]).1 with
        | none => intro f0; exact r2 f0
        | some x =>
          cases ev1 v (L.1[k]).2.1 with
          | none => intro f0; exact r2 f0
          | some y =>
            rintro ⟨f1, f2, f3⟩
            subst f1; subst f2
            dsimp only
            rw [if_pos q]
            exact r1 f3
    · have q' : ya < yb := Int32.not_le.mp q
      obtain ⟨hc, yc, ec, oc, r1, r2⟩ := x_lawEnd (h := hb) (l := l) (z := z) (c := xc) (k := k) h1 ((oab.k _).trans h2) ((oab.p _ _).trans h7) ((oab.k _).trans h13) (by omega) ((oab.p _ _).trans p3) (s3.on oab hS) hAb
      refine ⟨hc, yc, fun d => ?_, oab.trans oc, fun h0 => ?_, fun h1 => r2 (fl.2 h1)⟩
      · refine Eq.trans ?_ (ec d)
        refine (e304_7).trans ?_
        simp only [e304_0, e304_1, e304_2, e304_5, e304_6, e304_8, e304_9, e304_12, e304_15, e304_16, e304_19, e304_20, e304_21, e304_22_15, e304_22_13, e304_22_14, e304_25, e304_26, e304_29, e304_30, e304_31, e304_32_15, e304_32_13, e304_32_14, e304_35, e304_38, e304_41, e304_45, e304_48, e304_49, e304_50, e304_51_15, e304_51_13, e304_51_14, e304_54, e304_55, e304_56, e304_59, e304_62, e304_63, e304_66, e304_67, e304_68, e304_71, ↓reduceIte, Nat.reduceAdd, Nat.reduceLeDiff, Nat.reduceLT, Nat.reduceEqDiff, not_false_eq_true, false_or, true_or, or_true, or_false, n0_e, n1_ne, n1_11, bI_z, bI_1, bI_fo, va_rf_some, aBk_1, aBk_0, nI_add, nI_mul, hk_si, hp_si, hl_si, hk_sp, hk_sl, hk_cp, hp_cp, h2, h4, g1, h5, h11, g2, p1, o304_22 sx, ea, ka, pa, pa2, pa3, o304_32 sy, eb, q']
      · have f0 := fl.1 h0
        rw [hd]
        unfold lwY
        rw [show L.1[k] = ((L.1[k]).1, (L.1[k]).2.1, (L.1[k]).2.2) from rfl, tlO]
        revert f0
        cases ev1 v (L.1[k]).1 with
        | none => intro f0; exact r2 f0
        | some x =>
          cases ev1 v (L.1[k]).2.1 with
          | none => intro f0; exact r2 f0
          | some y =>
            rintro ⟨f1, f2, f3⟩
            subst f1; subst f2
            dsimp only
            rw [if_neg q]
            exact r1 f3
theorem x_lawOf {l q : Nat} {v : Nat → Int32} {L : aLw} (hL : XL h l L) (hA : AQ h q v) : ∃ h', (∀ d, (run (d + 401) 304 0 [.ref l, .ref q, aU, aU] [] h) = some (.returned (some (.int (lwY v L.1 L.2))), h')) ∧ On (NP q) h h' := by
  have hS : ∀ z f, NP q z f → ¬ xa z := fun z f w => by
    obtain ⟨w1, -⟩ := w
    subst w1
    exact hA.2.1
  have o1 : On (NP q) h (si_ h q 65 (nI 0)) := On.si ⟨rfl, rfl⟩
  obtain ⟨h', y, e, o, r1, -⟩ := x_lawGo (L.1.length) 0 (si_ h q 65 (nI 0)) (Nat.zero_add _) (hL.on o1 hS) (hA.on o1)
  have := r1 (hi_same)
  rw [List.drop_zero] at this
  rw [this] at e
  have kq : hk_ h q = (7, 0) := hA.2.2.1
  have kg := hA.1
  refine ⟨h', fun d => ?_, o1.trans o⟩
  simp only [e304_0, e304_1, e304_2, e304_5, e304_6, e304_8, e304_9, e304_12, e304_15, e304_16, e304_19, e304_20, e304_21, e304_22_15, e304_22_13, e304_22_14, e304_25, e304_26, e304_29, e304_30, e304_31, e304_32_15, e304_32_13, e304_32_14, e304_35, e304_38, e304_41, e304_44, e304_45, e304_48, e304_49, e304_50, e304_51_15, e304_51_13, e304_51_14, e304_54, e304_55, e304_56, e304_59, e304_62, e304_63, e304_66, e304_67, e304_68, e304_71, ↓reduceIte, Nat.reduceAdd, Nat.reduceLeDiff, Nat.reduceLT, Nat.reduceEqDiff, not_false_eq_true, false_or, true_or, or_true, or_false, n0_e, n1_ne, n1_11, bI_z, bI_1, bI_fo, va_rf_some, aBk_1, aBk_0, nI_add, nI_mul, hk_si, hp_si, hl_si, hk_sp, hk_sl, hk_cp, hp_cp, kq, kg, n0_01]
  exact e d
theorem min99 (v : Nat → Int32) (L : aLw) : min_ (nI 99) (lwY v L.1 L.2) = tl_ L v := by
  unfold lwY tl_
  cases tlO v L.1 L.2 with
  | none => decide
  | some x =>
    show min_ (nI 99) (max_ (nI 0) x) = wi_ x (nI 0) (nI 99)
    unfold min_ max_ wi_
    by_cases q1 : x < nI 0
    · have : ¬ nI 0 < x := by rw [Int32.lt_iff_toInt_lt] at q1 ⊢; omega
      rw [if_neg this, if_pos q1]
      decide
    · rw [if_neg q1]
      by_cases q2 : nI 0 < x
      · rw [if_pos q2]
        by_cases q3 : x < nI 99
        · rw [if_pos q3, if_neg (by rw [Int32.lt_iff_toInt_lt] at q3 ⊢; omega)]
        · rw [if_neg q3]
          by_cases q4 : nI 99 < x
          · rw [if_pos q4]
          · rw [if_neg q4]
            apply Int32.toInt_inj.mp
            rw [Int32.lt_iff_toInt_lt] at q3 q4
            omega
      · have e : x = nI 0 := by
          apply Int32.toInt_inj.mp
          rw [Int32.lt_iff_toInt_lt] at q1 q2
          omega
        subst e
        decide
/-! houses -/
theorem g64_0 (ha : 78 ≤ a ∧ a + 7 < 458) : 64 ≤ a := by omega
theorem g64_1 (ha : 78 ≤ a ∧ a + 7 < 458) : 64 ≤ a + 1 := by omega
theorem g64_2 (ha : 78 ≤ a ∧ a + 7 < 458) : 64 ≤ a + 2 := by omega
theorem g64_3 (ha : 78 ≤ a ∧ a + 7 < 458) : 64 ≤ a + 3 := by omega
theorem g64_4 (ha : 78 ≤ a ∧ a + 7 < 458) : 64 ≤ a + 4 := by omega
theorem g64_5 (ha : 78 ≤ a ∧ a + 7 < 458) : 64 ≤ a + 5 := by omega
theorem g64_6 (ha : 78 ≤ a ∧ a + 7 < 458) : 64 ≤ a + 6 := by omega
theorem g64_7 (ha : 78 ≤ a ∧ a + 7 < 458) : 64 ≤ a + 7 := by omega
/-- the dead, the sold, as bits -/
def dB_ (w : Nat → Int32) : Nat := orN 7 (fun g => !decide (w (14 + g) = 0))
def oB_ (w : Nat → Int32) : Nat := orN 4 (fun s => !decide (w (25 + s) = 0))
/-- a house at a holds the row w -/
def XH (h : aH) (a : Nat) (w : Nat → Int32) (sd : Int32) : Prop := HS h a ∧ (∀ g, g < 7 → hi_ h (a + 1) g = w g) ∧ (∀ g, g < 7 → hi_ h (a + 2) g = w (7 + g)) ∧ (∀ s, s < 4 → hi_ h (a + 3) s = w (21 + s)) ∧ hi_ h a 56 = nI (dB_ w) ∧ hi_ h a 57 = nI (oB_ w) ∧ hi_ h a 58 = w 29 ∧ hi_ h a 59 = w 30 ∧ hi_ h a 60 = sd
theorem XH.s (hX : XH h a w sd) : HS h a := hX.1
theorem XH.in_ (hX : XH h a w sd) {g : Nat} (hg : g < 7) : hi_ h (a + 1) g = w g := hX.2.1 g hg
theorem XH.re (hX : XH h a w sd) {g : Nat} (hg : g < 7) : hi_ h (a + 2) g = w (7 + g) := hX.2.2.1 g hg
theorem XH.wo (hX : XH h a w sd) {s : Nat} (hs : s < 4) : hi_ h (a + 3) s = w (21 + s) := hX.2.2.2.1 s hs
theorem XH.de (hX : XH h a w sd) : hi_ h a 56 = nI (dB_ w) := hX.2.2.2.2.1
theorem XH.so (hX : XH h a w sd) : hi_ h a 57 = nI (oB_ w) := hX.2.2.2.2.2.1
theorem XH.we (hX : XH h a w sd) : hi_ h a 58 = w 29 := hX.2.2.2.2.2.2.1
theorem XH.mo (hX : XH h a w sd) : hi_ h a 59 = w 30 := hX.2.2.2.2.2.2.2.1
theorem XH.se (hX : XH h a w sd) : hi_ h a 60 = sd := hX.2.2.2.2.2.2.2.2
theorem HS.on {S : Nat → Nat → Prop} (hH : HS h a) (o : On S h h') : HS h' a := by
  unfold HS at hH ⊢
  simp only [o.k, o.p]
  exact hH
/-- what asking in a house writes -/
def HE (a x f : Nat) : Prop := x = a + 7 ∨ (x = a + 6 ∧ f = 65)
theorem HE.n {x f : Nat} (ha : 78 ≤ a ∧ a + 7 < 458) (q : HE a x f) : ¬ xa x := by
  unfold HE at q; unfold xa; omega
theorem XH.onE (hX : XH h a w sd) (o : On (HE a) h h') : XH h' a w sd := by
  have e : ∀ {x f : Nat}, x ≠ a + 7 → x ≠ a + 6 → hi_ h' x f = hi_ h x f := fun h1 h2 => o.i (fun z => by unfold HE at z; omega)
  exact ⟨hX.s.on o, fun g hg => (e (by omega) (by omega)).trans (hX.in_ hg), fun g hg => (e (by omega) (by omega)).trans (hX.re hg), fun s hs => (e (by omega) (by omega)).trans (hX.wo hs), (e (by omega) (by omega)).trans hX.de, (e (by omega) (by omega)).trans hX.so, (e (by omega) (by omega)).trans hX.we, (e (by omega) (by omega)).trans hX.mo, (e (by omega) (by omega)).trans hX.se⟩
/-- a row as it may stand -/
def WV (T : aTx) (w : Nat → Int32) : Prop := (∀ g, g < 7 → w g = -2 ∨ ∃ s, s < ns_ T ∧ w g = nI s) ∧ (∀ g, ng_ T ≤ g → g < 7 → w g = -2 ∧ w (14 + g) = 0) ∧ (∀ g, g < 7 → w (14 + g) = 0 ∨ w (14 + g) = nI 1) ∧ (∀ g, g < 7 → w (14 + g) = nI 1 → w g = -2) ∧
  (∀ s, s < 4 → w (25 + s) = 0 ∨ w (25 + s) = nI 1) ∧ (∀ s, ns_ T ≤ s → s < 4 → w (25 + s) = 0) ∧ (∀ g, g < 7 → 0 ≤ (w (7 + g)).toInt ∧ (w (7 + g)).toInt ≤ 999) ∧ (∀ s, s < 4 → 0 ≤ (w (21 + s)).toInt ∧ (w (21 + s)).toInt ≤ 99) ∧
  (∀ g s, g < ng_ T → s < ns_ T → w g = nI s → ti_ T g ≤ lo_ T s) ∧ (∀ g o, g < ng_ T → o < ng_ T → w g = w o → 0 ≤ w g → cl_ T g o = false)
theorem XT.v (hT : XT h T tx sa ga la qs qg) : TV T := hT.1
theorem XT.ktx (hT : XT h T tx sa ga la qs qg) : hk_ h tx = (4, 0) := hT.2.1.2.1
theorem XT.p44 (hT : XT h T tx sa ga la qs qg) : hp_ h tx 44 = some sa := hT.2.1.2.2.1
theorem XT.p45 (hT : XT h T tx sa ga la qs qg) : hp_ h tx 45 = some ga := hT.2.1.2.2.2.1
theorem XT.p46 (hT : XT h T tx sa ga la qs qg) : hp_ h tx 46 = some la := hT.2.1.2.2.2.2
theorem XT.S (hT : XT h T tx sa ga la qs qg) : AL h sa (ns_ T) 16 qs := hT.2.2.1
theorem XT.G (hT : XT h T tx sa ga la qs qg) : AL h ga (ng_ T) 18 qg := hT.2.2.2.1
theorem XT.ksa (hT : XT h T tx sa ga la qs qg) : hk_ h sa = (5, 0) := hT.S.2.1
theorem XT.kga (hT : XT h T tx sa ga la qs qg) : hk_ h ga = (5, 0) := hT.G.2.1
theorem XT.kqs (hT : XT h T tx sa ga la qs qg) {s : Nat} (hs : s < ns_ T) : hk_ h (qs s) = (16, 0) := (hT.S.2.2.2.2.2 s hs).2
theorem XT.kqg (hT : XT h T tx sa ga la qs qg) {g : Nat} (hg : g < ng_ T) : hk_ h (qg g) = (18, 0) := (hT.G.2.2.2.2.2 g hg).2
theorem XT.lo (hT : XT h T tx sa ga la qs qg) {s : Nat} (hs : s < ns_ T) : hi_ h (qs s) 147 = lo_ T s := (hT.2.2.2.2.1 s hs).1
theorem XT.wo (hT : XT h T tx sa ga la qs qg) {s : Nat} (hs : s < ns_ T) : hi_ h (qs s) 148 = wo_ T s := (hT.2.2.2.2.1 s hs).2
theorem XT.hr (hT : XT h T tx sa ga la qs qg) {g : Nat} (hg : g < ng_ T) : hi_ h (qg g) 153 = hr_ T g := (hT.2.2.2.2.2.1 g hg).1
theorem XT.hs (hT : XT h T tx sa ga la qs qg) {g : Nat} (hg : g < ng_ T) : hi_ h (qg g) 154 = hs_ T g := (hT.2.2.2.2.2.1 g hg).2.1
theorem XT.fe (hT : XT h T tx sa ga la qs qg) {g : Nat} (hg : g < ng_ T) : hi_ h (qg g) 155 = fe_ T g := (hT.2.2.2.2.2.1 g hg).2.2.1
theorem XT.fo (hT : XT h T tx sa ga la qs qg) {g : Nat} (hg : g < ng_ T) : hi_ h (qg g) 156 = fo_ T g := (hT.2.2.2.2.2.1 g hg).2.2.2
theorem XT.de (hT : XT h T tx sa ga la qs qg) : hi_ h tx 48 = de_ T := hT.2.2.2.2.2.2.1.1
theorem XT.se (hT : XT h T tx sa ga la qs qg) : hi_ h tx 49 = se_ T := hT.2.2.2.2.2.2.1.2
theorem XT.kla (hT : XT h T tx sa ga la qs qg) : hk_ h la = (112, 4) := hT.2.2.2.2.2.2.2.2.1
theorem XT.lw (hT : XT h T tx sa ga la qs qg) {k : Nat} (hk : k < 4) : match la_ T k with
    | none => hp_ h la k = none
    | some L => ∃ l, hp_ h la k = some l ∧ XL h l L := hT.2.2.2.2.2.2.2.2.2 k hk
theorem XT.ng7 (hT : XT h T tx sa ga la qs qg) : ng_ T ≤ 7 := hT.v.2.1
theorem XT.ns4 (hT : XT h T tx sa ga la qs qg) : ns_ T ≤ 4 := hT.v.1
theorem XT.onE (hT : XT h T tx sa ga la qs qg) (ha : 78 ≤ a ∧ a + 7 < 458) (o : On (HE a) h h') : XT h' T tx sa ga la qs qg := hT.on o (fun _ _ q => q.n ha)
/-- the guests of a sunday -/
theorem gB7 (hV : TV T) (hW : WV T w) {s : Int32} (hs : s ≠ -2) : orN 7 (fun g => decide (w g = s)) = gB_ T w s := by
  apply Nat.eq_of_testBit_eq
  intro i
  unfold gB_
  rw [orN_bit, orN_bit]
  have h7 := hV.2.1
  by_cases q : i < ng_ T
  · rw [decide_eq_true q, decide_eq_true (show i < 7 by omega)]
  · rw [decide_eq_false q]
    by_cases q2 : i < 7
    · have hd : decide ((-2 : Int32) = s) = false := decide_eq_false (fun e => hs e.symm)
      rw [(hW.2.1 i (by omega) q2).1, hd, Bool.and_false, Bool.false_and]
    · rw [decide_eq_false q2]
theorem x_hguests (ha : 78 ≤ a ∧ a + 7 < 458) (hX : XH h a w sd) {s : Int32} : (run (d) 124 0 [.ref a, .int s, aU, aU] [] h) = some (.returned (some (.int (nI (orN 7 (fun g => decide (w g = s)))))), h) := by
  have hH := hX.s
  simp only [e124_0, e124_1, e124_2, e124_3, e124_5, e124_7, e124_10, e124_11, e124_12, e124_15, e124_16, e124_17, e124_18, e124_21, e124_22, e124_23, e124_24, e124_27, e124_28, e124_29, e124_30, e124_33, e124_36, e124_37, ↓reduceIte, Nat.reduceAdd, Nat.reduceLeDiff, Nat.reduceLT, Nat.reduceEqDiff, not_false_eq_true, false_or, true_or, or_true, or_false, n0_e, n1_ne, n1_11, bI_z, bI_1, bI_fo, va_rf_some, aBk_1, aBk_0, nI_add, nI_mul, hk_si, hp_si, hl_si, hk_sp, hk_sl, hk_cp, hp_cp]
  refine (run_for (F := fun j b => (run (d) 124 4 [.ref a, .int s, .int (nI b), .int (nI j)] [] h)) (f := fun g b => bif decide (w g = s) then b ||| 2 ^ g else b) (a := 0) (n := 7) (fun j hj => ?_)).trans ?_
  · have h1 : ¬ nI 7 ≤ nI j := nI_ge hj (by decide)
    refine (e124_4).trans ?_
    by_cases q : w j = s
    · simp only [e124_0, e124_1, e124_2, e124_3, e124_5, e124_7, e124_10, e124_11, e124_12, e124_15, e124_16, e124_17, e124_18, e124_21, e124_22, e124_23, e124_24, e124_27, e124_28, e124_29, e124_30, e124_33, e124_36, e124_37, hs_k hH, hs_p53 hH, hs_k1 hH, ↓reduceIte, Nat.reduceAdd, Nat.reduceLeDiff, Nat.reduceLT, Nat.reduceEqDiff, not_false_eq_true, false_or, true_or, or_true, or_false, n0_e, n1_ne, n1_11, bI_z, bI_1, bI_fo, va_rf_some, aBk_1, aBk_0, nI_add, nI_mul, hk_si, hp_si, hl_si, hk_sp, hk_sl, hk_cp, hp_cp, h1, hj, hX.in_ hj, q, shl_1 j (show j < 32 by omega), nI_or, decide_true, cond_true]
    · simp only [e124_0, e124_1, e124_2, e124_3, e124_5, e124_7, e124_10, e124_11, e124_12, e124_15, e124_16, e124_17, e124_18, e124_21, e124_22, e124_23, e124_24, e124_27, e124_28, e124_29, e124_30, e124_33, e124_36, e124_37, hs_k hH, hs_p53 hH, hs_k1 hH, ↓reduceIte, Nat.reduceAdd, Nat.reduceLeDiff, Nat.reduceLT, Nat.reduceEqDiff, not_false_eq_true, false_or, true_or, or_true, or_false, n0_e, n1_ne, n1_11, bI_z, bI_1, bI_fo, va_rf_some, aBk_1, aBk_0, nI_add, nI_mul, hk_si, hp_si, hl_si, hk_sp, hk_sl, hk_cp, hp_cp, h1, hj, hX.in_ hj, q, nI_or, Nat.or_zero, decide_false, cond_false]
  · refine (e124_4).trans ?_
    simp only [e124_0, e124_1, e124_2, e124_3, e124_5, e124_7, e124_10, e124_11, e124_12, e124_15, e124_16, e124_17, e124_18, e124_21, e124_22, e124_23, e124_24, e124_27, e124_28, e124_29, e124_30, e124_33, e124_36, e124_37, ↓reduceIte, Nat.reduceAdd, Nat.reduceLeDiff, Nat.reduceLT, Nat.reduceEqDiff, not_false_eq_true, false_or, true_or, or_true, or_false, n0_e, n1_ne, n1_11, bI_z, bI_1, bI_fo, va_rf_some, aBk_1, aBk_0, nI_add, nI_mul, hk_si, hp_si, hl_si, hk_sp, hk_sl, hk_cp, hp_cp, Int32.le_refl]
    rfl
theorem bitI {B : Nat} {p : Nat → Bool} {n j : Nat} (hB : B = orN n p) (hn : n ≤ 31) (hj : j < n) : (shr_ (nI B) (nI j) &&& nI 1 = nI 1) = (p j = true) := by
  have : B < 2 ^ 31 := by rw [hB]; exact Nat.lt_of_lt_of_le (orN_lt n p) (Nat.pow_le_pow_right (by decide) hn)
  rw [nI_shr this (by omega), bit_and1, hB, orN_bit, decide_eq_true hj, Bool.true_and]
theorem x_isDead (ha : 78 ≤ a ∧ a + 7 < 458) (hX : XH h a w sd) {g : Nat} (hg : g < 7) : (run (d) 129 0 [.ref a, .int (nI g)] [] h) = some (.returned (some (.int (bI (!decide (w (14 + g) = 0))))), h) := by
  have hH := hX.s
  have e := bitI (p := fun g => !decide (w (14 + g) = 0)) (B := dB_ w) (n := 7) rfl (by decide) hg
  cases q : (!decide (w (14 + g) = 0)) with
  | true => simp only [e129_0, e129_1, e129_4, e129_5, e129_6, e129_7, e129_8, e129_9, e129_12, e129_13, e129_16, e129_17, hs_k hH, ↓reduceIte, Nat.reduceAdd, Nat.reduceLeDiff, Nat.reduceLT, Nat.reduceEqDiff, not_false_eq_true, false_or, true_or, or_true, or_false, n0_e, n1_ne, n1_11, bI_z, bI_1, bI_fo, va_rf_some, aBk_1, aBk_0, nI_add, nI_mul, hk_si, hp_si, hl_si, hk_sp, hk_sl, hk_cp, hp_cp, hX.de, e, q, n1_01]; rfl
  | false => simp only [e129_0, e129_1, e129_4, e129_5, e129_6, e129_7, e129_8, e129_9, e129_12, e129_13, e129_16, e129_17, hs_k hH, ↓reduceIte, Nat.reduceAdd, Nat.reduceLeDiff, Nat.reduceLT, Nat.reduceEqDiff, not_false_eq_true, false_or, true_or, or_true, or_false, n0_e, n1_ne, n1_11, bI_z, bI_1, bI_fo, va_rf_some, aBk_1, aBk_0, nI_add, nI_mul, hk_si, hp_si, hl_si, hk_sp, hk_sl, hk_cp, hp_cp, hX.de, e, q, n0_01, reduceCtorEq]; rfl
theorem x_isSold (ha : 78 ≤ a ∧ a + 7 < 458) (hX : XH h a w sd) {s : Nat} (hs : s < 4) : (run (d) 123 0 [.ref a, .int (nI s)] [] h) = some (.returned (some (.int (bI (!decide (w (25 + s) = 0))))), h) := by
  have hH := hX.s
  have e := bitI (p := fun s => !decide (w (25 + s) = 0)) (B := oB_ w) (n := 4) rfl (by decide) hs
  cases q : (!decide (w (25 + s) = 0)) with
  | true => simp only [e123_0, e123_1, e123_4, e123_5, e123_6, e123_7, e123_8, e123_9, e123_12, e123_13, e123_16, e123_17, hs_k hH, ↓reduceIte, Nat.reduceAdd, Nat.reduceLeDiff, Nat.reduceLT, Nat.reduceEqDiff, not_false_eq_true, false_or, true_or, or_true, or_false, n0_e, n1_ne, n1_11, bI_z, bI_1, bI_fo, va_rf_some, aBk_1, aBk_0, nI_add, nI_mul, hk_si, hp_si, hl_si, hk_sp, hk_sl, hk_cp, hp_cp, hX.so, e, q, n1_01]; rfl
  | false => simp only [e123_0, e123_1, e123_4, e123_5, e123_6, e123_7, e123_8, e123_9, e123_12, e123_13, e123_16, e123_17, hs_k hH, ↓reduceIte, Nat.reduceAdd, Nat.reduceLeDiff, Nat.reduceLT, Nat.reduceEqDiff, not_false_eq_true, false_or, true_or, or_true, or_false, n0_e, n1_ne, n1_11, bI_z, bI_1, bI_fo, va_rf_some, aBk_1, aBk_0, nI_add, nI_mul, hk_si, hp_si, hl_si, hk_sp, hk_sl, hk_cp, hp_cp, hX.so, e, q, n0_01, reduceCtorEq]; rfl
end X2
