set_option maxRecDepth 100000
/-! X: a house's week -/
section X4
variable {d : Nat} {h h' : aH} {T : aTx} {w r : Nat → Int32} {sd : Int32} {still : Bool} {a b tx sa ga la : Nat} {qs qg : Nat → Nat}
/-- a house's cells -/
def HA (a x _f : Nat) : Prop := a ≤ x ∧ x ≤ a + 7
theorem HE.A {x f : Nat} (q : HE a x f) : HA a x f := by unfold HE at q; unfold HA; omega
theorem HA.n {x f : Nat} (ha : 78 ≤ a ∧ a + 7 < 458) (q : HA a x f) : ¬ xa x := by unfold HA at q; unfold xa; omega
theorem XT.onA (hT : XT h T tx sa ga la qs qg) (ha : 78 ≤ a ∧ a + 7 < 458) (o : On (HA a) h h') : XT h' T tx sa ga la qs qg := hT.on o (fun _ _ q => q.n ha)
theorem XH.off {S : Nat → Nat → Prop} (hX : XH h b w sd) (o : On S h h') (hS : ∀ x f, S x f → x < b ∨ b + 3 < x) : XH h' b w sd := by
  have e : ∀ {x f : Nat}, b ≤ x → x ≤ b + 3 → hi_ h' x f = hi_ h x f := fun h1 h2 => o.i (fun z => by have := hS _ _ z; omega)
  exact ⟨hX.s.on o, fun g hg => (e (by omega) (by omega)).trans (hX.in_ hg), fun g hg => (e (by omega) (by omega)).trans (hX.re hg), fun s hs => (e (by omega) (by omega)).trans (hX.wo hs), (e (by omega) (by omega)).trans hX.de, (e (by omega) (by omega)).trans hX.so, (e (by omega) (by omega)).trans hX.we, (e (by omega) (by omega)).trans hX.mo, (e (by omega) (by omega)).trans hX.se⟩
theorem dB_congr {r r' : Nat → Int32} (he : ∀ g, g < 7 → r (14 + g) = r' (14 + g)) : dB_ r = dB_ r' := orN_congr (fun g hg => by rw [he g hg])
theorem oB_congr {r r' : Nat → Int32} (he : ∀ s, s < 4 → r (25 + s) = r' (25 + s)) : oB_ r = oB_ r' := orN_congr (fun s hs => by rw [he s hs])
theorem XH.congr {r' : Nat → Int32} (hX : XH h a r sd) (he : ∀ k, k < 31 → r k = r' k) : XH h a r' sd :=
  ⟨hX.s, fun g hg => (hX.in_ hg).trans (he _ (by omega)), fun g hg => (hX.re hg).trans (he _ (by omega)), fun s hs => (hX.wo hs).trans (he _ (by omega)), hX.de.trans (by rw [dB_congr (fun g hg => he _ (by omega))]), hX.so.trans (by rw [oB_congr (fun s hs => he _ (by omega))]), hX.we.trans (he _ (by omega)), hX.mo.trans (he _ (by omega)), hX.se⟩
theorem up_ne {i k : Nat} {v : Int32} (hn : k ≠ i) : up_ r i v k = r k := if_neg hn
theorem up_eq {i : Nat} {v : Int32} : up_ r i v i = v := if_pos rfl
theorem XH.upI (hX : XH h a r sd) {g : Nat} {v : Int32} (hg : g < 7) : XH (si_ h (a + 1) g v) a (up_ r g v) sd := by
  refine ⟨hX.s.on (On.si (S := fun _ _ => True) trivial), fun k hk => ?_, fun k hk => ?_, fun s hs => ?_, ?_, ?_, ?_, ?_, ?_⟩
  · rw [hi_si]
    by_cases q : k = g
    · rw [if_pos ⟨rfl, q⟩, q, up_eq]
    · rw [if_neg (fun z => q z.2), up_ne q]; exact hX.in_ hk
  · rw [hi_si, if_neg (by omega), up_ne (by omega)]; exact hX.re hk
  · rw [hi_si, if_neg (by omega), up_ne (by omega)]; exact hX.wo hs
  · rw [hi_si, if_neg (by omega), hX.de, dB_congr (fun k hk => (up_ne (r := r) (i := g) (v := v) (k := 14 + k) (by omega)).symm)]
  · rw [hi_si, if_neg (by omega), hX.so, oB_congr (fun k hk => (up_ne (r := r) (i := g) (v := v) (k := 25 + k) (by omega)).symm)]
  · rw [hi_si, if_neg (by omega), up_ne (by omega)]; exact hX.we
  · rw [hi_si, if_neg (by omega), up_ne (by omega)]; exact hX.mo
  · rw [hi_si, if_neg (by omega)]; exact hX.se
theorem XH.upR (hX : XH h a r sd) {g : Nat} {v : Int32} (hg : g < 7) : XH (si_ h (a + 2) g v) a (up_ r (7 + g) v) sd := by
  refine ⟨hX.s.on (On.si (S := fun _ _ => True) trivial), fun k hk => ?_, fun k hk => ?_, fun s hs => ?_, ?_, ?_, ?_, ?_, ?_⟩
  · rw [hi_si, if_neg (by omega), up_ne (by omega)]; exact hX.in_ hk
  · rw [hi_si]
    by_cases q : k = g
    · rw [if_pos ⟨rfl, q⟩, q, up_eq]
    · rw [if_neg (fun z => q z.2), up_ne (by omega)]; exact hX.re hk
  · rw [hi_si, if_neg (by omega), up_ne (by omega)]; exact hX.wo hs
  · rw [hi_si, if_neg (by omega), hX.de, dB_congr (fun k hk => (up_ne (r := r) (i := 7 + g) (v := v) (k := 14 + k) (by omega)).symm)]
  · rw [hi_si, if_neg (by omega), hX.so, oB_congr (fun k hk => (up_ne (r := r) (i := 7 + g) (v := v) (k := 25 + k) (by omega)).symm)]
  · rw [hi_si, if_neg (by omega), up_ne (by omega)]; exact hX.we
  · rw [hi_si, if_neg (by omega), up_ne (by omega)]; exact hX.mo
  · rw [hi_si, if_neg (by omega)]; exact hX.se
theorem XH.upW (hX : XH h a r sd) {s : Nat} {v : Int32} (hs : s < 4) : XH (si_ h (a + 3) s v) a (up_ r (21 + s) v) sd := by
  refine ⟨hX.s.on (On.si (S := fun _ _ => True) trivial), fun k hk => ?_, fun k hk => ?_, fun k hk => ?_, ?_, ?_, ?_, ?_, ?_⟩
  · rw [hi_si, if_neg (by omega), up_ne (by omega)]; exact hX.in_ hk
  · rw [hi_si, if_neg (by omega), up_ne (by omega)]; exact hX.re hk
  · rw [hi_si]
    by_cases q : k = s
    · rw [if_pos ⟨rfl, q⟩, q, up_eq]
    · rw [if_neg (fun z => q z.2), up_ne (by omega)]; exact hX.wo hk
  · rw [hi_si, if_neg (by omega), hX.de, dB_congr (fun k hk => (up_ne (r := r) (i := 21 + s) (v := v) (k := 14 + k) (by omega)).symm)]
  · rw [hi_si, if_neg (by omega), hX.so, oB_congr (fun k hk => (up_ne (r := r) (i := 21 + s) (v := v) (k := 25 + k) (by omega)).symm)]
  · rw [hi_si, if_neg (by omega), up_ne (by omega)]; exact hX.we
  · rw [hi_si, if_neg (by omega), up_ne (by omega)]; exact hX.mo
  · rw [hi_si, if_neg (by omega)]; exact hX.se
theorem XH.upM (hX : XH h a r sd) {v : Int32} : XH (si_ h a 59 v) a (up_ r 30 v) sd := by
  refine ⟨hX.s.on (On.si (S := fun _ _ => True) trivial), fun k hk => ?_, fun k hk => ?_, fun k hk => ?_, ?_, ?_, ?_, ?_, ?_⟩
  · rw [hi_si, if_neg (by omega), up_ne (by omega)]; exact hX.in_ hk
  · rw [hi_si, if_neg (by omega), up_ne (by omega)]; exact hX.re hk
  · rw [hi_si, if_neg (by omega), up_ne (by omega)]; exact hX.wo hk
  · rw [hi_si, if_neg (by omega), hX.de, dB_congr (fun k hk => (up_ne (r := r) (i := 30) (v := v) (k := 14 + k) (by omega)).symm)]
  · rw [hi_si, if_neg (by omega), hX.so, oB_congr (fun k hk => (up_ne (r := r) (i := 30) (v := v) (k := 25 + k) (by omega)).symm)]
  · rw [hi_si, if_neg (by omega), up_ne (by omega)]; exact hX.we
  · rw [hi_si, if_pos ⟨rfl, rfl⟩, up_eq]
  · rw [hi_si, if_neg (by omega)]; exact hX.se
theorem XH.upK (hX : XH h a r sd) {v : Int32} : XH (si_ h a 58 v) a (up_ r 29 v) sd := by
  refine ⟨hX.s.on (On.si (S := fun _ _ => True) trivial), fun k hk => ?_, fun k hk => ?_, fun k hk => ?_, ?_, ?_, ?_, ?_, ?_⟩
  · rw [hi_si, if_neg (by omega), up_ne (by omega)]; exact hX.in_ hk
  · rw [hi_si, if_neg (by omega), up_ne (by omega)]; exact hX.re hk
  · rw [hi_si, if_neg (by omega), up_ne (by omega)]; exact hX.wo hk
  · rw [hi_si, if_neg (by omega), hX.de, dB_congr (fun k hk => (up_ne (r := r) (i := 29) (v := v) (k := 14 + k) (by omega)).symm)]
  · rw [hi_si, if_neg (by omega), hX.so, oB_congr (fun k hk => (up_ne (r := r) (i := 29) (v := v) (k := 25 + k) (by omega)).symm)]
  · rw [hi_si, if_pos ⟨rfl, rfl⟩, up_eq]
  · rw [hi_si, if_neg (by omega), up_ne (by omega)]; exact hX.mo
  · rw [hi_si, if_neg (by omega)]; exact hX.se
/-- copies of arrays -/
theorem x_copies {x y n : Nat} (hx : hk_ h x = (100, n)) (hy : hk_ h y = (100, n)) (hn : n ≤ 1000) (h6 : 64 ≤ y) (hxy : x ≠ y) : (run (d) 137 0 [.ref x, .ref y] [] h) = some (.returned none, cp_ h x 0 y 0 n) := by
  have g1 : n ≤ 2147483647 := by omega
  simp only [e137_0, e137_1, e137_2, e137_3, e137_4, e137_5, e137_6, e137_9, ↓reduceIte, Nat.reduceAdd, Nat.reduceLeDiff, Nat.reduceLT, Nat.reduceEqDiff, false_or, or_true, or_false, n0_e, n1_ne, n1_11, bI_z, bI_1, bI_fo, va_rf_some, aBk_1, aBk_0, nI_add, nI_mul, hk_si, hp_si, hl_si, hk_sp, hk_sl, hk_cp, hp_cp, hx, hy, h6, hxy, g1, Nat.zero_add, Nat.le_refl, ne_eq, true_or, not_false_eq_true]
theorem x_takes (ha : 78 ≤ a ∧ a + 7 < 458) (hb : 78 ≤ b ∧ b + 7 < 458) (hab : a + 8 ≤ b ∨ b + 8 ≤ a) (hX : XH h b w sd) (hHa : HS h a) : ∃ h', (∀ d, (run (d + 1) 136 0 [.ref a, .ref b] [] h) = some (.returned none, h')) ∧ On (HA a) h h' ∧ XH h' a w sd := by
  have hHb := hX.s
  have hx : ∃ x, x = cp_ (cp_ (cp_ h (b + 1) 0 (a + 1) 0 7) (b + 2) 0 (a + 2) 0 7) (b + 3) 0 (a + 3) 0 4 := ⟨_, rfl⟩
  obtain ⟨x, ex⟩ := hx
  have o1 : On (HA a) h (cp_ h (b + 1) 0 (a + 1) 0 7) := On.cp (fun f _ _ => ⟨by omega, by omega⟩)
  have o2 : On (HA a) h (cp_ (cp_ h (b + 1) 0 (a + 1) 0 7) (b + 2) 0 (a + 2) 0 7) := o1.trans (On.cp (fun f _ _ => ⟨by omega, by omega⟩))
  have o3 : On (HA a) h x := by rw [ex]; exact o2.trans (On.cp (fun f _ _ => ⟨by omega, by omega⟩))
  have hHb1 := hHb.on o1
  have hHb2 := hHb.on o2
  have hHb3 := hHb.on o3
  have hHa1 := hHa.on o1
  have hHa2 := hHa.on o2
  have hHa3 := hHa.on o3
  have eb : ∀ {z f : Nat}, (z < a ∨ a + 7 < z) → hi_ x z f = hi_ h z f := fun hz => o3.i (fun q => by unfold HA at q; omega)
  have e56 : hi_ x b 56 = nI (dB_ w) := (eb (by omega)).trans hX.de
  have e57 : hi_ x b 57 = nI (oB_ w) := (eb (by omega)).trans hX.so
  have e58 : hi_ x b 58 = w 29 := (eb (by omega)).trans hX.we
  have e59 : hi_ x b 59 = w 30 := (eb (by omega)).trans hX.mo
  have e60 : hi_ x b 60 = sd := (eb (by omega)).trans hX.se
  have nba : (b = a) = False := eq_false (by omega)
  have oS : ∀ {z : aH} {f : Nat} {v : Int32}, On (HA a) z (si_ z a f v) := On.si ⟨by omega, by omega⟩
  refine ⟨si_ (si_ (si_ (si_ (si_ x a 56 (nI (dB_ w))) a 57 (nI (oB_ w))) a 58 (w 29)) a 59 (w 30)) a 60 sd, fun d => ?_, ((((o3.trans oS).trans oS).trans oS).trans oS).trans oS, ?_⟩
  · have c1 := fun d => x_copies (d := d) (h := h) (x := b + 1) (y := a + 1) (n := 7) (hs_k1 hHb) (hs_k1 hHa) (by decide) (by omega) (by omega)
    have c2 := fun d => x_copies (d := d) (h := cp_ h (b + 1) 0 (a + 1) 0 7) (x := b + 2) (y := a + 2) (n := 7) (hs_k2 hHb1) (hs_k2 hHa1) (by decide) (by omega) (by omega)
    have c3 := fun d => x_copies (d := d) (h := cp_ (cp_ h (b + 1) 0 (a + 1) 0 7) (b + 2) 0 (a + 2) 0 7) (x := b + 3) (y := a + 3) (n := 4) (hs_k3 hHb2) (hs_k3 hHa2) (by decide) (by omega) (by omega)
    rw [← ex] at c3
    simp only [e136_0, e136_1, e136_4, e136_5, e136_8, e136_11, e136_12, e136_15, e136_16, e136_19, e136_22, e136_23, e136_26, e136_27, e136_30, e136_33, e136_34, e136_35, e136_38, e136_41, e136_42, e136_43, e136_46, e136_49, e136_50, e136_51, e136_54, e136_57, e136_58, e136_59, e136_62, e136_65, e136_66, e136_67, e136_70, e136_73, hs_k hHa, hs_p53 hHa, hs_k1 hHa, hs_p54 hHa, hs_k2 hHa, hs_p55 hHa, hs_k3 hHa, hs_k hHb, hs_p53 hHb, hs_k1 hHb, hs_p54 hHb, hs_k2 hHb, hs_p55 hHb, hs_k3 hHb, hs_k hHa1, hs_p53 hHa1, hs_k1 hHa1, hs_p54 hHa1, hs_k2 hHa1, hs_p55 hHa1, hs_k3 hHa1, hs_k hHb1, hs_p53 hHb1, hs_k1 hHb1, hs_p54 hHb1, hs_k2 hHb1, hs_p55 hHb1, hs_k3 hHb1, hs_k hHa2, hs_p53 hHa2, hs_k1 hHa2, hs_p54 hHa2, hs_k2 hHa2, hs_p55 hHa2, hs_k3 hHa2, hs_k hHb2, hs_p53 hHb2, hs_k1 hHb2, hs_p54 hHb2, hs_k2 hHb2, hs_p55 hHb2, hs_k3 hHb2, hs_k hHa3, hs_p53 hHa3, hs_k1 hHa3, hs_p54 hHa3, hs_k2 hHa3, hs_p55 hHa3, hs_k3 hHa3, hs_k hHb3, hs_p53 hHb3, hs_k1 hHb3, hs_p54 hHb3, hs_k2 hHb3, hs_p55 hHb3, hs_k3 hHb3, ↓reduceIte, Nat.reduceAdd, Nat.reduceLeDiff, Nat.reduceLT, not_false_eq_true, false_or, true_or, or_true, or_false, n0_e, n1_ne, n1_11, bI_z, bI_1, bI_fo, va_rf_some, aBk_1, aBk_0, nI_add, nI_mul, hk_si, hp_si, hl_si, hk_sp, hk_sl, hk_cp, hp_cp, c1, c2, c3, nba, e56, e57, e58, e59, e60, hi_si, Nat.reduceEqDiff, false_and, true_and, and_false, and_true, g64_0 ha, g64_1 ha, g64_2 ha, g64_3 ha, g64_4 ha, g64_5 ha, g64_6 ha, g64_7 ha]
  · have hin : ∀ {z : Nat}, z ≠ a → ∀ f, hi_ (si_ (si_ (si_ (si_ (si_ x a 56 (nI (dB_ w))) a 57 (nI (oB_ w))) a 58 (w 29)) a 59 (w 30)) a 60 sd) z f = hi_ x z f := fun hz f => by
      rw [hi_si, if_neg (fun q => hz q.1), hi_si, if_neg (fun q => hz q.1), hi_si, if_neg (fun q => hz q.1), hi_si, if_neg (fun q => hz q.1), hi_si, if_neg (fun q => hz q.1)]
    refine ⟨((((hHa3.on oS).on oS).on oS).on oS).on oS, fun g hg => ?_, fun g hg => ?_, fun s hs => ?_, ?_, ?_, ?_, ?_, ?_⟩
    · rw [hin (by omega), ex, hi_cp, if_neg (by omega), hi_cp, if_neg (by omega), hi_cp, if_pos ⟨rfl, by omega, by omega⟩, Nat.zero_add, Nat.sub_zero]; exact hX.in_ hg
    · rw [hin (by omega), ex, hi_cp, if_neg (by omega), hi_cp, if_pos ⟨rfl, by omega, by omega⟩, hi_cp, if_neg (by omega), Nat.zero_add, Nat.sub_zero]; exact hX.re hg
    · rw [hin (by omega), ex, hi_cp, if_pos ⟨rfl, by omega, by omega⟩, hi_cp, if_neg (by omega), hi_cp, if_neg (by omega), Nat.zero_add, Nat.sub_zero]; exact hX.wo hs
    · rw [hi_si, if_neg (by omega), hi_si, if_neg (by omega), hi_si, if_neg (by omega), hi_si, if_neg (by omega), hi_si, if_pos ⟨rfl, rfl⟩]
    · rw [hi_si, if_neg (by omega), hi_si, if_neg (by omega), hi_si, if_neg (by omega), hi_si, if_pos ⟨rfl, rfl⟩]
    · rw [hi_si, if_neg (by omega), hi_si, if_neg (by omega), hi_si, if_pos ⟨rfl, rfl⟩]
    · rw [hi_si, if_neg (by omega), hi_si, if_pos ⟨rfl, rfl⟩]
    · rw [hi_si, if_pos ⟨rfl, rfl⟩]
theorem x_mixed {x y : Int32} : (run (d) 25 0 [.int x, .int y, aU] [] h) = some (.returned (some (.int (mix_ x y))), h) := by
  simp only [e25_0, e25_1, e25_2, e25_3, e25_5, e25_6, e25_9, e25_10, e25_11, e25_12, e25_13, e25_15, e25_16, e25_17, ↓reduceIte, Nat.reduceAdd, Nat.reduceLeDiff, Nat.reduceLT, Nat.reduceEqDiff, not_false_eq_true, false_or, true_or, or_true, or_false, n0_e, n1_ne, n1_11, bI_z, bI_1, bI_fo, va_rf_some, aBk_1, aBk_0, nI_add, nI_mul, hk_si, hp_si, hl_si, hk_sp, hk_sl, hk_cp, hp_cp]
  rfl
theorem x_lot {x y : Int32} : (run (d + 1) 24 0 [.int x, .int y, .int (nI 100)] [] h) = some (.returned (some (.int (lot_ x y))), h) := by
  simp only [e24_0, e24_1, e24_4, e24_7, e24_8, e24_11, e24_12, e24_13, e24_14, e24_15, ↓reduceIte, Nat.reduceAdd, Nat.reduceLeDiff, Nat.reduceLT, Nat.reduceEqDiff, not_false_eq_true, false_or, true_or, or_true, or_false, n0_e, n1_ne, n1_11, bI_z, bI_1, bI_fo, va_rf_some, aBk_1, aBk_0, nI_add, nI_mul, hk_si, hp_si, hl_si, hk_sp, hk_sl, hk_cp, hp_cp, x_mixed, n100_ne]
  rfl
/-- a fate -/
def FT (h : aH) (f : Nat) (still : Bool) : Prop := 64 ≤ f ∧ hk_ h f = (if still = true then 9 else 8, 0)
theorem FT.on {S : Nat → Nat → Prop} {f : Nat} (hf : FT h f still) (o : On S h h') : FT h' f still := ⟨hf.1, (o.k _).trans hf.2⟩
def dieX (T : aTx) (r : Nat → Int32) (sd : Int32) (g : Nat) : Bool := decide (lot_ sd (nI 8 * r 29 + nI g) < r (7 + g) - de_ T + nI 10)
theorem x_drawn (hT : XT h T tx sa ga la qs qg) (hX : XH h a r sd) {f g : Nat} (hg : g < 7) : (run (d + 2) 143 0 [.ref f, .ref a, .ref tx, .int (nI g)] [] h) = some (.returned (some (.int (bI (dieX T r sd g)))), h) := by
  have hH := hX.s
  unfold dieX
  by_cases q : lot_ sd (nI 8 * r 29 + nI g) < r (7 + g) - de_ T + nI 10
  · have q' : ¬ r (7 + g) - de_ T + nI 10 ≤ lot_ sd (nI 8 * r 29 + nI g) := Int32.not_le.mpr q
    simp only [e143_0, e143_1, e143_4, e143_6, e143_7, e143_10, e143_11, e143_12, e143_13, e143_15, e143_18, e143_19, e143_22, e143_23, e143_24, e143_25, e143_28, e143_29, e143_31, e143_32, e143_35, e143_36, e143_39, e143_40, hs_k hH, hs_p54 hH, hs_k2 hH, ↓reduceIte, Nat.reduceAdd, Nat.reduceLeDiff, Nat.reduceLT, Nat.reduceEqDiff, not_false_eq_true, false_or, true_or, or_true, or_false, n0_e, n1_ne, n1_11, bI_z, bI_1, bI_fo, va_rf_some, aBk_1, aBk_0, nI_add, nI_mul, hk_si, hp_si, hl_si, hk_sp, hk_sl, hk_cp, hp_cp, hX.se, hX.we, x_lot, hg, hX.re hg, hT.ktx, hT.de, q', n1_01, q, decide_true]
    rfl
  · have q' : r (7 + g) - de_ T + nI 10 ≤ lot_ sd (nI 8 * r 29 + nI g) := Int32.not_lt.mp q
    simp only [e143_0, e143_1, e143_4, e143_6, e143_7, e143_10, e143_11, e143_12, e143_13, e143_15, e143_18, e143_19, e143_22, e143_23, e143_24, e143_25, e143_28, e143_29, e143_31, e143_32, e143_35, e143_36, e143_39, e143_40, hs_k hH, hs_p54 hH, hs_k2 hH, ↓reduceIte, Nat.reduceAdd, Nat.reduceLeDiff, Nat.reduceLT, Nat.reduceEqDiff, not_false_eq_true, false_or, true_or, or_true, or_false, n0_e, n1_ne, n1_11, bI_z, bI_1, bI_fo, va_rf_some, aBk_1, aBk_0, nI_add, nI_mul, hk_si, hp_si, hl_si, hk_sp, hk_sl, hk_cp, hp_cp, hX.se, hX.we, x_lot, hg, hX.re hg, hT.ktx, hT.de, q', n0_01, q, decide_false]
    rfl
theorem x_spared {f g : Nat} : (run (d) 145 0 [.ref f, .ref a, .ref tx, .int (nI g)] [] h) = some (.returned (some (.int (bI false))), h) := by
  simp only [e145_0, e145_1, ↓reduceIte, Nat.reduceAdd, Nat.reduceLeDiff, Nat.reduceLT, Nat.reduceEqDiff, not_false_eq_true, false_or, true_or, or_true, or_false, n0_e, n1_ne, n1_11, bI_z, bI_1, bI_fo, va_rf_some, aBk_1, aBk_0, nI_add, nI_mul, hk_si, hp_si, hl_si, hk_sp, hk_sl, hk_cp, hp_cp, n0_01]
  rfl
theorem min999 {x : Int32} (h0 : 0 ≤ x.toInt) : min_ (nI 999) x = wi_ x (nI 0) (nI 999) := by
  unfold min_ wi_
  rw [if_neg (show ¬ x < nI 0 by rw [Int32.lt_iff_toInt_lt, nI_toInt (by decide)]; omega)]
  by_cases q : x < nI 999
  · rw [if_pos q, if_neg (by rw [Int32.lt_iff_toInt_lt] at q ⊢; omega)]
  · rw [if_neg q]
    by_cases q2 : nI 999 < x
    · rw [if_pos q2]
    · rw [if_neg q2]
      apply Int32.toInt_inj.mp
      rw [Int32.lt_iff_toInt_lt] at q q2
      omega
theorem min99w {x : Int32} (h0 : 0 ≤ x.toInt) : min_ (nI 99) x = wi_ x (nI 0) (nI 99) := by
  unfold min_ wi_
  rw [if_neg (show ¬ x < nI 0 by rw [Int32.lt_iff_toInt_lt, nI_toInt (by decide)]; omega)]
  by_cases q : x < nI 99
  · rw [if_pos q, if_neg (by rw [Int32.lt_iff_toInt_lt] at q ⊢; omega)]
  · rw [if_neg q]
    by_cases q2 : nI 99 < x
    · rw [if_pos q2]
    · rw [if_neg q2]
      apply Int32.toInt_inj.mp
      rw [Int32.lt_iff_toInt_lt] at q q2
      omega
theorem max999 {x : Int32} (h9 : x.toInt ≤ 999) : max_ (nI 0) x = wi_ x (nI 0) (nI 999) := by
  unfold max_ wi_
  by_cases q : nI 0 < x
  · rw [if_pos q, if_neg (by rw [Int32.lt_iff_toInt_lt] at q ⊢; omega), if_neg (by rw [Int32.lt_iff_toInt_lt, nI_toInt (by decide)]; omega)]
  · rw [if_neg q]
    by_cases q2 : x < nI 0
    · rw [if_pos q2]
    · rw [if_neg q2, if_neg (by rw [Int32.lt_iff_toInt_lt, nI_toInt (by decide)]; omega)]
      apply Int32.toInt_inj.mp
      rw [Int32.lt_iff_toInt_lt] at q q2
      omega
theorem rO_b (hV : TV T) {g : Nat} (hg : g < ng_ T) : 0 ≤ (rO_ T w g).toInt ∧ (rO_ T w g).toInt ≤ 99 := by
  unfold rO_
  split
  · decide
  · exact rA_b hV hg
end X4
