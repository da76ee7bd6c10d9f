set_option maxRecDepth 100000
/-! X: what is done -/
section XE
variable {d : Nat} {h h' : aH} {T : aTx} {w r : Nat → Int32} {sd : Int32} {a ua u tx sa ga la : Nat} {qs qg : Nat → Nat} {Ω : aSg} {H : Nat → Nat → Int32}
/-- what X writes (but read) -/
def XP (x _f : Nat) : Prop := (64 ≤ x ∧ x < 74) ∨ (78 ≤ x ∧ x < 458)
theorem XP.n {x f : Nat} (q : XP x f) : ¬ xa x := by unfold XP at q; unfold xa; omega
theorem QX.P {x f : Nat} (q : QX x f) : XP x f := by unfold QX at q; unfold XP; omega
theorem HA.P {x f : Nat} (ha : 78 ≤ a ∧ a + 7 < 458) (q : HA a x f) : XP x f := by unfold HA at q; unfold XP; omega
/-- undos: u of them in a ring, the next at ua -/
def UX (h : aH) (ua u : Nat) (H : Nat → Nat → Int32) (sd : Int32) : Prop := ua < 40 ∧ hi_ h 64 6 = nI ua ∧ u ≤ 40 ∧ hi_ h 64 5 = nI u ∧ ∀ i, i < u → XH h (138 + 8 * ((ua + 40 - u + i) % 40)) (H i) sd
/-- what X holds -/
def XI (h : aH) (Ω : aSg) (tx sa ga la : Nat) (qs qg : Nat → Nat) : Prop := XB h (gT Ω) (gw Ω) tx sa ga la qs qg ∧ (∃ ua, UX h ua (gu Ω) (gh Ω) (se_ (gT Ω))) ∧ (∀ i, i < 3 → hi_ h 122 i = bI (gb Ω i) ∧ (gb Ω i = true → XH h (96 + 8 * i) (gr Ω i) (se_ (gT Ω)))) ∧
  (gm Ω ≤ 20 ∧ hi_ h 64 18 = nI (gm Ω) ∧ ∀ i, i < gm Ω → hi_ h 136 i = gth Ω i ∧ hi_ h 137 i = bI (gts Ω i)) ∧ (gn Ω ≤ 2000 ∧ hi_ h 66 31 = nI (gn Ω) ∧ ∀ i, i < gn Ω → hi_ h 68 i = gtp Ω i) ∧ hi_ h 64 4 = gp Ω
theorem XI.B (hI : XI h Ω tx sa ga la qs qg) : XB h (gT Ω) (gw Ω) tx sa ga la qs qg := hI.1
theorem XI.U (hI : XI h Ω tx sa ga la qs qg) : ∃ ua, UX h ua (gu Ω) (gh Ω) (se_ (gT Ω)) := hI.2.1
theorem XI.sl (hI : XI h Ω tx sa ga la qs qg) : ∀ i, i < 3 → hi_ h 122 i = bI (gb Ω i) ∧ (gb Ω i = true → XH h (96 + 8 * i) (gr Ω i) (se_ (gT Ω))) := hI.2.2.1
theorem XI.m20 (hI : XI h Ω tx sa ga la qs qg) : gm Ω ≤ 20 := hI.2.2.2.1.1
theorem XI.mm (hI : XI h Ω tx sa ga la qs qg) : hi_ h 64 18 = nI (gm Ω) := hI.2.2.2.1.2.1
theorem XI.tl (hI : XI h Ω tx sa ga la qs qg) : ∀ i, i < gm Ω → hi_ h 136 i = gth Ω i ∧ hi_ h 137 i = bI (gts Ω i) := hI.2.2.2.1.2.2
theorem XI.n2 (hI : XI h Ω tx sa ga la qs qg) : gn Ω ≤ 2000 := hI.2.2.2.2.1.1
theorem XI.nn (hI : XI h Ω tx sa ga la qs qg) : hi_ h 66 31 = nI (gn Ω) := hI.2.2.2.2.1.2.1
theorem XI.tp (hI : XI h Ω tx sa ga la qs qg) : ∀ i, i < gn Ω → hi_ h 68 i = gtp Ω i := hI.2.2.2.2.1.2.2
theorem XI.p (hI : XI h Ω tx sa ga la qs qg) : hi_ h 64 4 = gp Ω := hI.2.2.2.2.2
theorem UX.on {S : Nat → Nat → Prop} (hU : UX h ua u H sd) (o : On S h h') (hS : ∀ x f, S x f → ¬ (x = 64 ∧ (f = 5 ∨ f = 6)) ∧ x < 138) : UX h' ua u H sd :=
  ⟨hU.1, (o.i (fun z => by have := hS _ _ z; omega)).trans hU.2.1, hU.2.2.1, (o.i (fun z => by have := hS _ _ z; omega)).trans hU.2.2.2.1, fun i hi => (hU.2.2.2.2 i hi).off o (fun x f z => by have := hS _ _ z; omega)⟩
theorem XB.onS {S : Nat → Nat → Prop} (hB : XB h T w tx sa ga la qs qg) (o : On S h h') (hS : ∀ x f, S x f → XP x f ∧ ¬ (78 ≤ x ∧ x ≤ 81)) : XB h' T w tx sa ga la qs qg := ⟨hB.S.on o, (o.p _ _).trans hB.t, hB.X.on o (fun _ _ q => (hS _ _ q).1.n), hB.H.off o (fun x f q => by have := (hS _ _ q).2; omega)⟩
/-- the pieces that a change leaves -/
theorem XI.ks {S : Nat → Nat → Prop} (hI : XI h Ω tx sa ga la qs qg) (o : On S h h') (hS : ∀ x f, S x f → ¬ (x = 122) ∧ ¬ (96 ≤ x ∧ x ≤ 119)) : ∀ i, i < 3 → hi_ h' 122 i = bI (gb Ω i) ∧ (gb Ω i = true → XH h' (96 + 8 * i) (gr Ω i) (se_ (gT Ω))) :=
  fun i hi => ⟨(o.i (fun z => by have := hS _ _ z; omega)).trans (hI.sl i hi).1, fun hb => ((hI.sl i hi).2 hb).off o (fun x f z => by have := hS _ _ z; omega)⟩
theorem XI.km {S : Nat → Nat → Prop} (hI : XI h Ω tx sa ga la qs qg) (o : On S h h') (hS : ∀ x f, S x f → ¬ (x = 64 ∧ f = 18) ∧ ¬ (x = 136 ∨ x = 137)) : gm Ω ≤ 20 ∧ hi_ h' 64 18 = nI (gm Ω) ∧ ∀ i, i < gm Ω → hi_ h' 136 i = gth Ω i ∧ hi_ h' 137 i = bI (gts Ω i) :=
  ⟨hI.m20, (o.i (fun z => by have := hS _ _ z; omega)).trans hI.mm, fun i hi => ⟨(o.i (fun z => by have := hS _ _ z; omega)).trans (hI.tl i hi).1, (o.i (fun z => by have := hS _ _ z; omega)).trans (hI.tl i hi).2⟩⟩
theorem XI.kn {S : Nat → Nat → Prop} (hI : XI h Ω tx sa ga la qs qg) (o : On S h h') (hS : ∀ x f, S x f → ¬ (x = 66) ∧ ¬ (x = 68)) : gn Ω ≤ 2000 ∧ hi_ h' 66 31 = nI (gn Ω) ∧ ∀ i, i < gn Ω → hi_ h' 68 i = gtp Ω i :=
  ⟨hI.n2, (o.i (fun z => by have := hS _ _ z; omega)).trans hI.nn, fun i hi => (o.i (fun z => by have := hS _ _ z; omega)).trans (hI.tp i hi)⟩
theorem XI.kp {S : Nat → Nat → Prop} (hI : XI h Ω tx sa ga la qs qg) (o : On S h h') (hS : ¬ S 64 4) : hi_ h' 64 4 = gp Ω := (o.i hS).trans hI.p
theorem XI.onQ (hI : XI h Ω tx sa ga la qs qg) (o : On QX h h') : XI h' Ω tx sa ga la qs qg := by
  obtain ⟨ua, hU⟩ := hI.U
  exact ⟨hI.B.onQ o, ⟨ua, hU.on o (fun x f q => by unfold QX at q; omega)⟩, hI.ks o (fun x f q => by unfold QX at q; omega), hI.km o (fun x f q => by unfold QX at q; omega), hI.kn o (fun x f q => by unfold QX at q; omega), hI.kp o (fun q => by unfold QX at q; omega)⟩
theorem nI_rem {x y : Nat} (hx : x < 2147483648) (hy : y < 2147483648) (h0 : 0 < y) : nI x - nI x / nI y * nI y = nI (x % y) := by
  have e : nI x / nI y = nI (x / y) := by
    apply Int32.toInt_inj.mp
    have h1 : x / y ≤ x := Nat.div_le_self x y
    rw [Int32.toInt_div, nI_toInt hx, nI_toInt hy, nI_toInt (by omega)]
    have h2 : (x : Int).tdiv (y : Int) = ((x / y : Nat) : Int) := rfl
    rw [h2]
    generalize x / y = q at h1 ⊢
    dsimp only [Int.bmod]
    split <;> omega
  have h3 : x / y * y ≤ x := Nat.div_mul_le_self x y
  rw [e, nI_mul, nI_sub h3]
  congr 1
  have := Nat.div_add_mod x y
  rw [Nat.mul_comm] at this
  omega
theorem min40 {u : Nat} (hu : u ≤ 40) : min_ (nI 40) (nI (u + 1)) = nI (pu u) := by
  have hlt : nI (u + 1) < nI 40 ↔ u + 1 < 40 := nI_ltI (by omega) (by decide)
  unfold min_ pu
  by_cases q : u = 40
  · rw [if_pos q, if_neg (fun z => by have := hlt.mp z; omega)]
  · rw [if_neg q]
    by_cases q2 : u + 1 < 40
    · rw [if_pos (hlt.mpr q2)]
    · rw [if_neg (fun z => q2 (hlt.mp z)), show u + 1 = 40 by omega]
theorem n40_ne : (nI 40 = 0) = False := by decide
theorem x_keeps (hB : XB h T w tx sa ga la qs qg) (hU : UX h ua u H (se_ T)) : ∃ h', (∀ d, (run (d + 2) 16 0 [.ref 64] [] h) = some (.returned none, h')) ∧ On (fun x f => HA (138 + 8 * ua) x f ∨ (x = 64 ∧ (f = 5 ∨ f = 6))) h h' ∧ UX h' ((ua + 1) % 40) (pu u) (ph u H w) (se_ T) := by
  have hXS := hB.S
  obtain ⟨u1, u2, u3, u4, u5⟩ := hU
  have hc : 78 ≤ 138 + 8 * ua ∧ 138 + 8 * ua + 7 < 458 := by omega
  obtain ⟨h1, e1, o1, x1⟩ := x_takes hc ha78 (by omega) hB.H (xs_past hXS u1)
  have hXS1 := hXS.on o1
  have f6 : hi_ h1 64 6 = nI ua := (o1.i (fun q => by unfold HA at q; omega)).trans u2
  have f5 : hi_ h1 64 5 = nI u := (o1.i (fun q => by unfold HA at q; omega)).trans u4
  have o2 : On (fun x f => HA (138 + 8 * ua) x f ∨ (x = 64 ∧ (f = 5 ∨ f = 6))) h1 (si_ (si_ h1 64 6 (nI ((ua + 1) % 40))) 64 5 (nI (pu u))) := (On.si (Or.inr ⟨rfl, Or.inr rfl⟩)).trans (On.si (Or.inr ⟨rfl, Or.inl rfl⟩))
  have ok : On (AA 64) h1 (si_ (si_ h1 64 6 (nI ((ua + 1) % 40))) 64 5 (nI (pu u))) := On.sa.trans On.sa
  refine ⟨si_ (si_ h1 64 6 (nI ((ua + 1) % 40))) 64 5 (nI (pu u)), fun d => ?_, (o1.mono (fun _ _ q => Or.inl q)).trans o2, ?_, ?_, ?_, ?_, fun i hi => ?_⟩
  · have kp := hs_k (xs_past hXS u1)
    simp only [e16_0, e16_1, e16_4, e16_5, e16_8, e16_9, e16_10, e16_13, e16_16, e16_17, e16_18, e16_21, e16_22, e16_23, e16_25, e16_26, e16_29, e16_30, e16_32, e16_33, e16_36, e16_37, e16_38, e16_41, e16_44, xk_64 hXS, xp_7 hXS, xp_9 hXS, xk_94 hXS, xk_64 hXS1, xp_7 hXS1, xp_9 hXS1, xk_94 hXS1, ↓reduceIte, Nat.reduceAdd, Nat.reduceLeDiff, Nat.reduceLT, not_false_eq_true, false_or, true_or, or_true, or_false, n0_e, n1_ne, n1_11, bI_z, bI_1, bI_fo, va_rf_some, aBk_1, aBk_0, nI_add, nI_mul, hk_si, hp_si, hl_si, hk_sp, hk_sl, hk_cp, hp_cp, u1, u2, xp_past hXS u1, kp, e1, f6, f5, n40_ne, nI_rem (show ua + 1 < 2147483648 by omega) (show 40 < 2147483648 by decide) (by decide), min40 u3, hi_si, Nat.reduceEqDiff, false_and, true_and, and_false, and_true]
  · exact Nat.mod_lt _ (by decide)
  · rw [hi_ne (by omega), hi_same]
  · unfold pu; split <;> omega
  · exact hi_same
  · have off : ∀ {b : Nat} {z : Nat → Int32}, 138 ≤ b → XH h1 b z (se_ T) → XH (si_ (si_ h1 64 6 (nI ((ua + 1) % 40))) 64 5 (nI (pu u))) b z (se_ T) := fun hb hx => hx.off ok (fun x f q => by have q : x = 64 := q; omega)
    by_cases q : u = 40
    · have e : pu u = 40 := by unfold pu; rw [if_pos q]
      by_cases q2 : i < 39
      · have es : ((ua + 1) % 40 + 40 - pu u + i) % 40 = (ua + 40 - u + (i + 1)) % 40 := by rw [e]; omega
        have ep : ph u H w i = H (i + 1) := by unfold ph; rw [if_pos q, if_pos q2]
        rw [es, ep]
        refine off (by omega) ((u5 (i + 1) (by omega)).off o1 (fun x f z => ?_))
        unfold HA at z
        omega
      · have es : ((ua + 1) % 40 + 40 - pu u + i) % 40 = ua := by rw [e] at hi ⊢; omega
        have ep : ph u H w i = w := by unfold ph; rw [if_pos q, if_neg q2]
        rw [es, ep]
        exact off (by omega) x1
    · have e : pu u = u + 1 := by unfold pu; rw [if_neg q]
      by_cases q2 : i < u
      · have es : ((ua + 1) % 40 + 40 - pu u + i) % 40 = (ua + 40 - u + i) % 40 := by rw [e]; omega
        have ep : ph u H w i = H i := by unfold ph; rw [if_neg q, if_pos q2]
        rw [es, ep]
        refine off (by omega) ((u5 i q2).off o1 (fun x f z => ?_))
        unfold HA at z
        omega
      · have es : ((ua + 1) % 40 + 40 - pu u + i) % 40 = ua := by rw [e] at hi ⊢; omega
        have ep : ph u H w i = w := by unfold ph; rw [if_neg q, if_neg q2]
        rw [es, ep]
        exact off (by omega) x1
end XE
