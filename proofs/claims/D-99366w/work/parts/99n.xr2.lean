set_option maxRecDepth 100000
/-! X: reading (28): read -/
/-- X's whole invariant -/
def XI2 (h : aH) (Ω : aSg) : Prop := (∃ tx sa ga la qs qg, XI h Ω tx sa ga la qs qg) ∧ FZ h ∧ WDx h ∧ hk_ h 45 = (114, 0)
/-- what X.read writes -/
def XRS (a f : Nat) : Prop := PRS a f ∨ HBF a f ∨ (a = 64 ∧ (f = 4 ∨ f = 5 ∨ f = 18)) ∨ a = 122 ∨ (a = 66 ∧ f = 31)
def XRP (a f : Nat) : Prop := PRP a f ∨ (a = 64 ∧ f = 3)
section XR98
variable {d : Nat} {c s : Nat} {h h' : aH} {Ω : aSg}
theorem bx_4 {d q : Nat} {ls rest : List Value} {h : aH} : aBk d 4 12 ls rest true (some (.threw q, h)) = run d 4 62 ls [.ref q] h := rfl
theorem XRS.na {a f : Nat} (q : XRS a f) : ¬ xa a ∧ a < 458 := by unfold XRS PRS KRF XPF HBF at q; unfold xa; omega
theorem XRP.p : PTx XRP := fun x f q => by unfold XRP PRP at q; omega
theorem XRP.k (hX : XS h) : ∀ x f, XRP x f → ¬ xa x ∧ (hk_ h x).1 ≠ 114 ∧ (hk_ h x).1 ≠ 15 ∧ (hk_ h x).1 ≠ 12 ∧ (hk_ h x).1 ≠ 111 := fun x f q => by
  rcases q with q | q
  · rw [q.1, xk_73 hX]; unfold xa; exact ⟨by omega, by decide, by decide, by decide, by decide⟩
  · rw [q.1, xk_64 hX]; unfold xa; exact ⟨by omega, by decide, by decide, by decide, by decide⟩
theorem WDx.oa {S P : Nat → Nat → Prop} (hW : WDx h) (o : OA c s S P h h') (hz : 504 ≤ hz_ h) (hS : ∀ a f, S a f → 64 ≤ a) (hP : ∀ a f, P a f → 64 ≤ a) : WDx h' := fun k hk => by
  obtain ⟨w1, w2, w3, w4, w5⟩ := hW k hk
  exact ⟨(o.k (by omega)).trans w1, (o.i (by omega) (fun q => by have := hS _ _ q; omega)).trans w2, (o.p (by omega) (fun q => by have := hP _ _ q; omega)).trans w3, (o.k (by omega)).trans w4, fun i hi => (o.i (by omega) (fun q => by have := hS _ _ q; omega)).trans (w5 i hi)⟩
/-- a reading that fails -/
theorem XI2.bad (hI : XI2 h Ω) (o : OA c s XRS XRP h h') (hF : FZ h') (hh : ∀ x f, 78 ≤ x → x ≤ 457 → hi_ h' x f = hi_ h x f) (h5 : hi_ h' 64 5 = hi_ h 64 5) (h18 : hi_ h' 64 18 = hi_ h 64 18) (hp3 : hp_ h' 64 3 = hp_ h 64 3) (h31 : hi_ h' 66 31 = nI 0) {v : Int32} (h4 : hi_ h' 64 4 = v) : XI2 h' (gBad Ω v) := by
  obtain ⟨⟨tx, sa, ga, la, qs, qg, hI⟩, hF0, hW, h45⟩ := hI
  have z5 := hF0.1
  have hX := hI.B.S
  have hh' : ∀ {a : Nat} {w : Nat → Int32} {sd : Int32}, XH h a w sd → 78 ≤ a → a + 8 ≤ 458 → XH h' a w sd := fun {a w sd} w1 a1 a2 => by
    obtain ⟨g1, g2, g3, g4, g5, g6, g7, g8, g9⟩ := w1
    have e : ∀ {x f : Nat}, a ≤ x → x ≤ a + 3 → hi_ h' x f = hi_ h x f := fun f1 f2 => hh _ _ (by omega) (by omega)
    exact ⟨g1.oa o z5 a1 a2 XRP.p, fun g hg => (e (by omega) (by omega)).trans (g2 g hg), fun g hg => (e (by omega) (by omega)).trans (g3 g hg), fun s hs => (e (by omega) (by omega)).trans (g4 s hs), (e (by omega) (by omega)).trans g5, (e (by omega) (by omega)).trans g6, (e (by omega) (by omega)).trans g7, (e (by omega) (by omega)).trans g8, (e (by omega) (by omega)).trans g9⟩
  refine ⟨⟨tx, sa, ga, la, qs, qg, ⟨hX.oa o z5 XRP.p, hp3.trans hI.B.t, hI.B.X.oa hF0 o (fun x f q => q.na.1) (XRP.k hX), hh' hI.B.H (by decide) (by decide)⟩, ?_, fun i hi => ⟨(hh _ _ (by decide) (by decide)).trans (hI.sl i hi).1, fun hb => hh' ((hI.sl i hi).2 hb) (by omega) (by omega)⟩, ⟨hI.m20, h18.trans hI.mm, fun i hi => ⟨(hh _ _ (by decide) (by decide)).trans (hI.tl i hi).1, (hh _ _ (by decide) (by decide)).trans (hI.tl i hi).2⟩⟩, ⟨Nat.zero_le _, h31, fun i hi => absurd hi (Nat.not_lt_zero i)⟩, h4⟩, hF, hW.oa o z5 (fun a f q => by unfold XRS PRS KRF XPF HBF at q; omega) (fun a f q => by unfold XRP PRP at q; omega), (o.k (by omega)).trans h45⟩
  obtain ⟨ua, u1, u2, u3, u4, u5⟩ := hI.U
  refine ⟨ua, u1, (o.i (by omega) (fun q => by unfold XRS PRS KRF XPF HBF at q; omega)).trans u2, u3, h5.trans u4, fun i hi => hh' (u5 i hi) (by omega) ?_⟩
  have : (ua + 40 - gu Ω + i) % 40 < 40 := Nat.mod_lt _ (by decide)
  omega
theorem x_readN {m : Nat} (hm : 401 ≤ m) (hI : XI2 h Ω) (hG : ∀ i, i < gn Ω → (gtp Ω i).toInt8.toInt32 = gtp Ω i) : ∃ h', (∀ d, (run (d + 32) 4 0 [.ref 64, aU, aU] [] h) = some (.returned (some (.int ((aRdO Ω (linesX (tzΩ Ω) m r0)).2))), h')) ∧ OA 3300 26400 XRS XRP h h' ∧ XI2 h' (aRdO Ω (linesX (tzΩ Ω) m r0)).1 := by
  obtain ⟨⟨tx, sa, ga, la, qs, qg, hI0⟩, hF, hW, h45⟩ := id hI
  have z5 := hF.1
  have hX := hI0.B.S
  have n2 := hI0.n2
  have hV := btz_BV n2
  have hB : XBt h (btz Ω) (gn Ω) := ⟨hI0.nn, fun i hi => by
    rw [hI0.tp i hi, sb_int8 (hG i hi)]
    unfold btz
    rw [if_pos hi, ← sb_int8 (hG i hi)]⟩
  -- place
  have o0 : On (fun a f => a = 64 ∧ f = 4) h (si_ h 64 4 (-1)) := On.si ⟨rfl, rfl⟩
  have hX0 := hX.on o0
  have F0 := hF.on o0 (fun a f q => by omega)
  have B0 : XBt (si_ h 64 4 (-1)) (btz Ω) (gn Ω) := ⟨(hi_ne (by omega)).trans hB.1, fun i hi => (hi_ne (by omega)).trans (hB.2 i hi)⟩
  have W0 : WDx (si_ h 64 4 (-1)) := hW.oa (o0.OA (P := NPx)) z5 (fun a f q => by omega) (fun _ _ q => q.elim)
  have R := pd_read (m := m) hm hX0 F0 hV B0 W0 h45
  have o0' : OA 0 0 XRS XRP h (si_ h 64 4 (-1)) := (o0.mono (fun a f q => Or.inr (Or.inr (Or.inl ⟨q.1, by omega⟩)))).OA
  have up : ∀ {x : aH}, OA 3300 26400 PRS PRP (si_ h 64 4 (-1)) x → OA (0 + 3300) (0 + 26400) XRS XRP h x := fun w => o0'.trans (w.mono (Nat.le_refl _) (Nat.le_refl _) (fun _ _ q => Or.inl q) (fun _ _ q => Or.inl q))
  -- a fault
  have bad : ∀ (e1 e2 : Nat) (h1 : aH), (∀ d, (run (d + 31) 84 0 [.ref 73] [] (si_ h 64 4 (-1))) = some (.threw 65, h1)) → OA 3300 26400 PRS PRP (si_ h 64 4 (-1)) h1 → FZ h1 → XF h1 e1 e2 → ∃ h', (∀ d, (run (d + 32) 4 0 [.ref 64, aU, aU] [] h) = some (.returned (some (.int (nI e1))), h')) ∧ OA 3300 26400 XRS XRP h h' ∧ XI2 h' (gBad Ω (nI e2)) := fun e1 e2 h1 er o1 F1 f1 => by
    obtain ⟨hX1, f27, f28⟩ := f1
    have o01 := up o1
    have oX := (o01.sis (x := 64) (f := 4) (v := nI e2) (Or.inr (Or.inr (Or.inl ⟨rfl, by omega⟩)))).sis (x := 66) (f := 31) (v := nI 0) (Or.inr (Or.inr (Or.inr (Or.inr ⟨rfl, rfl⟩))))
    have zz := o01.z
    have ei : ∀ {x f : Nat}, x < 504 → ¬ PRS x f → ¬ (x = 64 ∧ f = 4) → hi_ h1 x f = hi_ h x f := fun hx hn h4 => (o1.i (by show _ < hz_ h; omega) hn).trans (hi_ne h4)
    refine ⟨_, fun d => ?_, oX.le (by omega) (by omega), hI.bad (v := nI e2) oX ((F1.si (by omega)).si (by show 66 < hz_ h1; omega)) (fun x f g1 g2 => ?_) ?_ ?_ ?_ hi_same ((hi_ne (by omega)).trans hi_same)⟩
    · simp only [e4_0, e4_1, e4_2, e4_3, e4_4, e4_7, e4_8, e4_9, e4_12, e4_15, e4_15n, e4_18, e4_19, e4_22, e4_23, e4_26, e4_29, e4_30, e4_31, e4_34, e4_35, e4_36, e4_39, e4_40, e4_42, e4_43, e4_46, e4_47, e4_50, e4_51, e4_52, e4_52z, e4_53, e4_56, e4_59, e4_62, e4_63, e4_64, e4_67, e4_68, e4_69, e4_70, e4_73, e4_76, e4_77, e4_80, e4_81, e4_84, e4_85, xk_64 hX, xp_1 hX, xk_66 hX, xp_2 hX, xk_73 hX, xp_7 hX, xp_13 hX, xk_122 hX, xk_65 hX, xk_64 hX0, xp_1 hX0, xk_66 hX0, xp_2 hX0, xk_73 hX0, xp_7 hX0, xp_13 hX0, xk_122 hX0, xk_65 hX0, xk_64 hX1, xp_1 hX1, xk_66 hX1, xp_2 hX1, xk_73 hX1, xp_7 hX1, xp_13 hX1, xk_122 hX1, xk_65 hX1, ↓reduceIte, Nat.reduceAdd, Nat.reduceLeDiff, Nat.reduceLT, not_false_eq_true, false_or, true_or, or_true, or_false, n0_e, n1_ne, n1_11, bI_z, bI_1, bI_fo, va_rf_some, aBk_1, aBk_0, nI_add, nI_mul, hk_si, hp_si, hl_si, hk_sp, hk_sl, hk_cp, hp_cp, er, bx_4, f27, f28, hi_si, Nat.reduceEqDiff, false_and, true_and, and_false, and_true]
    · rw [hi_ne (by omega), hi_ne (by omega)]; exact ei (by omega) (fun q => by unfold PRS KRF XPF at q; omega) (by omega)
    · rw [hi_ne (by omega), hi_ne (by omega)]; exact ei (by decide) (fun q => by unfold PRS KRF XPF at q; omega) (by omega)
    · rw [hi_ne (by omega), hi_ne (by omega)]; exact ei (by decide) (fun q => by unfold PRS KRF XPF at q; omega) (by omega)
    · exact o1.p (by show 64 < hz_ h; omega) (fun q => by unfold PRP at q; omega)
  unfold tzΩ at *
  cases hy : linesX (tz (btz Ω) (gn Ω)) m r0 with
  | inl e =>
    rw [hy] at R
    obtain ⟨h1, er, o1, F1, f1⟩ := R
    exact bad e.1 e.2 h1 er o1 F1 f1
  | inr ρ =>
    rw [hy] at R
    have R : if ρ.1.2.2.1 = 0 then _ else _ := R
    by_cases q : ρ.1.2.2.1 = 0
    · rw [if_pos q] at R
      obtain ⟨h1, tx', er, o1, G1⟩ := R
      have ea : aRdO Ω (.inr ρ) = (gNew Ω ρ.2.2.1, nI 0) := if_pos q
      rw [ea]
      have hTV : TV ρ.2.2.1 := RV_TV (lines_RV (tz_v hV) m r0 ρ RV0 (Nat.zero_le _) hy).1 q
      obtain ⟨sa', ga', la', es', eg', qs', qg', vs', vg', g1⟩ := G1
      obtain ⟨E1, t1, k451, T1, -, -, Z1⟩ := g1
      have F1 := E1.2.2
      have hX1 := E1.1.1
      have o01 := up o1
      have zz := o01.z
      have X1 : XT h1 ρ.2.2.1 tx' sa' ga' la' qs' qg' := by
        obtain ⟨⟨a1, a2, a3, a4, a5, a6, a7, a8⟩, ⟨b1, b2, b3, b4⟩, c1, c2, c3, ⟨d1, d2, d3⟩⟩ := T1
        refine ⟨hTV, ⟨Or.inr a1, a2, a3, a4, a5⟩, b1.A, b2.A, fun s hs => ⟨(c1 s hs).1, (c1 s hs).2.1⟩, fun g hg => (c2 g hg).1, ⟨a7, a8⟩, Or.inr d1, d2, fun k hk => ?_⟩
        have w := d3 k hk
        revert w
        cases la_ ρ.2.2.1 k with
        | none => intro w; exact w
        | some L => intro w; exact w
      have kt1 := T1.1.2.1
      have tx5 := T1.1.1
      have se1 := T1.1.2.2.2.2.2.2.2
      -- the text is taken
      have oP : OA 0 0 NPx (fun a f => a = 64 ∧ f = 3) h1 (sp_ h1 64 3 (some tx')) := OA.refl.sps ⟨rfl, rfl⟩
      have PP : PTx (fun a f => a = 64 ∧ f = 3) := fun x f q => Or.inr (Or.inl q)
      have hX2 := hX1.oa oP F1.1 PP
      have p2 : hp_ (sp_ h1 64 3 (some tx')) 64 3 = some tx' := hp_same
      have hA2 : HS (sp_ h1 64 3 (some tx')) 78 := xs_house hX2
      have kt2 : hk_ (sp_ h1 64 3 (some tx')) tx' = (4, 0) := kt1
      have se2 : hi_ (sp_ h1 64 3 (some tx')) tx' 49 = se_ ρ.2.2.1 := se1
      obtain ⟨h3, e3, o3, H3⟩ := h_begins hA2 kt2 (Or.inr tx5)
      rw [se2] at H3
      have hX3 := hX2.on o3
      have F2 : FZ (sp_ h1 64 3 (some tx')) := F1.sp (by omega)
      have z2 : hz_ (sp_ h1 64 3 (some tx')) = hz_ h1 := rfl
      have F3 := F2.on o3 (fun a f q => by unfold HBF at q; omega)
      have o4 : On (fun a f => a = 64 ∧ (f = 5 ∨ f = 18)) h3 (si_ (si_ h3 64 5 (nI 0)) 64 18 (nI 0)) := (On.si ⟨rfl, by omega⟩).trans (On.si ⟨rfl, by omega⟩)
      have hX4 := hX3.on o4
      have p3 : hp_ h3 64 3 = some tx' := (o3.p _ _).trans p2
      have st : ∀ d, (run (d + 32) 4 0 [.ref 64, aU, aU] [] h) = (run (d + 32) 4 41 [.ref 64, .int (nI 0), .int (nI 0)] [] (si_ (si_ h3 64 5 (nI 0)) 64 18 (nI 0))) := fun d => by
        simp only [e4_0, e4_1, e4_2, e4_3, e4_4, e4_7, e4_8, e4_9, e4_12, e4_15, e4_15n, e4_18, e4_19, e4_22, e4_23, e4_26, e4_29, e4_30, e4_31, e4_34, e4_35, e4_36, e4_39, e4_40, e4_42, e4_43, e4_46, e4_47, e4_50, e4_51, e4_52, e4_52z, e4_53, e4_56, e4_59, e4_62, e4_63, e4_64, e4_67, e4_68, e4_69, e4_70, e4_73, e4_76, e4_77, e4_80, e4_81, e4_84, e4_85, xk_64 hX, xp_1 hX, xk_66 hX, xp_2 hX, xk_73 hX, xp_7 hX, xp_13 hX, xk_122 hX, xk_65 hX, xk_64 hX0, xp_1 hX0, xk_66 hX0, xp_2 hX0, xk_73 hX0, xp_7 hX0, xp_13 hX0, xk_122 hX0, xk_65 hX0, xk_64 hX1, xp_1 hX1, xk_66 hX1, xp_2 hX1, xk_73 hX1, xp_7 hX1, xp_13 hX1, xk_122 hX1, xk_65 hX1, xk_64 hX2, xp_1 hX2, xk_66 hX2, xp_2 hX2, xk_73 hX2, xp_7 hX2, xp_13 hX2, xk_122 hX2, xk_65 hX2, xk_64 hX3, xp_1 hX3, xk_66 hX3, xp_2 hX3, xk_73 hX3, xp_7 hX3, xp_13 hX3, xk_122 hX3, xk_65 hX3, ↓reduceIte, Nat.reduceAdd, Nat.reduceLeDiff, Nat.reduceLT, not_false_eq_true, false_or, true_or, or_true, or_false, n0_e, n1_ne, n1_11, bI_z, bI_1, bI_fo, aBk_1, aBk_0, nI_add, nI_mul, hk_si, hp_si, hl_si, hk_sp, hk_sl, hk_cp, hp_cp, er, p2, e3, h78_k hA2, va_rf_some, hi_si, Nat.reduceEqDiff, false_and, true_and, and_false, and_true]
      have v5 : hi_ (si_ (si_ h3 64 5 (nI 0)) 64 18 (nI 0)) 64 5 = nI 0 := (hi_ne (by omega)).trans hi_same
      have v18 : hi_ (si_ (si_ h3 64 5 (nI 0)) 64 18 (nI 0)) 64 18 = nI 0 := hi_same
      generalize si_ (si_ h3 64 5 (nI 0)) 64 18 (nI 0) = h4 at o4 hX4 st v5 v18
      obtain ⟨h5, e5, o5, r5⟩ := run_fill (F := fun d j x => (run (d + 32) 4 41 [.ref 64, .int (nI 0), .int (nI j)] [] x)) (b := 122) (n := 3) (r := fun _ => nI 0) (h := h4) (fun d j x hj o _ _ => by
        have hXx := hX4.on o
        have g1 : ¬ nI 3 ≤ nI j := nI_ge hj (by decide)
        refine (e4_41).trans ?_
        simp only [e4_0, e4_1, e4_2, e4_3, e4_4, e4_7, e4_8, e4_9, e4_12, e4_15, e4_15n, e4_18, e4_19, e4_22, e4_23, e4_26, e4_29, e4_30, e4_31, e4_34, e4_35, e4_36, e4_39, e4_40, e4_42, e4_43, e4_46, e4_47, e4_50, e4_51, e4_52, e4_52z, e4_53, e4_56, e4_59, e4_62, e4_63, e4_64, e4_67, e4_68, e4_69, e4_70, e4_73, e4_76, e4_77, e4_80, e4_81, e4_84, e4_85, xk_64 hXx, xp_1 hXx, xk_66 hXx, xp_2 hXx, xk_73 hXx, xp_7 hXx, xp_13 hXx, xk_122 hXx, xk_65 hXx, ↓reduceIte, Nat.reduceAdd, Nat.reduceLeDiff, Nat.reduceLT, Nat.reduceEqDiff, not_false_eq_true, false_or, true_or, or_true, or_false, n0_e, n1_ne, n1_11, bI_z, bI_1, bI_fo, va_rf_some, aBk_1, aBk_0, nI_add, nI_mul, hk_si, hp_si, hl_si, hk_sp, hk_sl, hk_cp, hp_cp, g1, hj])
      have hX5 := hX4.on o5
      have o6 : On (fun a f => a = 66 ∧ f = 31) h5 (si_ h5 66 31 (nI 0)) := On.si ⟨rfl, rfl⟩
      have o26 : On (fun a f => HBF a f ∨ (a = 64 ∧ (f = 5 ∨ f = 18)) ∨ a = 122 ∨ (a = 66 ∧ f = 31)) (sp_ h1 64 3 (some tx')) (si_ h5 66 31 (nI 0)) := (((o3.mono (fun _ _ q => Or.inl q)).trans (o4.mono (fun _ _ q => Or.inr (Or.inl q)))).trans (o5.mono (fun a f q => Or.inr (Or.inr (Or.inl q.1))))).trans (o6.mono (fun _ _ q => Or.inr (Or.inr (Or.inr q))))
      have F6 := F2.on o26 (fun a f q => by unfold HBF at q; omega)
      have o16 : OA (0 + 0) (0 + 0) (fun a f => HBF a f ∨ (a = 64 ∧ (f = 5 ∨ f = 18)) ∨ a = 122 ∨ (a = 66 ∧ f = 31)) (fun a f => a = 64 ∧ f = 3) h1 (si_ h5 66 31 (nI 0)) := (oP.mono (Nat.le_refl _) (Nat.le_refl _) (fun _ _ q => q.elim) (fun _ _ q => q)).trans o26.OA
      have X6 := X1.oa F1 o16 (fun x f q => by unfold HBF at q; unfold xa; omega) (fun x f q => by
        rw [q.1, xk_64 hX1]; unfold xa; exact ⟨by omega, by decide, by decide, by decide, by decide⟩)
      have oF : OA (0 + 3300 + (0 + 0)) (0 + 26400 + (0 + 0)) XRS XRP h (si_ h5 66 31 (nI 0)) := o01.trans (o16.mono (Nat.le_refl _) (Nat.le_refl _) (fun a f q => by unfold XRS; rcases q with q | q | q | q; exact Or.inr (Or.inl q); exact Or.inr (Or.inr (Or.inl ⟨q.1, by omega⟩)); exact Or.inr (Or.inr (Or.inr (Or.inl q))); exact Or.inr (Or.inr (Or.inr (Or.inr q)))) (fun a f q => Or.inr q))
      have hX6 := hX5.on o6
      have p6 : hp_ (si_ h5 66 31 (nI 0)) 64 3 = some tx' := (o26.p _ _).trans p2
      have H6 : XH (si_ h5 66 31 (nI 0)) 78 w0 (se_ ρ.2.2.1) := by
        have o36 : On (fun a f => (a = 64 ∧ (f = 5 ∨ f = 18)) ∨ a = 122 ∨ (a = 66 ∧ f = 31)) h3 (si_ h5 66 31 (nI 0)) := ((o4.mono (fun _ _ q => Or.inl q)).trans (o5.mono (fun a f q => Or.inr (Or.inl q.1)))).trans (o6.mono (fun _ _ q => Or.inr (Or.inr q)))
        exact H3.off o36 (fun x f q => by omega)
      obtain ⟨ua, u1, u2, -⟩ := hI0.U
      have c4 : hi_ (si_ h5 66 31 (nI 0)) 64 4 = -1 := by
        rw [o26.i (fun q => by unfold HBF at q; omega)]
        show hi_ h1 64 4 = -1
        rw [o1.i (by show 64 < hz_ h; omega) (fun q => by unfold PRS KRF XPF at q; omega)]
        exact hi_same
      have c6 : hi_ (si_ h5 66 31 (nI 0)) 64 6 = nI ua := by
        rw [o26.i (fun q => by unfold HBF at q; omega)]
        show hi_ h1 64 6 = nI ua
        rw [o1.i (by show 64 < hz_ h; omega) (fun q => by unfold PRS KRF XPF at q; omega), hi_ne (by omega)]
        exact u2
      have c5 : hi_ (si_ h5 66 31 (nI 0)) 64 5 = nI 0 := by rw [hi_ne (by omega), o5.i (fun q => by unfold AB at q; omega)]; exact v5
      have c18 : hi_ (si_ h5 66 31 (nI 0)) 64 18 = nI 0 := by rw [hi_ne (by omega), o5.i (fun q => by unfold AB at q; omega)]; exact v18
      refine ⟨si_ h5 66 31 (nI 0), fun d => (st d).trans ?_, oF.le (by omega) (by omega), ⟨tx', sa', ga', la', qs', qg', ⟨hX6, p6, X6, H6⟩, ⟨ua, u1, c6, Nat.zero_le _, c5, fun i hi => absurd hi (Nat.not_lt_zero i)⟩, fun i hi => ⟨?_, fun z => by cases z⟩, ⟨Nat.zero_le _, c18, fun i hi => absurd hi (Nat.not_lt_zero i)⟩, ⟨Nat.zero_le _, hi_same, fun i hi => absurd hi (Nat.not_lt_zero i)⟩, c4⟩, F6, hW.oa oF z5 (fun a f q => by unfold XRS PRS KRF XPF HBF at q; omega) (fun a f q => by unfold XRP PRP at q; omega), (oF.k (by omega)).trans h45⟩
      · refine (e5 d).trans ?_
        have g3 : nI 3 ≤ nI 3 := Int32.le_refl _
        refine (e4_41).trans ?_
        simp only [e4_0, e4_1, e4_2, e4_3, e4_4, e4_7, e4_8, e4_9, e4_12, e4_15, e4_15n, e4_18, e4_19, e4_22, e4_23, e4_26, e4_29, e4_30, e4_31, e4_34, e4_35, e4_36, e4_39, e4_40, e4_42, e4_43, e4_46, e4_47, e4_50, e4_51, e4_52, e4_52z, e4_53, e4_56, e4_59, e4_62, e4_63, e4_64, e4_67, e4_68, e4_69, e4_70, e4_73, e4_76, e4_77, e4_80, e4_81, e4_84, e4_85, xk_64 hX5, xp_1 hX5, xk_66 hX5, xp_2 hX5, xk_73 hX5, xp_7 hX5, xp_13 hX5, xk_122 hX5, xk_65 hX5, ↓reduceIte, Nat.reduceAdd, Nat.reduceLeDiff, Nat.reduceLT, Nat.reduceEqDiff, not_false_eq_true, false_or, true_or, or_true, or_false, n0_e, n1_ne, n1_11, bI_z, bI_1, bI_fo, va_rf_some, aBk_1, aBk_0, nI_add, nI_mul, hk_si, hp_si, hl_si, hk_sp, hk_sl, hk_cp, hp_cp, g3]
      · rw [hi_ne (by omega), r5 i hi]; exact bI_f
    · rw [if_neg q] at R
      obtain ⟨h1, er, o1, F1, f1⟩ := R
      have ea : aRdO Ω (.inr ρ) = (gBad Ω (nI (tp_ (tzΩ Ω) ρ.1.2.2.2)), nI ρ.1.2.2.1) := if_neg q
      rw [ea]
      exact bad _ _ h1 er o1 F1 f1
theorem x_read (hI : XI2 h Ω) (hG : ∀ i, i < gn Ω → (gtp Ω i).toInt8.toInt32 = gtp Ω i) : ∃ h', (∀ d, (run (d + 32) 4 0 [.ref 64, aU, aU] [] h) = some (.returned (some (.int ((aRdg Ω).2))), h')) ∧ OA 3300 26400 XRS XRP h h' ∧ XI2 h' (aRdg Ω).1 := x_readN (m := 402) (by decide) hI hG
end XR98
