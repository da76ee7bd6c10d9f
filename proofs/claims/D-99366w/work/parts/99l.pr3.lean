set_option maxRecDepth 100000
/-! X: reading (26): Parser.read -/
section PR3
variable {d c s : Nat} {S P : Nat → Nat → Prop} {h h' : aH} {T : aTx} {nf tx sa ga la es eg : Nat} {qs qg : Nat → Nat} {vs vg : Nat → Int64}
theorem XTq.px2 (hT : XTq h T nf tx sa ga la es eg qs qg vs vg) (hF : FZ h) (o : OA c s XPF P h h') (hq : ∀ x f, P x f → x < 504) (hk5 : ∀ x f, P x f → (hk_ h x).1 ≠ 15 ∧ (hk_ h x).1 ≠ 12 ∧ (hk_ h x).1 ≠ 111) : XTq h' T nf tx sa ga la es eg qs qg vs vg := by
  obtain ⟨⟨a1, a2, a3, a4, a5, a6, a7, a8⟩, ⟨b1, b2, b3, b4⟩, c1, c2, c3, ⟨d1, d2, d3⟩⟩ := hT
  have z5 := hF.1
  have nS : ∀ x f, 504 ≤ x → ¬ XPF x f := fun x f hx q => by unfold XPF at q; omega
  have pn : ∀ {x f : Nat}, 504 ≤ x → ¬ P x f := fun hx q => by have := hq _ _ q; omega
  have tl := hF.lt a2 (by decide)
  have ll := hF.lt d2 (by decide)
  have hS : ∀ x f, XPF x f → x < 504 ∨ ((hk_ h x).1 ≠ 11 ∧ (hk_ h x).1 ≠ 101) := fun x f q => Or.inl (by unfold XPF at q; omega)
  have hP : ∀ x f, P x f → x < 504 ∨ (hk_ h x).1 ≠ 11 := fun x f q => Or.inl (hq x f q)
  refine ⟨⟨a1, (o.k tl).trans a2, (o.p tl (pn a1)).trans a3, (o.p tl (pn a1)).trans a4, (o.p tl (pn a1)).trans a5, (o.i tl (nS _ _ a1)).trans a6, (o.i tl (nS _ _ a1)).trans a7, (o.i tl (nS _ _ a1)).trans a8⟩, ⟨b1.oa hF (by decide) o (nS _ _ b1.1) (fun f => ⟨pn b1.1, fun hn => pn (b1.2.2.2.2.2.1 hn).1⟩), b2.oa hF (by decide) o (nS _ _ b2.1) (fun f => ⟨pn b2.1, fun hn => pn (b2.2.2.2.2.2.1 hn).1⟩), b3, b4⟩, fun s hs => ?_, fun g hg => ?_, c3, ⟨d1, (o.k ll).trans d2, fun k hk => ?_⟩⟩
  · obtain ⟨k1, k2⟩ := b1.2.2.2.2.2.2 s hs
    have kl := hF.lt k2 (by decide)
    obtain ⟨e1, e2, e3⟩ := c1 s hs
    exact ⟨(o.i kl (nS _ _ k1)).trans e1, (o.i kl (nS _ _ k1)).trans e2, e3.oa hF kl o (pn k1) hS hP⟩
  · obtain ⟨k1, k2⟩ := b2.2.2.2.2.2.2 g hg
    have kl := hF.lt k2 (by decide)
    obtain ⟨⟨e1, e2, e3, e4⟩, e5⟩ := c2 g hg
    exact ⟨⟨(o.i kl (nS _ _ k1)).trans e1, (o.i kl (nS _ _ k1)).trans e2, (o.i kl (nS _ _ k1)).trans e3, (o.i kl (nS _ _ k1)).trans e4⟩, e5.oa hF kl o (pn k1) hS hP⟩
  · have := d3 k hk
    revert this
    cases la_ T k with
    | none => intro w; exact (o.p ll (pn d1)).trans w
    | some L =>
      rintro ⟨l, w1, w2⟩
      exact ⟨l, (o.p ll (pn d1)).trans w1, w2.oa hF o (fun x f q => Or.inl q.na) (fun x f q => hk5 x f q)⟩
end PR3
theorem hp_same {h : aH} {a f : Nat} {v : Option Nat} : hp_ (sp_ h a f v) a f = v := if_pos ⟨rfl, rfl⟩
def PRS (a f : Nat) : Prop := KRF a f ∨ XPF a f
def PRP (a f : Nat) : Prop := a = 73 ∧ f = 39
section PR4
variable {n : Nat} {h h' : aH} {β : Nat → Nat}
/-- what Parser.read comes to -/
def PdR (β : Nat → Nat) (n : Nat) (h : aH) (v : aEr aRd) : Prop := match v with
  | .inl e => ∃ h', (∀ d, (run (d + 31) 84 0 [.ref 73] [] h) = some (.threw 65, h')) ∧ OA 3300 26400 PRS PRP h h' ∧ FZ h' ∧ XF h' e.1 e.2
  | .inr ρ => if ρ.1.2.2.1 = 0 then ∃ h' tx, (∀ d, (run (d + 31) 84 0 [.ref 73] [] h) = some (.returned (some (.ref tx)), h')) ∧ OA 3300 26400 PRS PRP h h' ∧ XG h' β n (Nz β n) (hz_ h) ρ tx else ∃ h', (∀ d, (run (d + 31) 84 0 [.ref 73] [] h) = some (.threw 65, h')) ∧ OA 3300 26400 PRS PRP h h' ∧ FZ h' ∧ XF h' ρ.1.2.2.1 (tp_ (tz β n) ρ.1.2.2.2)
theorem pd_read {m : Nat} (hm : 401 ≤ m) (hX : XS h) (hF : FZ h) (hV : BV β n) (hB : XBt h β n) (hW : WDx h) (h45 : hk_ h 45 = (114, 0)) : PdR β n h (linesX (tz β n) m r0) := by
  have z5 := hF.1
  obtain ⟨h1, e1, o1, K1, V1⟩ := k_read hX hV hB hW
  have hX1 := hX.on o1
  have F1 := hF.on o1 (fun a f q => by unfold KRF at q; omega)
  have zz1 := o1.z
  -- the text
  have o2 : OA (0 + 1) (0 + 6) PRS PRP h1 (nw_ h1 4 0 6) := OA.refl.nw
  have F2 := F1.nw (κ := 4) (n := 0) (u := 6)
  have k2 : hk_ (nw_ h1 4 0 6) (hz_ h1) = (4, 0) := if_pos rfl
  have z51 := F1.1
  obtain ⟨h3, sa, ga, la, e3, o3, F3, T3, gs, gg, gl⟩ := t_init (qs := fun _ => 0) (qg := fun _ => 0) (vs := fun _ => 0) (vg := fun _ => 0) F2 k2 z51 ((F1.2 (hz_ h1) (Nat.le_refl _)).2 47).2 ((F1.2 (hz_ h1) (Nat.le_refl _)).2 49).2
  have gs : hz_ h1 + 1 ≤ sa := gs
  have gg : hz_ h1 + 1 ≤ ga := gg
  have gl : hz_ h1 + 1 ≤ la := gl
  have o13 : OA (0 + 1 + 3) (0 + 6 + 10) PRS PRP h1 h3 := o2.tf o3 (fun a f q => Or.inr (by have q : a = hz_ h1 := q; omega)) (fun a f q => Or.inr (by have q : a = hz_ h1 := q; omega))
  have oX : OA (0 + 1 + 3) (0 + 6 + 10) XPF NPx h1 h3 := (OA.refl.nw (S := XPF) (P := NPx) (κ := 4) (n := 0) (u := 6)).tf o3 (fun a f q => Or.inr (by have q : a = hz_ h1 := q; omega)) (fun a f q => Or.inr (by have q : a = hz_ h1 := q; omega))
  have zz3 := o13.z
  have hX2 : XS (nw_ h1 4 0 6) := hX1.oa (OA.refl.nw (S := NPx) (P := NPx)) z51 NPx.t
  have hX3 := hX1.oa oX z51 NPx.t
  have h98 : (4 : Nat) < 98 := by decide
  -- the parser's state
  have p5 : OA 0 0 XPF PRP h3 (si_ (si_ (si_ (sp_ h3 73 39 (some (hz_ h1))) 73 40 (nI 0)) 73 41 (nI 0)) 73 42 (nI 0)) := (((OA.refl.sps (P := PRP) ⟨rfl, rfl⟩).sis (Or.inl ⟨rfl, by decide, by decide⟩)).sis (Or.inl ⟨rfl, by decide, by decide⟩)).sis (Or.inl ⟨rfl, by decide, by decide⟩)
  have F5 := (((F3.sp (x := 73) (f := 39) (v := some (hz_ h1)) (by omega)).si (x := 73) (f := 40) (v := nI 0) (by show 73 < hz_ h3; omega)).si (x := 73) (f := 41) (v := nI 0) (by show 73 < hz_ h3; omega)).si (x := 73) (f := 42) (v := nI 0) (by show 73 < hz_ h3; omega)
  have v39 : hp_ (si_ (si_ (si_ (sp_ h3 73 39 (some (hz_ h1))) 73 40 (nI 0)) 73 41 (nI 0)) 73 42 (nI 0)) 73 39 = some (hz_ h1) := by rw [hp_si, hp_si, hp_si]; exact hp_same
  have v40 : hi_ (si_ (si_ (si_ (sp_ h3 73 39 (some (hz_ h1))) 73 40 (nI 0)) 73 41 (nI 0)) 73 42 (nI 0)) 73 40 = nI 0 := (hi_ne (by omega)).trans ((hi_ne (by omega)).trans hi_same)
  have v41 : hi_ (si_ (si_ (si_ (sp_ h3 73 39 (some (hz_ h1))) 73 40 (nI 0)) 73 41 (nI 0)) 73 42 (nI 0)) 73 41 = nI 0 := (hi_ne (by omega)).trans hi_same
  have v42 : hi_ (si_ (si_ (si_ (sp_ h3 73 39 (some (hz_ h1))) 73 40 (nI 0)) 73 41 (nI 0)) 73 42 (nI 0)) 73 42 = nI 0 := hi_same
  have k73 := xk_73 hX3
  have st : ∀ d, (run (d + 31) 84 0 [.ref 73] [] h) = prAt d 33 (si_ (si_ (si_ (sp_ h3 73 39 (some (hz_ h1))) 73 40 (nI 0)) 73 41 (nI 0)) 73 42 (nI 0)) := fun d => by
    unfold prAt
    simp only [e84_0, e84_1, e84_4, e84_7, e84_8, e84_11, e84_12, e84_15, e84_15n, e84_18, e84_19, e84_20, e84_23, e84_24, e84_25, e84_28, e84_29, e84_30, e84_34, e84_37, e84_38, e84_41, e84_42, e84_45, e84_46, e84_48, e84_51, e84_54, e84_55, e84_58, e84_61, e84_62, e84_63, e84_66, e84_67, e84_70, e84_73, e84_74, e84_75, e84_78, xk_64 hX, xk_73 hX, xk_66 hX, xk_65 hX, xp_37 hX, xk_64 hX1, xk_73 hX1, xk_66 hX1, xk_65 hX1, xp_37 hX1, xk_64 hX2, xk_73 hX2, xk_66 hX2, xk_65 hX2, xp_37 hX2, xk_64 hX3, xk_73 hX3, xk_66 hX3, xk_65 hX3, xp_37 hX3, ↓reduceIte, Nat.reduceAdd, Nat.reduceLeDiff, Nat.reduceLT, Nat.reduceEqDiff, not_false_eq_true, false_or, true_or, or_true, or_false, n0_e, n1_ne, n1_11, bI_z, bI_1, bI_fo, aBk_1, aBk_0, nI_add, nI_mul, hk_si, hp_si, hl_si, hk_sp, hk_sl, hk_cp, hp_cp, e1, k2, h98, e3, va_rf_some]
  have k3 : hk_ h3 73 = (3, 0) := k73
  have T5 := T3.px2 F3 p5 (fun x f q => by have := q.1; omega) (fun x f q => by rw [q.1, k3]; decide)
  generalize si_ (si_ (si_ (sp_ h3 73 39 (some (hz_ h1))) 73 40 (nI 0)) 73 41 (nI 0)) 73 42 (nI 0) = h5 at p5 F5 v39 v40 v41 v42 st T5
  have PP : PTx PRP := fun x f q => Or.inl q
  have o15 : OA (0 + 1 + 3 + 0) (0 + 6 + 10 + 0) XPF PRP h1 h5 := (oX.mono (Nat.le_refl _) (Nat.le_refl _) (fun _ _ q => q) (fun _ _ q => q.elim)).trans p5
  have hX5 := hX1.oa o15 z51 PP
  have K5 := K1.oa o15 z51 (fun a f q => by unfold XPF at q; omega)
  have V5 := V1.oa o15 z51 (fun a f q => by unfold XPF at q; omega)
  have R5 : XR h5 (tz β n) (Nz β n) r0.1 := ⟨hX5, tz_TK hV, K5, Nat.zero_le _, v40, v41, by show (0 : Nat) < 10; decide, v42, fun q => absurd rfl q⟩
  have E5 : EXr h5 β n (Nz β n) r0.1 := ⟨R5, V5, F5⟩
  have q45 : hk_ h5 45 = (114, 0) := (o15.k (by omega)).trans ((o1.k _).trans h45)
  have G5 : XG h5 β n (Nz β n) (hz_ h) r0 (hz_ h1) := ⟨sa, ga, la, 0, 0, _, _, _, _, E5, v39, q45, T5, NRx_0, fun g _ => rfl, ⟨z5, by omega, by omega, by omega, by omega, fun q => absurd q (Nat.lt_irrefl _), fun q => absurd q (Nat.lt_irrefl _), fun g hg => absurd hg (Nat.not_lt_zero g)⟩⟩
  have I := pr_lines hV m r0 h5 (by show 401 ≤ m + 0; omega) RV0 G5
  have oB : OA (0 + (0 + 1 + 3 + 0)) (0 + (0 + 6 + 10 + 0)) PRS PRP h h5 := (OA.tf (o1.mono (fun _ _ q => Or.inl q)).OA o15 (fun a f q => Or.inl (Or.inr q)) (fun a f q => Or.inl q))
  have fS : ∀ a f, TDS (hz_ h) a f → PRS a f ∨ hz_ h ≤ a := fun a f q => q.imp (fun z => Or.inr z) id
  have fP : ∀ a f, TDP (hz_ h) a f → PRP a f ∨ hz_ h ≤ a := fun a f q => Or.inr q
  cases hy : linesX (tz β n) m r0 with
  | inl e =>
    rw [hy] at I
    obtain ⟨h6, e6, o6, F6, f6⟩ := I
    have z : r0.1.1 = 0 := rfl
    rw [z] at o6
    exact ⟨h6, fun d => (st d).trans (e6 d), (oB.tf o6 fS fP).le (by omega) (by omega), F6, f6⟩
  | inr ρ =>
    rw [hy] at I
    obtain ⟨h6, e6, o6, G6⟩ := I
    have z : r0.1.1 = 0 := rfl
    rw [z] at o6
    obtain ⟨sa', ga', la', es', eg', qs', qg', vs', vg', g6⟩ := id G6
    have E6 := g6.1
    have le6 := E6.le
    have hX6 := E6.1.1
    have w42 := E6.1.2.2.2.2.2.2.2.1
    have w10 := E6.1.2.2.2.2.2.2.1
    have oF := (oB.tf o6 fS fP)
    show if ρ.1.2.2.1 = 0 then _ else _
    by_cases q : ρ.1.2.2.1 = 0
    · rw [if_pos q]
      rw [q] at w42
      have t6 := g6.2.1
      refine ⟨h6, hz_ h1, fun d => ((st d).trans (e6 d)).trans ?_, oF.le (by omega) (by omega), G6⟩
      unfold prAt
      simp only [e84_54, e84_55, e84_58, e84_61, e84_62, e84_63, e84_66, e84_67, e84_70, e84_73, e84_74, e84_75, e84_78, xk_64 hX6, xk_73 hX6, xk_66 hX6, xk_65 hX6, xp_37 hX6, ↓reduceIte, Nat.reduceAdd, Nat.reduceLeDiff, Nat.reduceLT, Nat.reduceEqDiff, not_false_eq_true, false_or, true_or, or_true, or_false, n0_e, n1_ne, n1_11, bI_z, bI_1, bI_fo, aBk_1, aBk_0, nI_add, nI_mul, hk_si, hp_si, hl_si, hk_sp, hk_sl, hk_cp, hp_cp, w42, t6, va_rf_some]
    · rw [if_neg q]
      obtain ⟨wN, w43⟩ := E6.1.2.2.2.2.2.2.2.2 q
      obtain ⟨h7, e7, o7, f7⟩ := p_wrongAt E6.1 (c := ρ.1.2.2.1) wN
      have hX7 := f7.1
      have nz : (nI ρ.1.2.2.1 = 0) = False := by rw [nI_z (by omega)]; exact eq_false q
      refine ⟨h7, fun d => ((st d).trans (e6 d)).trans ?_, (oF.trans (o7.mono (fun _ _ q => Or.inr q)).OA).le (by omega) (by omega), E6.2.2.px o7, f7⟩
      unfold prAt
      simp only [e84_54, e84_55, e84_58, e84_61, e84_62, e84_63, e84_66, e84_67, e84_70, e84_73, e84_74, e84_75, e84_78, xk_64 hX6, xk_73 hX6, xk_66 hX6, xk_65 hX6, xp_37 hX6, xk_64 hX7, xk_73 hX7, xk_66 hX7, xk_65 hX7, xp_37 hX7, ↓reduceIte, Nat.reduceAdd, Nat.reduceLeDiff, Nat.reduceLT, Nat.reduceEqDiff, not_false_eq_true, false_or, true_or, or_true, or_false, n0_e, n1_ne, n1_11, bI_z, bI_1, bI_fo, va_rf_some, aBk_1, aBk_0, nI_add, nI_mul, hk_si, hp_si, hl_si, hk_sp, hk_sl, hk_cp, hp_cp, w42, nz, w43, e7, bx_84, bx_85, bx_86, bx_87, bx_88, bx_89, bx_90, bx_91, bx_92, bx_93, bx_94, bx_95, bx_96, bx_97, bx_98, bx_99, bx_100, bx_101, bx_102, bx_103, bx_104]
end PR4
