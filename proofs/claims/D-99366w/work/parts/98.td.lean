set_option maxRecDepth 100000
/-! X: reading (14): told: death, seed, laws -/
/-- a line without its semicolon -/
def fo1X (τ : aTok) (ν : aNs) (f : Nat → Int32) (σ : aPs) : aEr (aPs × Option (Nat × Nat)) := eB (knX τ ν σ) fun s => eB (knX τ ν s) fun w => .inr (foeW f (twoN (gueN ν (tn_ τ σ.1)) (gueN ν (tn_ τ s.1))) w s.1, twoN (gueN ν (tn_ τ σ.1)) (gueN ν (tn_ τ s.1)))
def tdS (τ : aTok) (σ : aPs) (ν : aNs) (T : aTx) (nf : Nat) : aEr aRd := eB (roomX τ (ns_ T) 4 σ) fun s1 => eB (namX τ ν s1) fun s2 => eB (bndX τ s2 1 24) fun s3 => eB (bndX τ s3 0 99) fun s4 => .inr (s4, addN ν (tn_ τ s1.1) (ns_ T), addS T (nI (tv_ τ s2.1)) (nI (tv_ τ s3.1)), nf)
def tdG (τ : aTok) (σ : aPs) (ν : aNs) (T : aTx) (nf : Nat) : aEr aRd := eB (roomX τ (ng_ T) 7 σ) fun s1 => eB (namX τ ν s1) fun s2 => eB (bndX τ s2 0 23) fun s3 => eB (bndX τ s3 1 12) fun s4 => eB (bndX τ s4 0 99) fun s5 => .inr (s5, addN ν (tn_ τ s1.1) (10 + ng_ T), addG T (nI (tv_ τ s2.1)) (nI (tv_ τ s3.1)) (nI (tv_ τ s4.1)), nf)
def tdF (τ : aTok) (σ : aPs) (ν : aNs) (T : aTx) (nf : Nat) : aEr aRd := eB (roomX τ nf 8 σ) fun s1 => eB (fo1X τ ν (fo_ T) s1) fun q => .inr (q.1, ν, setF T (addF (fo_ T) q.2), nf + 1)
def tdD (τ : aTok) (σ : aPs) (ν : aNs) (T : aTx) (nf : Nat) : aEr aRd := eB (goX τ σ) fun s1 => eB (bndX τ s1 1 999) fun s2 => .inr (s2, ν, setD T (nI (tv_ τ s1.1)), nf)
def tdE (τ : aTok) (σ : aPs) (ν : aNs) (T : aTx) (nf : Nat) : aEr aRd := eB (goX τ σ) fun s1 => eB (bndX τ s1 0 9999) fun s2 => .inr (s2, ν, setE T (nI (tv_ τ s1.1)), nf)
def tdL (τ : aTok) (σ : aPs) (ν : aNs) (T : aTx) (nf : Nat) (k : Nat) : aEr aRd := eB (goX τ σ) fun s1 => eB (lawX τ s1) fun q => .inr (q.1, ν, setL T k q.2, nf)
def toldX (τ : aTok) (ρ : aRd) : aEr aRd :=
  if tk_ τ ρ.1.1 = 20 then tdS τ ρ.1 ρ.2.1 ρ.2.2.1 ρ.2.2.2
  else if tk_ τ ρ.1.1 = 21 then tdG τ ρ.1 ρ.2.1 ρ.2.2.1 ρ.2.2.2
  else if tk_ τ ρ.1.1 = 22 then tdF τ ρ.1 ρ.2.1 ρ.2.2.1 ρ.2.2.2
  else if tk_ τ ρ.1.1 = 27 then tdD τ ρ.1 ρ.2.1 ρ.2.2.1 ρ.2.2.2
  else if tk_ τ ρ.1.1 = 28 then tdE τ ρ.1 ρ.2.1 ρ.2.2.1 ρ.2.2.2
  else if 23 ≤ tk_ τ ρ.1.1 ∧ tk_ τ ρ.1.1 ≤ 26 then tdL τ ρ.1 ρ.2.1 ρ.2.2.1 ρ.2.2.2 (tk_ τ ρ.1.1 - 23)
  else .inl (1, tp_ τ ρ.1.1)
/-- the semicolon -/
def semX (τ : aTok) (ρ : aRd) : aEr aRd := eB (mustX τ ρ.1 4) fun s => .inr (s, ρ.2)
theorem eB_as {α β γ : Type} {x : aEr α} {f : α → aEr β} {g : β → aEr γ} : eB (eB x f) g = eB x (fun a => eB (f a) g) := by
  cases x with
  | inl e => rfl
  | inr a => rfl
theorem tell_told {τ : aTok} {ρ : aRd} : tellX τ ρ = eB (toldX τ ρ) (semX τ) := by
  unfold tellX toldX
  repeat' split
  · unfold tlS tdS; simp only [eB_as]; rfl
  · unfold tlG tdG; simp only [eB_as]; rfl
  · unfold tlF tdF foeX fo1X; simp only [eB_as]; rfl
  · unfold tlD tdD; simp only [eB_as]; rfl
  · unfold tlE tdE; simp only [eB_as]; rfl
  · unfold tlL tdL lawT lawX ifT; simp only [eB_as]; rfl
  · rfl
/-- X's whole state while it reads -/
def XGs (h : aH) (β : Nat → Nat) (n N z0 : Nat) (ρ : aRd) (tx sa ga la es eg : Nat) (qs qg : Nat → Nat) (vs vg : Nat → Int64) : Prop := EXr h β n N ρ.1 ∧ hp_ h 73 39 = some tx ∧ hk_ h 45 = (114, 0) ∧ XTq h ρ.2.2.1 ρ.2.2.2 tx sa ga la es eg qs qg vs vg ∧ NRx ρ.2.1 ρ.2.2.1 vs vg ∧ (∀ g, ng_ ρ.2.2.1 ≤ g → fo_ ρ.2.2.1 g = 0) ∧ (504 ≤ z0 ∧ z0 ≤ tx ∧ z0 ≤ sa ∧ z0 ≤ ga ∧ z0 ≤ la ∧ (0 < ns_ ρ.2.2.1 → z0 ≤ es) ∧ (0 < ng_ ρ.2.2.1 → z0 ≤ eg) ∧ ∀ g, g < ng_ ρ.2.2.1 → z0 ≤ qg g)
def XG (h : aH) (β : Nat → Nat) (n N z0 : Nat) (ρ : aRd) (tx : Nat) : Prop := ∃ sa ga la es eg qs qg vs vg, XGs h β n N z0 ρ tx sa ga la es eg qs qg vs vg
/-- what a line writes -/
def TDS (z0 a f : Nat) : Prop := XPF a f ∨ z0 ≤ a
def TDP (z0 a _f : Nat) : Prop := z0 ≤ a
def TdR (β : Nat → Nat) (n N z0 tx : Nat) (σ : aPs) (h : aH) (v : aEr aRd) : Prop := match v with
  | .inl e => ∃ h', (∀ d, (run (d + 30) 88 0 [.ref 73, aU, aU] [] h) = some (.threw 65, h')) ∧ OA (8 * (404 - σ.1)) (64 * (404 - σ.1)) (TDS z0) (TDP z0) h h' ∧ FZ h' ∧ XF h' e.1 e.2
  | .inr ρ => ∃ h', (∀ d, (run (d + 30) 88 0 [.ref 73, aU, aU] [] h) = some (.returned none, h')) ∧ OA (8 * (ρ.1.1 - σ.1)) (64 * (ρ.1.1 - σ.1)) (TDS z0) (TDP z0) h h' ∧ XG h' β n N z0 ρ tx
section TD98
variable {n N z0 : Nat} {h h' : aH} {β : Nat → Nat} {σ : aPs} {ν : aNs} {T T' : aTx} {nf nf' tx sa ga la es eg : Nat} {qs qg : Nat → Nat} {vs vg : Nat → Int64} {c s : Nat} {S : Nat → Nat → Prop}
theorem XTq.up (hT : XTq h T nf tx sa ga la es eg qs qg vs vg) (hF : FZ h) (o : OA c s S NPx h h') (hS : ∀ x f, S x f → (x < 504 ∧ ¬ xa x) ∨ x = tx) (e1 : T'.1 = T.1) (e2 : T'.2.1 = T.2.1) (e3 : T'.2.2.1 = T.2.2.1) (e4 : T'.2.2.2.2 = T.2.2.2.2) (e47 : hi_ h' tx 47 = nI nf') (e48 : hi_ h' tx 48 = de_ T') (e49 : hi_ h' tx 49 = se_ T') : XTq h' T' nf' tx sa ga la es eg qs qg vs vg := by
  obtain ⟨⟨a1, a2, a3, a4, a5, a6, a7, a8⟩, ⟨b1, b2, b3, b4⟩, c1, c2, c3, ⟨d1, d2, d3⟩⟩ := hT
  obtain ⟨t1, t2, t3, t4, t5⟩ := T
  obtain ⟨t1', t2', t3', t4', t5'⟩ := T'
  simp only at e1 e2 e3 e4
  subst e1; subst e2; subst e3; subst e4
  have tl := hF.lt a2 (by decide)
  have ll := hF.lt d2 (by decide)
  have nS : ∀ x f, 504 ≤ x → (hk_ h x).1 ≠ 4 → ¬ S x f := fun x f hx hk q => by
    rcases hS _ _ q with z | z
    · omega
    · exact hk (by rw [z, a2])
  have hS' : ∀ x f, S x f → x < 504 ∨ ((hk_ h x).1 ≠ 11 ∧ (hk_ h x).1 ≠ 101) := fun x f q => (hS x f q).imp (fun z => z.1) (fun z => by rw [z, a2]; decide)
  have hP : ∀ x f, NPx x f → x < 504 ∨ (hk_ h x).1 ≠ 11 := fun _ _ q => q.elim
  refine ⟨⟨a1, (o.k tl).trans a2, (o.p tl (fun q => q)).trans a3, (o.p tl (fun q => q)).trans a4, (o.p tl (fun q => q)).trans a5, e47, e48, e49⟩, ⟨b1.oa hF (by decide) o (nS _ _ b1.1 (by rw [b1.2.1]; decide)) (fun f => ⟨fun q => q, fun _ q => q⟩), b2.oa hF (by decide) o (nS _ _ b2.1 (by rw [b2.2.1]; decide)) (fun f => ⟨fun q => q, fun _ q => q⟩), b3, b4⟩, fun s hs => ?_, fun g hg => ?_, c3, ⟨d1, (o.k ll).trans d2, fun k hk => ?_⟩⟩
  · obtain ⟨k1, k2⟩ := b1.2.2.2.2.2.2 s hs
    have kl := hF.lt k2 (by decide)
    have kn : (hk_ h (qs s)).1 ≠ 4 := by rw [k2]; decide
    obtain ⟨e1, e2, e3⟩ := c1 s hs
    exact ⟨(o.i kl (nS _ _ k1 kn)).trans e1, (o.i kl (nS _ _ k1 kn)).trans e2, e3.oa hF kl o (fun q => q) hS' hP⟩
  · obtain ⟨k1, k2⟩ := b2.2.2.2.2.2.2 g hg
    have kl := hF.lt k2 (by decide)
    have kn : (hk_ h (qg g)).1 ≠ 4 := by rw [k2]; decide
    obtain ⟨⟨e1, e2, e3, e4⟩, e5⟩ := c2 g hg
    exact ⟨⟨(o.i kl (nS _ _ k1 kn)).trans e1, (o.i kl (nS _ _ k1 kn)).trans e2, (o.i kl (nS _ _ k1 kn)).trans e3, (o.i kl (nS _ _ k1 kn)).trans e4⟩, e5.oa hF kl o (fun q => q) hS' hP⟩
  · have w : LaR h la k (t5' k) := d3 k hk
    show LaR h' la k (t5' k)
    cases hq : t5' k with
    | none => rw [hq] at w; exact (o.p ll (fun q => q)).trans w
    | some L =>
      rw [hq] at w
      obtain ⟨l, w1, w2⟩ := w
      exact ⟨l, (o.p ll (fun q => q)).trans w1, w2.oa hF o (fun x f q => (hS x f q).imp (fun z => z.2) (fun z => Or.inl (by rw [z, a2]; decide))) (fun _ _ q => q.elim)⟩
theorem XPF.ss {a f : Nat} (q : XPF a f) : a < 504 ∧ ¬ xa a := ⟨by unfold XPF at q; omega, q.na⟩
theorem XPF.td {a f : Nat} (q : XPF a f) : TDS z0 a f := Or.inl q
theorem onTd (o : On XPF h h') : OA 0 0 (TDS z0) (TDP z0) h h' := (o.mono (fun _ _ q => XPF.td (z0 := z0) q)).OA
theorem oaTd (o : OA c s XPF NPx h h') : OA c s (TDS z0) (TDP z0) h h' := o.mono (Nat.le_refl _) (Nat.le_refl _) (fun _ _ q => XPF.td (z0 := z0) q) (fun _ _ q => q.elim)
/-- what stands is kept by the parser's own steps -/
theorem XGs.px {ρ : aRd} {σ' : aPs} (hG : XGs h β n N z0 ρ tx sa ga la es eg qs qg vs vg) (o : OA c s XPF NPx h h') (hE : EXr h' β n N σ') : XGs h' β n N z0 (σ', ρ.2) tx sa ga la es eg qs qg vs vg := by
  obtain ⟨g1, g2, g3, g4, g5, g6, g7⟩ := hG
  have hF := g1.2.2
  have z5 := hF.1
  exact ⟨hE, (o.p (by omega) (fun q => q)).trans g2, (o.k (by omega)).trans g3, g4.px hF o, g5, g6, g7⟩
/-- ahead of the switch -/
theorem td_at (hR : XR h (tz β n) N σ) (hk : 20 ≤ tk_ (tz β n) σ.1) : ∀ d, (run (d + 30) 88 0 [.ref 73, aU, aU] [] h) = (run (d + 30) 88 25 [.ref 73, .int (nI (tk_ (tz β n) σ.1 - 20)), aU] [] h) := fun d => by
  have hX := hR.1
  have h40 := hR.2.1.1
  have hj := hR.2.2.2.1
  have g1 : σ.1 < 2001 := by omega
  have e5 : srt (tk_ (tz β n) σ.1) = 3 := (srt_3 (hR.2.2.1 σ.1 hj).1).mpr hk
  have es := fun d => p_sort (d := d) hR (by omega)
  rw [e5] at es
  have a2 := hR.2.2.2.2.1
  have kw := (hR.2.2.1 σ.1 hj).2.2.2.1 hk
  simp only [e88_0, e88_1, e88_4, e88_5, e88_8, e88_9, e88_12, e88_15, e88_16, e88_19, e88_20, e88_23, e88_24, e88_26, e88_27, e88_30, e88_31, e88_33, e88_36, e88_37, e88_40, e88_41, e88_44, e88_47, e88_48, e88_49, e88_50, e88_51, e88_54, e88_55, e88_56, e88_57_0, e88_57_1, e88_57_2, e88_57_3, e88_57_4, e88_57_5, e88_57_6, e88_57_7, e88_57_8, e88_57_d, e88_108, e88_109, e88_110, e88_113, e88_116, e88_119, e88_120, e88_123, e88_126, e88_127, e88_128, e88_131, e88_134, e88_135, e88_136, e88_137, e88_138, e88_140, e88_143, e88_146, e88_147, e88_148, e88_149, e88_151, e88_154, e88_157, e88_158, e88_161, e88_164, e88_165, e88_168, e88_169, e88_172, e88_173, e88_174, e88_177, e88_180, e88_183, e88_185, e88_188, e88_191, e88_192, e88_193, e88_196, e88_199, e88_200, e88_201, e88_202, e88_203, e88_205, e88_208, e88_211, e88_212, e88_213, e88_214, e88_216, e88_219, e88_222, e88_223, e88_224, e88_225, e88_227, e88_230, e88_233, e88_234, e88_237, e88_240, e88_241, e88_244, e88_245, e88_248, e88_249, e88_250, e88_253, e88_256, e88_258, e88_261, e88_262, e88_265, e88_266, e88_269, e88_270, e88_273, e88_274, e88_275, e88_278, e88_281, e88_282, e88_285, e88_286, e88_289, e88_290, e88_291, e88_294, e88_297, e88_300, e88_303, e88_304, e88_307, e88_308, e88_311, e88_312, e88_313, e88_316, e88_319, e88_322, e88_325, e88_326, e88_327, e88_330, e88_331, xk_64 hX, xk_73 hX, xk_66 hX, xk_65 hX, xp_35 hX, xk_72 hX, xp_37 hX, ↓reduceIte, Nat.reduceAdd, Nat.reduceLeDiff, Nat.reduceLT, Nat.reduceEqDiff, not_false_eq_true, false_or, true_or, or_true, or_false, n0_e, n1_ne, n1_11, bI_z, bI_1, bI_fo, va_rf_some, aBk_1, aBk_0, nI_add, nI_mul, hk_si, hp_si, hl_si, hk_sp, hk_sl, hk_cp, hp_cp, es, a2, g1, kw]
/-- what is no line -/
theorem td_none (hE : EXr h β n N σ) (hk : tk_ (tz β n) σ.1 < 20 ∨ 28 < tk_ (tz β n) σ.1) : TdR β n N z0 tx σ h (.inl (1, tp_ (tz β n) σ.1)) := by
  obtain ⟨hR, hW, hF⟩ := id hE
  have hX := hR.1
  have hle := hE.le
  have h40 := hR.2.1.1
  have hj := hR.2.2.2.1
  have g1 : σ.1 < 2001 := by omega
  have kt := (hR.2.1.2.1 σ.1 hj).1
  have k0 := (hR.2.2.1 σ.1 hj).1
  by_cases q3 : tk_ (tz β n) σ.1 = 3
  · obtain ⟨h1, e1, o1, f1⟩ := p_sortF hR q3
    refine ⟨h1, fun d => ?_, (onTd o1).le (Nat.zero_le _) (Nat.zero_le _), hF.px o1, f1⟩
    simp only [e88_0, e88_1, e88_4, e88_5, e88_8, e88_9, e88_12, e88_15, e88_16, e88_19, e88_20, e88_23, e88_24, e88_25, e88_26, e88_27, e88_30, e88_31, e88_33, e88_36, e88_37, e88_40, e88_41, e88_44, e88_47, e88_48, e88_49, e88_50, e88_51, e88_54, e88_55, e88_56, e88_57_0, e88_57_1, e88_57_2, e88_57_3, e88_57_4, e88_57_5, e88_57_6, e88_57_7, e88_57_8, e88_57_d, e88_108, e88_109, e88_110, e88_113, e88_116, e88_119, e88_120, e88_123, e88_126, e88_127, e88_128, e88_131, e88_134, e88_135, e88_136, e88_137, e88_138, e88_140, e88_143, e88_146, e88_147, e88_148, e88_149, e88_151, e88_154, e88_157, e88_158, e88_161, e88_164, e88_165, e88_168, e88_169, e88_172, e88_173, e88_174, e88_177, e88_180, e88_183, e88_185, e88_188, e88_191, e88_192, e88_193, e88_196, e88_199, e88_200, e88_201, e88_202, e88_203, e88_205, e88_208, e88_211, e88_212, e88_213, e88_214, e88_216, e88_219, e88_222, e88_223, e88_224, e88_225, e88_227, e88_230, e88_233, e88_234, e88_237, e88_240, e88_241, e88_244, e88_245, e88_248, e88_249, e88_250, e88_253, e88_256, e88_258, e88_261, e88_262, e88_265, e88_266, e88_269, e88_270, e88_273, e88_274, e88_275, e88_278, e88_281, e88_282, e88_285, e88_286, e88_289, e88_290, e88_291, e88_294, e88_297, e88_300, e88_303, e88_304, e88_307, e88_308, e88_311, e88_312, e88_313, e88_316, e88_319, e88_322, e88_325, e88_326, e88_327, e88_330, e88_331, xk_64 hX, xk_73 hX, xk_66 hX, xk_65 hX, xp_35 hX, xk_72 hX, xp_37 hX, ↓reduceIte, Nat.reduceAdd, Nat.reduceLeDiff, Nat.reduceLT, Nat.reduceEqDiff, not_false_eq_true, false_or, true_or, or_true, or_false, n0_e, n1_ne, n1_11, bI_z, bI_1, bI_fo, va_rf_some, aBk_1, aBk_0, nI_add, nI_mul, hk_si, hp_si, hl_si, hk_sp, hk_sl, hk_cp, hp_cp, e1, bx_84, bx_85, bx_86, bx_87, bx_88, bx_89, bx_90, bx_91, bx_92, bx_93, bx_94, bx_95, bx_96, bx_97, bx_98, bx_99, bx_100, bx_101, bx_102, bx_103, bx_104]
  · obtain ⟨h1, e1, o1, f1⟩ := p_wrong (c := 1) hR
    have hX1 := f1.1
    refine ⟨h1, fun d => ?_, (onTd o1).le (Nat.zero_le _) (Nat.zero_le _), hF.px o1, f1⟩
    rcases hk with hk | hk
    · have es := fun d => p_sort (d := d) hR q3
      have b5 := srt_b (tk_ (tz β n) σ.1)
      have e3 : (nI (srt (tk_ (tz β n) σ.1)) = nI 3) = False := by rw [nI_eqL (by omega) (by decide)]; exact eq_false (fun z => by have := (srt_3 k0).mp z; omega)
      have l3 : (-1 : Int32) < nI 3 := by decide
      have sw : ((-1 : Int32)).toInt < 0 ∨ 8 < ((-1 : Int32)).toInt := by decide
      simp only [e88_0, e88_1, e88_4, e88_5, e88_8, e88_9, e88_12, e88_15, e88_16, e88_19, e88_20, e88_23, e88_24, e88_25, e88_26, e88_27, e88_30, e88_31, e88_33, e88_36, e88_37, e88_40, e88_41, e88_44, e88_47, e88_48, e88_49, e88_50, e88_51, e88_54, e88_55, e88_56, e88_57_0, e88_57_1, e88_57_2, e88_57_3, e88_57_4, e88_57_5, e88_57_6, e88_57_7, e88_57_8, e88_57_d, e88_108, e88_109, e88_110, e88_113, e88_116, e88_119, e88_120, e88_123, e88_126, e88_127, e88_128, e88_131, e88_134, e88_135, e88_136, e88_137, e88_138, e88_140, e88_143, e88_146, e88_147, e88_148, e88_149, e88_151, e88_154, e88_157, e88_158, e88_161, e88_164, e88_165, e88_168, e88_169, e88_172, e88_173, e88_174, e88_177, e88_180, e88_183, e88_185, e88_188, e88_191, e88_192, e88_193, e88_196, e88_199, e88_200, e88_201, e88_202, e88_203, e88_205, e88_208, e88_211, e88_212, e88_213, e88_214, e88_216, e88_219, e88_222, e88_223, e88_224, e88_225, e88_227, e88_230, e88_233, e88_234, e88_237, e88_240, e88_241, e88_244, e88_245, e88_248, e88_249, e88_250, e88_253, e88_256, e88_258, e88_261, e88_262, e88_265, e88_266, e88_269, e88_270, e88_273, e88_274, e88_275, e88_278, e88_281, e88_282, e88_285, e88_286, e88_289, e88_290, e88_291, e88_294, e88_297, e88_300, e88_303, e88_304, e88_307, e88_308, e88_311, e88_312, e88_313, e88_316, e88_319, e88_322, e88_325, e88_326, e88_327, e88_330, e88_331, xk_64 hX, xk_73 hX, xk_66 hX, xk_65 hX, xp_35 hX, xk_72 hX, xp_37 hX, xk_64 hX1, xk_73 hX1, xk_66 hX1, xk_65 hX1, xp_35 hX1, xk_72 hX1, xp_37 hX1, ↓reduceIte, Nat.reduceAdd, Nat.reduceLeDiff, Nat.reduceLT, Nat.reduceEqDiff, not_false_eq_true, false_or, true_or, or_true, or_false, n0_e, n1_ne, n1_11, bI_z, bI_1, bI_fo, va_rf_some, aBk_1, aBk_0, nI_add, nI_mul, hk_si, hp_si, hl_si, hk_sp, hk_sl, hk_cp, hp_cp, es, e3, l3, sw, e1, bx_84, bx_85, bx_86, bx_87, bx_88, bx_89, bx_90, bx_91, bx_92, bx_93, bx_94, bx_95, bx_96, bx_97, bx_98, bx_99, bx_100, bx_101, bx_102, bx_103, bx_104]
    · refine (td_at hR (by omega) d).trans ?_
      have tI : (nI (tk_ (tz β n) σ.1 - 20)).toInt = ((tk_ (tz β n) σ.1 - 20 : Nat) : Int) := nI_toInt (by omega)
      have sw : (nI (tk_ (tz β n) σ.1 - 20)).toInt < 0 ∨ 8 < (nI (tk_ (tz β n) σ.1 - 20)).toInt := by rw [tI]; omega
      have l3 : ¬ nI (tk_ (tz β n) σ.1 - 20) < nI 3 := by rw [nI_ltL (by omega) (by decide)]; omega
      have l6 : nI 6 < nI (tk_ (tz β n) σ.1 - 20) := by rw [nI_ltL (by decide) (by omega)]; omega
      simp only [e88_25, e88_26, e88_27, e88_30, e88_31, e88_33, e88_36, e88_37, e88_40, e88_41, e88_44, e88_47, e88_48, e88_49, e88_50, e88_51, e88_54, e88_55, e88_56, e88_57_0, e88_57_1, e88_57_2, e88_57_3, e88_57_4, e88_57_5, e88_57_6, e88_57_7, e88_57_8, e88_57_d, e88_325, e88_326, e88_327, e88_330, xk_64 hX, xk_73 hX, xk_66 hX, xk_65 hX, xp_35 hX, xk_72 hX, xp_37 hX, xk_64 hX1, xk_73 hX1, xk_66 hX1, xk_65 hX1, xp_35 hX1, xk_72 hX1, xp_37 hX1, ↓reduceIte, Nat.reduceAdd, Nat.reduceLeDiff, Nat.reduceLT, Nat.reduceEqDiff, not_false_eq_true, false_or, true_or, or_true, or_false, n0_e, n1_ne, n1_11, bI_z, bI_1, bI_fo, va_rf_some, aBk_1, aBk_0, nI_add, nI_mul, hk_si, hp_si, hl_si, hk_sp, hk_sl, hk_cp, hp_cp, l3, l6, sw, e1, bx_84, bx_85, bx_86, bx_87, bx_88, bx_89, bx_90, bx_91, bx_92, bx_93, bx_94, bx_95, bx_96, bx_97, bx_98, bx_99, bx_100, bx_101, bx_102, bx_103, bx_104]
end TD98
