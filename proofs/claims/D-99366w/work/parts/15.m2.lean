set_option maxRecDepth 100000
/-! M: terms, laws, what is paid -/
/-- what the terms' reckoning writes; what asking a law writes -/
def PP (a f : Nat) : Prop := a = 490 ∨ (a = 458 ∧ f = 115)
def EP (a f : Nat) : Prop := a = 489 ∨ PP a f
/-- what a week writes; what a question writes -/
def VP (a f : Nat) : Prop := EP a f ∨ a = 492 ∨ a = 493 ∨ a = 494
def WP (a f : Nat) : Prop := VP a f ∨ (a = 458 ∧ (f = 118 ∨ f = 119)) ∨ a = 496 ∨ a = 497 ∨ a = 498 ∨ a = 499
section M2
variable {lv : Nat} {h h' : aH} {T : aTx} {r : Nat → Int32} {S : Nat → Nat → Prop}
theorem PP.E {a f : Nat} (q : PP a f) : EP a f := Or.inr q
theorem EP.V {a f : Nat} (q : EP a f) : VP a f := Or.inl q
theorem VP.W {a f : Nat} (q : VP a f) : WP a f := Or.inl q
theorem MS.on (hM : MS h) (o : On S h h') : MS h' := ⟨fun i hi => (o.k _).trans (hM.1 i hi), fun i hi hs => (o.p _ _).trans (hM.2 i hi hs)⟩
theorem cdM.eqv {p : Nat} {c : cdT} (he : ∀ a f, 468 ≤ a → a ≤ 487 → hi_ h' a f = hi_ h a f) (hc : cdM h p c) : cdM h' p c :=
  ⟨hc.1, fun i hi => ⟨(he _ _ (by decide) (by decide)).trans (hc.2 i hi).1, (he _ _ (by decide) (by decide)).trans (hc.2 i hi).2⟩⟩
theorem brM.eqv (he : ∀ a f, 468 ≤ a → a ≤ 487 → hi_ h' a f = hi_ h a f) : ∀ {l : List (cdT × cdT × cdT)} {b : Nat} {e : cdT}, brM h b l e → brM h' b l e := by
  intro l
  induction l with
  | nil =>
    intro b e hb
    obtain ⟨h1, h2, q, h3, h4, h5⟩ := hb
    exact ⟨h1, (he _ _ (by decide) (by decide)).trans h2, q, (he _ _ (by decide) (by decide)).trans h3, (he _ _ (by decide) (by decide)).trans h4, h5.eqv he⟩
  | cons x l ih =>
    intro b e hb
    obtain ⟨x, y, z⟩ := x
    obtain ⟨h1, h2, ⟨p, m, q, h3, h4, h5, h6, h7, h8, h9, h10, h11⟩, h12⟩ := hb
    exact ⟨h1, (he _ _ (by decide) (by decide)).trans h2, ⟨p, m, q, (he _ _ (by decide) (by decide)).trans h3, (he _ _ (by decide) (by decide)).trans h4, (he _ _ (by decide) (by decide)).trans h5, h6, h7, (he _ _ (by decide) (by decide)).trans h8, h9.eqv he, h10.eqv he, h11.eqv he⟩, ih h12⟩
theorem lwM.eqv (he : ∀ a f, 468 ≤ a → a ≤ 487 → hi_ h' a f = hi_ h a f) {lv k : Nat} {L : Option aLw} (hl : lwM h lv k L) : lwM h' lv k L := by
  cases L with
  | none =>
    show hi_ h' 479 _ = hi_ h' 480 _
    rw [he _ _ (by decide) (by decide), he _ _ (by decide) (by decide)]; exact hl
  | some L =>
    obtain ⟨l, e⟩ := L
    obtain ⟨f, h1, h2, h3⟩ := hl
    exact ⟨f, (he _ _ (by decide) (by decide)).trans h1, (he _ _ (by decide) (by decide)).trans h2, h3.eqv he⟩
theorem MT.eqv (hT : MT h T lv) (hM : MS h') (h8 : hi_ h' 458 84 = hi_ h 458 84) (he : ∀ a f, 468 ≤ a → a ≤ 487 → hi_ h' a f = hi_ h a f) : MT h' T lv := by
  have e : ∀ {a f : Nat} {v : Int32}, 468 ≤ a → a ≤ 487 → hi_ h a f = v → hi_ h' a f = v := fun h1 h2 h3 => (he _ _ h1 h2).trans h3
  exact ⟨hM, hT.v, hT.l2, h8.trans hT.live, e (by decide) (by decide) hT.ns, e (by decide) (by decide) hT.ng,
    fun g hg => ⟨e (by decide) (by decide) (hT.hr hg), e (by decide) (by decide) (hT.hs hg), e (by decide) (by decide) (hT.fe hg), e (by decide) (by decide) (hT.fo hg)⟩,
    fun s hs => ⟨e (by decide) (by decide) (hT.lo hs), e (by decide) (by decide) (hT.wo hs)⟩, e (by decide) (by decide) hT.de, e (by decide) (by decide) hT.se, fun k hk => (hT.la hk).eqv he⟩
theorem WP.t {a f : Nat} (q : WP a f) : ¬ (468 ≤ a ∧ a ≤ 487) ∧ ¬ (a = 458 ∧ f = 84) := by
  unfold WP VP EP PP at q
  omega
theorem On.tx (o : On S h h') (hs : ∀ a f, S a f → WP a f) (a f : Nat) (h1 : 468 ≤ a) (h2 : a ≤ 487) : hi_ h' a f = hi_ h a f := o.i (fun q => (hs _ _ q).t.1 ⟨h1, h2⟩)
theorem MT.on (hT : MT h T lv) (o : On S h h') (hs : ∀ a f, S a f → WP a f) : MT h' T lv :=
  hT.eqv (hT.m.on o) (o.i (fun q => (hs _ _ q).t.2 ⟨rfl, rfl⟩)) (o.tx hs)
theorem MT.onW (hT : MT h T lv) (o : On WP h h') : MT h' T lv := hT.on o (fun _ _ q => q)
theorem MT.onV (hT : MT h T lv) (o : On VP h h') : MT h' T lv := hT.on o (fun _ _ q => q.W)
theorem MT.onE (hT : MT h T lv) (o : On EP h h') : MT h' T lv := hT.on o (fun _ _ q => q.V.W)
theorem On.pv {a f : Nat} (o : On EP h h') (h1 : 491 ≤ a) : hi_ h' a f = hi_ h a f := o.i (fun q => by unfold EP PP at q; omega)
theorem RA.onE (hr : RA h 492 r) (o : On EP h h') : RA h' 492 r := fun k hk => (o.pv (by decide)).trans (hr k hk)
/-- the reckoning of a term -/
theorem m_termGo {v : Nat → Int32} {p0 : Int32} : ∀ (c : cdT) (st : List Int32) (pos top to : Nat) (h : aH), MS h → top = st.length → to = pos + c.length → cdM h pos c → (∀ q ∈ c, q.1 ≤ 5 ∧ (q.1 = 1 → q.2 < 9) ∧ q.2 < 2147483648) → st.length + c.length ≤ 400 →
    (∀ i (hi : i < st.length), hi_ h 490 (st.length - 1 - i) = st[i]) → (∀ k, k < 9 → hi_ h 489 k = v k) → dep_ c st.length = some 1 →
    ∃ h', (∀ d a5 a6 a7, (run (d) 194 5 [.ref 458, .int p0, .int (nI to), .int (nI top), .int (nI pos), a5, a6, a7] [] h) = some (.returned (some (.int (match evc v c st with
      | some (x :: _) => x
      | _ => nI 0))), h')) ∧ On PP h h' ∧ hi_ h' 458 115 = if (evc v c st).isSome = true then hi_ h 458 115 else nI 1 := by
  intro c
  induction c with
  | nil =>
    intro st pos top to h hM ht hto hc hq hl hp hv hd
    have h1 : st.length = 1 := by simpa [dep_] using hd
    match st, h1 with
    | [x], _ =>
      refine ⟨h, fun d a5 a6 a7 => ?_, On.refl, by simp [evc]⟩
      have e : hi_ h 490 0 = x := hp 0 (Nat.zero_lt_one)
      rw [show to = pos from hto]
      refine (e194_5).trans ?_
      simp only [e194_0, e194_1, e194_2, e194_3, e194_7, e194_8, e194_11, e194_12, e194_15, e194_17, e194_18, e194_20, e194_22, e194_23, e194_26, e194_27, e194_30, e194_31, e194_33, e194_36, e194_37, e194_40, e194_42, e194_43, e194_46, e194_47, e194_50, e194_51, e194_54, e194_56, e194_57, e194_58, e194_59, e194_62, e194_65, e194_68, e194_69, e194_72, e194_73, e194_74, e194_75, e194_76, e194_78, e194_79, e194_82, e194_83, e194_84, e194_86, e194_88, e194_89, e194_92, e194_94, e194_97, e194_98, e194_99, e194_102, e194_103, e194_104, e194_105, e194_108, e194_109, e194_110, e194_111, e194_113, e194_114, e194_117, e194_119, e194_121, e194_122, e194_125, e194_127, e194_128, e194_131, e194_133, e194_135, e194_136, e194_139, e194_141, e194_142, e194_145, e194_147, e194_149, e194_150, e194_153, e194_155, e194_157, e194_158, e194_159, e194_162, e194_165, e194_166, e194_169, e194_170, e194_171, mk_458 hM, mp_109 hM, mk_486 hM, mp_110 hM, mk_487 hM, mp_113 hM, mk_489 hM, mp_114 hM, mk_490 hM, ↓reduceIte, Nat.reduceAdd, Nat.reduceLeDiff, Nat.reduceLT, Nat.reduceEqDiff, not_false_eq_true, false_or, true_or, or_true, or_false, n0_e, n1_ne, n1_11, bI_z, bI_1, bI_fo, va_rf_some, aBk_1, aBk_0, nI_add, nI_mul, hk_si, hp_si, hl_si, hk_sp, hk_sl, hk_cp, hp_cp, Int32.le_refl, e]
      rfl
  | cons q c ih =>
    intro st pos top to h hM ht hto hc hq hl hp hv hd
    obtain ⟨k, x⟩ := q
    obtain ⟨hk5, hk1, hx⟩ := hq (k, x) (List.mem_cons_self ..)
    have hq' : ∀ q ∈ c, q.1 ≤ 5 ∧ (q.1 = 1 → q.2 < 9) ∧ q.2 < 2147483648 := fun q hh => hq q (List.mem_cons_of_mem _ hh)
    have hlen : st.length + (c.length + 1) ≤ 400 := hl
    have hc1 : pos + (c.length + 1) ≤ 840 := hc.1
    have hto' : to = (pos + 1) + c.length := by rw [hto]; show pos + (c.length + 1) = _; omega
    have ckx := hc.2 0 (Nat.zero_lt_succ _)
    have ck : hi_ h 486 pos = nI k := ckx.1
    have cx : hi_ h 487 pos = nI x := ckx.2
    clear ckx
    have h1 : ¬ nI to ≤ nI pos := nI_ge (by omega) (by omega)
    have h2 : pos < 840 := by omega
    have hc2 : cdM h (pos + 1) c := ⟨by omega, fun i hi => by
      have := hc.2 (i + 1) (Nat.succ_lt_succ hi)
      rw [show pos + (i + 1) = pos + 1 + i by omega] at this
      exact this⟩
    by_cases hk2 : k < 2
    · -- a number or a variable
      have hg : ∃ w, (w = if k = 0 then nI x else v x) := ⟨_, rfl⟩
      obtain ⟨w, hw⟩ := hg
      have htop : top < 400 := by omega
      have hM1 : MS (si_ h 490 top w) := hM.on (On.si (S := PP) (Or.inl rfl))
      obtain ⟨h', e, o, hb⟩ := ih (w :: st) (pos + 1) (top + 1) to (si_ h 490 top w) hM1 (by simp [ht]) hto'
        (hc2.eqv (fun a f _ _ => by rw [hi_si, if_neg (fun z => by omega)])) hq' (by simp only [List.length_cons]; omega)
        (fun i hi => by
          rw [hi_si]
          cases i with
          | zero => rw [if_pos ⟨rfl, by simp [ht]⟩]; rfl
          | succ i =>
            have hi' : i < st.length := Nat.lt_of_succ_lt_succ hi
            rw [if_neg (fun z => by have := z.2; simp only [List.length_cons] at this; omega)]
            have := hp i hi'
            simp only [List.length_cons, List.getElem_cons_succ]
            rw [← this]
            congr 1
            omega)
        (fun k hk => by rw [hi_si, if_neg (fun z => by omega)]; exact hv k hk)
        (by rw [dep_0 hk2] at hd; exact hd)
      have hev : evc v ((k, x) :: c) st = evc v c (w :: st) := by
        rw [hw]
        by_cases q0 : k = 0
        · rw [if_pos q0, q0]; exact evc_0
        · rw [if_neg q0, show k = 1 by omega]; exact evc_1
      refine ⟨h', fun d a5 a6 a7 => ?_, (On.si (Or.inl rfl)).trans o, ?_⟩
      · rw [hev]
        refine Eq.trans ?_ (e d (.int (nI k)) a6 a7)
        refine (e194_5).trans ?_
        by_cases q0 : k = 0
        · have hw' : w = nI x := by rw [hw, if_pos q0]
          subst q0
          simp only [e194_0, e194_1, e194_2, e194_3, e194_7, e194_8, e194_11, e194_12, e194_15, e194_17, e194_18, e194_20, e194_22, e194_23, e194_26, e194_27, e194_30, e194_31, e194_33, e194_36, e194_37, e194_40, e194_42, e194_43, e194_46, e194_47, e194_50, e194_51, e194_54, e194_56, e194_57, e194_58, e194_59, e194_62, e194_65, e194_68, e194_69, e194_72, e194_73, e194_74, e194_75, e194_76, e194_78, e194_79, e194_82, e194_83, e194_84, e194_86, e194_88, e194_89, e194_92, e194_94, e194_97, e194_98, e194_99, e194_102, e194_103, e194_104, e194_105, e194_108, e194_109, e194_110, e194_111, e194_113, e194_114, e194_117, e194_119, e194_121, e194_122, e194_125, e194_127, e194_128, e194_131, e194_133, e194_135, e194_136, e194_139, e194_141, e194_142, e194_145, e194_147, e194_149, e194_150, e194_153, e194_155, e194_157, e194_158, e194_159, e194_162, e194_165, e194_166, e194_169, e194_170, e194_171, mk_458 hM, mp_109 hM, mk_486 hM, mp_110 hM, mk_487 hM, mp_113 hM, mk_489 hM, mp_114 hM, mk_490 hM, ↓reduceIte, Nat.reduceAdd, Nat.reduceLeDiff, Nat.reduceLT, Nat.reduceEqDiff, not_false_eq_true, false_or, true_or, or_true, or_false, n1_ne, n1_11, bI_z, bI_1, bI_fo, va_rf_some, aBk_1, aBk_0, nI_add, nI_mul, hk_si, hp_si, hl_si, hk_sp, hk_sl, hk_cp, hp_cp, h1, h2, ck, cx, htop, nI_leL, n0_e, hw']
        · have q1 : k = 1 := by omega
          have hw' : v x = w := by rw [hw, if_neg q0]
          have hx9 : x < 9 := hk1 q1
          subst q1
          simp only [e194_0, e194_1, e194_2, e194_3, e194_7, e194_8, e194_11, e194_12, e194_15, e194_17, e194_18, e194_20, e194_22, e194_23, e194_26, e194_27, e194_30, e194_31, e194_33, e194_36, e194_37, e194_40, e194_42, e194_43, e194_46, e194_47, e194_50, e194_51, e194_54, e194_56, e194_57, e194_58, e194_59, e194_62, e194_65, e194_68, e194_69, e194_72, e194_73, e194_74, e194_75, e194_76, e194_78, e194_79, e194_82, e194_83, e194_84, e194_86, e194_88, e194_89, e194_92, e194_94, e194_97, e194_98, e194_99, e194_102, e194_103, e194_104, e194_105, e194_108, e194_109, e194_110, e194_111, e194_113, e194_114, e194_117, e194_119, e194_121, e194_122, e194_125, e194_127, e194_128, e194_131, e194_133, e194_135, e194_136, e194_139, e194_141, e194_142, e194_145, e194_147, e194_149, e194_150, e194_153, e194_155, e194_157, e194_158, e194_159, e194_162, e194_165, e194_166, e194_169, e194_170, e194_171, mk_458 hM, mp_109 hM, mk_486 hM, mp_110 hM, mk_487 hM, mp_113 hM, mk_489 hM, mp_114 hM, mk_490 hM, ↓reduceIte, Nat.reduceAdd, Nat.reduceLeDiff, Nat.reduceLT, Nat.reduceEqDiff, not_false_eq_true, false_or, true_or, or_true, or_false, n0_e, n1_11, bI_z, bI_1, bI_fo, va_rf_some, aBk_1, aBk_0, nI_add, nI_mul, hk_si, hp_si, hl_si, hk_sp, hk_sl, hk_cp, hp_cp, h1, h2, ck, cx, htop, nI_leL, hx9, hv x hx9, n1_ne, hw']
      · rw [hev, hb]
        rfl
    · -- a sign
      have hk3 : 2 ≤ k := by omega
      have hd2 : 2 ≤ st.length := by
        refine Nat.le_of_not_lt (fun hlt => ?_)
        rw [dep_n hk3 hlt] at hd
        cases hd
      obtain ⟨b, a, st, rfl⟩ := len2 st hd2
      · have hkeep : True := trivial
        have ea : hi_ h 490 st.length = a := by
          have := hp 1 (by simp only [List.length_cons]; omega)
          simp only [List.length_cons, List.getElem_cons_succ, List.getElem_cons_zero] at this
          rw [show st.length + 1 + 1 - 1 - 1 = st.length by omega] at this
          exact this
        have eb : hi_ h 490 (st.length + 1) = b := by
          have := hp 0 (by simp only [List.length_cons]; omega)
          simp only [List.length_cons, List.getElem_cons_zero] at this
          rw [show st.length + 1 + 1 - 1 - 0 = st.length + 1 by omega] at this
          exact this
        have ht : top = (st.length + 1) + 1 := ht
        simp only [List.length_cons] at hl
        have hn1 : st.length + 1 < 400 := by omega
        have hn0 : st.length < 400 := by omega
        have h3 : ¬ k < 2 := hk2
        have hkb : k < 2147483648 := by omega
        have hev : evc v ((k, x) :: c) (b :: a :: st) = if k = 5 ∧ b = 0 then none else evc v c (op_ k a b :: st) := by
          exact evc_op hk3
        by_cases h5 : k = 5 ∧ b = 0
        · rw [hev, if_pos h5]
          refine ⟨si_ h 458 115 (nI 1), fun d a5 a6 a7 => ?_, On.si (Or.inr ⟨rfl, rfl⟩), by rw [hi_si, if_pos ⟨rfl, rfl⟩]; rfl⟩
          obtain ⟨hk, hb0⟩ := h5
          subst hk
          rw [ht]
          refine (e194_5).trans ?_
          simp only [e194_0, e194_1, e194_2, e194_3, e194_7, e194_8, e194_11, e194_12, e194_15, e194_17, e194_18, e194_20, e194_22, e194_23, e194_26, e194_27, e194_30, e194_31, e194_33, e194_36, e194_37, e194_40, e194_42, e194_43, e194_46, e194_47, e194_50, e194_51, e194_54, e194_56, e194_57, e194_58, e194_59, e194_62, e194_65, e194_68, e194_69, e194_72, e194_73, e194_74, e194_75, e194_76, e194_78, e194_79, e194_82, e194_83, e194_84, e194_86, e194_88, e194_89, e194_92, e194_94, e194_97, e194_98, e194_99, e194_102, e194_103, e194_104, e194_105, e194_108, e194_109, e194_110, e194_111, e194_113, e194_114, e194_117, e194_119, e194_121, e194_122, e194_125, e194_127, e194_128, e194_131, e194_133, e194_135, e194_136, e194_139, e194_141, e194_142, e194_145, e194_147, e194_149, e194_150, e194_153, e194_155, e194_157, e194_158, e194_159, e194_162, e194_165, e194_166, e194_169, e194_170, e194_171, mk_458 hM, mp_109 hM, mk_486 hM, mp_110 hM, mk_487 hM, mp_113 hM, mk_489 hM, mp_114 hM, mk_490 hM, ↓reduceIte, Nat.reduceAdd, Nat.reduceLeDiff, Nat.reduceLT, Nat.reduceEqDiff, not_false_eq_true, false_or, true_or, or_true, or_false, n0_e, n1_ne, n1_11, bI_z, bI_1, bI_fo, va_rf_some, aBk_1, aBk_0, nI_add, nI_mul, hk_si, hp_si, hl_si, hk_sp, hk_sl, hk_cp, hp_cp, h1, h2, ck, cx, nI_leL, nI_eqL, nI_m1, nI_s1, ea, eb, hn0, hn1, hb0, n1_01]
        · have hM1 : MS (si_ h 490 st.length (op_ k a b)) := hM.on (On.si (S := PP) (Or.inl rfl))
          obtain ⟨h', e, o, hb⟩ := ih (op_ k a b :: st) (pos + 1) (st.length + 1) to (si_ h 490 st.length (op_ k a b)) hM1 rfl hto'
            (hc2.eqv (fun a f _ _ => by rw [hi_si, if_neg (fun z => by omega)])) hq' (by simp only [List.length_cons]; omega)
            (fun i hi => by
              rw [hi_si]
              cases i with
              | zero => rw [if_pos ⟨rfl, by simp⟩]; rfl
              | succ i =>
                have hi' : i < st.length := Nat.lt_of_succ_lt_succ hi
                rw [if_neg (fun z => by have := z.2; simp only [List.length_cons] at this; omega)]
                have := hp (i + 2) (by simp only [List.length_cons]; omega)
                simp only [List.length_cons, List.getElem_cons_succ] at this ⊢
                rw [← this]
                congr 1
                omega)
            (fun k hk => by rw [hi_si, if_neg (fun z => by omega)]; exact hv k hk)
            (by
              rw [dep_2 hk3 (by simp only [List.length_cons]; omega)] at hd
              simpa using hd)
          rw [hev, if_neg h5]
          refine ⟨h', fun d a5 a6 a7 => ?_, (On.si (Or.inl rfl)).trans o, ?_⟩
          · refine Eq.trans ?_ (e d (.int (nI k)) (.int a) (.int b))
            rw [ht]
            refine (e194_5).trans ?_
            have hkk : k = 2 ∨ k = 3 ∨ k = 4 ∨ k = 5 := by omega
            rcases hkk with q | q | q | q
            · subst q
              simp only [e194_0, e194_1, e194_2, e194_3, e194_7, e194_8, e194_11, e194_12, e194_15, e194_17, e194_18, e194_20, e194_22, e194_23, e194_26, e194_27, e194_30, e194_31, e194_33, e194_36, e194_37, e194_40, e194_42, e194_43, e194_46, e194_47, e194_50, e194_51, e194_54, e194_56, e194_57, e194_58, e194_59, e194_62, e194_65, e194_68, e194_69, e194_72, e194_73, e194_74, e194_75, e194_76, e194_78, e194_79, e194_82, e194_83, e194_84, e194_86, e194_88, e194_89, e194_92, e194_94, e194_97, e194_98, e194_99, e194_102, e194_103, e194_104, e194_105, e194_108, e194_109, e194_110, e194_111, e194_113, e194_114, e194_117, e194_119, e194_121, e194_122, e194_125, e194_127, e194_128, e194_131, e194_133, e194_135, e194_136, e194_139, e194_141, e194_142, e194_145, e194_147, e194_149, e194_150, e194_153, e194_155, e194_157, e194_158, e194_159, e194_162, e194_165, e194_166, e194_169, e194_170, e194_171, mk_458 hM, mp_109 hM, mk_486 hM, mp_110 hM, mk_487 hM, mp_113 hM, mk_489 hM, mp_114 hM, mk_490 hM, ↓reduceIte, Nat.reduceAdd, Nat.reduceLeDiff, Nat.reduceLT, Nat.reduceEqDiff, not_false_eq_true, false_or, true_or, or_true, or_false, n0_e, n1_ne, n1_11, bI_z, bI_1, bI_fo, va_rf_some, aBk_1, aBk_0, nI_add, nI_mul, hk_si, hp_si, hl_si, hk_sp, hk_sl, hk_cp, hp_cp, h1, h2, ck, cx, nI_leL, nI_eqL, nI_m1, nI_s1, ea, eb, hn0, hn1]
              rfl
            · subst q
              simp only [e194_0, e194_1, e194_2, e194_3, e194_7, e194_8, e194_11, e194_12, e194_15, e194_17, e194_18, e194_20, e194_22, e194_23, e194_26, e194_27, e194_30, e194_31, e194_33, e194_36, e194_37, e194_40, e194_42, e194_43, e194_46, e194_47, e194_50, e194_51, e194_54, e194_56, e194_57, e194_58, e194_59, e194_62, e194_65, e194_68, e194_69, e194_72, e194_73, e194_74, e194_75, e194_76, e194_78, e194_79, e194_82, e194_83, e194_84, e194_86, e194_88, e194_89, e194_92, e194_94, e194_97, e194_98, e194_99, e194_102, e194_103, e194_104, e194_105, e194_108, e194_109, e194_110, e194_111, e194_113, e194_114, e194_117, e194_119, e194_121, e194_122, e194_125, e194_127, e194_128, e194_131, e194_133, e194_135, e194_136, e194_139, e194_141, e194_142, e194_145, e194_147, e194_149, e194_150, e194_153, e194_155, e194_157, e194_158, e194_159, e194_162, e194_165, e194_166, e194_169, e194_170, e194_171, mk_458 hM, mp_109 hM, mk_486 hM, mp_110 hM, mk_487 hM, mp_113 hM, mk_489 hM, mp_114 hM, mk_490 hM, ↓reduceIte, Nat.reduceAdd, Nat.reduceLeDiff, Nat.reduceLT, Nat.reduceEqDiff, not_false_eq_true, false_or, true_or, or_true, or_false, n0_e, n1_ne, n1_11, bI_z, bI_1, bI_fo, va_rf_some, aBk_1, aBk_0, nI_add, nI_mul, hk_si, hp_si, hl_si, hk_sp, hk_sl, hk_cp, hp_cp, h1, h2, ck, cx, nI_leL, nI_eqL, nI_m1, nI_s1, ea, eb, hn0, hn1]
              rfl
            · subst q
              simp only [e194_0, e194_1, e194_2, e194_3, e194_7, e194_8, e194_11, e194_12, e194_15, e194_17, e194_18, e194_20, e194_22, e194_23, e194_26, e194_27, e194_30, e194_31, e194_33, e194_36, e194_37, e194_40, e194_42, e194_43, e194_46, e194_47, e194_50, e194_51, e194_54, e194_56, e194_57, e194_58, e194_59, e194_62, e194_65, e194_68, e194_69, e194_72, e194_73, e194_74, e194_75, e194_76, e194_78, e194_79, e194_82, e194_83, e194_84, e194_86, e194_88, e194_89, e194_92, e194_94, e194_97, e194_98, e194_99, e194_102, e194_103, e194_104, e194_105, e194_108, e194_109, e194_110, e194_111, e194_113, e194_114, e194_117, e194_119, e194_121, e194_122, e194_125, e194_127, e194_128, e194_131, e194_133, e194_135, e194_136, e194_139, e194_141, e194_142, e194_145, e194_147, e194_149, e194_150, e194_153, e194_155, e194_157, e194_158, e194_159, e194_162, e194_165, e194_166, e194_169, e194_170, e194_171, mk_458 hM, mp_109 hM, mk_486 hM, mp_110 hM, mk_487 hM, mp_113 hM, mk_489 hM, mp_114 hM, mk_490 hM, ↓reduceIte, Nat.reduceAdd, Nat.reduceLeDiff, Nat.reduceLT, Nat.reduceEqDiff, not_false_eq_true, false_or, true_or, or_true, or_false, n0_e, n1_ne, n1_11, bI_z, bI_1, bI_fo, va_rf_some, aBk_1, aBk_0, nI_add, nI_mul, hk_si, hp_si, hl_si, hk_sp, hk_sl, hk_cp, hp_cp, h1, h2, ck, cx, nI_leL, nI_eqL, nI_m1, nI_s1, ea, eb, hn0, hn1]
              rfl
            · subst q
              have hb0 : ¬ b = 0 := fun z => h5 ⟨rfl, z⟩
              simp only [e194_0, e194_1, e194_2, e194_3, e194_7, e194_8, e194_11, e194_12, e194_15, e194_17, e194_18, e194_20, e194_22, e194_23, e194_26, e194_27, e194_30, e194_31, e194_33, e194_36, e194_37, e194_40, e194_42, e194_43, e194_46, e194_47, e194_50, e194_51, e194_54, e194_56, e194_57, e194_58, e194_59, e194_62, e194_65, e194_68, e194_69, e194_72, e194_73, e194_74, e194_75, e194_76, e194_78, e194_79, e194_82, e194_83, e194_84, e194_86, e194_88, e194_89, e194_92, e194_94, e194_97, e194_98, e194_99, e194_102, e194_103, e194_104, e194_105, e194_108, e194_109, e194_110, e194_111, e194_113, e194_114, e194_117, e194_119, e194_121, e194_122, e194_125, e194_127, e194_128, e194_131, e194_133, e194_135, e194_136, e194_139, e194_141, e194_142, e194_145, e194_147, e194_149, e194_150, e194_153, e194_155, e194_157, e194_158, e194_159, e194_162, e194_165, e194_166, e194_169, e194_170, e194_171, mk_458 hM, mp_109 hM, mk_486 hM, mp_110 hM, mk_487 hM, mp_113 hM, mk_489 hM, mp_114 hM, mk_490 hM, ↓reduceIte, Nat.reduceAdd, Nat.reduceLeDiff, Nat.reduceLT, Nat.reduceEqDiff, not_false_eq_true, false_or, true_or, or_true, or_false, n0_e, n1_ne, n1_11, bI_z, bI_1, bI_fo, va_rf_some, aBk_1, aBk_0, nI_add, nI_mul, hk_si, hp_si, hl_si, hk_sp, hk_sl, hk_cp, hp_cp, h1, h2, ck, cx, nI_leL, nI_eqL, nI_m1, nI_s1, ea, eb, hn0, hn1, hb0]
              rfl
          · rw [hb]; rfl
theorem m_termOf {v : Nat → Int32} {p : Nat} {c : cdT} (hM : MS h) (hc : cdM h p c) (hw : cwf c) (h4 : c.length ≤ 400) (hv : ∀ k, k < 9 → hi_ h 489 k = v k) :
    ∃ h', (∀ d, (run (d) 194 0 [.ref 458, .int (nI p), .int (nI (p + c.length)), aU, aU, aU, aU, aU] [] h) = some (.returned (some (.int ((ev1 v c).getD (nI 0)))), h')) ∧ On PP h h' ∧ hi_ h' 458 115 = if (ev1 v c).isSome = true then hi_ h 458 115 else nI 1 := by
  obtain ⟨h', e, o, hb⟩ := m_termGo (v := v) (p0 := nI p) c [] p 0 (p + c.length) h hM rfl rfl hc hw.2 (by simpa using h4) (fun i hi => absurd hi (Nat.not_lt_zero i)) hv hw.1
  have hn : ∀ (c : cdT) (st st' : List Int32), evc v c st = some st' → dep_ c st.length = some st'.length := by
    intro c
    induction c with
    | nil => intro st st' hh; cases hh; rfl
    | cons q c ih =>
      intro st st' hh
      obtain ⟨k, x⟩ := q
      by_cases q0 : k = 0
      · subst q0; rw [evc_0] at hh; rw [dep_0 (by decide)]; exact ih _ _ hh
      · by_cases q1 : k = 1
        · subst q1; rw [evc_1] at hh; rw [dep_0 (by decide)]; exact ih _ _ hh
        · have hk : 2 ≤ k := by omega
          match st, hh with
          | [], hh => rw [evc_n0 hk] at hh; cases hh
          | [_], hh => rw [evc_n1 hk] at hh; cases hh
          | b :: a :: st, hh =>
            rw [evc_op hk] at hh
            by_cases h5 : k = 5 ∧ b = 0
            · rw [if_pos h5] at hh; cases hh
            · rw [if_neg h5] at hh
              rw [dep_2 hk (by simp only [List.length_cons]; omega)]
              exact ih (op_ k a b :: st) _ hh
  have hev : ev1 v c = (match evc v c [] with
    | some (x :: _) => some x
    | _ => none) := rfl
  cases hE : evc v c [] with
  | none =>
    rw [hE] at e hb hev
    refine ⟨h', fun d => ?_, o, ?_⟩
    · rw [hev]
      simp only [e194_0, e194_1, e194_2, e194_3, e194_7, e194_8, e194_11, e194_12, e194_15, e194_17, e194_18, e194_20, e194_22, e194_23, e194_26, e194_27, e194_30, e194_31, e194_33, e194_36, e194_37, e194_40, e194_42, e194_43, e194_46, e194_47, e194_50, e194_51, e194_54, e194_56, e194_57, e194_58, e194_59, e194_62, e194_65, e194_68, e194_69, e194_72, e194_73, e194_74, e194_75, e194_76, e194_78, e194_79, e194_82, e194_83, e194_84, e194_86, e194_88, e194_89, e194_92, e194_94, e194_97, e194_98, e194_99, e194_102, e194_103, e194_104, e194_105, e194_108, e194_109, e194_110, e194_111, e194_113, e194_114, e194_117, e194_119, e194_121, e194_122, e194_125, e194_127, e194_128, e194_131, e194_133, e194_135, e194_136, e194_139, e194_141, e194_142, e194_145, e194_147, e194_149, e194_150, e194_153, e194_155, e194_157, e194_158, e194_159, e194_162, e194_165, e194_166, e194_169, e194_170, e194_171, ↓reduceIte, Nat.reduceAdd, Nat.reduceLeDiff, Nat.reduceLT, Nat.reduceEqDiff, not_false_eq_true, false_or, true_or, or_true, or_false, n0_e, n1_ne, n1_11, bI_z, bI_1, bI_fo, va_rf_some, aBk_1, aBk_0, nI_add, nI_mul, hk_si, hp_si, hl_si, hk_sp, hk_sl, hk_cp, hp_cp]
      exact e d aU aU aU
    · rw [hev]; exact hb
  | some st =>
    have h1 := hn c [] st hE
    rw [List.length_nil, hw.1] at h1
    have h1 : st.length = 1 := (Option.some.inj h1).symm
    match st, h1 with
    | [x], _ =>
      rw [hE] at e hb hev
      refine ⟨h', fun d => ?_, o, ?_⟩
      · rw [hev]
        simp only [e194_0, e194_1, e194_2, e194_3, e194_7, e194_8, e194_11, e194_12, e194_15, e194_17, e194_18, e194_20, e194_22, e194_23, e194_26, e194_27, e194_30, e194_31, e194_33, e194_36, e194_37, e194_40, e194_42, e194_43, e194_46, e194_47, e194_50, e194_51, e194_54, e194_56, e194_57, e194_58, e194_59, e194_62, e194_65, e194_68, e194_69, e194_72, e194_73, e194_74, e194_75, e194_76, e194_78, e194_79, e194_82, e194_83, e194_84, e194_86, e194_88, e194_89, e194_92, e194_94, e194_97, e194_98, e194_99, e194_102, e194_103, e194_104, e194_105, e194_108, e194_109, e194_110, e194_111, e194_113, e194_114, e194_117, e194_119, e194_121, e194_122, e194_125, e194_127, e194_128, e194_131, e194_133, e194_135, e194_136, e194_139, e194_141, e194_142, e194_145, e194_147, e194_149, e194_150, e194_153, e194_155, e194_157, e194_158, e194_159, e194_162, e194_165, e194_166, e194_169, e194_170, e194_171, ↓reduceIte, Nat.reduceAdd, Nat.reduceLeDiff, Nat.reduceLT, Nat.reduceEqDiff, not_false_eq_true, false_or, true_or, or_true, or_false, n0_e, n1_ne, n1_11, bI_z, bI_1, bI_fo, va_rf_some, aBk_1, aBk_0, nI_add, nI_mul, hk_si, hp_si, hl_si, hk_sp, hk_sl, hk_cp, hp_cp]
        exact e d aU aU aU
      · rw [hev]; exact hb
end M2
