set_option maxRecDepth 100000
/-! M: actions (2), questions (3) -/
section M8
variable {lv d : Nat} {h h' : aH} {Ω : aSg} {T : aTx} {w r : Nat → Int32}
/-- M's invariant through a change elsewhere in M: what each piece rests on -/
theorem MI.mk' {Ω' : aSg} (hI : MI h lv Ω) {S : Nat → Nat → Prop} (o : On S h h') (hS : ∀ a f, S a f → a = 458 ∧ (f = 122 ∨ f = 128 ∨ f = 68) ∨ a = 491 ∨ a = 495 ∨ a = 500 ∨ a = 501 ∨ a = 502 ∨ a = 503 ∨ a = 459) (eT : gT Ω' = gT Ω)
    (hw : RA h' 491 (gw Ω')) (hu : gu Ω' ≤ 40 ∧ hi_ h' 458 122 = nI (gu Ω') ∧ ∀ i, i < gu Ω' → ∀ k, k < 31 → hi_ h' 495 (31 * i + k) = gh Ω' i k)
    (hs : ∀ i, i < 3 → hi_ h' 502 i = bI (gb Ω' i) ∧ (gb Ω' i = true → ∀ k, k < 31 → hi_ h' 503 (31 * i + k) = gr Ω' i k))
    (hm : gm Ω' ≤ 20 ∧ hi_ h' 458 128 = nI (gm Ω') ∧ ∀ i, i < gm Ω' → hi_ h' 500 i = gth Ω' i ∧ hi_ h' 501 i = bI (gts Ω' i))
    (hn : gn Ω' ≤ 2000 ∧ hi_ h' 458 68 = nI (gn Ω') ∧ ∀ i, i < gn Ω' → hi_ h' 459 i = gtp Ω' i) (hp : gp Ω' = gp Ω) : MI h' lv Ω' := by
  have e : ∀ {a f : Nat}, ¬ (a = 458 ∧ (f = 122 ∨ f = 128 ∨ f = 68) ∨ a = 491 ∨ a = 495 ∨ a = 500 ∨ a = 501 ∨ a = 502 ∨ a = 503 ∨ a = 459) → hi_ h' a f = hi_ h a f := fun q => o.i (fun z => q (hS _ _ z))
  refine ⟨?_, hw, hu, hs, hm, hn, ?_, fun k hk => (o.l _ _).trans (hI.ky k hk)⟩
  · rw [eT]
    exact hI.T.eqv (hI.T.m.on o) (e (by omega)) (fun a f h1 h2 => e (by omega))
  · rw [hp]
    exact (e (by omega)).trans hI.p
/-- the pieces of the invariant that a change leaves -/
theorem MI.kw {S : Nat → Nat → Prop} (hI : MI h lv Ω) (o : On S h h') (hS : ∀ f, ¬ S 491 f) : RA h' 491 (gw Ω) := hI.w.on o hS
theorem MI.ku {S : Nat → Nat → Prop} (hI : MI h lv Ω) (o : On S h h') (hS : ∀ f, ¬ S 495 f) (hS2 : ¬ S 458 122) : gu Ω ≤ 40 ∧ hi_ h' 458 122 = nI (gu Ω) ∧ ∀ i, i < gu Ω → ∀ k, k < 31 → hi_ h' 495 (31 * i + k) = gh Ω i k :=
  ⟨hI.u4, (o.i hS2).trans hI.u, fun i hi k hk => (o.i (hS _)).trans (hI.hs i hi k hk)⟩
theorem MI.ks {S : Nat → Nat → Prop} (hI : MI h lv Ω) (o : On S h h') (hS : ∀ f, ¬ S 502 f) (hS2 : ∀ f, ¬ S 503 f) : ∀ i, i < 3 → hi_ h' 502 i = bI (gb Ω i) ∧ (gb Ω i = true → ∀ k, k < 31 → hi_ h' 503 (31 * i + k) = gr Ω i k) :=
  fun i hi => ⟨(o.i (hS _)).trans (hI.sl i hi).1, fun hb k hk => (o.i (hS2 _)).trans ((hI.sl i hi).2 hb k hk)⟩
theorem MI.km {S : Nat → Nat → Prop} (hI : MI h lv Ω) (o : On S h h') (hS : ∀ f, ¬ S 500 f) (hS2 : ∀ f, ¬ S 501 f) (hS3 : ¬ S 458 128) : gm Ω ≤ 20 ∧ hi_ h' 458 128 = nI (gm Ω) ∧ ∀ i, i < gm Ω → hi_ h' 500 i = gth Ω i ∧ hi_ h' 501 i = bI (gts Ω i) :=
  ⟨hI.m20, (o.i hS3).trans hI.mm, fun i hi => ⟨(o.i (hS _)).trans (hI.tl i hi).1, (o.i (hS2 _)).trans (hI.tl i hi).2⟩⟩
theorem MI.kn {S : Nat → Nat → Prop} (hI : MI h lv Ω) (o : On S h h') (hS : ∀ f, ¬ S 459 f) (hS3 : ¬ S 458 68) : gn Ω ≤ 2000 ∧ hi_ h' 458 68 = nI (gn Ω) ∧ ∀ i, i < gn Ω → hi_ h' 459 i = gtp Ω i :=
  ⟨hI.n2, (o.i hS3).trans hI.nn, fun i hi => (o.i (hS _)).trans (hI.tp i hi)⟩
def UP (a f : Nat) : Prop := (a = 458 ∧ f = 122) ∨ a = 491
theorem m_undo (hI : MI h lv Ω) : ∃ h', (∀ d, (run (d) 226 0 [.ref 458, aU] [] h) = some (.returned (some (.int ((aUnd Ω).2))), h')) ∧ On MP h h' ∧ MI h' lv (aUnd Ω).1 := by
  have hM := hI.T.m
  have h40 := hI.u4
  unfold aUnd
  by_cases q : gu Ω = 0
  · rw [if_pos q]
    have eu : hi_ h 458 122 = nI 0 := by rw [hI.u, q]
    refine ⟨h, fun d => ?_, On.refl, hI⟩
    simp only [e226_0, e226_1, e226_4, e226_7, e226_8, e226_9, e226_10, e226_11, e226_14, e226_15, e226_16, e226_19, e226_20, e226_22, e226_24, e226_27, e226_28, e226_31, e226_32, e226_33, e226_36, e226_38, e226_39, e226_42, e226_43, e226_44, e226_45, e226_46, e226_47, e226_50, e226_53, e226_54, mk_458 hM, mp_116 hM, mk_491 hM, mp_123 hM, mk_495 hM, ↓reduceIte, Nat.reduceAdd, Nat.reduceLeDiff, Nat.reduceLT, Nat.reduceEqDiff, not_false_eq_true, false_or, true_or, or_true, or_false, n1_ne, n1_11, bI_z, bI_1, bI_fo, va_rf_some, aBk_1, aBk_0, nI_add, nI_mul, hk_si, hp_si, hl_si, hk_sp, hk_sl, hk_cp, hp_cp, eu, n0_e, n0_01]
  · rw [if_neg q]
    obtain ⟨v, hv⟩ : ∃ v, gu Ω = v + 1 := ⟨gu Ω - 1, by omega⟩
    have hv1 : gu Ω - 1 = v := by omega
    have eu : hi_ h 458 122 = nI (v + 1) := by rw [hI.u, hv]
    rw [hv1]
    have o0 : On UP h (si_ h 458 122 (nI v)) := On.si (Or.inl ⟨rfl, rfl⟩)
    have hM0 := hM.on o0
    refine Exists.elim (run_fill (F := fun d j x => (run (d) 226 21 [.ref 458, .int (nI j)] [] x)) (b := 491) (n := 31) (r := gh Ω v) (h := si_ h 458 122 (nI v)) (fun d j x hj o _ _ => ?_)) (fun y hh => ?_)
    · have hM1 := hM0.on o
      have h1 : ¬ nI 31 ≤ nI j := nI_ge hj (by decide)
      have h2 : 31 * v + j < 1240 := by omega
      have e : hi_ x 495 (31 * v + j) = gh Ω v j := (o.i (fun q => absurd q.1 (by decide))).trans ((o0.i (fun q => by unfold UP at q; omega)).trans (hI.hs v (by omega) j hj))
      have e2 : hi_ x 458 122 = nI v := (o.i (fun q => absurd q.1 (by decide))).trans (hi_same)
      refine (e226_21).trans ?_
      simp only [e226_0, e226_1, e226_4, e226_7, e226_8, e226_9, e226_10, e226_11, e226_14, e226_15, e226_16, e226_19, e226_20, e226_22, e226_24, e226_27, e226_28, e226_31, e226_32, e226_33, e226_36, e226_38, e226_39, e226_42, e226_43, e226_44, e226_45, e226_46, e226_47, e226_50, e226_53, e226_54, mk_458 hM1, mp_116 hM1, mk_491 hM1, mp_123 hM1, mk_495 hM1, ↓reduceIte, Nat.reduceAdd, Nat.reduceLeDiff, Nat.reduceLT, Nat.reduceEqDiff, not_false_eq_true, false_or, true_or, or_true, or_false, n0_e, n1_ne, n1_11, bI_z, bI_1, bI_fo, va_rf_some, aBk_1, aBk_0, nI_add, nI_mul, hk_si, hp_si, hl_si, hk_sp, hk_sl, hk_cp, hp_cp, h1, hj, h2, e, e2]
    · obtain ⟨e, o, ry⟩ := hh
      have o' : On UP h y := o0.trans (o.mono (fun a f q => Or.inr q.1))
      have hz : (nI (v + 1) = 0) = False := by rw [nI_z (by omega)]; exact eq_false (by omega)
      refine ⟨y, fun d => ?_, o'.mono (fun a f q => by unfold UP at q; unfold MP; omega), ?_⟩
      · simp only [e226_0, e226_1, e226_4, e226_7, e226_8, e226_9, e226_10, e226_11, e226_14, e226_15, e226_16, e226_19, e226_20, e226_22, e226_24, e226_27, e226_28, e226_31, e226_32, e226_33, e226_36, e226_38, e226_39, e226_42, e226_43, e226_44, e226_45, e226_46, e226_47, e226_50, e226_53, e226_54, mk_458 hM, mp_116 hM, mk_491 hM, mp_123 hM, mk_495 hM, ↓reduceIte, Nat.reduceAdd, Nat.reduceLeDiff, Nat.reduceLT, Nat.reduceEqDiff, not_false_eq_true, false_or, true_or, or_true, or_false, n0_e, n1_ne, n1_11, bI_z, bI_1, bI_fo, va_rf_some, aBk_1, aBk_0, nI_add, nI_mul, hk_si, hp_si, hl_si, hk_sp, hk_sl, hk_cp, hp_cp, eu, hz, nI_s1]
        refine (e d).trans ?_
        refine (e226_21).trans ?_
        simp only [e226_0, e226_1, e226_4, e226_7, e226_8, e226_9, e226_10, e226_11, e226_14, e226_15, e226_16, e226_19, e226_20, e226_22, e226_24, e226_27, e226_28, e226_31, e226_32, e226_33, e226_36, e226_38, e226_39, e226_42, e226_43, e226_44, e226_45, e226_46, e226_47, e226_50, e226_53, e226_54, ↓reduceIte, Nat.reduceAdd, Nat.reduceLeDiff, Nat.reduceLT, Nat.reduceEqDiff, not_false_eq_true, false_or, true_or, or_true, or_false, n0_e, n1_ne, n1_11, bI_z, bI_1, bI_fo, va_rf_some, aBk_1, aBk_0, nI_add, nI_mul, hk_si, hp_si, hl_si, hk_sp, hk_sl, hk_cp, hp_cp, Int32.le_refl, n1_01]
      · refine hI.mk' o' (fun a f q => by unfold UP at q; omega) rfl ry ⟨?_, ?_, ?_⟩ (hI.ks o' (fun f q => by unfold UP at q; omega) (fun f q => by unfold UP at q; omega)) (hI.km o' (fun f q => by unfold UP at q; omega) (fun f q => by unfold UP at q; omega) (fun q => by unfold UP at q; omega)) (hI.kn o' (fun f q => by unfold UP at q; omega) (fun q => by unfold UP at q; omega)) rfl
        · show v ≤ 40; omega
        · exact (o.i (fun q => absurd q.1 (by decide))).trans (hi_same)
        · intro i hi k hk
          have hi : i < v := hi
          exact (o'.i (fun q => by unfold UP at q; omega)).trans (hI.hs i (by omega) k hk)
theorem m_hold (hI : MI h lv Ω) (s : Int32) : ∃ h', (∀ d, (run (d + 1) 271 0 [.ref 458, .int s, aU] [] h) = some (.returned (some (.int ((aHld Ω s).2))), h')) ∧ On MP h h' ∧ MI h' lv (aHld Ω s).1 := by
  have hM := hI.T.m
  unfold aHld
  cases hq : in_ s (nI 0) (nI 2) with
  | false =>
    refine ⟨h, fun d => ?_, On.refl, by simpa using hI⟩
    simp only [e271_0, e271_1, e271_2, e271_3, e271_6, e271_9, e271_10, e271_11, e271_12, e271_15, e271_16, e271_17, e271_17z, e271_18, e271_19, e271_21, e271_23, e271_26, e271_27, e271_30, e271_32, e271_33, e271_34, e271_35, e271_36, e271_37, e271_40, e271_41, e271_42, e271_43, e271_46, e271_49, e271_50, mk_458 hM, mp_116 hM, mk_491 hM, mp_131 hM, mk_502 hM, mp_132 hM, mk_503 hM, ↓reduceIte, Nat.reduceAdd, Nat.reduceLeDiff, Nat.reduceLT, Nat.reduceEqDiff, not_false_eq_true, false_or, true_or, or_true, or_false, n0_e, n1_ne, n1_11, bI_1, bI_fo, va_rf_some, aBk_1, aBk_0, nI_add, nI_mul, hk_si, hp_si, hl_si, hk_sp, hk_sl, hk_cp, hp_cp, m_in, hq, bI_z, reduceCtorEq, n0_01]
  | true =>
    rw [if_pos rfl]
    obtain ⟨k, hk, rfl⟩ := in_n (by decide) hq
    rw [kk_n (by omega)]
    have h3 : k < 3 := by omega
    have o0 : On (fun a f => a = 502 ∨ a = 503) h (si_ h 502 k (nI 1)) := On.si (Or.inl rfl)
    have hM0 := hM.on o0
    refine Exists.elim (run_fillp (F := fun d j x => (run (d + 1) 271 20 [.ref 458, .int (nI k), .int (nI j)] [] x)) (b := 503) (p := 31 * k) (n := 31) (r := gw Ω) (h := si_ h 502 k (nI 1)) (fun d j x hj o _ _ => ?_)) (fun y hh => ?_)
    · have hM1 := hM0.on o
      have h1 : ¬ nI 31 ≤ nI j := nI_ge hj (by decide)
      have h2 : 31 * k + j < 93 := by omega
      have e : hi_ x 491 j = gw Ω j := (o.i (fun q => absurd q.1 (by decide))).trans ((o0.i (fun q => by omega)).trans (hI.w j hj))
      refine (e271_20).trans ?_
      simp only [e271_0, e271_1, e271_2, e271_3, e271_6, e271_9, e271_10, e271_11, e271_12, e271_15, e271_16, e271_17, e271_17z, e271_18, e271_19, e271_21, e271_23, e271_26, e271_27, e271_30, e271_32, e271_33, e271_34, e271_35, e271_36, e271_37, e271_40, e271_41, e271_42, e271_43, e271_46, e271_49, e271_50, mk_458 hM1, mp_116 hM1, mk_491 hM1, mp_131 hM1, mk_502 hM1, mp_132 hM1, mk_503 hM1, ↓reduceIte, Nat.reduceAdd, Nat.reduceLeDiff, Nat.reduceLT, Nat.reduceEqDiff, not_false_eq_true, false_or, true_or, or_true, or_false, n0_e, n1_ne, n1_11, bI_z, bI_1, bI_fo, va_rf_some, aBk_1, aBk_0, nI_add, nI_mul, hk_si, hp_si, hl_si, hk_sp, hk_sl, hk_cp, hp_cp, h1, hj, h2, e]
    · obtain ⟨e, o, ry⟩ := hh
      have o' : On (fun a f => a = 502 ∨ a = 503) h y := o0.trans (o.mono (fun a f q => Or.inr q.1))
      refine ⟨y, fun d => ?_, o'.mono (fun a f q => by unfold MP; omega), ?_⟩
      · simp only [e271_0, e271_1, e271_2, e271_3, e271_6, e271_9, e271_10, e271_11, e271_12, e271_15, e271_16, e271_17, e271_17z, e271_18, e271_19, e271_21, e271_23, e271_26, e271_27, e271_30, e271_32, e271_33, e271_34, e271_35, e271_36, e271_37, e271_40, e271_41, e271_42, e271_43, e271_46, e271_49, e271_50, mk_458 hM, mp_116 hM, mk_491 hM, mp_131 hM, mk_502 hM, mp_132 hM, mk_503 hM, ↓reduceIte, Nat.reduceAdd, Nat.reduceLeDiff, Nat.reduceLT, Nat.reduceEqDiff, not_false_eq_true, false_or, true_or, or_true, or_false, n0_e, n1_ne, n1_11, bI_1, bI_fo, va_rf_some, aBk_1, aBk_0, nI_add, nI_mul, hk_si, hp_si, hl_si, hk_sp, hk_sl, hk_cp, hp_cp, m_in, hq, bI_z, reduceCtorEq, h3, n1_01]
        refine (e d).trans ?_
        refine (e271_20).trans ?_
        simp only [e271_0, e271_1, e271_2, e271_3, e271_6, e271_9, e271_10, e271_11, e271_12, e271_15, e271_16, e271_17, e271_17z, e271_18, e271_19, e271_21, e271_23, e271_26, e271_27, e271_30, e271_32, e271_33, e271_34, e271_35, e271_36, e271_37, e271_40, e271_41, e271_42, e271_43, e271_46, e271_49, e271_50, ↓reduceIte, Nat.reduceAdd, Nat.reduceLeDiff, Nat.reduceLT, Nat.reduceEqDiff, not_false_eq_true, false_or, true_or, or_true, or_false, n0_e, n1_ne, n1_11, bI_z, bI_1, bI_fo, va_rf_some, aBk_1, aBk_0, nI_add, nI_mul, hk_si, hp_si, hl_si, hk_sp, hk_sl, hk_cp, hp_cp, Int32.le_refl, n1_01]
      · refine hI.mk' o' (fun a f q => by omega) rfl (hI.kw o' (fun f q => by omega)) (hI.ku o' (fun f q => by omega) (fun q => by omega)) (fun i hi => ?_) (hI.km o' (fun f q => by omega) (fun f q => by omega) (fun q => by omega)) (hI.kn o' (fun f q => by omega) (fun q => by omega)) rfl
        show hi_ y 502 i = bI (if i = k then true else gb Ω i) ∧ ((if i = k then true else gb Ω i) = true → ∀ f, f < 31 → hi_ y 503 (31 * i + f) = (if i = k then gw Ω else gr Ω i) f)
        by_cases q : i = k
        · rw [if_pos q, if_pos q, q]
          exact ⟨(o.i (fun q => absurd q.1 (by decide))).trans ((hi_same).trans (by decide)), fun _ f hf => ry f hf⟩
        · rw [if_neg q, if_neg q]
          refine ⟨(o.i (fun q => absurd q.1 (by decide))).trans ((hi_ne (fun z => q z.2)).trans (hI.sl i hi).1), fun hb f hf => ?_⟩
          exact (o.i (fun z => by unfold AB at z; omega)).trans ((hi_ne (by omega)).trans ((hI.sl i hi).2 hb f hf))
theorem m_restore (hI : MI h lv Ω) (s : Int32) : ∃ h', (∀ d, (run (d + 1) 272 0 [.ref 458, .int s, aU] [] h) = some (.returned (some (.int ((aRsr Ω s).2))), h')) ∧ On MP h h' ∧ MI h' lv (aRsr Ω s).1 := by
  have hM := hI.T.m
  unfold aRsr
  cases hq : in_ s (nI 0) (nI 2) with
  | false =>
    refine ⟨h, fun d => ?_, On.refl, by simpa using hI⟩
    simp only [e272_0, e272_1, e272_2, e272_3, e272_6, e272_9, e272_10, e272_13, e272_14, e272_15, e272_18, e272_19, e272_20, e272_21, e272_23, e272_25, e272_28, e272_29, e272_32, e272_33, e272_34, e272_37, e272_39, e272_40, e272_41, e272_42, e272_43, e272_44, e272_45, e272_48, e272_51, e272_52, e272_53, e272_56, e272_57, mk_458 hM, mp_116 hM, mk_491 hM, mp_131 hM, mk_502 hM, mp_132 hM, mk_503 hM, ↓reduceIte, Nat.reduceAdd, Nat.reduceLeDiff, Nat.reduceLT, Nat.reduceEqDiff, not_false_eq_true, false_or, true_or, or_true, or_false, n0_e, n1_ne, n1_11, bI_1, bI_fo, va_rf_some, aBk_1, aBk_0, nI_add, nI_mul, hk_si, hp_si, hl_si, hk_sp, hk_sl, hk_cp, hp_cp, m_in, hq, bI_z, reduceCtorEq, n0_01, false_and]
  | true =>
    obtain ⟨k, hk, rfl⟩ := in_n (by decide) hq
    rw [kk_n (by omega)]
    have h3 : k < 3 := by omega
    have eb := (hI.sl k h3).1
    cases hb : gb Ω k with
    | false =>
      rw [hb] at eb
      refine ⟨h, fun d => ?_, On.refl, by simpa using hI⟩
      simp only [e272_0, e272_1, e272_2, e272_3, e272_6, e272_9, e272_10, e272_13, e272_14, e272_15, e272_18, e272_19, e272_20, e272_21, e272_23, e272_25, e272_28, e272_29, e272_32, e272_33, e272_34, e272_37, e272_39, e272_40, e272_41, e272_42, e272_43, e272_44, e272_45, e272_48, e272_51, e272_52, e272_53, e272_56, e272_57, mk_458 hM, mp_116 hM, mk_491 hM, mp_131 hM, mk_502 hM, mp_132 hM, mk_503 hM, ↓reduceIte, Nat.reduceAdd, Nat.reduceLeDiff, Nat.reduceLT, Nat.reduceEqDiff, not_false_eq_true, false_or, true_or, or_true, or_false, n0_e, n1_ne, n1_11, bI_1, bI_fo, va_rf_some, aBk_1, aBk_0, nI_add, nI_mul, hk_si, hp_si, hl_si, hk_sp, hk_sl, hk_cp, hp_cp, m_in, hq, bI_z, reduceCtorEq, n0_01, h3, eb, and_false]
    | true =>
      rw [hb] at eb
      rw [if_pos ⟨rfl, rfl⟩]
      refine Exists.elim (run_fill (F := fun d j x => (run (d + 1) 272 22 [.ref 458, .int (nI k), .int (nI j)] [] x)) (b := 491) (n := 31) (r := gr Ω k) (h := h) (fun d j x hj o _ _ => ?_)) (fun y hh => ?_)
      · have hM1 := hM.on o
        have h1 : ¬ nI 31 ≤ nI j := nI_ge hj (by decide)
        have h2 : 31 * k + j < 93 := by omega
        have e : hi_ x 503 (31 * k + j) = gr Ω k j := (o.i (fun q => absurd q.1 (by decide))).trans ((hI.sl k h3).2 hb j hj)
        refine (e272_22).trans ?_
        simp only [e272_0, e272_1, e272_2, e272_3, e272_6, e272_9, e272_10, e272_13, e272_14, e272_15, e272_18, e272_19, e272_20, e272_21, e272_23, e272_25, e272_28, e272_29, e272_32, e272_33, e272_34, e272_37, e272_39, e272_40, e272_41, e272_42, e272_43, e272_44, e272_45, e272_48, e272_51, e272_52, e272_53, e272_56, e272_57, mk_458 hM1, mp_116 hM1, mk_491 hM1, mp_131 hM1, mk_502 hM1, mp_132 hM1, mk_503 hM1, ↓reduceIte, Nat.reduceAdd, Nat.reduceLeDiff, Nat.reduceLT, Nat.reduceEqDiff, not_false_eq_true, false_or, true_or, or_true, or_false, n0_e, n1_ne, n1_11, bI_z, bI_1, bI_fo, va_rf_some, aBk_1, aBk_0, nI_add, nI_mul, hk_si, hp_si, hl_si, hk_sp, hk_sl, hk_cp, hp_cp, h1, hj, h2, e]
      · obtain ⟨e, o, ry⟩ := hh
        have hM1 := hM.on o
        have o' : On UP h (si_ y 458 122 (nI 0)) := (o.mono (fun a f q => Or.inr q.1)).trans (On.si (Or.inl ⟨rfl, rfl⟩))
        refine ⟨si_ y 458 122 (nI 0), fun d => ?_, o'.mono (fun a f q => by unfold UP at q; unfold MP; omega), ?_⟩
        · simp only [e272_0, e272_1, e272_2, e272_3, e272_6, e272_9, e272_10, e272_13, e272_14, e272_15, e272_18, e272_19, e272_20, e272_21, e272_23, e272_25, e272_28, e272_29, e272_32, e272_33, e272_34, e272_37, e272_39, e272_40, e272_41, e272_42, e272_43, e272_44, e272_45, e272_48, e272_51, e272_52, e272_53, e272_56, e272_57, mk_458 hM, mp_116 hM, mk_491 hM, mp_131 hM, mk_502 hM, mp_132 hM, mk_503 hM, ↓reduceIte, Nat.reduceAdd, Nat.reduceLeDiff, Nat.reduceLT, Nat.reduceEqDiff, not_false_eq_true, false_or, true_or, or_true, or_false, n0_e, n1_ne, n1_11, bI_1, bI_fo, va_rf_some, aBk_1, aBk_0, nI_add, nI_mul, hk_si, hp_si, hl_si, hk_sp, hk_sl, hk_cp, hp_cp, m_in, hq, bI_z, reduceCtorEq, h3, eb]
          refine (e d).trans ?_
          refine (e272_22).trans ?_
          simp only [e272_0, e272_1, e272_2, e272_3, e272_6, e272_9, e272_10, e272_13, e272_14, e272_15, e272_18, e272_19, e272_20, e272_21, e272_23, e272_25, e272_28, e272_29, e272_32, e272_33, e272_34, e272_37, e272_39, e272_40, e272_41, e272_42, e272_43, e272_44, e272_45, e272_48, e272_51, e272_52, e272_53, e272_56, e272_57, mk_458 hM1, mp_116 hM1, mk_491 hM1, mp_131 hM1, mk_502 hM1, mp_132 hM1, mk_503 hM1, ↓reduceIte, Nat.reduceAdd, Nat.reduceLeDiff, Nat.reduceLT, Nat.reduceEqDiff, not_false_eq_true, false_or, true_or, or_true, or_false, n0_e, n1_ne, n1_11, bI_z, bI_1, bI_fo, va_rf_some, aBk_1, aBk_0, nI_add, nI_mul, hk_si, hp_si, hl_si, hk_sp, hk_sl, hk_cp, hp_cp, Int32.le_refl, n1_01]
        · refine hI.mk' o' (fun a f q => by unfold UP at q; omega) rfl (fun i hi => (hi_ne (by omega)).trans (ry i hi)) ⟨Nat.zero_le 40, hi_same, fun i hi => absurd hi (Nat.not_lt_zero i)⟩ (hI.ks o' (fun f q => by unfold UP at q; omega) (fun f q => by unfold UP at q; omega)) (hI.km o' (fun f q => by unfold UP at q; omega) (fun f q => by unfold UP at q; omega) (fun q => by unfold UP at q; omega)) (hI.kn o' (fun f q => by unfold UP at q; omega) (fun q => by unfold UP at q; omega)) rfl
def TPl (a f : Nat) : Prop := (a = 458 ∧ f = 128) ∨ a = 500 ∨ a = 501
theorem m_tell (hI : MI h lv Ω) (x : Int32) (b : Bool) : ∃ h', (∀ d, (run (d + 1) 265 0 [.ref 458, .int x, .int (bI b)] [] h) = some (.returned (some (.int ((aTel Ω x b).2))), h')) ∧ On MP h h' ∧ MI h' lv (aTel Ω x b).1 := by
  have hM := hI.T.m
  have h20 := hI.m20
  unfold aTel
  have e20 : (nI (gm Ω) = nI 20) = (gm Ω = 20) := nI_eqL (by omega) (by decide)
  by_cases q : gm Ω = 20
  · rw [if_neg (fun z => z.2 q)]
    refine ⟨h, fun d => ?_, On.refl, hI⟩
    simp only [e265_0, e265_1, e265_4, e265_6, e265_9, e265_10, e265_11, e265_13, e265_16, e265_19, e265_20, e265_21, e265_22, e265_25, e265_26, e265_29, e265_30, e265_31, e265_32, e265_35, e265_36, e265_39, e265_40, e265_40z, e265_41, e265_42, e265_43, e265_46, e265_47, e265_48, e265_51, e265_52, e265_55, e265_56, e265_57, mk_458 hM, mp_129 hM, mk_500 hM, mp_130 hM, mk_501 hM, ↓reduceIte, Nat.reduceAdd, Nat.reduceLeDiff, Nat.reduceLT, Nat.reduceEqDiff, not_false_eq_true, false_or, true_or, or_true, or_false, n0_e, n1_ne, n1_11, bI_z, bI_1, bI_fo, va_rf_some, aBk_1, aBk_0, nI_add, nI_mul, hk_si, hp_si, hl_si, hk_sp, hk_sl, hk_cp, hp_cp, hI.mm, e20, q]
  · cases hq : in_ x (nI 0) (nI 23) with
    | false =>
      refine ⟨h, fun d => ?_, On.refl, by simpa using hI⟩
      simp only [e265_0, e265_1, e265_4, e265_6, e265_9, e265_10, e265_11, e265_13, e265_16, e265_19, e265_20, e265_21, e265_22, e265_25, e265_26, e265_29, e265_30, e265_31, e265_32, e265_35, e265_36, e265_39, e265_40, e265_40z, e265_41, e265_42, e265_43, e265_46, e265_47, e265_48, e265_51, e265_52, e265_55, e265_56, e265_57, mk_458 hM, mp_129 hM, mk_500 hM, mp_130 hM, mk_501 hM, ↓reduceIte, Nat.reduceAdd, Nat.reduceLeDiff, Nat.reduceLT, Nat.reduceEqDiff, not_false_eq_true, false_or, true_or, or_true, or_false, n0_e, n1_ne, n1_11, bI_1, bI_fo, va_rf_some, aBk_1, aBk_0, nI_add, nI_mul, hk_si, hp_si, hl_si, hk_sp, hk_sl, hk_cp, hp_cp, hI.mm, e20, q, m_in, hq, bI_z, reduceCtorEq, false_and]
    | true =>
      rw [if_pos ⟨rfl, q⟩]
      have h2 : gm Ω < 20 := by omega
      have o1 : On TPl h (si_ h 500 (gm Ω) x) := On.si (Or.inr (Or.inl rfl))
      have hM1 := hM.on o1
      have o2 : On TPl h (si_ (si_ h 500 (gm Ω) x) 501 (gm Ω) (bI b)) := o1.trans (On.si (Or.inr (Or.inr rfl)))
      have hM2 := hM.on o2
      have o3 : On TPl h (si_ (si_ (si_ h 500 (gm Ω) x) 501 (gm Ω) (bI b)) 458 128 (nI (gm Ω + 1))) := o2.trans (On.si (Or.inl ⟨rfl, rfl⟩))
      have hM3 := hM.on o3
      refine ⟨si_ (si_ (si_ h 500 (gm Ω) x) 501 (gm Ω) (bI b)) 458 128 (nI (gm Ω + 1)), fun d => ?_, o3.mono (fun a f q => by unfold TPl at q; unfold MP; omega), ?_⟩
      · simp only [e265_0, e265_1, e265_4, e265_6, e265_9, e265_10, e265_11, e265_13, e265_16, e265_19, e265_20, e265_21, e265_22, e265_25, e265_26, e265_29, e265_30, e265_31, e265_32, e265_35, e265_36, e265_39, e265_40, e265_40z, e265_41, e265_42, e265_43, e265_46, e265_47, e265_48, e265_51, e265_52, e265_55, e265_56, e265_57, mk_458 hM, mp_129 hM, mk_500 hM, mp_130 hM, mk_501 hM, mk_458 hM1, mp_129 hM1, mk_500 hM1, mp_130 hM1, mk_501 hM1, mk_458 hM2, mp_129 hM2, mk_500 hM2, mp_130 hM2, mk_501 hM2, mk_458 hM3, mp_129 hM3, mk_500 hM3, mp_130 hM3, mk_501 hM3, ↓reduceIte, Nat.reduceAdd, Nat.reduceLeDiff, Nat.reduceLT, not_false_eq_true, false_or, true_or, or_true, or_false, n0_e, n1_ne, n1_11, bI_1, bI_fo, va_rf_some, aBk_1, aBk_0, nI_add, nI_mul, hk_si, hp_si, hl_si, hk_sp, hk_sl, hk_cp, hp_cp, hI.mm, e20, q, m_in, hq, bI_z, reduceCtorEq, h2, bI_01, nI_s1, hi_si, Nat.reduceEqDiff, false_and, true_and, and_false, and_true]
      · refine hI.mk' o3 (fun a f q => by unfold TPl at q; omega) rfl (hI.kw o3 (fun f q => by unfold TPl at q; omega)) (hI.ku o3 (fun f q => by unfold TPl at q; omega) (fun q => by unfold TPl at q; omega)) (hI.ks o3 (fun f q => by unfold TPl at q; omega) (fun f q => by unfold TPl at q; omega)) ⟨?_, hi_same, fun i hi => ?_⟩ (hI.kn o3 (fun f q => by unfold TPl at q; omega) (fun q => by unfold TPl at q; omega)) rfl
        · show gm Ω + 1 ≤ 20; omega
        · have hi : i < gm Ω + 1 := hi
          refine ⟨?_, ?_⟩
          · show hi_ (si_ (si_ (si_ h 500 (gm Ω) x) 501 (gm Ω) (bI b)) 458 128 (nI (gm Ω + 1))) 500 i = (if i = gm Ω then x else gth Ω i)
            rw [hi_ne (by omega), hi_ne (by omega), hi_si]
            by_cases q2 : i = gm Ω
            · rw [if_pos ⟨rfl, q2⟩, if_pos q2]
            · rw [if_neg (fun z => q2 z.2), if_neg q2]; exact (hI.tl i (by omega)).1
          · show hi_ (si_ (si_ (si_ h 500 (gm Ω) x) 501 (gm Ω) (bI b)) 458 128 (nI (gm Ω + 1))) 501 i = bI (if i = gm Ω then b else gts Ω i)
            rw [hi_ne (by omega), hi_si]
            by_cases q2 : i = gm Ω
            · rw [if_pos ⟨rfl, q2⟩, if_pos q2]
            · rw [if_neg (fun z => q2 z.2), if_neg q2, hi_ne (by omega)]; exact (hI.tl i (by omega)).2
theorem m_forget (hI : MI h lv Ω) : ∃ h', (∀ d, (run (d) 266 0 [.ref 458, aU] [] h) = some (.returned (some (.int ((aFgt Ω).2))), h')) ∧ On MP h h' ∧ MI h' lv (aFgt Ω).1 := by
  have hM := hI.T.m
  have o : On TPl h (si_ h 458 128 (nI 0)) := On.si (Or.inl ⟨rfl, rfl⟩)
  refine ⟨si_ h 458 128 (nI 0), fun d => ?_, o.mono (fun a f q => by unfold TPl at q; unfold MP; omega), ?_⟩
  · simp only [e266_0, e266_1, e266_4, e266_5, e266_6, e266_7, e266_10, e266_11, mk_458 hM, ↓reduceIte, Nat.reduceAdd, Nat.reduceLeDiff, Nat.reduceLT, Nat.reduceEqDiff, not_false_eq_true, false_or, true_or, or_true, or_false, n0_e, n1_ne, n1_11, bI_z, bI_1, bI_fo, va_rf_some, aBk_1, aBk_0, nI_add, nI_mul, hk_si, hp_si, hl_si, hk_sp, hk_sl, hk_cp, hp_cp, hI.mm]
    rfl
  · exact hI.mk' o (fun a f q => by unfold TPl at q; omega) rfl (hI.kw o (fun f q => by unfold TPl at q; omega)) (hI.ku o (fun f q => by unfold TPl at q; omega) (fun q => by unfold TPl at q; omega)) (hI.ks o (fun f q => by unfold TPl at q; omega) (fun f q => by unfold TPl at q; omega)) ⟨Nat.zero_le 20, hi_same, fun i hi => absurd hi (Nat.not_lt_zero i)⟩ (hI.kn o (fun f q => by unfold TPl at q; omega) (fun q => by unfold TPl at q; omega)) rfl
/-- the tape -/
def TQ (a f : Nat) : Prop := (a = 458 ∧ f = 68) ∨ a = 459
theorem i8_8 (x : Int8) : x.toInt32.toInt8 = x := by simp
theorem k24 : (nI 24 < 0) = False ∧ (nI 16 < 0) = False ∧ (nI 8 < 0) = False ∧ (nI 0 < 0) = False ∧ ((-8 : Int32) < 0) = True ∧ nI 24 + (-8) = nI 16 ∧ nI 16 + (-8) = nI 8 ∧ nI 8 + (-8) = nI 0 ∧ nI 0 + (-8) = (-8 : Int32) := by decide
theorem m_put (hM : MS h) {n : Nat} {tp : Nat → Int32} {x : Int32} (hn : n + 4 ≤ 2000) (e : hi_ h 458 68 = nI n) (ht : ∀ i, i < n → hi_ h 459 i = tp i) :
    ∃ h', (∀ d, (run (d) 153 0 [.ref 458, .int x, aU] [] h) = some (.returned none, h')) ∧ On TQ h h' ∧ hi_ h' 458 68 = nI (n + 4) ∧ ∀ i, i < n + 4 → hi_ h' 459 i = ext tp n x i := by
  obtain ⟨k1, k2, k3, k4, k5, k6, k7, k8, k9⟩ := k24
  have l0 : n < 2000 := by omega
  have l1 : n + 1 < 2000 := by omega
  have l2 : n + 1 + 1 < 2000 := by omega
  have l3 : n + 1 + 1 + 1 < 2000 := by omega
  refine ⟨si_ (si_ (si_ (si_ (si_ (si_ (si_ (si_ h 459 n (byt x 0)) 458 68 (nI (n + 1))) 459 (n + 1) (byt x 1)) 458 68 (nI (n + 1 + 1))) 459 (n + 1 + 1) (byt x 2)) 458 68 (nI (n + 1 + 1 + 1))) 459 (n + 1 + 1 + 1) (byt x 3)) 458 68 (nI (n + 1 + 1 + 1 + 1)), fun d => ?_, ?_, ?_, ?_⟩
  · simp only [e153_0, e153_2, e153_3, e153_4, e153_7, e153_8, e153_11, e153_12, e153_15, e153_16, e153_17, e153_18, e153_19, e153_19z, e153_20, e153_21, e153_22, e153_25, e153_26, e153_27, e153_30, e153_33, e153_36, mk_458 hM, mp_67 hM, mk_459 hM, ↓reduceIte, Nat.reduceAdd, Nat.reduceLeDiff, Nat.reduceLT, not_false_eq_true, false_or, true_or, or_true, or_false, n0_e, n1_ne, n1_11, bI_z, bI_1, bI_fo, va_rf_some, aBk_1, aBk_0, nI_add, nI_mul, hk_si, hp_si, hl_si, hk_sp, hk_sl, hk_cp, hp_cp, e, k1, k2, k3, k4, k5, k6, k7, k8, k9, l0, l1, l2, l3, i8_8, hi_si, Nat.reduceEqDiff, false_and, true_and, and_false, and_true]
    rfl
  · exact (((((((On.si (Or.inr rfl)).trans (On.si (Or.inl ⟨rfl, rfl⟩))).trans (On.si (Or.inr rfl))).trans (On.si (Or.inl ⟨rfl, rfl⟩))).trans (On.si (Or.inr rfl))).trans (On.si (Or.inl ⟨rfl, rfl⟩))).trans (On.si (Or.inr rfl))).trans (On.si (Or.inl ⟨rfl, rfl⟩))
  · exact hi_same
  · intro i hi
    unfold ext
    rw [hi_si, if_neg (by omega), hi_si]
    by_cases q3 : i = n + 1 + 1 + 1
    · rw [if_pos ⟨rfl, q3⟩, if_neg (by omega), q3]; congr 1; omega
    · rw [if_neg (fun z => q3 z.2), hi_si, if_neg (by omega), hi_si]
      by_cases q2 : i = n + 1 + 1
      · rw [if_pos ⟨rfl, q2⟩, if_neg (by omega), q2]; congr 1; omega
      · rw [if_neg (fun z => q2 z.2), hi_si, if_neg (by omega), hi_si]
        by_cases q1 : i = n + 1
        · rw [if_pos ⟨rfl, q1⟩, if_neg (by omega), q1]; congr 1; omega
        · rw [if_neg (fun z => q1 z.2), hi_si, if_neg (by omega), hi_si]
          by_cases q0 : i = n
          · rw [if_pos ⟨rfl, q0⟩, if_neg (by omega), q0]; congr 1; omega
          · rw [if_neg (fun z => q0 z.2), if_pos (by omega)]
            exact ht i (by omega)
theorem m_feed (hI : MI h lv Ω) (a b c x y : Int32) : ∃ h', (∀ d, (run (d + 1) 152 0 [.ref 458, .int a, .int b, .int c, .int x, .int y] [] h) = some (.returned (some (.int ((aFeed Ω a b c x y).2))), h')) ∧ On MP h h' ∧ MI h' lv (aFeed Ω a b c x y).1 := by
  have hM := hI.T.m
  have hn2 := hI.n2
  unfold aFeed
  by_cases q : gn Ω + 20 ≤ 2000
  · rw [if_pos q]
    obtain ⟨h1, e1, o1, n1, t1⟩ := m_put hM (x := a) (n := gn Ω) (by omega) hI.nn hI.tp
    have hM1 := hM.on o1
    obtain ⟨h2, e2, o2, n2, t2⟩ := m_put hM1 (x := b) (n := gn Ω + 4) (by omega) n1 t1
    have hM2 := hM1.on o2
    obtain ⟨h3, e3, o3, n3, t3⟩ := m_put hM2 (x := c) (n := gn Ω + 8) (by omega) n2 t2
    have hM3 := hM2.on o3
    obtain ⟨h4, e4, o4, n4, t4⟩ := m_put hM3 (x := x) (n := gn Ω + 12) (by omega) n3 t3
    have hM4 := hM3.on o4
    obtain ⟨h5, e5, o5, n5, t5⟩ := m_put hM4 (x := y) (n := gn Ω + 16) (by omega) n4 t4
    have hM5 := hM4.on o5
    have n5 : hi_ h5 458 68 = nI (gn Ω + 20) := n5
    have oo : On TQ h h5 := (((o1.trans o2).trans o3).trans o4).trans o5
    have hle : nI (gn Ω + 20) ≤ nI 2000 := nI_le q (by decide)
    refine ⟨h5, fun d => ?_, oo.mono (fun a f q => by unfold TQ at q; unfold MP; omega), ?_⟩
    · simp only [e152_0, e152_1, e152_4, e152_6, e152_7, e152_10, e152_13, e152_14, e152_15, e152_16, e152_17, e152_20, e152_21, e152_22, e152_25, e152_26, e152_27, e152_30, e152_31, e152_33, e152_36, e152_37, e152_39, e152_42, e152_43, e152_46, mk_458 hM, mk_458 hM1, mk_458 hM2, mk_458 hM3, mk_458 hM4, mk_458 hM5, ↓reduceIte, Nat.reduceAdd, Nat.reduceLeDiff, Nat.reduceLT, Nat.reduceEqDiff, not_false_eq_true, false_or, true_or, or_true, or_false, n0_e, n1_ne, n1_11, bI_z, bI_1, bI_fo, va_rf_some, aBk_1, aBk_0, nI_add, nI_mul, hk_si, hp_si, hl_si, hk_sp, hk_sl, hk_cp, hp_cp, hI.nn, hle, e1, e2, e3, e4, e5, n5]
    · exact hI.mk' oo (fun a f q => by unfold TQ at q; omega) rfl (hI.kw oo (fun f q => by unfold TQ at q; omega)) (hI.ku oo (fun f q => by unfold TQ at q; omega) (fun q => by unfold TQ at q; omega)) (hI.ks oo (fun f q => by unfold TQ at q; omega) (fun f q => by unfold TQ at q; omega)) (hI.km oo (fun f q => by unfold TQ at q; omega) (fun f q => by unfold TQ at q; omega) (fun q => by unfold TQ at q; omega)) ⟨q, n5, t5⟩ rfl
  · rw [if_neg q]
    have hle : ¬ nI (gn Ω + 20) ≤ nI 2000 := by rw [nI_leL (by omega) (by decide)]; exact q
    refine ⟨h, fun d => ?_, On.refl, hI⟩
    simp only [e152_0, e152_1, e152_4, e152_6, e152_7, e152_10, e152_13, e152_14, e152_15, e152_16, e152_17, e152_20, e152_21, e152_22, e152_25, e152_26, e152_27, e152_30, e152_31, e152_33, e152_36, e152_37, e152_39, e152_42, e152_43, e152_46, mk_458 hM, ↓reduceIte, Nat.reduceAdd, Nat.reduceLeDiff, Nat.reduceLT, Nat.reduceEqDiff, not_false_eq_true, false_or, true_or, or_true, or_false, n0_e, n1_ne, n1_11, bI_z, bI_1, bI_fo, va_rf_some, aBk_1, aBk_0, nI_add, nI_mul, hk_si, hp_si, hl_si, hk_sp, hk_sl, hk_cp, hp_cp, hI.nn, hle]
theorem m_back (hI : MI h lv Ω) (x : Int32) : ∃ h', (∀ d, (run (d) 154 0 [.ref 458, .int x] [] h) = some (.returned (some (.int ((aBack Ω x).2))), h')) ∧ On MP h h' ∧ MI h' lv (aBack Ω x).1 := by
  have hM := hI.T.m
  have hn2 := hI.n2
  unfold aBack
  cases hq : in_ x (nI 0) (nI (gn Ω)) with
  | true =>
    obtain ⟨k, hk, rfl⟩ := in_n (by omega) hq
    rw [if_pos rfl, kk_n (by omega)]
    have o : On TQ h (si_ h 458 68 (nI (gn Ω - k))) := On.si (Or.inl ⟨rfl, rfl⟩)
    have hM1 := hM.on o
    have h1 : (nI k < 0) = False := nI_lt0 (by omega)
    have h2 : nI k ≤ nI (gn Ω) := nI_le hk (by omega)
    refine ⟨si_ h 458 68 (nI (gn Ω - k)), fun d => ?_, o.mono (fun a f q => by unfold TQ at q; unfold MP; omega), ?_⟩
    · simp only [e154_0, e154_1, e154_4, e154_5, e154_6, e154_9, e154_12, e154_13, e154_14, e154_15, e154_16, e154_19, e154_20, e154_21, e154_24, e154_25, e154_28, mk_458 hM, mk_458 hM1, ↓reduceIte, Nat.reduceAdd, Nat.reduceLeDiff, Nat.reduceLT, not_false_eq_true, false_or, true_or, or_true, or_false, n0_e, n1_ne, n1_11, bI_z, bI_1, bI_fo, va_rf_some, aBk_1, aBk_0, nI_add, nI_mul, hk_si, hp_si, hl_si, hk_sp, hk_sl, hk_cp, hp_cp, h1, h2, hI.nn, nI_sub hk, hi_si, Nat.reduceEqDiff, false_and, true_and, and_false, and_true]
    · exact hI.mk' o (fun a f q => by unfold TQ at q; omega) rfl (hI.kw o (fun f q => by unfold TQ at q; omega)) (hI.ku o (fun f q => by unfold TQ at q; omega) (fun q => by unfold TQ at q; omega)) (hI.ks o (fun f q => by unfold TQ at q; omega) (fun f q => by unfold TQ at q; omega)) (hI.km o (fun f q => by unfold TQ at q; omega) (fun f q => by unfold TQ at q; omega) (fun q => by unfold TQ at q; omega))
        ⟨by show gn Ω - k ≤ 2000; omega, hi_same, fun i hi => (hi_ne (by omega)).trans (hI.tp i (by have hi : i < gn Ω - k := hi; omega))⟩ rfl
  | false =>
    refine ⟨h, fun d => ?_, On.refl, by simpa using hI⟩
    rw [if_neg (by decide)]
    unfold in_ at hq
    by_cases q1 : x < 0
    · simp only [e154_0, e154_1, e154_4, e154_5, e154_6, e154_9, e154_12, e154_13, e154_14, e154_15, e154_16, e154_19, e154_20, e154_21, e154_24, e154_25, e154_28, mk_458 hM, ↓reduceIte, Nat.reduceAdd, Nat.reduceLeDiff, Nat.reduceLT, Nat.reduceEqDiff, not_false_eq_true, false_or, true_or, or_true, or_false, n0_e, n1_ne, n1_11, bI_z, bI_1, bI_fo, va_rf_some, aBk_1, aBk_0, nI_add, nI_mul, hk_si, hp_si, hl_si, hk_sp, hk_sl, hk_cp, hp_cp, q1]
    · have q0 : nI 0 ≤ x := by rw [nI_0]; exact Int32.not_lt.mp q1
      rw [decide_eq_true q0, Bool.true_and, decide_eq_false_iff_not] at hq
      simp only [e154_0, e154_1, e154_4, e154_5, e154_6, e154_9, e154_12, e154_13, e154_14, e154_15, e154_16, e154_19, e154_20, e154_21, e154_24, e154_25, e154_28, mk_458 hM, ↓reduceIte, Nat.reduceAdd, Nat.reduceLeDiff, Nat.reduceLT, Nat.reduceEqDiff, not_false_eq_true, false_or, true_or, or_true, or_false, n0_e, n1_ne, n1_11, bI_z, bI_1, bI_fo, va_rf_some, aBk_1, aBk_0, nI_add, nI_mul, hk_si, hp_si, hl_si, hk_sp, hk_sl, hk_cp, hp_cp, q1, hI.nn, hq]
theorem m_place (hI : MI h lv Ω) : (run (d) 181 0 [.ref 458] [] h) = some (.returned (some (.int (gp Ω))), h) := by
  have hM := hI.T.m
  simp only [e181_0, e181_1, e181_4, mk_458 hM, ↓reduceIte, Nat.reduceAdd, Nat.reduceLeDiff, Nat.reduceLT, Nat.reduceEqDiff, not_false_eq_true, false_or, true_or, or_true, or_false, n0_e, n1_ne, n1_11, bI_z, bI_1, bI_fo, va_rf_some, aBk_1, aBk_0, nI_add, nI_mul, hk_si, hp_si, hl_si, hk_sp, hk_sl, hk_cp, hp_cp, hI.p]
end M8
