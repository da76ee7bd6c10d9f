set_option maxRecDepth 100000
/-! M: reading (7): codes and signs that wait -/
/-- the signs that wait, the last one first -/
def WL (h : aH) : List Nat → Prop
  | [] => True
  | w :: ws => hi_ h 488 ws.length = nI w ∧ w < 64 ∧ WL h ws
/-- codes c from p on, signs ws wait -/
def WC (h : aH) (p : Nat) (ws : List Nat) (c : cdT) : Prop := hi_ h 458 108 = nI (p + c.length) ∧ cdM h p c ∧ hi_ h 458 112 = nI ws.length ∧ ws.length ≤ 60 ∧ WL h ws
def oc (w : Nat) : Nat := if w = 8 then 2 else if w = 9 then 3 else if w = 10 then 4 else 5
/-- signs come out; b: strong ones alone -/
def co (b : Bool) : List Nat → cdT → List Nat × cdT
  | [], c => ([], c)
  | w :: ws, c => if w = 6 ∨ (b = true ∧ (w = 8 ∨ w = 9)) then (w :: ws, c) else co b ws (c ++ [(oc w, 0)])
/-- what is written there: codes from p on, below B -/
def CO (p B a f : Nat) : Prop := (a = 458 ∧ (f = 108 ∨ f = 112)) ∨ ((a = 486 ∨ a = 487) ∧ p ≤ f ∧ f < B)
theorem co_len {b : Bool} : ∀ (ws : List Nat) (c : cdT), (co b ws c).1.length ≤ ws.length ∧ (co b ws c).2.length + (co b ws c).1.length = c.length + ws.length
  | [], c => ⟨Nat.le_refl _, rfl⟩
  | w :: ws, c => by
    unfold co
    split
    · exact ⟨Nat.le_refl _, rfl⟩
    · obtain ⟨h1, h2⟩ := co_len (b := b) ws (c ++ [(oc w, 0)])
      rw [List.length_append, List.length_singleton] at h2
      rw [List.length_cons]
      omega
section M18
variable {d N p B : Nat} {h h' : aH} {τ : aTok} {x : aEr aPs} {σ : aPs} {ws : List Nat} {c : cdT}
theorem WL.on (hW : WL h ws) {S : Nat → Nat → Prop} (o : On S h h') (hs : ∀ f, f < ws.length → ¬ S 488 f) : WL h' ws := by
  induction ws with
  | nil => trivial
  | cons w ws ih =>
    obtain ⟨h1, h2, h3⟩ := hW
    exact ⟨(o.i (hs _ (by rw [List.length_cons]; omega))).trans h1, h2, ih h3 (fun f hf => hs f (by rw [List.length_cons]; omega))⟩
theorem cdM.on (hc : cdM h p c) {S : Nat → Nat → Prop} (o : On S h h') (hs : ∀ f, p ≤ f → f < p + c.length → ¬ S 486 f ∧ ¬ S 487 f) : cdM h' p c :=
  ⟨hc.1, fun i hi => ⟨(o.i (hs _ (by omega) (by omega)).1).trans (hc.2 i hi).1, (o.i (hs _ (by omega) (by omega)).2).trans (hc.2 i hi).2⟩⟩
theorem WC.on (hW : WC h p ws c) {S : Nat → Nat → Prop} (o : On S h h') (h1 : ¬ S 458 108) (h2 : ¬ S 458 112) (h3 : ∀ f, f < ws.length → ¬ S 488 f) (h4 : ∀ f, p ≤ f → f < p + c.length → ¬ S 486 f ∧ ¬ S 487 f) : WC h' p ws c := by
  obtain ⟨w1, w2, w3, w4, w5⟩ := hW
  exact ⟨(o.i h1).trans w1, w2.on o h4, (o.i h2).trans w3, w4, w5.on o h3⟩
theorem WC.fp (hW : WC h p ws c) (o : On FP h h') : WC h' p ws c := hW.on o (fun q => by unfold FP at q; omega) (fun q => by unfold FP at q; omega) (fun f _ q => by unfold FP at q; omega) (fun f _ _ => ⟨fun q => by unfold FP at q; omega, fun q => by unfold FP at q; omega⟩)
/-- one code more -/
def em_ (h : aH) (q : Nat) (k v : Int32) : aH := si_ (si_ (si_ h 486 q k) 487 q v) 458 108 (nI (q + 1))
theorem m_emit (hM : MS h) {q : Nat} (hq : q < 840) (hc : hi_ h 458 108 = nI q) {k v : Int32} : (run (d) 178 0 [.ref 458, .int k, .int v] [] h) = some (.returned none, em_ h q k v) := by
  simp only [e178_0, e178_1, e178_4, e178_5, e178_8, e178_9, e178_10, e178_11, e178_14, e178_15, e178_18, e178_19, e178_20, e178_21, e178_22, e178_25, e178_26, e178_27, e178_30, mk_458 hM, mp_109 hM, mk_486 hM, mp_110 hM, mk_487 hM, ↓reduceIte, Nat.reduceAdd, Nat.reduceLeDiff, Nat.reduceLT, not_false_eq_true, false_or, true_or, or_true, or_false, n0_e, n1_ne, n1_11, bI_z, bI_1, bI_fo, va_rf_some, aBk_1, aBk_0, nI_add, nI_mul, hk_si, hp_si, hl_si, hk_sp, hk_sl, hk_cp, hp_cp, hc, hq, hi_si, Nat.reduceEqDiff, false_and, true_and, and_false, and_true]
  rfl
theorem em_on {q : Nat} {k v : Int32} (h1 : p ≤ q) (h2 : q < B) : On (CO p B) h (em_ h q k v) := ((On.si (Or.inr ⟨Or.inl rfl, h1, h2⟩)).trans (On.si (Or.inr ⟨Or.inr rfl, h1, h2⟩))).trans (On.si (Or.inl ⟨rfl, Or.inl rfl⟩))
theorem em_wc (hW : WC h p ws c) {k v : Nat} (hb : p + c.length < 840) : WC (em_ h (p + c.length) (nI k) (nI v)) p ws (c ++ [(k, v)]) := by
  obtain ⟨w1, w2, w3, w4, w5⟩ := hW
  have o : On (CO p (p + c.length + 1)) h (em_ h (p + c.length) (nI k) (nI v)) := em_on (Nat.le_add_right _ _) (Nat.lt_succ_self _)
  refine ⟨?_, ⟨?_, fun i hi => ?_⟩, ?_, w4, w5.on o (fun f _ q => by unfold CO at q; omega)⟩
  · show hi_ (si_ _ 458 108 _) 458 108 = _
    rw [hi_same, List.length_append, List.length_singleton, Nat.add_assoc]
  · rw [List.length_append, List.length_singleton]; omega
  · rw [List.length_append, List.length_singleton] at hi
    unfold em_
    by_cases q : i = c.length
    · subst q
      rw [List.getElem_append_right (Nat.le_refl _)]
      simp only [Nat.sub_self, List.getElem_singleton]
      refine ⟨?_, ?_⟩
      · rw [hi_ne (by omega), hi_ne (by omega)]; exact hi_same
      · rw [hi_ne (by omega)]; exact hi_same
    · rw [List.getElem_append_left (by omega)]
      obtain ⟨y1, y2⟩ := w2.2 i (by omega)
      refine ⟨?_, ?_⟩
      · rw [hi_ne (by omega), hi_ne (by omega), hi_ne (by omega)]; exact y1
      · rw [hi_ne (by omega), hi_ne (by omega), hi_ne (by omega)]; exact y2
  · show hi_ (si_ (si_ (si_ h _ _ _) _ _ _) _ _ _) 458 112 = _
    rw [hi_ne (by omega), hi_ne (by omega), hi_ne (by omega)]; exact w3
theorem m_comesOut {b : Bool} (hB : B ≤ 840) : ∀ (ws : List Nat) (c : cdT) (h : aH) (z : Value), MS h → WC h p ws c → p + c.length + ws.length ≤ B → ∃ h', (∀ d, (run (d + 1) 179 0 [.ref 458, .int (bI b), z] [] h) = some (.returned none, h')) ∧ On (CO p B) h h' ∧ WC h' p (co b ws c).1 (co b ws c).2
  | [], c, h, z, hM, hW, hb => by
    refine ⟨h, fun d => ?_, On.refl, hW⟩
    have g : nI ([] : List Nat).length ≤ 0 := by decide
    have w3 := hW.2.2.1
    refine (e179_0).trans ?_
    simp only [e179_1, e179_4, e179_7, e179_8, e179_11, e179_12, e179_15, e179_16, e179_17, e179_18, e179_19, e179_20, e179_22, e179_25, e179_26, e179_29, e179_30, e179_32, e179_35, e179_36, e179_38, e179_41, e179_42, e179_43, e179_44, e179_47, e179_48, e179_49, e179_52, e179_53, e179_54, e179_56, e179_59, e179_60, e179_63, e179_64, e179_66, e179_69, e179_70, e179_73, e179_74, e179_76, e179_79, e179_80, e179_83, e179_84, e179_85, e179_88, e179_91, mk_458 hM, mp_111 hM, mk_488 hM, ↓reduceIte, Nat.reduceAdd, Nat.reduceLeDiff, Nat.reduceLT, Nat.reduceEqDiff, not_false_eq_true, false_or, true_or, or_true, or_false, n0_e, n1_ne, n1_11, bI_z, bI_1, bI_fo, va_rf_some, aBk_1, aBk_0, nI_add, nI_mul, hk_si, hp_si, hl_si, hk_sp, hk_sl, hk_cp, hp_cp, w3, g]
  | w :: ws, c, h, z, hM, hW, hb => by
    obtain ⟨w1, w2, w3, w4, w5, w6, w7⟩ := id hW
    rw [List.length_cons] at w3 w4 hb
    have g : ¬ nI (ws.length + 1) ≤ 0 := nI_nle (by omega) (by omega)
    have g2 : ws.length < 64 := by omega
    have e6 : (nI w = nI 6) = (w = 6) := nI_eqL (by omega) (by decide)
    have e8 : (nI w = nI 8) = (w = 8) := nI_eqL (by omega) (by decide)
    have e9 : (nI w = nI 9) = (w = 9) := nI_eqL (by omega) (by decide)
    have e10 : (nI w = nI 10) = (w = 10) := nI_eqL (by omega) (by decide)
    by_cases q : w = 6 ∨ (b = true ∧ (w = 8 ∨ w = 9))
    · have ec : co b (w :: ws) c = (w :: ws, c) := if_pos q
      rw [ec]
      refine ⟨h, fun d => ?_, On.refl, hW⟩
      refine (e179_0).trans ?_
      rcases q with q | ⟨qb, q | q⟩
      · simp only [e179_1, e179_4, e179_7, e179_8, e179_11, e179_12, e179_15, e179_16, e179_17, e179_18, e179_19, e179_20, e179_22, e179_25, e179_26, e179_29, e179_30, e179_32, e179_35, e179_36, e179_38, e179_41, e179_42, e179_43, e179_44, e179_47, e179_48, e179_49, e179_52, e179_53, e179_54, e179_56, e179_59, e179_60, e179_63, e179_64, e179_66, e179_69, e179_70, e179_73, e179_74, e179_76, e179_79, e179_80, e179_83, e179_84, e179_85, e179_88, e179_91, mk_458 hM, mp_111 hM, mk_488 hM, ↓reduceIte, Nat.reduceAdd, Nat.reduceLeDiff, Nat.reduceLT, Nat.reduceEqDiff, not_false_eq_true, false_or, true_or, or_true, or_false, n0_e, n1_ne, n1_11, bI_z, bI_1, bI_fo, va_rf_some, aBk_1, aBk_0, nI_add, nI_mul, hk_si, hp_si, hl_si, hk_sp, hk_sl, hk_cp, hp_cp, w3, g, nI_s1, g2, w5, e6, q]
      · subst qb; subst q
        have : ¬ (8 : Nat) = 6 := by decide
        simp only [e179_1, e179_4, e179_7, e179_8, e179_11, e179_12, e179_15, e179_16, e179_17, e179_18, e179_19, e179_20, e179_22, e179_25, e179_26, e179_29, e179_30, e179_32, e179_35, e179_36, e179_38, e179_41, e179_42, e179_43, e179_44, e179_47, e179_48, e179_49, e179_52, e179_53, e179_54, e179_56, e179_59, e179_60, e179_63, e179_64, e179_66, e179_69, e179_70, e179_73, e179_74, e179_76, e179_79, e179_80, e179_83, e179_84, e179_85, e179_88, e179_91, mk_458 hM, mp_111 hM, mk_488 hM, ↓reduceIte, Nat.reduceAdd, Nat.reduceLeDiff, Nat.reduceLT, Nat.reduceEqDiff, not_false_eq_true, false_or, true_or, or_true, or_false, n0_e, n1_ne, n1_11, bI_1, bI_fo, va_rf_some, aBk_1, aBk_0, nI_add, nI_mul, hk_si, hp_si, hl_si, hk_sp, hk_sl, hk_cp, hp_cp, w3, g, nI_s1, g2, w5, e6, e8, this, bI_z, reduceCtorEq]
      · subst qb; subst q
        have q6 : ¬ (9 : Nat) = 6 := by decide
        have q8 : ¬ (9 : Nat) = 8 := by decide
        simp only [e179_1, e179_4, e179_7, e179_8, e179_11, e179_12, e179_15, e179_16, e179_17, e179_18, e179_19, e179_20, e179_22, e179_25, e179_26, e179_29, e179_30, e179_32, e179_35, e179_36, e179_38, e179_41, e179_42, e179_43, e179_44, e179_47, e179_48, e179_49, e179_52, e179_53, e179_54, e179_56, e179_59, e179_60, e179_63, e179_64, e179_66, e179_69, e179_70, e179_73, e179_74, e179_76, e179_79, e179_80, e179_83, e179_84, e179_85, e179_88, e179_91, mk_458 hM, mp_111 hM, mk_488 hM, ↓reduceIte, Nat.reduceAdd, Nat.reduceLeDiff, Nat.reduceLT, Nat.reduceEqDiff, not_false_eq_true, false_or, true_or, or_true, or_false, n0_e, n1_ne, n1_11, bI_1, bI_fo, va_rf_some, aBk_1, aBk_0, nI_add, nI_mul, hk_si, hp_si, hl_si, hk_sp, hk_sl, hk_cp, hp_cp, w3, g, nI_s1, g2, w5, e6, e8, e9, q6, q8, bI_z, reduceCtorEq]
    · have ec : co b (w :: ws) c = co b ws (c ++ [(oc w, 0)]) := if_neg q
      rw [ec]
      have o1 : On (CO p B) h (si_ h 458 112 (nI ws.length)) := On.si (Or.inl ⟨rfl, Or.inr rfl⟩)
      have oA : On (AA 458) h (si_ h 458 112 (nI ws.length)) := On.sa
      have hM1 := hM.on o1
      have hc1 : hi_ (si_ h 458 112 (nI ws.length)) 458 108 = nI (p + c.length) := by rw [hi_ne (by omega)]; exact w1
      have W1 : WC (si_ h 458 112 (nI ws.length)) p ws c := ⟨hc1, w2.on oA (fun f _ _ => ⟨fun q => by unfold AA at q; omega, fun q => by unfold AA at q; omega⟩), hi_same, by omega, w7.on oA (fun f _ q => by unfold AA at q; omega)⟩
      have hq : p + c.length < 840 := by omega
      have W2 := em_wc W1 (k := oc w) (v := 0) hq
      have o2 : On (CO p B) (si_ h 458 112 (nI ws.length)) (em_ (si_ h 458 112 (nI ws.length)) (p + c.length) (nI (oc w)) (nI 0)) := em_on (by omega) (by omega)
      obtain ⟨h', e, o3, W3⟩ := m_comesOut hB ws (c ++ [(oc w, 0)]) _ (.int (nI w)) (hM1.on o2) W2 (by rw [List.length_append, List.length_singleton]; omega)
      refine ⟨h', fun d => ?_, (o1.trans o2).trans o3, W3⟩
      have me := fun (d : Nat) (k v : Int32) => m_emit (d := d) (k := k) (v := v) hM1 hq hc1
      have q6 : ¬ w = 6 := fun z => q (Or.inl z)
      refine (e179_0).trans ?_
      by_cases q8 : w = 8
      · have qb : b = false := by cases b with
          | false => rfl
          | true => exact absurd (Or.inr ⟨rfl, Or.inl q8⟩) q
        have eo : oc w = 2 := if_pos q8
        rw [eo] at e
        have q8' : (nI w = nI 8) = True := by rw [e8]; exact eq_true q8
        subst qb
        simp only [e179_1, e179_4, e179_7, e179_8, e179_11, e179_12, e179_15, e179_16, e179_17, e179_18, e179_19, e179_20, e179_22, e179_25, e179_26, e179_29, e179_30, e179_32, e179_35, e179_36, e179_38, e179_41, e179_42, e179_43, e179_44, e179_47, e179_48, e179_49, e179_52, e179_53, e179_54, e179_56, e179_59, e179_60, e179_63, e179_64, e179_66, e179_69, e179_70, e179_73, e179_74, e179_76, e179_79, e179_80, e179_83, e179_84, e179_85, e179_88, e179_91, mk_458 hM, mp_111 hM, mk_488 hM, mk_458 hM1, mp_111 hM1, mk_488 hM1, ↓reduceIte, Nat.reduceAdd, Nat.reduceLeDiff, Nat.reduceLT, Nat.reduceEqDiff, not_false_eq_true, false_or, true_or, or_true, or_false, n0_e, n1_ne, n1_11, bI_z, bI_1, bI_fo, va_rf_some, aBk_1, aBk_0, nI_add, nI_mul, hk_si, hp_si, hl_si, hk_sp, hk_sl, hk_cp, hp_cp, w3, g, nI_s1, g2, w5, e6, q8', q6, me, e, reduceCtorEq]
      · by_cases q9 : w = 9
        · have qb : b = false := by cases b with
            | false => rfl
            | true => exact absurd (Or.inr ⟨rfl, Or.inr q9⟩) q
          have eo : oc w = 3 := (if_neg q8).trans (if_pos q9)
          rw [eo] at e
          have q9' : (nI w = nI 9) = True := by rw [e9]; exact eq_true q9
          subst qb
          simp only [e179_1, e179_4, e179_7, e179_8, e179_11, e179_12, e179_15, e179_16, e179_17, e179_18, e179_19, e179_20, e179_22, e179_25, e179_26, e179_29, e179_30, e179_32, e179_35, e179_36, e179_38, e179_41, e179_42, e179_43, e179_44, e179_47, e179_48, e179_49, e179_52, e179_53, e179_54, e179_56, e179_59, e179_60, e179_63, e179_64, e179_66, e179_69, e179_70, e179_73, e179_74, e179_76, e179_79, e179_80, e179_83, e179_84, e179_85, e179_88, e179_91, mk_458 hM, mp_111 hM, mk_488 hM, mk_458 hM1, mp_111 hM1, mk_488 hM1, ↓reduceIte, Nat.reduceAdd, Nat.reduceLeDiff, Nat.reduceLT, Nat.reduceEqDiff, not_false_eq_true, false_or, true_or, or_true, or_false, n0_e, n1_ne, n1_11, bI_z, bI_1, bI_fo, va_rf_some, aBk_1, aBk_0, nI_add, nI_mul, hk_si, hp_si, hl_si, hk_sp, hk_sl, hk_cp, hp_cp, w3, g, nI_s1, g2, w5, e6, e8, q8, q9', q6, me, e, reduceCtorEq]
        · by_cases q10 : w = 10
          · have eo : oc w = 4 := ((if_neg q8).trans (if_neg q9)).trans (if_pos q10)
            rw [eo] at e
            have q10' : (nI w = nI 10) = True := by rw [e10]; exact eq_true q10
            by_cases qb : b = true
            · subst qb
              simp only [e179_1, e179_4, e179_7, e179_8, e179_11, e179_12, e179_15, e179_16, e179_17, e179_18, e179_19, e179_20, e179_22, e179_25, e179_26, e179_29, e179_30, e179_32, e179_35, e179_36, e179_38, e179_41, e179_42, e179_43, e179_44, e179_47, e179_48, e179_49, e179_52, e179_53, e179_54, e179_56, e179_59, e179_60, e179_63, e179_64, e179_66, e179_69, e179_70, e179_73, e179_74, e179_76, e179_79, e179_80, e179_83, e179_84, e179_85, e179_88, e179_91, mk_458 hM, mp_111 hM, mk_488 hM, mk_458 hM1, mp_111 hM1, mk_488 hM1, ↓reduceIte, Nat.reduceAdd, Nat.reduceLeDiff, Nat.reduceLT, Nat.reduceEqDiff, not_false_eq_true, false_or, true_or, or_true, or_false, n0_e, n1_ne, n1_11, bI_z, bI_1, bI_fo, va_rf_some, aBk_1, aBk_0, nI_add, nI_mul, hk_si, hp_si, hl_si, hk_sp, hk_sl, hk_cp, hp_cp, w3, g, nI_s1, g2, w5, e6, e8, e9, q8, q9, q10', q6, me, e, reduceCtorEq]
            · have qb : b = false := by cases b with
                | false => rfl
                | true => exact absurd rfl qb
              subst qb
              simp only [e179_1, e179_4, e179_7, e179_8, e179_11, e179_12, e179_15, e179_16, e179_17, e179_18, e179_19, e179_20, e179_22, e179_25, e179_26, e179_29, e179_30, e179_32, e179_35, e179_36, e179_38, e179_41, e179_42, e179_43, e179_44, e179_47, e179_48, e179_49, e179_52, e179_53, e179_54, e179_56, e179_59, e179_60, e179_63, e179_64, e179_66, e179_69, e179_70, e179_73, e179_74, e179_76, e179_79, e179_80, e179_83, e179_84, e179_85, e179_88, e179_91, mk_458 hM, mp_111 hM, mk_488 hM, mk_458 hM1, mp_111 hM1, mk_488 hM1, ↓reduceIte, Nat.reduceAdd, Nat.reduceLeDiff, Nat.reduceLT, Nat.reduceEqDiff, not_false_eq_true, false_or, true_or, or_true, or_false, n0_e, n1_ne, n1_11, bI_z, bI_1, bI_fo, va_rf_some, aBk_1, aBk_0, nI_add, nI_mul, hk_si, hp_si, hl_si, hk_sp, hk_sl, hk_cp, hp_cp, w3, g, nI_s1, g2, w5, e6, e8, e9, q8, q9, q10', q6, me, e, reduceCtorEq]
          · have eo : oc w = 5 := ((if_neg q8).trans (if_neg q9)).trans (if_neg q10)
            rw [eo] at e
            by_cases qb : b = true
            · subst qb
              simp only [e179_1, e179_4, e179_7, e179_8, e179_11, e179_12, e179_15, e179_16, e179_17, e179_18, e179_19, e179_20, e179_22, e179_25, e179_26, e179_29, e179_30, e179_32, e179_35, e179_36, e179_38, e179_41, e179_42, e179_43, e179_44, e179_47, e179_48, e179_49, e179_52, e179_53, e179_54, e179_56, e179_59, e179_60, e179_63, e179_64, e179_66, e179_69, e179_70, e179_73, e179_74, e179_76, e179_79, e179_80, e179_83, e179_84, e179_85, e179_88, e179_91, mk_458 hM, mp_111 hM, mk_488 hM, mk_458 hM1, mp_111 hM1, mk_488 hM1, ↓reduceIte, Nat.reduceAdd, Nat.reduceLeDiff, Nat.reduceLT, Nat.reduceEqDiff, not_false_eq_true, false_or, true_or, or_true, or_false, n0_e, n1_ne, n1_11, bI_z, bI_1, bI_fo, va_rf_some, aBk_1, aBk_0, nI_add, nI_mul, hk_si, hp_si, hl_si, hk_sp, hk_sl, hk_cp, hp_cp, w3, g, nI_s1, g2, w5, e6, e8, e9, e10, q8, q9, q10, q6, me, e, reduceCtorEq]
            · have qb : b = false := by cases b with
                | false => rfl
                | true => exact absurd rfl qb
              subst qb
              simp only [e179_1, e179_4, e179_7, e179_8, e179_11, e179_12, e179_15, e179_16, e179_17, e179_18, e179_19, e179_20, e179_22, e179_25, e179_26, e179_29, e179_30, e179_32, e179_35, e179_36, e179_38, e179_41, e179_42, e179_43, e179_44, e179_47, e179_48, e179_49, e179_52, e179_53, e179_54, e179_56, e179_59, e179_60, e179_63, e179_64, e179_66, e179_69, e179_70, e179_73, e179_74, e179_76, e179_79, e179_80, e179_83, e179_84, e179_85, e179_88, e179_91, mk_458 hM, mp_111 hM, mk_488 hM, mk_458 hM1, mp_111 hM1, mk_488 hM1, ↓reduceIte, Nat.reduceAdd, Nat.reduceLeDiff, Nat.reduceLT, Nat.reduceEqDiff, not_false_eq_true, false_or, true_or, or_true, or_false, n0_e, n1_ne, n1_11, bI_z, bI_1, bI_fo, va_rf_some, aBk_1, aBk_0, nI_add, nI_mul, hk_si, hp_si, hl_si, hk_sp, hk_sl, hk_cp, hp_cp, w3, g, nI_s1, g2, w5, e6, e8, e9, e10, q8, q9, q10, q6, me, e, reduceCtorEq]
/-- what unit writes -/
def UN (p B a f : Nat) : Prop := FP a f ∨ CO p B a f
/-- a number or a variable: the code -/
def unC (τ : aTok) (σ : aPs) : cdT := if tk_ τ σ.1 = 2 then [(0, tv_ τ σ.1)] else if 32 ≤ tk_ τ σ.1 ∧ tk_ τ σ.1 ≤ 40 then [(1, tk_ τ σ.1 - 32)] else []
def unX (τ : aTok) (σ : aPs) : aEr aPs := if tk_ τ σ.1 = 2 ∨ (32 ≤ tk_ τ σ.1 ∧ tk_ τ σ.1 ≤ 40) then goX τ σ else failX τ σ 1
theorem CO.nf (hB : p ≤ p) {a f : Nat} (q : CO p B a f) : (a < 461 ∨ 463 < a) ∧ (a = 458 → f < 77 ∨ 82 < f) := by unfold CO at q; omega
theorem MR.co (hR : MR h τ N σ) (o : On (CO p B) h h') : MR h' τ N σ := hR.ol (o.OL (L := fun _ => False)) (fun _ _ q => q.nf (Nat.le_refl _)) (fun q => q)
theorem m_unit (hR : MR h τ N σ) (hW : WC h p ws c) (hB : B ≤ 840) (hb : p + c.length < B) : ∃ h', (∀ d, (run (d + 2) 177 0 [.ref 458] [] h) = some (.returned none, h')) ∧ On (UN p B) h h' ∧ MO h' τ N (unX τ σ) ∧ WC h' p ws (c ++ unC τ σ) := by
  obtain ⟨hM, hT, hK, h1, h2, h3, h4, h5, h6, h7⟩ := id hR
  have h40 := hT.1
  have g1 : σ.1 < 403 := by omega
  obtain ⟨kt, -, vt⟩ := hT.2.1 σ.1 h1
  obtain ⟨ek, -, ev, -⟩ := hK σ.1 h1
  have w1 := hW.1
  have ei := fun d => m_is (d := d) hR (k := 2) (by decide)
  unfold unX unC
  by_cases q : tk_ τ σ.1 = 2
  · rw [if_pos (Or.inl q), if_pos q]
    rw [decide_eq_true q] at ei
    have o1 : On (CO p B) h (em_ h (p + c.length) (nI 0) (nI (tv_ τ σ.1))) := em_on (by omega) (by omega)
    have R1 := hR.co o1
    obtain ⟨y, ey, oy, ry⟩ := m_goesOn R1 (R1.nx (by omega) (by omega))
    have me := fun (d : Nat) (k v : Int32) => m_emit (d := d) (k := k) (v := v) hM (by omega) w1
    have hM1 := R1.1
    refine ⟨y, fun d => ?_, (o1.mono (fun _ _ q => Or.inr q)).trans (oy.mono (fun _ _ q => Or.inl q)), ry, (em_wc hW (by omega)).fp oy⟩
    simp only [e177_0, e177_1, e177_2, e177_5, e177_8, e177_9, e177_10, e177_11, e177_14, e177_15, e177_18, e177_19, e177_22, e177_23, e177_26, e177_29, e177_30, e177_33, e177_36, e177_37, e177_40, e177_41, e177_44, e177_45, e177_47, e177_50, e177_51, e177_54, e177_55, e177_58, e177_59, e177_61, e177_64, e177_65, e177_66, e177_67, e177_70, e177_71, e177_74, e177_75, e177_77, e177_78, e177_81, e177_82, e177_85, e177_88, e177_89, e177_90, e177_93, mk_458 hM, mp_71 hM, mk_461 hM, mp_73 hM, mk_463 hM, mk_458 hM1, mp_71 hM1, mk_461 hM1, mp_73 hM1, mk_463 hM1, ↓reduceIte, Nat.reduceAdd, Nat.reduceLeDiff, Nat.reduceLT, Nat.reduceEqDiff, not_false_eq_true, false_or, true_or, or_true, or_false, n0_e, n1_ne, n1_11, bI_z, bI_1, bI_fo, va_rf_some, aBk_1, aBk_0, nI_add, nI_mul, hk_si, hp_si, hl_si, hk_sp, hk_sl, hk_cp, hp_cp, ei, reduceCtorEq, h2, g1, ev, me, ey]
  · rw [decide_eq_false q] at ei
    rw [if_neg q]
    have l1 : (nI (tk_ τ σ.1) < nI 32) = (tk_ τ σ.1 < 32) := nI_ltL (by omega) (by decide)
    have l2 : (nI 40 < nI (tk_ τ σ.1)) = (40 < tk_ τ σ.1) := nI_ltL (by decide) (by omega)
    by_cases q2 : 32 ≤ tk_ τ σ.1 ∧ tk_ τ σ.1 ≤ 40
    · rw [if_pos (Or.inr q2), if_pos q2]
      have q3 : ¬ tk_ τ σ.1 < 32 := by omega
      have q40 : ¬ 40 < tk_ τ σ.1 := by omega
      have e5 : nI (tk_ τ σ.1) - nI 32 = nI (tk_ τ σ.1 - 32) := nI_sub q2.1
      have o1 : On (CO p B) h (em_ h (p + c.length) (nI 1) (nI (tk_ τ σ.1 - 32))) := em_on (by omega) (by omega)
      have R1 := hR.co o1
      obtain ⟨y, ey, oy, ry⟩ := m_goesOn R1 (R1.nx (by omega) (by omega))
      have me := fun (d : Nat) (k v : Int32) => m_emit (d := d) (k := k) (v := v) hM (by omega) w1
      have hM1 := R1.1
      refine ⟨y, fun d => ?_, (o1.mono (fun _ _ q => Or.inr q)).trans (oy.mono (fun _ _ q => Or.inl q)), ry, (em_wc hW (by omega)).fp oy⟩
      simp only [e177_0, e177_1, e177_2, e177_5, e177_8, e177_9, e177_10, e177_11, e177_14, e177_15, e177_18, e177_19, e177_22, e177_23, e177_26, e177_29, e177_30, e177_33, e177_36, e177_37, e177_40, e177_41, e177_44, e177_45, e177_47, e177_50, e177_51, e177_54, e177_55, e177_58, e177_59, e177_61, e177_64, e177_65, e177_66, e177_67, e177_70, e177_71, e177_74, e177_75, e177_77, e177_78, e177_81, e177_82, e177_85, e177_88, e177_89, e177_90, e177_93, mk_458 hM, mp_71 hM, mk_461 hM, mp_73 hM, mk_463 hM, mk_458 hM1, mp_71 hM1, mk_461 hM1, mp_73 hM1, mk_463 hM1, ↓reduceIte, Nat.reduceAdd, Nat.reduceLeDiff, Nat.reduceLT, Nat.reduceEqDiff, not_false_eq_true, false_or, true_or, or_true, or_false, n0_e, n1_ne, n1_11, bI_z, bI_1, bI_fo, va_rf_some, aBk_1, aBk_0, nI_add, nI_mul, hk_si, hp_si, hl_si, hk_sp, hk_sl, hk_cp, hp_cp, ei, h4, h2, g1, ek, l1, l2, q3, q40, e5, me, ey]
    · rw [if_neg (by omega), if_neg q2, List.append_nil]
      obtain ⟨y, ey, oy, ry⟩ := m_fail hR (c := 1) (by decide)
      refine ⟨y, fun d => ?_, oy.mono (fun _ _ q => Or.inl q), ry, hW.fp oy⟩
      by_cases q3 : tk_ τ σ.1 < 32
      · simp only [e177_0, e177_1, e177_2, e177_5, e177_8, e177_9, e177_10, e177_11, e177_14, e177_15, e177_18, e177_19, e177_22, e177_23, e177_26, e177_29, e177_30, e177_33, e177_36, e177_37, e177_40, e177_41, e177_44, e177_45, e177_47, e177_50, e177_51, e177_54, e177_55, e177_58, e177_59, e177_61, e177_64, e177_65, e177_66, e177_67, e177_70, e177_71, e177_74, e177_75, e177_77, e177_78, e177_81, e177_82, e177_85, e177_88, e177_89, e177_90, e177_93, mk_458 hM, mp_71 hM, mk_461 hM, mp_73 hM, mk_463 hM, ↓reduceIte, Nat.reduceAdd, Nat.reduceLeDiff, Nat.reduceLT, Nat.reduceEqDiff, not_false_eq_true, false_or, true_or, or_true, or_false, n0_e, n1_ne, n1_11, bI_z, bI_1, bI_fo, va_rf_some, aBk_1, aBk_0, nI_add, nI_mul, hk_si, hp_si, hl_si, hk_sp, hk_sl, hk_cp, hp_cp, ei, h4, h2, g1, ek, l1, q3, ey]
      · have q4 : 40 < tk_ τ σ.1 := by omega
        simp only [e177_0, e177_1, e177_2, e177_5, e177_8, e177_9, e177_10, e177_11, e177_14, e177_15, e177_18, e177_19, e177_22, e177_23, e177_26, e177_29, e177_30, e177_33, e177_36, e177_37, e177_40, e177_41, e177_44, e177_45, e177_47, e177_50, e177_51, e177_54, e177_55, e177_58, e177_59, e177_61, e177_64, e177_65, e177_66, e177_67, e177_70, e177_71, e177_74, e177_75, e177_77, e177_78, e177_81, e177_82, e177_85, e177_88, e177_89, e177_90, e177_93, mk_458 hM, mp_71 hM, mk_461 hM, mp_73 hM, mk_463 hM, ↓reduceIte, Nat.reduceAdd, Nat.reduceLeDiff, Nat.reduceLT, Nat.reduceEqDiff, not_false_eq_true, false_or, true_or, or_true, or_false, n0_e, n1_ne, n1_11, bI_z, bI_1, bI_fo, va_rf_some, aBk_1, aBk_0, nI_add, nI_mul, hk_si, hp_si, hl_si, hk_sp, hk_sl, hk_cp, hp_cp, ei, h4, h2, g1, ek, l1, l2, q3, q4, ey]
theorem m_unitF {c p : Nat} (hF : MF h c p) : (run (d + 2) 177 0 [.ref 458] [] h) = some (.returned none, h) := by
  have hM := hF.1
  have f3 := hF.2.2.2.2.1
  have fz : (nI c = 0) = False := by have := hF.2.2.1; have := hF.2.2.2.1; rw [nI_z (by omega)]; exact eq_false (by omega)
  simp only [e177_0, e177_1, e177_2, e177_5, e177_8, e177_9, e177_10, e177_11, e177_14, e177_15, e177_18, e177_19, e177_22, e177_23, e177_26, e177_29, e177_30, e177_33, e177_36, e177_37, e177_40, e177_41, e177_44, e177_45, e177_47, e177_50, e177_51, e177_54, e177_55, e177_58, e177_59, e177_61, e177_64, e177_65, e177_66, e177_67, e177_70, e177_71, e177_74, e177_75, e177_77, e177_78, e177_81, e177_82, e177_85, e177_88, e177_89, e177_90, e177_93, mk_458 hM, mp_71 hM, mk_461 hM, mp_73 hM, mk_463 hM, ↓reduceIte, Nat.reduceAdd, Nat.reduceLeDiff, Nat.reduceLT, Nat.reduceEqDiff, not_false_eq_true, false_or, true_or, or_true, or_false, n0_e, n1_ne, n1_11, bI_z, bI_1, bI_fo, va_rf_some, aBk_1, aBk_0, nI_add, nI_mul, hk_si, hp_si, hl_si, hk_sp, hk_sl, hk_cp, hp_cp, m_isF hF, f3, fz, m_failF hF]
end M18
