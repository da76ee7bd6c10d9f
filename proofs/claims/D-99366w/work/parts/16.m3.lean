set_option maxRecDepth 100000
/-! M: laws, what is paid, rested, worn -/
section M3
variable {lv : Nat} {h h' : aH} {T : aTx} {r : Nat → Int32}
theorem brM.len {e : cdT} : ∀ {l : List (cdT × cdT × cdT)} {b : Nat}, brM h b l e → b + l.length < 260 := by
  intro l
  induction l with
  | nil => intro b hb; exact hb.1
  | cons x l ih =>
    intro b hb
    obtain ⟨x, y, z⟩ := x
    have := ih hb.2.2.2
    simp only [List.length_cons]
    omega
theorem m_lawGo {v : Nat → Int32} {p : Int32} {k n : Nat} {e : cdT} : ∀ (l : List (cdT × cdT × cdT)) (b : Nat) (h : aH), MS h → brM h b l e → (∀ q ∈ l, (cwf q.1 ∧ q.1.length ≤ 400) ∧ (cwf q.2.1 ∧ q.2.1.length ≤ 400) ∧ (cwf q.2.2 ∧ q.2.2.length ≤ 400)) → cwf e → e.length ≤ 400 →
    n < 8 → hi_ h 480 n = nI (b + l.length + 1) → hi_ h 458 115 = 0 → (∀ k, k < 9 → hi_ h 489 k = v k) →
    ∃ h', (∀ d a5 a6, (run (d + 1) 192 45 [.ref 458, .int (nI k), .int p, .int (nI n), .int (nI b), a5, a6] [] h) = some (.returned (some (.int (match tlO v l e with
      | some w => wi_ w (nI 0) (nI 99)
      | none => nI 0))), h')) ∧ On PP h h' := by
  intro l
  induction l with
  | nil =>
    intro b h hM hb hl he h4 hn hlast hbr hv
    obtain ⟨h1, h2, q, h3, h5, h6⟩ := hb
    obtain ⟨h', e1, o1, b1⟩ := m_termOf hM h6 he h4 hv
    have h7 : ¬ nI (b + 0 + 1) ≤ nI b := nI_ge (by omega) (by omega)
    have hM1 := hM.on o1
    have hlast : hi_ h 480 n = nI (b + 0 + 1) := hlast
    refine ⟨h', fun d a5 a6 => ?_, o1⟩
    rw [tlO]
    rw [hbr] at b1
    cases hE : ev1 v e with
    | some w =>
      rw [hE] at e1 b1
      have e1 : (∀ d, (run (d) 194 0 [.ref 458, .int (nI q), .int (nI (q + e.length)), aU, aU, aU, aU, aU] [] h) = some (.returned (some (.int (w))), h')) := e1
      have b1 : hi_ h' 458 115 = 0 := b1
      refine (e192_45).trans ?_
      simp only [e192_0, e192_1, e192_2, e192_5, e192_6, e192_7, e192_8, e192_9, e192_10, e192_13, e192_14, e192_15, e192_16, e192_19, e192_20, e192_21, e192_24, e192_25, e192_26, e192_28, e192_31, e192_32, e192_33, e192_34, e192_37, e192_38, e192_41, e192_42, e192_43, e192_47, e192_48, e192_51, e192_52, e192_53, e192_56, e192_57, e192_60, e192_62, e192_63, e192_66, e192_67, e192_68, e192_71, e192_73, e192_74, e192_75, e192_78, e192_80, e192_81, e192_84, e192_86, e192_87, e192_88, e192_91, e192_93, e192_94, e192_95, e192_98, e192_100, e192_101, e192_104, e192_106, e192_107, e192_110, e192_113, e192_114, e192_115, e192_117, e192_119, e192_122, e192_125, e192_126, e192_127, e192_130, e192_132, e192_133, e192_134, e192_137, e192_139, e192_140, e192_143, e192_145, e192_146, e192_149, e192_152, e192_153, e192_156, e192_158, e192_159, e192_161, e192_164, e192_165, e192_168, e192_171, e192_172, mk_458 hM, mp_100 hM, mk_479 hM, mp_101 hM, mk_480 hM, mp_103 hM, mk_481 hM, mp_104 hM, mk_482 hM, mp_105 hM, mk_483 hM, mp_106 hM, mk_484 hM, mp_107 hM, mk_485 hM, mk_458 hM1, mp_100 hM1, mk_479 hM1, mp_101 hM1, mk_480 hM1, mp_103 hM1, mk_481 hM1, mp_104 hM1, mk_482 hM1, mp_105 hM1, mk_483 hM1, mp_106 hM1, mk_484 hM1, mp_107 hM1, mk_485 hM1, ↓reduceIte, Nat.reduceAdd, Nat.reduceLeDiff, Nat.reduceLT, Nat.reduceEqDiff, not_false_eq_true, false_or, true_or, or_true, or_false, n0_e, n1_ne, n1_11, bI_z, bI_1, bI_fo, va_rf_some, aBk_1, aBk_0, nI_add, nI_mul, hk_si, hp_si, hl_si, hk_sp, hk_sl, hk_cp, hp_cp, hn, hlast, h7, h1, h2, h3, h5, e1, b1, m_within]
    | none =>
      rw [hE] at e1 b1
      have e1 : (∀ d, (run (d) 194 0 [.ref 458, .int (nI q), .int (nI (q + e.length)), aU, aU, aU, aU, aU] [] h) = some (.returned (some (.int (nI 0))), h')) := e1
      have b1 : hi_ h' 458 115 = nI 1 := b1
      refine (e192_45).trans ?_
      simp only [e192_0, e192_1, e192_2, e192_5, e192_6, e192_7, e192_8, e192_9, e192_10, e192_13, e192_14, e192_15, e192_16, e192_19, e192_20, e192_21, e192_24, e192_25, e192_26, e192_28, e192_31, e192_32, e192_33, e192_34, e192_37, e192_38, e192_41, e192_42, e192_43, e192_47, e192_48, e192_51, e192_52, e192_53, e192_56, e192_57, e192_60, e192_62, e192_63, e192_66, e192_67, e192_68, e192_71, e192_73, e192_74, e192_75, e192_78, e192_80, e192_81, e192_84, e192_86, e192_87, e192_88, e192_91, e192_93, e192_94, e192_95, e192_98, e192_100, e192_101, e192_104, e192_106, e192_107, e192_110, e192_113, e192_114, e192_115, e192_117, e192_119, e192_122, e192_125, e192_126, e192_127, e192_130, e192_132, e192_133, e192_134, e192_137, e192_139, e192_140, e192_143, e192_145, e192_146, e192_149, e192_152, e192_153, e192_156, e192_158, e192_159, e192_161, e192_164, e192_165, e192_168, e192_171, e192_172, mk_458 hM, mp_100 hM, mk_479 hM, mp_101 hM, mk_480 hM, mp_103 hM, mk_481 hM, mp_104 hM, mk_482 hM, mp_105 hM, mk_483 hM, mp_106 hM, mk_484 hM, mp_107 hM, mk_485 hM, mk_458 hM1, mp_100 hM1, mk_479 hM1, mp_101 hM1, mk_480 hM1, mp_103 hM1, mk_481 hM1, mp_104 hM1, mk_482 hM1, mp_105 hM1, mk_483 hM1, mp_106 hM1, mk_484 hM1, mp_107 hM1, mk_485 hM1, ↓reduceIte, Nat.reduceAdd, Nat.reduceLeDiff, Nat.reduceLT, Nat.reduceEqDiff, not_false_eq_true, false_or, true_or, or_true, or_false, n0_e, n1_11, bI_z, bI_1, bI_fo, va_rf_some, aBk_1, aBk_0, nI_add, nI_mul, hk_si, hp_si, hl_si, hk_sp, hk_sl, hk_cp, hp_cp, hn, hlast, h7, h1, h2, h3, h5, e1, b1, n1_ne]
  | cons x l ih =>
    intro b h hM hb hl he h4 hn hlast hbr hv
    obtain ⟨x, y, z⟩ := x
    obtain ⟨h1, h2, ⟨pp, m, q, h3, h5, h6, h7, h8, h9, c1, c2, c3⟩, hb2⟩ := hb
    obtain ⟨⟨w1, l1⟩, ⟨w2, l2⟩, w3, l3⟩ := hl (x, y, z) (List.mem_cons_self ..)
    have hlast : hi_ h 480 n = nI (b + (l.length + 1) + 1) := hlast
    have hlen : b + 1 + l.length < 260 := hb2.len
    have g1 : ¬ nI (b + (l.length + 1) + 1) ≤ nI b := nI_ge (by omega) (by omega)
    obtain ⟨ha, ea, oa, ba⟩ := m_termOf hM c1 w1 l1 hv
    rw [← h7] at ea
    have hMa := hM.on oa
    have ta := oa.tx (fun _ _ q => q.E.V.W)
    have hva : ∀ k, k < 9 → hi_ ha 489 k = v k := fun k hk => (oa.i (fun q => by unfold PP at q; omega)).trans (hv k hk)
    obtain ⟨hb', eb, ob, bb⟩ := m_termOf hMa (c2.eqv ta) w2 l2 hva
    rw [← h8] at eb
    have hMb := hMa.on ob
    have oab := oa.trans ob
    have tb := oab.tx (fun _ _ q => q.E.V.W)
    have hvb : ∀ k, k < 9 → hi_ hb' 489 k = v k := fun k hk => (oab.i (fun q => by unfold PP at q; omega)).trans (hv k hk)
    have f5 : hi_ ha 483 b = nI m := (ta _ _ (by decide) (by decide)).trans h5
    have f6 : hi_ ha 484 b = nI q := (ta _ _ (by decide) (by decide)).trans h6
    have f6b : hi_ hb' 484 b = nI q := (tb _ _ (by decide) (by decide)).trans h6
    have f9b : hi_ hb' 485 b = nI (q + z.length) := (tb _ _ (by decide) (by decide)).trans h9
    rw [tlO]
    rw [hbr] at ba
    have hone : (1 : Int32) = 0 ↔ False := by decide
    cases hA : ev1 v x with
    | none =>
      rw [hA] at ea ba
      have ba : hi_ ha 458 115 = nI 1 := ba
      have bb : hi_ hb' 458 115 = nI 1 := by rw [bb, ba]; split <;> rfl
      refine ⟨hb', fun d a5 a6 => ?_, oab⟩
      refine (e192_45).trans ?_
      simp only [e192_0, e192_1, e192_2, e192_5, e192_6, e192_7, e192_8, e192_9, e192_10, e192_13, e192_14, e192_15, e192_16, e192_19, e192_20, e192_21, e192_24, e192_25, e192_26, e192_28, e192_31, e192_32, e192_33, e192_34, e192_37, e192_38, e192_41, e192_42, e192_43, e192_47, e192_48, e192_51, e192_52, e192_53, e192_56, e192_57, e192_60, e192_62, e192_63, e192_66, e192_67, e192_68, e192_71, e192_73, e192_74, e192_75, e192_78, e192_80, e192_81, e192_84, e192_86, e192_87, e192_88, e192_91, e192_93, e192_94, e192_95, e192_98, e192_100, e192_101, e192_104, e192_106, e192_107, e192_110, e192_113, e192_114, e192_115, e192_117, e192_119, e192_122, e192_125, e192_126, e192_127, e192_130, e192_132, e192_133, e192_134, e192_137, e192_139, e192_140, e192_143, e192_145, e192_146, e192_149, e192_152, e192_153, e192_156, e192_158, e192_159, e192_161, e192_164, e192_165, e192_168, e192_171, e192_172, mk_458 hM, mp_100 hM, mk_479 hM, mp_101 hM, mk_480 hM, mp_103 hM, mk_481 hM, mp_104 hM, mk_482 hM, mp_105 hM, mk_483 hM, mp_106 hM, mk_484 hM, mp_107 hM, mk_485 hM, mk_458 hMa, mp_100 hMa, mk_479 hMa, mp_101 hMa, mk_480 hMa, mp_103 hMa, mk_481 hMa, mp_104 hMa, mk_482 hMa, mp_105 hMa, mk_483 hMa, mp_106 hMa, mk_484 hMa, mp_107 hMa, mk_485 hMa, mk_458 hMb, mp_100 hMb, mk_479 hMb, mp_101 hMb, mk_480 hMb, mp_103 hMb, mk_481 hMb, mp_104 hMb, mk_482 hMb, mp_105 hMb, mk_483 hMb, mp_106 hMb, mk_484 hMb, mp_107 hMb, mk_485 hMb, ↓reduceIte, Nat.reduceAdd, Nat.reduceLeDiff, Nat.reduceLT, Nat.reduceEqDiff, not_false_eq_true, false_or, true_or, or_true, or_false, n0_e, n1_11, bI_z, bI_1, bI_fo, va_rf_some, aBk_1, aBk_0, nI_add, nI_mul, hk_si, hp_si, hl_si, hk_sp, hk_sl, hk_cp, hp_cp, hn, hlast, g1, h1, h2, h3, h5, f5, f6, ea, eb, bb, n1_ne, hone]
    | some u =>
      rw [hA] at ea ba
      have ba : hi_ ha 458 115 = 0 := ba
      rw [ba] at bb
      cases hB : ev1 v y with
      | none =>
        rw [hB] at eb bb
        have bb : hi_ hb' 458 115 = nI 1 := bb
        refine ⟨hb', fun d a5 a6 => ?_, oab⟩
        refine (e192_45).trans ?_
        simp only [e192_0, e192_1, e192_2, e192_5, e192_6, e192_7, e192_8, e192_9, e192_10, e192_13, e192_14, e192_15, e192_16, e192_19, e192_20, e192_21, e192_24, e192_25, e192_26, e192_28, e192_31, e192_32, e192_33, e192_34, e192_37, e192_38, e192_41, e192_42, e192_43, e192_47, e192_48, e192_51, e192_52, e192_53, e192_56, e192_57, e192_60, e192_62, e192_63, e192_66, e192_67, e192_68, e192_71, e192_73, e192_74, e192_75, e192_78, e192_80, e192_81, e192_84, e192_86, e192_87, e192_88, e192_91, e192_93, e192_94, e192_95, e192_98, e192_100, e192_101, e192_104, e192_106, e192_107, e192_110, e192_113, e192_114, e192_115, e192_117, e192_119, e192_122, e192_125, e192_126, e192_127, e192_130, e192_132, e192_133, e192_134, e192_137, e192_139, e192_140, e192_143, e192_145, e192_146, e192_149, e192_152, e192_153, e192_156, e192_158, e192_159, e192_161, e192_164, e192_165, e192_168, e192_171, e192_172, mk_458 hM, mp_100 hM, mk_479 hM, mp_101 hM, mk_480 hM, mp_103 hM, mk_481 hM, mp_104 hM, mk_482 hM, mp_105 hM, mk_483 hM, mp_106 hM, mk_484 hM, mp_107 hM, mk_485 hM, mk_458 hMa, mp_100 hMa, mk_479 hMa, mp_101 hMa, mk_480 hMa, mp_103 hMa, mk_481 hMa, mp_104 hMa, mk_482 hMa, mp_105 hMa, mk_483 hMa, mp_106 hMa, mk_484 hMa, mp_107 hMa, mk_485 hMa, mk_458 hMb, mp_100 hMb, mk_479 hMb, mp_101 hMb, mk_480 hMb, mp_103 hMb, mk_481 hMb, mp_104 hMb, mk_482 hMb, mp_105 hMb, mk_483 hMb, mp_106 hMb, mk_484 hMb, mp_107 hMb, mk_485 hMb, ↓reduceIte, Nat.reduceAdd, Nat.reduceLeDiff, Nat.reduceLT, Nat.reduceEqDiff, not_false_eq_true, false_or, true_or, or_true, or_false, n0_e, n1_11, bI_z, bI_1, bI_fo, va_rf_some, aBk_1, aBk_0, nI_add, nI_mul, hk_si, hp_si, hl_si, hk_sp, hk_sl, hk_cp, hp_cp, hn, hlast, g1, h1, h2, h3, h5, f5, f6, ea, eb, bb, n1_ne, hone]
      | some w =>
        rw [hB] at eb bb
        have bb : hi_ hb' 458 115 = 0 := bb
        have ea : (∀ d, (run (d) 194 0 [.ref 458, .int (nI pp), .int (nI m), aU, aU, aU, aU, aU] [] h) = some (.returned (some (.int (u))), ha)) := ea
        have eb : (∀ d, (run (d) 194 0 [.ref 458, .int (nI m), .int (nI q), aU, aU, aU, aU, aU] [] ha) = some (.returned (some (.int (w))), hb')) := eb
        by_cases huw : w ≤ u
        · have hlastb : hi_ hb' 480 n = nI (b + 1 + l.length + 1) := ((tb _ _ (by decide) (by decide)).trans hlast).trans (by congr 1; omega)
          obtain ⟨hc, ec, oc⟩ := ih (b + 1) hb' hMb (hb2.eqv tb) (fun q hq => hl q (List.mem_cons_of_mem _ hq)) he h4 hn hlastb bb hvb
          have huw' : ¬ u < w := Int32.not_lt.mpr huw
          refine ⟨hc, fun d a5 a6 => ?_, oab.trans oc⟩
          dsimp only
          rw [if_pos huw]
          refine Eq.trans ?_ (ec d (.int u) (.int w))
          refine (e192_45).trans ?_
          simp only [e192_0, e192_1, e192_2, e192_5, e192_6, e192_7, e192_8, e192_9, e192_10, e192_13, e192_14, e192_15, e192_16, e192_19, e192_20, e192_21, e192_24, e192_25, e192_26, e192_28, e192_31, e192_32, e192_33, e192_34, e192_37, e192_38, e192_41, e192_42, e192_43, e192_47, e192_48, e192_51, e192_52, e192_53, e192_56, e192_57, e192_60, e192_62, e192_63, e192_66, e192_67, e192_68, e192_71, e192_73, e192_74, e192_75, e192_78, e192_80, e192_81, e192_84, e192_86, e192_87, e192_88, e192_91, e192_93, e192_94, e192_95, e192_98, e192_100, e192_101, e192_104, e192_106, e192_107, e192_110, e192_113, e192_114, e192_115, e192_117, e192_119, e192_122, e192_125, e192_126, e192_127, e192_130, e192_132, e192_133, e192_134, e192_137, e192_139, e192_140, e192_143, e192_145, e192_146, e192_149, e192_152, e192_153, e192_156, e192_158, e192_159, e192_161, e192_164, e192_165, e192_168, e192_171, e192_172, mk_458 hM, mp_100 hM, mk_479 hM, mp_101 hM, mk_480 hM, mp_103 hM, mk_481 hM, mp_104 hM, mk_482 hM, mp_105 hM, mk_483 hM, mp_106 hM, mk_484 hM, mp_107 hM, mk_485 hM, mk_458 hMa, mp_100 hMa, mk_479 hMa, mp_101 hMa, mk_480 hMa, mp_103 hMa, mk_481 hMa, mp_104 hMa, mk_482 hMa, mp_105 hMa, mk_483 hMa, mp_106 hMa, mk_484 hMa, mp_107 hMa, mk_485 hMa, mk_458 hMb, mp_100 hMb, mk_479 hMb, mp_101 hMb, mk_480 hMb, mp_103 hMb, mk_481 hMb, mp_104 hMb, mk_482 hMb, mp_105 hMb, mk_483 hMb, mp_106 hMb, mk_484 hMb, mp_107 hMb, mk_485 hMb, ↓reduceIte, Nat.reduceAdd, Nat.reduceLeDiff, Nat.reduceLT, Nat.reduceEqDiff, not_false_eq_true, false_or, true_or, or_true, or_false, n0_e, n1_ne, n1_11, bI_z, bI_1, bI_fo, va_rf_some, aBk_1, aBk_0, nI_add, nI_mul, hk_si, hp_si, hl_si, hk_sp, hk_sl, hk_cp, hp_cp, hn, hlast, g1, h1, h2, h3, h5, f5, f6, ea, eb, bb, huw', hone]
        · have huw' : u < w := Int32.not_le.mp huw
          obtain ⟨hc, ec, oc, bc⟩ := m_termOf hMb (c3.eqv tb) w3 l3 hvb
          have hMc := hMb.on oc
          rw [bb] at bc
          refine ⟨hc, fun d a5 a6 => ?_, oab.trans oc⟩
          dsimp only
          rw [if_neg huw]
          cases hC : ev1 v z with
          | some w =>
            rw [hC] at ec bc
            have ec : (∀ d, (run (d) 194 0 [.ref 458, .int (nI q), .int (nI (q + z.length)), aU, aU, aU, aU, aU] [] hb') = some (.returned (some (.int (w))), hc)) := ec
            have bc : hi_ hc 458 115 = 0 := bc
            refine (e192_45).trans ?_
            simp only [e192_0, e192_1, e192_2, e192_5, e192_6, e192_7, e192_8, e192_9, e192_10, e192_13, e192_14, e192_15, e192_16, e192_19, e192_20, e192_21, e192_24, e192_25, e192_26, e192_28, e192_31, e192_32, e192_33, e192_34, e192_37, e192_38, e192_41, e192_42, e192_43, e192_47, e192_48, e192_51, e192_52, e192_53, e192_56, e192_57, e192_60, e192_62, e192_63, e192_66, e192_67, e192_68, e192_71, e192_73, e192_74, e192_75, e192_78, e192_80, e192_81, e192_84, e192_86, e192_87, e192_88, e192_91, e192_93, e192_94, e192_95, e192_98, e192_100, e192_101, e192_104, e192_106, e192_107, e192_110, e192_113, e192_114, e192_115, e192_117, e192_119, e192_122, e192_125, e192_126, e192_127, e192_130, e192_132, e192_133, e192_134, e192_137, e192_139, e192_140, e192_143, e192_145, e192_146, e192_149, e192_152, e192_153, e192_156, e192_158, e192_159, e192_161, e192_164, e192_165, e192_168, e192_171, e192_172, mk_458 hM, mp_100 hM, mk_479 hM, mp_101 hM, mk_480 hM, mp_103 hM, mk_481 hM, mp_104 hM, mk_482 hM, mp_105 hM, mk_483 hM, mp_106 hM, mk_484 hM, mp_107 hM, mk_485 hM, mk_458 hMa, mp_100 hMa, mk_479 hMa, mp_101 hMa, mk_480 hMa, mp_103 hMa, mk_481 hMa, mp_104 hMa, mk_482 hMa, mp_105 hMa, mk_483 hMa, mp_106 hMa, mk_484 hMa, mp_107 hMa, mk_485 hMa, mk_458 hMb, mp_100 hMb, mk_479 hMb, mp_101 hMb, mk_480 hMb, mp_103 hMb, mk_481 hMb, mp_104 hMb, mk_482 hMb, mp_105 hMb, mk_483 hMb, mp_106 hMb, mk_484 hMb, mp_107 hMb, mk_485 hMb, mk_458 hMc, mp_100 hMc, mk_479 hMc, mp_101 hMc, mk_480 hMc, mp_103 hMc, mk_481 hMc, mp_104 hMc, mk_482 hMc, mp_105 hMc, mk_483 hMc, mp_106 hMc, mk_484 hMc, mp_107 hMc, mk_485 hMc, ↓reduceIte, Nat.reduceAdd, Nat.reduceLeDiff, Nat.reduceLT, Nat.reduceEqDiff, not_false_eq_true, false_or, true_or, or_true, or_false, n0_e, n1_ne, n1_11, bI_z, bI_1, bI_fo, va_rf_some, aBk_1, aBk_0, nI_add, nI_mul, hk_si, hp_si, hl_si, hk_sp, hk_sl, hk_cp, hp_cp, hn, hlast, g1, h1, h2, h3, h5, f5, f6, f6b, f9b, ea, eb, ec, bb, bc, huw', hone, m_within]
          | none =>
            rw [hC] at ec bc
            have ec : (∀ d, (run (d) 194 0 [.ref 458, .int (nI q), .int (nI (q + z.length)), aU, aU, aU, aU, aU] [] hb') = some (.returned (some (.int (nI 0))), hc)) := ec
            have bc : hi_ hc 458 115 = nI 1 := bc
            refine (e192_45).trans ?_
            simp only [e192_0, e192_1, e192_2, e192_5, e192_6, e192_7, e192_8, e192_9, e192_10, e192_13, e192_14, e192_15, e192_16, e192_19, e192_20, e192_21, e192_24, e192_25, e192_26, e192_28, e192_31, e192_32, e192_33, e192_34, e192_37, e192_38, e192_41, e192_42, e192_43, e192_47, e192_48, e192_51, e192_52, e192_53, e192_56, e192_57, e192_60, e192_62, e192_63, e192_66, e192_67, e192_68, e192_71, e192_73, e192_74, e192_75, e192_78, e192_80, e192_81, e192_84, e192_86, e192_87, e192_88, e192_91, e192_93, e192_94, e192_95, e192_98, e192_100, e192_101, e192_104, e192_106, e192_107, e192_110, e192_113, e192_114, e192_115, e192_117, e192_119, e192_122, e192_125, e192_126, e192_127, e192_130, e192_132, e192_133, e192_134, e192_137, e192_139, e192_140, e192_143, e192_145, e192_146, e192_149, e192_152, e192_153, e192_156, e192_158, e192_159, e192_161, e192_164, e192_165, e192_168, e192_171, e192_172, mk_458 hM, mp_100 hM, mk_479 hM, mp_101 hM, mk_480 hM, mp_103 hM, mk_481 hM, mp_104 hM, mk_482 hM, mp_105 hM, mk_483 hM, mp_106 hM, mk_484 hM, mp_107 hM, mk_485 hM, mk_458 hMa, mp_100 hMa, mk_479 hMa, mp_101 hMa, mk_480 hMa, mp_103 hMa, mk_481 hMa, mp_104 hMa, mk_482 hMa, mp_105 hMa, mk_483 hMa, mp_106 hMa, mk_484 hMa, mp_107 hMa, mk_485 hMa, mk_458 hMb, mp_100 hMb, mk_479 hMb, mp_101 hMb, mk_480 hMb, mp_103 hMb, mk_481 hMb, mp_104 hMb, mk_482 hMb, mp_105 hMb, mk_483 hMb, mp_106 hMb, mk_484 hMb, mp_107 hMb, mk_485 hMb, mk_458 hMc, mp_100 hMc, mk_479 hMc, mp_101 hMc, mk_480 hMc, mp_103 hMc, mk_481 hMc, mp_104 hMc, mk_482 hMc, mp_105 hMc, mk_483 hMc, mp_106 hMc, mk_484 hMc, mp_107 hMc, mk_485 hMc, ↓reduceIte, Nat.reduceAdd, Nat.reduceLeDiff, Nat.reduceLT, Nat.reduceEqDiff, not_false_eq_true, false_or, true_or, or_true, or_false, n0_e, n1_11, bI_z, bI_1, bI_fo, va_rf_some, aBk_1, aBk_0, nI_add, nI_mul, hk_si, hp_si, hl_si, hk_sp, hk_sl, hk_cp, hp_cp, hn, hlast, g1, h1, h2, h3, h5, f5, f6, f6b, f9b, ea, eb, ec, bb, bc, huw', hone, n1_ne]
theorem m_lawTells {v : Nat → Int32} {p : Int32} {k : Nat} (hT : MT h T lv) (hk : k < 4) (hv : ∀ k, k < 9 → hi_ h 489 k = v k) (hp : wi_ p (nI 0) (nI 99) = p) :
    ∃ h', (∀ d, (run (d + 1) 192 0 [.ref 458, .int (nI k), .int p, aU, aU, aU, aU] [] h) = some (.returned (some (.int (te_ T k v p))), h')) ∧ On PP h h' := by
  have hM := hT.m
  have h2 := hT.l2
  have hL := hT.la hk
  have hV := hT.v.2.2.2.2.2.2 k hk
  have hn : 4 * lv + k < 8 := by omega
  unfold te_
  cases hl : la_ T k with
  | none =>
    rw [hl] at hL
    have hL : hi_ h 479 (4 * lv + k) = hi_ h 480 (4 * lv + k) := hL
    refine ⟨h, fun d => ?_, On.refl⟩
    simp only [e192_0, e192_1, e192_2, e192_5, e192_6, e192_7, e192_8, e192_9, e192_10, e192_13, e192_14, e192_15, e192_16, e192_19, e192_20, e192_21, e192_24, e192_25, e192_26, e192_28, e192_31, e192_32, e192_33, e192_34, e192_37, e192_38, e192_41, e192_42, e192_43, e192_47, e192_48, e192_51, e192_52, e192_53, e192_56, e192_57, e192_60, e192_62, e192_63, e192_66, e192_67, e192_68, e192_71, e192_73, e192_74, e192_75, e192_78, e192_80, e192_81, e192_84, e192_86, e192_87, e192_88, e192_91, e192_93, e192_94, e192_95, e192_98, e192_100, e192_101, e192_104, e192_106, e192_107, e192_110, e192_113, e192_114, e192_115, e192_117, e192_119, e192_122, e192_125, e192_126, e192_127, e192_130, e192_132, e192_133, e192_134, e192_137, e192_139, e192_140, e192_143, e192_145, e192_146, e192_149, e192_152, e192_153, e192_156, e192_158, e192_159, e192_161, e192_164, e192_165, e192_168, e192_171, e192_172, mk_458 hM, mp_100 hM, mk_479 hM, mp_101 hM, mk_480 hM, mp_103 hM, mk_481 hM, mp_104 hM, mk_482 hM, mp_105 hM, mk_483 hM, mp_106 hM, mk_484 hM, mp_107 hM, mk_485 hM, ↓reduceIte, Nat.reduceAdd, Nat.reduceLeDiff, Nat.reduceLT, Nat.reduceEqDiff, not_false_eq_true, false_or, true_or, or_true, or_false, n0_e, n1_ne, n1_11, bI_z, bI_1, bI_fo, va_rf_some, aBk_1, aBk_0, nI_add, nI_mul, hk_si, hp_si, hl_si, hk_sp, hk_sl, hk_cp, hp_cp, hT.live, hL, hn, m_within, hp]
  | some L =>
    obtain ⟨l, e⟩ := L
    rw [hl] at hL hV
    obtain ⟨f, h3, h4, h5⟩ := hL
    obtain ⟨v1, v2, v3, v4⟩ := hV
    have hne : f < 260 := by
      cases l with
      | nil => exact h5.1
      | cons x l => obtain ⟨x, y, z⟩ := x; exact h5.1
    have hne2 : ¬ nI f = nI (f + l.length + 1) := by
      rw [nI_eq (by omega) (by omega)]; omega
    have hM1 : MS (si_ h 458 115 (nI 0)) := hM.on (On.si (S := PP) (Or.inr ⟨rfl, rfl⟩))
    have o1 : On PP h (si_ h 458 115 (nI 0)) := On.si (Or.inr ⟨rfl, rfl⟩)
    have t1 := o1.tx (fun _ _ q => q.E.V.W)
    obtain ⟨h', e1, o⟩ := m_lawGo (v := v) (p := p) (k := k) (n := 4 * lv + k) l f (si_ h 458 115 (nI 0)) hM1 (h5.eqv t1) v2 v3 v4 hn ((t1 _ _ (by decide) (by decide)).trans h4) (by rw [hi_si, if_pos ⟨rfl, rfl⟩]; rfl)
      (fun k hk => by rw [hi_si, if_neg (fun z => by omega)]; exact hv k hk)
    have h3' : hi_ (si_ h 458 115 (nI 0)) 479 (4 * lv + k) = nI f := (t1 _ _ (by decide) (by decide)).trans h3
    refine ⟨h', fun d => ?_, o1.trans o⟩
    refine Eq.trans ?_ (e1 d aU aU)
    simp only [e192_0, e192_1, e192_2, e192_5, e192_6, e192_7, e192_8, e192_9, e192_10, e192_13, e192_14, e192_15, e192_16, e192_19, e192_20, e192_21, e192_24, e192_25, e192_26, e192_28, e192_31, e192_32, e192_33, e192_34, e192_37, e192_38, e192_41, e192_42, e192_43, e192_47, e192_48, e192_51, e192_52, e192_53, e192_56, e192_57, e192_60, e192_62, e192_63, e192_66, e192_67, e192_68, e192_71, e192_73, e192_74, e192_75, e192_78, e192_80, e192_81, e192_84, e192_86, e192_87, e192_88, e192_91, e192_93, e192_94, e192_95, e192_98, e192_100, e192_101, e192_104, e192_106, e192_107, e192_110, e192_113, e192_114, e192_115, e192_117, e192_119, e192_122, e192_125, e192_126, e192_127, e192_130, e192_132, e192_133, e192_134, e192_137, e192_139, e192_140, e192_143, e192_145, e192_146, e192_149, e192_152, e192_153, e192_156, e192_158, e192_159, e192_161, e192_164, e192_165, e192_168, e192_171, e192_172, mk_458 hM, mp_100 hM, mk_479 hM, mp_101 hM, mk_480 hM, mp_103 hM, mk_481 hM, mp_104 hM, mk_482 hM, mp_105 hM, mk_483 hM, mp_106 hM, mk_484 hM, mp_107 hM, mk_485 hM, ↓reduceIte, Nat.reduceAdd, Nat.reduceLeDiff, Nat.reduceLT, Nat.reduceEqDiff, not_false_eq_true, false_or, true_or, or_true, or_false, n0_e, n1_ne, n1_11, bI_z, bI_1, bI_fo, va_rf_some, aBk_1, aBk_0, nI_add, nI_mul, hk_si, hp_si, hl_si, hk_sp, hk_sl, hk_cp, hp_cp, hT.live, h3, h4, hn, hne2, n0_01, h3']
/-- the looks -/
theorem m_looksAt (hT : MT h T lv) (hr : RA h 492 r) {s d : Nat} (hs : s < ns_ T) : (run (d) 189 0 [.ref 458, .int (nI s)] [] h) = some (.returned none, si_ (si_ (si_ h 489 4 (r (21 + s))) 489 5 (wo_ T s)) 489 6 (r 29)) := by
  have hM := hT.m
  have h4 := hT.ns4
  have h1 : 21 + s < 31 := by omega
  simp only [e189_0, e189_1, e189_4, e189_5, e189_6, e189_9, e189_11, e189_12, e189_13, e189_14, e189_15, e189_16, e189_19, e189_20, e189_21, e189_24, e189_25, e189_26, e189_29, e189_30, e189_31, e189_32, e189_33, e189_34, e189_35, e189_38, e189_40, e189_41, e189_44, e189_46, e189_47, e189_48, mk_458 hM, mp_91 hM, mk_470 hM, mp_113 hM, mk_489 hM, mp_117 hM, mk_492 hM, ↓reduceIte, Nat.reduceAdd, Nat.reduceLeDiff, Nat.reduceLT, not_false_eq_true, false_or, true_or, or_true, or_false, n0_e, n1_ne, n1_11, bI_z, bI_1, bI_fo, va_rf_some, aBk_1, aBk_0, nI_add, nI_mul, hk_si, hp_si, hl_si, hk_sp, hk_sl, hk_cp, hp_cp, hT.live, h1, hr _ h1, hT.s4 hs, hT.wo hs, hr 29 (by decide), hi_si, Nat.reduceEqDiff, false_and, true_and, and_false, and_true]
theorem m_looks (hT : MT h T lv) (hr : RA h 492 r) {g s : Nat} {o : Int32} (hg : g < ng_ T) (hs : s < ns_ T) : ∃ h', (∀ d, (run (d + 1) 202 0 [.ref 458, .int (nI g), .int (nI s), .int o] [] h) = some (.returned none, h')) ∧ On (AA 489) h h' ∧ ∀ k, k < 9 → hi_ h' 489 k = vg_ T r g s o k := by
  have hM := hT.m
  have h7 := hT.ng7
  have h1 : 7 + g < 31 := by omega
  have hA : ∃ x, x = si_ (si_ (si_ h 489 4 (r (21 + s))) 489 5 (wo_ T s)) 489 6 (r 29) := ⟨_, rfl⟩
  obtain ⟨x, hx⟩ := hA
  have oA : On (AA 489) h x := by rw [hx]; exact ((On.sa).trans (On.sa)).trans (On.sa)
  have hTx : MT x T lv := hT.on oA (fun a f q => Or.inl (Or.inl (Or.inl q)))
  have oB : On (AA 489) x (si_ (si_ x 489 0 (fe_ T g)) 489 1 (hs_ T g)) := (On.sa).trans (On.sa)
  have hTy : MT (si_ (si_ x 489 0 (fe_ T g)) 489 1 (hs_ T g)) T lv := hTx.on oB (fun a f q => Or.inl (Or.inl (Or.inl q)))
  have hMx := hTx.m
  refine ⟨si_ (si_ (si_ (si_ (si_ (si_ x 489 0 (fe_ T g)) 489 1 (hs_ T g)) 489 2 (hr_ T g)) 489 3 (r (7 + g))) 489 7 (nI g)) 489 8 o, fun d => ?_, ?_, ?_⟩
  · have e1 : (run (d) 189 0 [.ref 458, .int (nI s)] [] h) = some (.returned none, x) := by rw [hx]; exact m_looksAt hT hr hs
    have e2 : ∀ k, k < 31 → hi_ x 492 k = r k := fun k hk => (oA.i (show ¬ 492 = 489 by decide)).trans (hr k hk)
    simp only [e202_0, e202_1, e202_2, e202_5, e202_6, e202_9, e202_10, e202_11, e202_14, e202_16, e202_17, e202_20, e202_21, e202_22, e202_23, e202_24, e202_25, e202_26, e202_29, e202_30, e202_31, e202_34, e202_36, e202_37, e202_40, e202_41, e202_42, e202_43, e202_44, e202_45, e202_46, e202_49, e202_50, e202_51, e202_52, e202_55, e202_56, e202_57, e202_60, e202_61, e202_62, e202_65, e202_67, e202_68, e202_69, e202_70, e202_71, e202_72, e202_75, e202_77, e202_78, e202_79, e202_80, e202_83, e202_85, e202_86, e202_87, mk_458 hM, mp_94 hM, mk_473 hM, mp_95 hM, mk_474 hM, mp_113 hM, mk_489 hM, mp_117 hM, mk_492 hM, mk_458 hMx, mp_94 hMx, mk_473 hMx, mp_95 hMx, mk_474 hMx, mp_113 hMx, mk_489 hMx, mp_117 hMx, mk_492 hMx, ↓reduceIte, Nat.reduceAdd, Nat.reduceLeDiff, Nat.reduceLT, not_false_eq_true, false_or, true_or, or_true, or_false, n0_e, n1_ne, n1_11, bI_z, bI_1, bI_fo, va_rf_some, aBk_1, aBk_0, nI_add, nI_mul, hk_si, hp_si, hl_si, hk_sp, hk_sl, hk_cp, hp_cp, e1, hTx.live, hTx.g7 hg, hTx.fe hg, hTx.hs hg, m_fromAt hTy hg, h1, e2 _ h1, hi_si, Nat.reduceEqDiff, false_and, true_and, and_false, and_true]
  · exact ((((((oA.trans (On.sa)).trans (On.sa)).trans (On.sa)).trans (On.sa)).trans (On.sa)).trans (On.sa))
  · intro k hk
    rw [hx]
    match k, hk with
    | 0, _ => rfl
    | 1, _ => rfl
    | 2, _ => rfl
    | 3, _ => rfl
    | 4, _ => rfl
    | 5, _ => rfl
    | 6, _ => rfl
    | 7, _ => rfl
    | 8, _ => rfl
theorem m_looksAll (hT : MT h T lv) (hr : RA h 492 r) {s : Nat} (hs : s < ns_ T) : ∃ h', (∀ d, (run (d + 1) 188 0 [.ref 458, .int (nI s)] [] h) = some (.returned none, h')) ∧ On (AA 489) h h' ∧ ∀ k, k < 9 → hi_ h' 489 k = vs_ T r s k := by
  have hM := hT.m
  have hA : ∃ x, x = si_ (si_ (si_ h 489 4 (r (21 + s))) 489 5 (wo_ T s)) 489 6 (r 29) := ⟨_, rfl⟩
  obtain ⟨x, hx⟩ := hA
  have oA : On (AA 489) h x := by rw [hx]; exact ((On.sa).trans (On.sa)).trans (On.sa)
  have w : ∀ a f, AA 489 a f → WP a f := fun a f q => Or.inl (Or.inl (Or.inl q))
  have hMx := hM.on oA
  have oy : On (AA 489) h (si_ x 489 0 (nI 0)) := oA.trans (On.sa)
  have hTy := hT.on oy w
  have ry : RA (si_ x 489 0 (nI 0)) 492 r := fun k hk => (oy.i (show ¬ 492 = 489 by decide)).trans (hr k hk)
  have oz : On (AA 489) h (si_ (si_ (si_ (si_ (si_ x 489 0 (nI 0)) 489 1 (hT_ T r (nI s))) 489 2 (nI 0)) 489 3 (nI 0)) 489 7 (nI s)) := (((oy.trans (On.sa)).trans (On.sa)).trans (On.sa)).trans (On.sa)
  have hTz := hT.on oz w
  have rz : RA (si_ (si_ (si_ (si_ (si_ x 489 0 (nI 0)) 489 1 (hT_ T r (nI s))) 489 2 (nI 0)) 489 3 (nI 0)) 489 7 (nI s)) 492 r := fun k hk => (oz.i (show ¬ 492 = 489 by decide)).trans (hr k hk)
  refine ⟨si_ (si_ (si_ (si_ (si_ (si_ x 489 0 (nI 0)) 489 1 (hT_ T r (nI s))) 489 2 (nI 0)) 489 3 (nI 0)) 489 7 (nI s)) 489 8 (bc_ (nI (gB_ T r (nI s)))), fun d => ?_, oz.trans (On.sa), ?_⟩
  · have e1 : (run (d) 189 0 [.ref 458, .int (nI s)] [] h) = some (.returned none, x) := by rw [hx]; exact m_looksAt hT hr hs
    simp only [e188_0, e188_1, e188_2, e188_5, e188_6, e188_9, e188_10, e188_11, e188_12, e188_13, e188_16, e188_17, e188_18, e188_19, e188_22, e188_23, e188_24, e188_27, e188_28, e188_29, e188_30, e188_31, e188_34, e188_35, e188_36, e188_37, e188_38, e188_41, e188_43, e188_44, e188_45, e188_46, e188_49, e188_51, e188_52, e188_53, e188_56, e188_59, e188_60, mk_458 hM, mp_113 hM, mk_489 hM, mk_458 hMx, mp_113 hMx, mk_489 hMx, ↓reduceIte, Nat.reduceAdd, Nat.reduceLeDiff, Nat.reduceLT, Nat.reduceEqDiff, not_false_eq_true, false_or, true_or, or_true, or_false, n0_e, n1_ne, n1_11, bI_z, bI_1, bI_fo, va_rf_some, aBk_1, aBk_0, nI_add, nI_mul, hk_si, hp_si, hl_si, hk_sp, hk_sl, hk_cp, hp_cp, e1, m_hoursTaken hTy ry, m_guestBits hTz rz, m_bits]
  · intro k hk
    rw [hx]
    match k, hk with
    | 0, _ => rfl
    | 1, _ => rfl
    | 2, _ => rfl
    | 3, _ => rfl
    | 4, _ => rfl
    | 5, _ => rfl
    | 6, _ => rfl
    | 7, _ => rfl
    | 8, _ => rfl
theorem AA.E {a f : Nat} (q : AA 489 a f) : EP a f := Or.inl q
theorem m_paysAt (hT : MT h T lv) (hr : RA h 492 r) {g s : Nat} {o : Int32} (hg : g < ng_ T) (hs : s < ns_ T) : ∃ h', (∀ d, (run (d + 2) 201 0 [.ref 458, .int (nI g), .int (nI s), .int o] [] h) = some (.returned (some (.int (pA_ T r g s o))), h')) ∧ On EP h h' := by
  obtain ⟨h1, e1, o1, v1⟩ := m_looks hT hr (o := o) hg hs
  have hT1 := hT.on o1 (fun _ _ q => q.E.V.W)
  obtain ⟨-, -, hf, -⟩ := hT.v.2.2.1 g hg
  obtain ⟨h2, e2, o2⟩ := m_lawTells (k := 0) (p := fe_ T g) hT1 (by decide) v1 (wi_id hf.1 hf.2)
  have hM := hT.m
  have hM1 := hT1.m
  have f0 : hi_ h1 489 0 = fe_ T g := v1 0 (by decide)
  refine ⟨h2, fun d => ?_, (o1.mono (fun _ _ q => q.E)).trans (o2.mono (fun _ _ q => q.E))⟩
  simp only [e201_0, e201_1, e201_2, e201_3, e201_4, e201_7, e201_8, e201_9, e201_10, e201_13, e201_14, e201_15, e201_18, mk_458 hM, mp_113 hM, mk_489 hM, mk_458 hM1, mp_113 hM1, mk_489 hM1, ↓reduceIte, Nat.reduceAdd, Nat.reduceLeDiff, Nat.reduceLT, Nat.reduceEqDiff, not_false_eq_true, false_or, true_or, or_true, or_false, n0_e, n1_ne, n1_11, bI_z, bI_1, bI_fo, va_rf_some, aBk_1, aBk_0, nI_add, nI_mul, hk_si, hp_si, hl_si, hk_sp, hk_sl, hk_cp, hp_cp, e1, f0, e2]
  rfl
theorem m_restsAt (hT : MT h T lv) (hr : RA h 492 r) {g s : Nat} {o : Int32} (hg : g < ng_ T) (hs : s < ns_ T) : ∃ h', (∀ d, (run (d + 2) 204 0 [.ref 458, .int (nI g), .int (nI s), .int o] [] h) = some (.returned (some (.int (rA_ T r g s o))), h')) ∧ On EP h h' := by
  obtain ⟨h1, e1, o1, v1⟩ := m_looks hT hr (o := o) hg hs
  have hT1 := hT.on o1 (fun _ _ q => q.E.V.W)
  obtain ⟨-, hf, -⟩ := hT.v.2.2.1 g hg
  obtain ⟨h2, e2, o2⟩ := m_lawTells (k := 1) (p := hs_ T g) hT1 (by decide) v1 (wi_id (by omega) (by omega))
  have hM := hT.m
  have hM1 := hT1.m
  have f0 : hi_ h1 489 1 = hs_ T g := v1 1 (by decide)
  refine ⟨h2, fun d => ?_, (o1.mono (fun _ _ q => q.E)).trans (o2.mono (fun _ _ q => q.E))⟩
  simp only [e204_0, e204_1, e204_2, e204_3, e204_4, e204_7, e204_8, e204_9, e204_10, e204_13, e204_14, e204_15, e204_18, mk_458 hM, mp_113 hM, mk_489 hM, mk_458 hM1, mp_113 hM1, mk_489 hM1, ↓reduceIte, Nat.reduceAdd, Nat.reduceLeDiff, Nat.reduceLT, Nat.reduceEqDiff, not_false_eq_true, false_or, true_or, or_true, or_false, n0_e, n1_ne, n1_11, bI_z, bI_1, bI_fo, va_rf_some, aBk_1, aBk_0, nI_add, nI_mul, hk_si, hp_si, hl_si, hk_sp, hk_sl, hk_cp, hp_cp, e1, f0, e2]
  rfl
theorem m_wearsOf (hT : MT h T lv) (hr : RA h 492 r) {s : Nat} (hs : s < ns_ T) : ∃ h', (∀ d, (run (d + 2) 187 0 [.ref 458, .int (nI s)] [] h) = some (.returned (some (.int (wO_ T r s))), h')) ∧ On EP h h' := by
  have hM := hT.m
  have hb : gB_ T r (nI s) < 2147483648 := Nat.lt_of_lt_of_le (orN_lt _ _) (Nat.le_trans (Nat.pow_le_pow_right (by decide) hT.ng7) (by decide))
  unfold wO_
  by_cases hz : gB_ T r (nI s) = 0
  · refine ⟨h, fun d => ?_, On.refl⟩
    rw [if_pos hz]
    simp only [e187_0, e187_1, e187_2, e187_5, e187_8, e187_9, e187_10, e187_11, e187_12, e187_15, e187_16, e187_17, e187_18, e187_21, mk_458 hM, ↓reduceIte, Nat.reduceAdd, Nat.reduceLeDiff, Nat.reduceLT, Nat.reduceEqDiff, not_false_eq_true, false_or, true_or, or_true, or_false, n0_e, n1_ne, n1_11, bI_z, bI_1, bI_fo, va_rf_some, aBk_1, aBk_0, nI_add, nI_mul, hk_si, hp_si, hl_si, hk_sp, hk_sl, hk_cp, hp_cp, m_guestBits hT hr, nI_z hb, hz]
  · obtain ⟨h1, e1, o1, v1⟩ := m_looksAll hT hr hs
    have hT1 := hT.on o1 (fun _ _ q => q.E.V.W)
    obtain ⟨h2, e2, o2⟩ := m_lawTells (k := 2) (p := nI 1) hT1 (by decide) v1 (wi_id (by decide) (by decide))
    refine ⟨h2, fun d => ?_, (o1.mono (fun _ _ q => q.E)).trans (o2.mono (fun _ _ q => q.E))⟩
    have hM1 := hT1.m
    rw [if_neg hz]
    simp only [e187_0, e187_1, e187_2, e187_5, e187_8, e187_9, e187_10, e187_11, e187_12, e187_15, e187_16, e187_17, e187_18, e187_21, mk_458 hM, mk_458 hM1, ↓reduceIte, Nat.reduceAdd, Nat.reduceLeDiff, Nat.reduceLT, Nat.reduceEqDiff, not_false_eq_true, false_or, true_or, or_true, or_false, n0_e, n1_ne, n1_11, bI_z, bI_1, bI_fo, va_rf_some, aBk_1, aBk_0, nI_add, nI_mul, hk_si, hp_si, hl_si, hk_sp, hk_sl, hk_cp, hp_cp, m_guestBits hT hr, nI_z hb, hz, e1, e2]
theorem m_sellsOf (hT : MT h T lv) (hr : RA h 492 r) {s : Nat} (hs : s < ns_ T) : ∃ h', (∀ d, (run (d + 2) 195 0 [.ref 458, .int (nI s)] [] h) = some (.returned (some (.int (sO_ T r s))), h')) ∧ On EP h h' := by
  have hM := hT.m
  obtain ⟨h1, e1, o1, v1⟩ := m_looksAll hT hr hs
  have hT1 := hT.on o1 (fun _ _ q => q.E.V.W)
  have hM1 := hT1.m
  obtain ⟨-, hw⟩ := hT.v.2.2.2.1 s hs
  obtain ⟨h2, e2, o2⟩ := m_lawTells (k := 3) (p := wo_ T s) hT1 (by decide) v1 (wi_id hw.1 hw.2)
  have f5 : hi_ h1 489 5 = wo_ T s := v1 5 (by decide)
  refine ⟨h2, fun d => ?_, (o1.mono (fun _ _ q => q.E)).trans (o2.mono (fun _ _ q => q.E))⟩
  simp only [e195_0, e195_1, e195_2, e195_5, e195_6, e195_7, e195_8, e195_11, e195_12, e195_13, e195_16, mk_458 hM, mp_113 hM, mk_489 hM, mk_458 hM1, mp_113 hM1, mk_489 hM1, ↓reduceIte, Nat.reduceAdd, Nat.reduceLeDiff, Nat.reduceLT, Nat.reduceEqDiff, not_false_eq_true, false_or, true_or, or_true, or_false, n0_e, n1_ne, n1_11, bI_z, bI_1, bI_fo, va_rf_some, aBk_1, aBk_0, nI_add, nI_mul, hk_si, hp_si, hl_si, hk_sp, hk_sl, hk_cp, hp_cp, e1, f5, e2]
  rfl
/-- guests are in sundays that are told -/
def RW (T : aTx) (r : Nat → Int32) : Prop := ∀ g, g < ng_ T → r g < 0 ∨ ∃ s, s < ns_ T ∧ r g = nI s
theorem m_othersOf (hT : MT h T lv) (hr : RA h 492 r) {g d : Nat} (hg : g < ng_ T) : (run (d + 1) 200 0 [.ref 458, .int (nI g)] [] h) = some (.returned (some (.int (ot_ T r g))), h) := by
  have hM := hT.m
  have h7 := hT.ng7
  have h1 : g < 31 := by omega
  simp only [e200_0, e200_1, e200_2, e200_5, e200_6, e200_7, e200_10, e200_13, e200_14, e200_15, mk_458 hM, mp_117 hM, mk_492 hM, ↓reduceIte, Nat.reduceAdd, Nat.reduceLeDiff, Nat.reduceLT, Nat.reduceEqDiff, not_false_eq_true, false_or, true_or, or_true, or_false, n0_e, n1_ne, n1_11, bI_z, bI_1, bI_fo, va_rf_some, aBk_1, aBk_0, nI_add, nI_mul, hk_si, hp_si, hl_si, hk_sp, hk_sl, hk_cp, hp_cp, h1, hr g h1, m_guestBits hT hr, m_bits]
  rfl
theorem m_paysOf (hT : MT h T lv) (hr : RA h 492 r) (hw : RW T r) {g : Nat} (hg : g < ng_ T) : ∃ h', (∀ d, (run (d + 3) 199 0 [.ref 458, .int (nI g)] [] h) = some (.returned (some (.int (pO_ T r g))), h')) ∧ On EP h h' := by
  have hM := hT.m
  have h7 := hT.ng7
  have h4 := hT.ns4
  have h1 : g < 31 := by omega
  unfold pO_
  rcases hw g hg with hn | ⟨s, hs, e⟩
  · refine ⟨h, fun d => ?_, On.refl⟩
    have hn' : ¬ 0 ≤ r g := Int32.not_le.mpr hn
    rw [if_pos hn]
    simp only [e199_0, e199_1, e199_4, e199_5, e199_6, e199_9, e199_10, e199_13, e199_14, e199_15, e199_16, e199_19, e199_20, e199_21, e199_22, e199_23, e199_26, e199_29, mk_458 hM, mp_117 hM, mk_492 hM, ↓reduceIte, Nat.reduceAdd, Nat.reduceLeDiff, Nat.reduceLT, Nat.reduceEqDiff, not_false_eq_true, false_or, true_or, or_true, or_false, n0_e, n1_ne, n1_11, bI_z, bI_1, bI_fo, va_rf_some, aBk_1, aBk_0, nI_add, nI_mul, hk_si, hp_si, hl_si, hk_sp, hk_sl, hk_cp, hp_cp, h1, hr g h1, hn']
  · have hn : ¬ r g < 0 := by rw [e]; exact nI_pos (by omega)
    have hn' : 0 ≤ r g := Int32.not_lt.mp hn
    have ec : (r g).toNatClampNeg = s := by rw [e]; exact nI_clamp (by omega)
    obtain ⟨h2, e2, o2⟩ := m_paysAt hT hr (o := ot_ T r g) hg hs
    refine ⟨h2, fun d => ?_, o2⟩
    rw [if_neg hn, ec]
    rw [← e] at e2
    simp only [e199_0, e199_1, e199_4, e199_5, e199_6, e199_9, e199_10, e199_13, e199_14, e199_15, e199_16, e199_19, e199_20, e199_21, e199_22, e199_23, e199_26, e199_29, mk_458 hM, mp_117 hM, mk_492 hM, ↓reduceIte, Nat.reduceAdd, Nat.reduceLeDiff, Nat.reduceLT, Nat.reduceEqDiff, not_false_eq_true, false_or, true_or, or_true, or_false, n0_e, n1_ne, n1_11, bI_z, bI_1, bI_fo, va_rf_some, aBk_1, aBk_0, nI_add, nI_mul, hk_si, hp_si, hl_si, hk_sp, hk_sl, hk_cp, hp_cp, h1, hr g h1, hn', m_othersOf hT hr hg, e2]
theorem m_restsOf (hT : MT h T lv) (hr : RA h 492 r) (hw : RW T r) {g : Nat} (hg : g < ng_ T) : ∃ h', (∀ d, (run (d + 3) 203 0 [.ref 458, .int (nI g)] [] h) = some (.returned (some (.int (rO_ T r g))), h')) ∧ On EP h h' := by
  have hM := hT.m
  have h7 := hT.ng7
  have h4 := hT.ns4
  have h1 : g < 31 := by omega
  unfold rO_
  rcases hw g hg with hn | ⟨s, hs, e⟩
  · refine ⟨h, fun d => ?_, On.refl⟩
    have hn' : ¬ 0 ≤ r g := Int32.not_le.mpr hn
    rw [if_pos hn]
    simp only [e203_0, e203_1, e203_4, e203_5, e203_6, e203_9, e203_10, e203_13, e203_14, e203_15, e203_16, e203_19, e203_20, e203_21, e203_22, e203_23, e203_26, e203_29, mk_458 hM, mp_117 hM, mk_492 hM, ↓reduceIte, Nat.reduceAdd, Nat.reduceLeDiff, Nat.reduceLT, Nat.reduceEqDiff, not_false_eq_true, false_or, true_or, or_true, or_false, n0_e, n1_ne, n1_11, bI_z, bI_1, bI_fo, va_rf_some, aBk_1, aBk_0, nI_add, nI_mul, hk_si, hp_si, hl_si, hk_sp, hk_sl, hk_cp, hp_cp, h1, hr g h1, hn']
  · have hn : ¬ r g < 0 := by rw [e]; exact nI_pos (by omega)
    have hn' : 0 ≤ r g := Int32.not_lt.mp hn
    have ec : (r g).toNatClampNeg = s := by rw [e]; exact nI_clamp (by omega)
    obtain ⟨h2, e2, o2⟩ := m_restsAt hT hr (o := ot_ T r g) hg hs
    refine ⟨h2, fun d => ?_, o2⟩
    rw [if_neg hn, ec]
    rw [← e] at e2
    simp only [e203_0, e203_1, e203_4, e203_5, e203_6, e203_9, e203_10, e203_13, e203_14, e203_15, e203_16, e203_19, e203_20, e203_21, e203_22, e203_23, e203_26, e203_29, mk_458 hM, mp_117 hM, mk_492 hM, ↓reduceIte, Nat.reduceAdd, Nat.reduceLeDiff, Nat.reduceLT, Nat.reduceEqDiff, not_false_eq_true, false_or, true_or, or_true, or_false, n0_e, n1_ne, n1_11, bI_z, bI_1, bI_fo, va_rf_some, aBk_1, aBk_0, nI_add, nI_mul, hk_si, hp_si, hl_si, hk_sp, hk_sl, hk_cp, hp_cp, h1, hr g h1, hn', m_othersOf hT hr hg, e2]
theorem m_dueAll (hT : MT h T lv) (hr : RA h 492 r) (hw : RW T r) : ∃ h', (∀ d, (run (d + 4) 221 0 [.ref 458, aU, aU] [] h) = some (.returned (some (.int (due_ T r))), h')) ∧ On EP h h' := by
  have hM := hT.m
  have h7 := hT.ng7
  refine Exists.elim (run_invd (F := fun d j (x : Int32 × aH) => (run (d + 4) 221 4 [.ref 458, .int x.1, .int (nI j)] [] x.2)) (I := fun j x => x.1 = itn j (fun g a => a + pO_ T r g) (nI 0) ∧ On EP h x.2) (n := ng_ T) (x := (nI 0, h)) ⟨rfl, On.refl⟩ (fun j x hj hI => ?_)) (fun x hh => ?_)
  · obtain ⟨a, x⟩ := x
    obtain ⟨ea, o⟩ := hI
    have hT1 := hT.onE o
    have hM1 := hT1.m
    obtain ⟨y, e, o2⟩ := m_paysOf hT1 (hr.onE o) hw hj
    have h1 : ¬ nI (ng_ T) ≤ nI j := nI_ge hj (by omega)
    refine ⟨(a + pO_ T r j, y), fun d => ?_, by rw [show a = _ from ea]; rfl, o.trans o2⟩
    refine (e221_4).trans ?_
    simp only [e221_0, e221_1, e221_2, e221_3, e221_5, e221_6, e221_9, e221_10, e221_13, e221_14, e221_17, e221_18, e221_19, e221_20, e221_23, e221_24, e221_25, e221_28, e221_31, e221_32, mk_458 hM1, mp_92 hM1, mk_471 hM1, ↓reduceIte, Nat.reduceAdd, Nat.reduceLeDiff, Nat.reduceLT, Nat.reduceEqDiff, not_false_eq_true, false_or, true_or, or_true, or_false, n0_e, n1_ne, n1_11, bI_z, bI_1, bI_fo, va_rf_some, aBk_1, aBk_0, nI_add, nI_mul, hk_si, hp_si, hl_si, hk_sp, hk_sl, hk_cp, hp_cp, hT1.live, hT1.ng, hT1.l2, h1, e]
  · obtain ⟨a, x⟩ := x
    obtain ⟨e, ea, o⟩ := hh
    have hT1 := hT.onE o
    have hM1 := hT1.m
    refine ⟨x, fun d => ?_, o⟩
    simp only [e221_0, e221_1, e221_2, e221_3, e221_5, e221_6, e221_9, e221_10, e221_13, e221_14, e221_17, e221_18, e221_19, e221_20, e221_23, e221_24, e221_25, e221_28, e221_31, e221_32, ↓reduceIte, Nat.reduceAdd, Nat.reduceLeDiff, Nat.reduceLT, Nat.reduceEqDiff, not_false_eq_true, false_or, true_or, or_true, or_false, n0_e, n1_ne, n1_11, bI_z, bI_1, bI_fo, va_rf_some, aBk_1, aBk_0, nI_add, nI_mul, hk_si, hp_si, hl_si, hk_sp, hk_sl, hk_cp, hp_cp]
    refine (e d).trans ?_
    refine (e221_4).trans ?_
    simp only [e221_0, e221_1, e221_2, e221_3, e221_5, e221_6, e221_9, e221_10, e221_13, e221_14, e221_17, e221_18, e221_19, e221_20, e221_23, e221_24, e221_25, e221_28, e221_31, e221_32, mk_458 hM1, mp_92 hM1, mk_471 hM1, ↓reduceIte, Nat.reduceAdd, Nat.reduceLeDiff, Nat.reduceLT, Nat.reduceEqDiff, not_false_eq_true, false_or, true_or, or_true, or_false, n0_e, n1_ne, n1_11, bI_z, bI_1, bI_fo, va_rf_some, aBk_1, aBk_0, nI_add, nI_mul, hk_si, hp_si, hl_si, hk_sp, hk_sl, hk_cp, hp_cp, hT1.live, hT1.ng, hT1.l2, Int32.le_refl]
    rw [show a = _ from ea]
    rfl
end M3
