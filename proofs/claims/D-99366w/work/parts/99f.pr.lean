set_option maxRecDepth 100000
/-! X: reading (20): told; all lines -/
section PR1
variable {n N z0 : Nat} {h h' : aH} {β : Nat → Nat} {tx : Nat} {ρ : aRd}
theorem p_told (hV : BV β n) (hG : XG h β n N z0 ρ tx) (hR : RVt ρ) : TdR β n N z0 tx ρ.1 h (toldX (tz β n) ρ) := by
  obtain ⟨r1, r2, r3, -⟩ := hR
  have hE : EXr h β n N ρ.1 := by obtain ⟨_, _, _, _, _, _, _, _, _, w⟩ := hG; exact w.1
  unfold toldX
  by_cases q1 : tk_ (tz β n) ρ.1.1 = 20
  · rw [if_pos q1]; exact td_S hV hG q1 r1.2.1
  · rw [if_neg q1]
    by_cases q2 : tk_ (tz β n) ρ.1.1 = 21
    · rw [if_pos q2]; exact td_G hV hG q2 r1.2.2.1
    · rw [if_neg q2]
      by_cases q3 : tk_ (tz β n) ρ.1.1 = 22
      · rw [if_pos q3]; exact td_F hV hG q3 r2
      · rw [if_neg q3]
        by_cases q4 : tk_ (tz β n) ρ.1.1 = 27
        · rw [if_pos q4]; exact td_D hV hG q4
        · rw [if_neg q4]
          by_cases q5 : tk_ (tz β n) ρ.1.1 = 28
          · rw [if_pos q5]; exact td_E hV hG q5
          · rw [if_neg q5]
            by_cases q6 : 23 ≤ tk_ (tz β n) ρ.1.1 ∧ tk_ (tz β n) ρ.1.1 ≤ 26
            · rw [if_pos q6]; exact td_L hV hG (by omega) (by omega) r3
            · rw [if_neg q6]; exact td_none hE (by omega)
noncomputable def prAt (d pc : Nat) (h : aH) : aR := (run (d + 31) 84 pc [.ref 73] [] h)
def PrR (β : Nat → Nat) (n N z0 tx : Nat) (σ : aPs) (h : aH) (v : aEr aRd) : Prop := match v with
  | .inl e => ∃ h', (∀ d, prAt d 33 h = some (.threw 65, h')) ∧ OA (8 * (405 - σ.1)) (64 * (405 - σ.1)) (TDS z0) (TDP z0) h h' ∧ FZ h' ∧ XF h' e.1 e.2
  | .inr ρ => ∃ h', (∀ d, prAt d 33 h = prAt d 54 h') ∧ OA (8 * (ρ.1.1 - σ.1)) (64 * (ρ.1.1 - σ.1)) (TDS z0) (TDP z0) h h' ∧ XG h' β n N z0 ρ tx
theorem pr_lines (hV : BV β n) : ∀ (m : Nat) (ρ : aRd) (h : aH), 401 ≤ m + ρ.1.1 → RVt ρ → XG h β n N z0 ρ tx → PrR β n N z0 tx ρ.1 h (linesX (tz β n) m ρ)
  | 0, ρ, h, hm, hR, hG => by
    obtain ⟨_, _, _, _, _, _, _, _, _, w⟩ := hG
    exact absurd w.1.le (by omega)
  | m + 1, ρ, h, hm, hR, hG => by
    have hE : EXr h β n N ρ.1 := by obtain ⟨_, _, _, _, _, _, _, _, _, w⟩ := hG; exact w.1
    have hX := hE.1.1
    have hle := hE.le
    have hF := hE.2.2
    unfold linesX
    by_cases q : tk_ (tz β n) ρ.1.1 = 0
    · rw [if_pos q]
      have es := fun d => p_sort (d := d) hE.1 (by omega)
      rw [q] at es
      have e4 : srt 0 = 4 := rfl
      rw [e4] at es
      refine ⟨h, fun d => ?_, OA.refl.le (Nat.zero_le _) (Nat.zero_le _), hG⟩
      unfold prAt
      refine (e84_33).trans ?_
      simp only [e84_0, e84_1, e84_4, e84_7, e84_8, e84_11, e84_12, e84_15, e84_15n, e84_18, e84_19, e84_20, e84_23, e84_24, e84_25, e84_28, e84_29, e84_30, e84_34, e84_37, e84_38, e84_41, e84_42, e84_45, e84_46, e84_48, e84_51, e84_55, e84_58, e84_61, e84_62, e84_63, e84_66, e84_67, e84_70, e84_73, e84_74, e84_75, e84_78, xk_64 hX, xk_73 hX, xk_66 hX, xk_65 hX, xp_37 hX, ↓reduceIte, Nat.reduceAdd, Nat.reduceLeDiff, Nat.reduceLT, Nat.reduceEqDiff, not_false_eq_true, false_or, true_or, or_true, or_false, n0_e, n1_ne, n1_11, bI_z, bI_1, bI_fo, va_rf_some, aBk_1, aBk_0, nI_add, nI_mul, hk_si, hp_si, hl_si, hk_sp, hk_sl, hk_cp, hp_cp, es]
    · rw [if_neg q, tell_told]
      by_cases q3 : tk_ (tz β n) ρ.1.1 = 3
      · -- a bad token
        have et : toldX (tz β n) ρ = .inl (1, tp_ (tz β n) ρ.1.1) := by
          unfold toldX
          rw [if_neg (by omega), if_neg (by omega), if_neg (by omega), if_neg (by omega), if_neg (by omega), if_neg (by omega)]
        rw [et]
        obtain ⟨h1, e1, o1, f1⟩ := p_sortF hE.1 q3
        refine ⟨h1, fun d => ?_, (onTd o1).le (Nat.zero_le _) (Nat.zero_le _), hF.px o1, f1⟩
        unfold prAt
        refine (e84_33).trans ?_
        simp only [e84_0, e84_1, e84_4, e84_7, e84_8, e84_11, e84_12, e84_15, e84_15n, e84_18, e84_19, e84_20, e84_23, e84_24, e84_25, e84_28, e84_29, e84_30, e84_34, e84_37, e84_38, e84_41, e84_42, e84_45, e84_46, e84_48, e84_51, e84_55, e84_58, e84_61, e84_62, e84_63, e84_66, e84_67, e84_70, e84_73, e84_74, e84_75, e84_78, xk_64 hX, xk_73 hX, xk_66 hX, xk_65 hX, xp_37 hX, ↓reduceIte, Nat.reduceAdd, Nat.reduceLeDiff, Nat.reduceLT, Nat.reduceEqDiff, not_false_eq_true, false_or, true_or, or_true, or_false, n0_e, n1_ne, n1_11, bI_z, bI_1, bI_fo, va_rf_some, aBk_1, aBk_0, nI_add, nI_mul, hk_si, hp_si, hl_si, hk_sp, hk_sl, hk_cp, hp_cp, e1, bx_84, bx_85, bx_86, bx_87, bx_88, bx_89, bx_90, bx_91, bx_92, bx_93, bx_94, bx_95, bx_96, bx_97, bx_98, bx_99, bx_100, bx_101, bx_102, bx_103, bx_104]
      · have es := fun d => p_sort (d := d) hE.1 q3
        have b5 := srt_b (tk_ (tz β n) ρ.1.1)
        have n4 : (nI (srt (tk_ (tz β n) ρ.1.1)) = nI 4) = False := by
          rw [nI_eqL (by omega) (by decide)]
          refine eq_false (fun z => ?_)
          unfold srt at z
          repeat' split at z
          all_goals omega
        have A := p_told hV hG hR
        cases ht : toldX (tz β n) ρ with
        | inl e =>
          rw [ht] at A
          obtain ⟨h1, e1, o1, F1, f1⟩ := A
          refine ⟨h1, fun d => ?_, o1.le (by omega) (by omega), F1, f1⟩
          unfold prAt
          refine (e84_33).trans ?_
          simp only [e84_0, e84_1, e84_4, e84_7, e84_8, e84_11, e84_12, e84_15, e84_15n, e84_18, e84_19, e84_20, e84_23, e84_24, e84_25, e84_28, e84_29, e84_30, e84_34, e84_37, e84_38, e84_41, e84_42, e84_45, e84_46, e84_48, e84_51, e84_55, e84_58, e84_61, e84_62, e84_63, e84_66, e84_67, e84_70, e84_73, e84_74, e84_75, e84_78, xk_64 hX, xk_73 hX, xk_66 hX, xk_65 hX, xp_37 hX, ↓reduceIte, Nat.reduceAdd, Nat.reduceLeDiff, Nat.reduceLT, Nat.reduceEqDiff, not_false_eq_true, false_or, true_or, or_true, or_false, n0_e, n1_ne, n1_11, bI_z, bI_1, bI_fo, va_rf_some, aBk_1, aBk_0, nI_add, nI_mul, hk_si, hp_si, hl_si, hk_sp, hk_sl, hk_cp, hp_cp, es, n4, e1, bx_84, bx_85, bx_86, bx_87, bx_88, bx_89, bx_90, bx_91, bx_92, bx_93, bx_94, bx_95, bx_96, bx_97, bx_98, bx_99, bx_100, bx_101, bx_102, bx_103, bx_104]
        | inr ρ1 =>
          rw [ht] at A
          obtain ⟨h1, e1, o1, G1⟩ := A
          obtain ⟨sa, ga, la, es', eg, qs, qg, vs, vg, g1⟩ := id G1
          have E1 := g1.1
          have hX1 := E1.1.1
          have F1 := E1.2.2
          have le1 := E1.le
          obtain ⟨o', h2, e2, o2, f2⟩ := p_sign E1.1 (k := 4) (by unfold sgk; omega)
          have c4 : chr 4 = 59 := rfl
          rw [c4] at e2
          show PrR β n N z0 tx ρ.1 h (eB (eB (mustX (tz β n) ρ1.1 4) fun s => .inr (s, ρ1.2)) (linesX (tz β n) m))
          cases hm4 : mustX (tz β n) ρ1.1 4 with
          | inl e =>
            rw [hm4] at f2
            obtain ⟨f0, f2⟩ := f2
            rw [f0] at e2
            refine ⟨h2, fun d => ?_, (o1.trans (onTd o2)).le (by omega) (by omega), F1.px o2, f2⟩
            unfold prAt
            refine (e84_33).trans ?_
            simp only [e84_0, e84_1, e84_4, e84_7, e84_8, e84_11, e84_12, e84_15, e84_15n, e84_18, e84_19, e84_20, e84_23, e84_24, e84_25, e84_28, e84_29, e84_30, e84_34, e84_37, e84_38, e84_41, e84_42, e84_45, e84_46, e84_48, e84_51, e84_55, e84_58, e84_61, e84_62, e84_63, e84_66, e84_67, e84_70, e84_73, e84_74, e84_75, e84_78, xk_64 hX, xk_73 hX, xk_66 hX, xk_65 hX, xp_37 hX, xk_64 hX1, xk_73 hX1, xk_66 hX1, xk_65 hX1, xp_37 hX1, ↓reduceIte, Nat.reduceAdd, Nat.reduceLeDiff, Nat.reduceLT, Nat.reduceEqDiff, not_false_eq_true, false_or, true_or, or_true, or_false, n0_e, n1_ne, n1_11, bI_z, bI_1, bI_fo, va_rf_some, aBk_1, aBk_0, nI_add, nI_mul, hk_si, hp_si, hl_si, hk_sp, hk_sl, hk_cp, hp_cp, es, n4, e1, e2, bx_84, bx_85, bx_86, bx_87, bx_88, bx_89, bx_90, bx_91, bx_92, bx_93, bx_94, bx_95, bx_96, bx_97, bx_98, bx_99, bx_100, bx_101, bx_102, bx_103, bx_104]
          | inr s =>
            rw [hm4] at f2
            obtain ⟨f0, R2⟩ := f2
            rw [f0] at e2
            have htell : tellX (tz β n) ρ = .inr (s, ρ1.2) := by
              rw [tell_told, ht]
              show eB (mustX (tz β n) ρ1.1 4) _ = _
              rw [hm4]; rfl
            obtain ⟨V2, lt2, le2⟩ := tell_RV (tz_v hV) hR hle htell
            have s1 : s.1 = ρ1.1.1 + 1 := by rw [(must_inr hm4).2.2]
            have E2 := E1.px o2 R2
            have G2 := g1.px (σ' := s) o2.OA E2
            have I := pr_lines hV m (s, ρ1.2) h2 (by show 401 ≤ m + s.1; have : ρ.1.1 < s.1 := lt2; omega) V2 ⟨sa, ga, la, es', eg, qs, qg, vs, vg, G2⟩
            have st : ∀ d, prAt d 33 h = prAt d 33 h2 := fun d => by
              unfold prAt
              refine (e84_33).trans ?_
              simp only [e84_0, e84_1, e84_4, e84_7, e84_8, e84_11, e84_12, e84_15, e84_15n, e84_18, e84_19, e84_20, e84_23, e84_24, e84_25, e84_28, e84_29, e84_30, e84_34, e84_37, e84_38, e84_41, e84_42, e84_45, e84_46, e84_48, e84_51, e84_55, e84_58, e84_61, e84_62, e84_63, e84_66, e84_67, e84_70, e84_73, e84_74, e84_75, e84_78, xk_64 hX, xk_73 hX, xk_66 hX, xk_65 hX, xp_37 hX, xk_64 hX1, xk_73 hX1, xk_66 hX1, xk_65 hX1, xp_37 hX1, ↓reduceIte, Nat.reduceAdd, Nat.reduceLeDiff, Nat.reduceLT, Nat.reduceEqDiff, not_false_eq_true, false_or, true_or, or_true, or_false, n0_e, n1_ne, n1_11, bI_z, bI_1, bI_fo, va_rf_some, aBk_1, aBk_0, nI_add, nI_mul, hk_si, hp_si, hl_si, hk_sp, hk_sl, hk_cp, hp_cp, es, n4, e1, e2]
            have lt2 : ρ.1.1 < s.1 := lt2
            have le2 : s.1 ≤ 400 := le2
            have ge1 : ρ.1.1 ≤ ρ1.1.1 := by omega
            show PrR β n N z0 tx ρ.1 h (linesX (tz β n) m (s, ρ1.2))
            cases hy : linesX (tz β n) m (s, ρ1.2) with
            | inl e =>
              rw [hy] at I
              obtain ⟨h3, e3, o3, F3, f3⟩ := I
              exact ⟨h3, fun d => (st d).trans (e3 d), ((o1.trans (onTd o2)).trans o3).le (by show _ ≤ 8 * (405 - ρ.1.1); simp only; omega) (by show _ ≤ 64 * (405 - ρ.1.1); simp only; omega), F3, f3⟩
            | inr ρ2 =>
              rw [hy] at I
              obtain ⟨h3, e3, o3, G3⟩ := I
              have hmono : s.1 ≤ ρ2.1.1 ∨ ρ2.1.1 < s.1 := by omega
              have hm2 : s.1 ≤ ρ2.1.1 := by
                have : ∀ (m : Nat) (ρ ρ' : aRd), RVt ρ → ρ.1.1 ≤ 400 → linesX (tz β n) m ρ = .inr ρ' → ρ.1.1 ≤ ρ'.1.1 := by
                  intro m
                  induction m with
                  | zero => intro ρ ρ' _ _ h; cases h
                  | succ m ih =>
                    intro ρ ρ' hR h4 h
                    unfold linesX at h
                    split at h
                    · cases h; exact Nat.le_refl _
                    · obtain ⟨ρ3, y1, y2⟩ := eB_inr h
                      obtain ⟨a1, a2, a3⟩ := tell_RV (tz_v hV) hR h4 y1
                      have := ih ρ3 ρ' a1 a3 y2
                      omega
                exact this m (s, ρ1.2) ρ2 V2 le2 hy
              exact ⟨h3, fun d => (st d).trans (e3 d), ((o1.trans (onTd o2)).trans o3).le (by show _ ≤ 8 * (ρ2.1.1 - ρ.1.1); simp only; omega) (by show _ ≤ 64 * (ρ2.1.1 - ρ.1.1); simp only; omega), G3⟩
end PR1
