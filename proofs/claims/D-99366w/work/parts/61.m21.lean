set_option maxRecDepth 100000
/-! M: reading (10): expression reads a sum -/
theorem MR.le {h : aH} {τ : aTok} {N : Nat} {σ : aPs} (hR : MR h τ N σ) : σ.1 ≤ 400 := Nat.le_trans hR.2.2.2.1 hR.2.1.1
section M21
variable {N p b0 base : Nat} {τ : aTok}
/-- from a unit on -/
def exS (τ : aTok) (N p b0 base : Nat) (h : aH) (ws : List Nat) (c : cdT) (x : aEr (aPs × cdT)) : Prop := match x with
  | .inl e => ∃ h', (∀ d, exAt d 23 base h = some (.returned none, h')) ∧ On (EXs p (b0 + 420)) h h' ∧ MF h' e.1 e.2
  | .inr q => ∃ h' ws0 c0, (∀ d, exAt d 23 base h = exAt d 96 base h') ∧ On (EXs p (b0 + 420)) h h' ∧ EC h' τ N p b0 ws0 c0 q.1 ∧ co (bs τ q.1) ws0 c0 = co (bs τ q.1) ws (c ++ q.2)
/-- from behind a unit on; strong: no strong sign follows; else no sign -/
def exA (τ : aTok) (N p b0 base : Nat) (h : aH) (ws : List Nat) (c : cdT) (m : Nat) (x : aEr (aPs × cdT)) : Prop := match x with
  | .inl e => ∃ h', (∀ d, exAt d 96 base h = some (.returned none, h')) ∧ On (EXs p (b0 + 420)) h h' ∧ MF h' e.1 e.2
  | .inr q => ∃ h' ws0 c0, (∀ d, exAt d 96 base h = exAt d 96 base h') ∧ On (EXs p (b0 + 420)) h h' ∧ EC h' τ N p b0 ws0 c0 q.1 ∧ co (bs τ q.1) ws0 c0 = co (bs τ q.1) ws (c ++ q.2) ∧ bs τ q.1 = false ∧ (m = 2 → tk_ τ q.1.1 ≠ 8 ∧ tk_ τ q.1.1 ≠ 9)
theorem bs_t {σ : aPs} (h : tk_ τ σ.1 = 10 ∨ tk_ τ σ.1 = 15) : bs τ σ = true := decide_eq_true h
theorem bs_f {σ : aPs} (h : ¬ (tk_ τ σ.1 = 10 ∨ tk_ τ σ.1 = 15)) : bs τ σ = false := decide_eq_false h
theorem bs_n {σ : aPs} (h : bs τ σ = false) : tk_ τ σ.1 ≠ 10 ∧ tk_ τ σ.1 ≠ 15 := by
  have := of_decide_eq_false h
  omega
def exP0 (τ : aTok) (N p b0 base n : Nat) : Prop := ∀ h σ ws c, EC h τ N p b0 ws c σ → base ≤ σ.2.1 → σ.2.1 ≤ 6 → 401 ≤ n + σ.1 → ws.length ≤ 3 * σ.2.1 + 2 → exS τ N p b0 base h ws c (exX τ n 0 σ [])
def exP1 (τ : aTok) (N p b0 base n : Nat) : Prop := ∀ h σ ws c u ws0 c0, EC h τ N p b0 ws0 c0 σ → co (bs τ σ) ws0 c0 = co (bs τ σ) ws (c ++ u) → (∀ x, co true ws x = (ws, x)) → base ≤ σ.2.1 → σ.2.1 ≤ 6 → 401 ≤ n + σ.1 → ws.length ≤ 3 * σ.2.1 + 1 → exA τ N p b0 base h ws c 1 (exX τ n 1 σ u)
def exP2 (τ : aTok) (N p b0 base n : Nat) : Prop := ∀ h σ ws c u ws0 c0, EC h τ N p b0 ws0 c0 σ → co (bs τ σ) ws0 c0 = co (bs τ σ) ws (c ++ u) → bs τ σ = false → (∀ x, co false ws x = (ws, x)) → base ≤ σ.2.1 → σ.2.1 ≤ 6 → 401 ≤ n + σ.1 → ws.length ≤ 3 * σ.2.1 → exA τ N p b0 base h ws c 2 (exX τ n 2 σ u)
theorem ex_p1 (hv : ∀ j, tv_ τ j ≤ 9999) (h0 : b0 ≤ 420) {n : Nat} (P0 : exP0 τ N p b0 base n) (P1 : exP1 τ N p b0 base n) : exP1 τ N p b0 base (n + 1) := by
  intro h σ ws c u ws0 c0 hE hc hw hb h6 hn hl
  rw [ex1]
  by_cases q : tk_ τ σ.1 = 10 ∨ tk_ τ σ.1 = 15
  · rw [if_pos q]
    rw [bs_t q, hw] at hc
    have S := ex_sign (base := base) hE h0 (Or.inr q) (by rw [bs_t q, hc]; show ws.length ≤ 59; omega)
    rw [bs_t q, hc] at S
    cases hg : goX τ σ with
    | inl e => rw [hg] at S; exact S
    | inr s =>
      rw [hg] at S
      obtain ⟨h1, e1, o1, E1⟩ := S
      obtain ⟨-, es⟩ := go_inr hg
      subst es
      have U := P0 h1 _ _ _ E1 hb h6 (by show 401 ≤ n + (σ.1 + 1); omega) (by rw [List.length_cons]; show ws.length + 1 ≤ 3 * σ.2.1 + 2; omega)
      show exA τ N p b0 base h ws c 1 (eB (exX τ n 0 (σ.1 + 1, σ.2) []) _)
      cases hx : exX τ n 0 (σ.1 + 1, σ.2) [] with
      | inl e =>
        rw [hx] at U
        obtain ⟨h2, e2, o2, f2⟩ := U
        exact ⟨h2, fun d => (e1 d).trans (e2 d), o1.trans o2, f2⟩
      | inr r =>
        obtain ⟨r1, r2⟩ := r
        rw [hx] at U
        obtain ⟨h2, ws2, c2, e2, o2, E2, k2⟩ := U
        obtain ⟨a1, a2, a3, -⟩ := (ex_mono hv n).1 _ _ _ _ hx
        have a2 : σ.1 + 1 < r1.1 := a2
        have a3 : r1.2 = σ.2 := a3
        have k3 : co (bs τ r1) ws2 c2 = co (bs τ r1) ws (c ++ (u ++ r2 ++ [(oc (tk_ τ σ.1), 0)])) := by
          rw [k2, co_st q]
          simp only [List.append_assoc]
        have V := P1 h2 r1 ws c _ ws2 c2 E2 k3 hw (by rw [a3]; exact hb) (by rw [a3]; exact h6) (by omega) (by rw [a3]; exact hl)
        show exA τ N p b0 base h ws c 1 (exX τ n 1 r1 (u ++ r2 ++ [(oc (tk_ τ σ.1), 0)]))
        cases hy : exX τ n 1 r1 (u ++ r2 ++ [(oc (tk_ τ σ.1), 0)]) with
        | inl e =>
          rw [hy] at V
          obtain ⟨h3, e3, o3, f3⟩ := V
          exact ⟨h3, fun d => ((e1 d).trans (e2 d)).trans (e3 d), (o1.trans o2).trans o3, f3⟩
        | inr w =>
          rw [hy] at V
          obtain ⟨h3, ws3, c3, e3, o3, f3⟩ := V
          exact ⟨h3, ws3, c3, fun d => ((e1 d).trans (e2 d)).trans (e3 d), (o1.trans o2).trans o3, f3⟩
  · rw [if_neg q]
    exact ⟨h, ws0, c0, fun d => rfl, On.refl, hE, hc, bs_f q, fun z => absurd z (by decide)⟩
theorem ex_p2 (hv : ∀ j, tv_ τ j ≤ 9999) (h0 : b0 ≤ 420) {n : Nat} (P0 : exP0 τ N p b0 base n) (P1 : exP1 τ N p b0 base n) (P2 : exP2 τ N p b0 base n) : exP2 τ N p b0 base (n + 1) := by
  intro h σ ws c u ws0 c0 hE hc hs hw hb h6 hn hl
  rw [ex2]
  by_cases q : tk_ τ σ.1 = 8 ∨ tk_ τ σ.1 = 9
  · rw [if_pos q]
    rw [hs, hw] at hc
    have S := ex_sign (base := base) hE h0 (Or.inl q) (by rw [hs, hc]; show ws.length ≤ 59; omega)
    rw [hs, hc] at S
    cases hg : goX τ σ with
    | inl e => rw [hg] at S; exact S
    | inr s =>
      rw [hg] at S
      obtain ⟨h1, e1, o1, E1⟩ := S
      obtain ⟨-, es⟩ := go_inr hg
      subst es
      have U := P0 h1 _ _ _ E1 hb h6 (by show 401 ≤ n + (σ.1 + 1); omega) (by rw [List.length_cons]; show ws.length + 1 ≤ 3 * σ.2.1 + 2; omega)
      show exA τ N p b0 base h ws c 2 (eB (exX τ n 0 (σ.1 + 1, σ.2) []) _)
      cases hx : exX τ n 0 (σ.1 + 1, σ.2) [] with
      | inl e =>
        rw [hx] at U
        obtain ⟨h2, e2, o2, f2⟩ := U
        exact ⟨h2, fun d => (e1 d).trans (e2 d), o1.trans o2, f2⟩
      | inr r =>
        obtain ⟨r1, r2⟩ := r
        rw [hx] at U
        obtain ⟨h2, ws2, c2, e2, o2, E2, k2⟩ := U
        obtain ⟨a1, a2, a3, -⟩ := (ex_mono hv n).1 _ _ _ _ hx
        have a2 : σ.1 + 1 < r1.1 := a2
        have a3 : r1.2 = σ.2 := a3
        have V := P1 h2 r1 (tk_ τ σ.1 :: ws) (c ++ u) r2 ws2 c2 E2 k2 (fun x => co_wt q) (by rw [a3]; exact hb) (by rw [a3]; exact h6) (by omega) (by rw [a3, List.length_cons]; omega)
        show exA τ N p b0 base h ws c 2 (eB (exX τ n 1 r1 r2) _)
        cases hy : exX τ n 1 r1 r2 with
        | inl e =>
          rw [hy] at V
          obtain ⟨h3, e3, o3, f3⟩ := V
          exact ⟨h3, fun d => ((e1 d).trans (e2 d)).trans (e3 d), (o1.trans o2).trans o3, f3⟩
        | inr w =>
          obtain ⟨w1, w2⟩ := w
          rw [hy] at V
          obtain ⟨h3, ws3, c3, e3, o3, E3, k3, s3, -⟩ := V
          obtain ⟨b1, b2, b3, -⟩ := (ex_mono hv n).2 1 (Or.inl rfl) _ _ _ _ hy
          have k4 : co (bs τ w1) ws3 c3 = co (bs τ w1) ws (c ++ (u ++ w2 ++ [(oc (tk_ τ σ.1), 0)])) := by
            rw [k3]
            have s3 : bs τ w1 = false := s3
            rw [s3, co_wk q]
            simp only [List.append_assoc]
          have X := P2 h3 w1 ws c _ ws3 c3 E3 k4 s3 hw (by rw [b3, a3]; exact hb) (by rw [b3, a3]; exact h6) (by omega) (by rw [b3, a3]; exact hl)
          show exA τ N p b0 base h ws c 2 (exX τ n 2 w1 (u ++ w2 ++ [(oc (tk_ τ σ.1), 0)]))
          cases hz : exX τ n 2 w1 (u ++ w2 ++ [(oc (tk_ τ σ.1), 0)]) with
          | inl e =>
            rw [hz] at X
            obtain ⟨h4, e4, o4, f4⟩ := X
            exact ⟨h4, fun d => (((e1 d).trans (e2 d)).trans (e3 d)).trans (e4 d), ((o1.trans o2).trans o3).trans o4, f4⟩
          | inr w =>
            rw [hz] at X
            obtain ⟨h4, ws4, c4, e4, o4, f4⟩ := X
            exact ⟨h4, ws4, c4, fun d => (((e1 d).trans (e2 d)).trans (e3 d)).trans (e4 d), ((o1.trans o2).trans o3).trans o4, f4⟩
  · rw [if_neg q]
    exact ⟨h, ws0, c0, fun d => rfl, On.refl, hE, hc, hs, fun _ => by show tk_ τ σ.1 ≠ 8 ∧ tk_ τ σ.1 ≠ 9; omega⟩
theorem ex_unit {h : aH} {σ : aPs} {ws : List Nat} {c : cdT} (hE : EC h τ N p b0 ws c σ) (h0 : b0 ≤ 420) (h6 : tk_ τ σ.1 ≠ 6) : match unX τ σ with
    | .inl e => ∃ h', (∀ d, exAt d 23 base h = some (.returned none, h')) ∧ On (EXs p (b0 + 420)) h h' ∧ MF h' e.1 e.2
    | .inr s => ∃ h', (∀ d, exAt d 23 base h = exAt d 96 base h') ∧ On (EXs p (b0 + 420)) h h' ∧ EC h' τ N p b0 ws (c ++ unC τ σ) s := by
  obtain ⟨hR, hW, hb⟩ := hE
  have hM := hR.1
  have hle := hR.le
  have ei := fun d => m_is (d := d) hR (k := 6) (by decide)
  rw [decide_eq_false h6] at ei
  obtain ⟨y, ey, oy, fy, Wy⟩ := m_unit (B := b0 + 420) hR hW (by omega) (by omega)
  have hMy := fy.S
  cases hg : unX τ σ with
  | inl e =>
    rw [hg] at fy
    have fy : MF y e.1 e.2 := fy
    have f3 : hi_ y 458 79 = nI e.1 := fy.2.2.2.2.1
    have fz : ¬ nI e.1 ≤ 0 := nI_nle fy.2.2.1 (by have := fy.2.2.2.1; omega)
    refine ⟨y, fun d => ?_, oy.ex_u, fy⟩
    unfold exAt
    refine (e176_23).trans ?_
    simp only [e176_0, e176_1, e176_2, e176_5, e176_6, e176_9, e176_10, e176_11, e176_12, e176_13, e176_16, e176_17, e176_20, e176_24, e176_26, e176_29, e176_32, e176_33, e176_36, e176_38, e176_41, e176_42, e176_43, e176_46, e176_47, e176_48, e176_51, e176_52, e176_53, e176_56, e176_57, e176_60, e176_61, e176_64, e176_65, e176_68, e176_70, e176_71, e176_72, e176_73, e176_76, e176_77, e176_78, e176_81, e176_84, e176_85, e176_88, e176_89, e176_92, e176_95, e176_97, e176_99, e176_102, e176_105, e176_106, e176_109, e176_110, e176_113, e176_114, e176_115, e176_118, e176_119, e176_120, e176_123, e176_124, e176_125, e176_128, e176_129, e176_130, e176_133, e176_134, e176_135, e176_138, e176_139, e176_142, e176_145, e176_146, e176_148, e176_151, e176_154, e176_155, e176_157, e176_160, e176_163, e176_164, e176_166, e176_169, e176_172, e176_173, e176_175, e176_178, e176_181, e176_182, e176_185, e176_186, e176_187, e176_188, e176_191, e176_192, e176_195, e176_196, e176_199, e176_200, e176_201, e176_204, e176_205, e176_206, e176_209, e176_210, e176_211, e176_212, e176_214, e176_217, e176_220, e176_221, e176_223, e176_226, e176_229, e176_230, e176_233, e176_234, e176_237, e176_238, e176_241, e176_242, e176_245, e176_246, e176_249, e176_250, e176_253, e176_254, e176_255, e176_256, e176_257, e176_260, e176_261, e176_262, e176_265, e176_266, e176_269, e176_272, mk_458 hM, mp_71 hM, mk_461 hM, mp_111 hM, mk_488 hM, mk_458 hMy, mp_71 hMy, mk_461 hMy, mp_111 hMy, mk_488 hMy, ↓reduceIte, Nat.reduceAdd, Nat.reduceLeDiff, Nat.reduceLT, Nat.reduceEqDiff, not_false_eq_true, false_or, true_or, or_true, or_false, n0_e, n1_ne, n1_11, bI_z, bI_1, bI_fo, va_rf_some, aBk_1, aBk_0, nI_add, nI_mul, hk_si, hp_si, hl_si, hk_sp, hk_sl, hk_cp, hp_cp, ei, ey, f3, fz]
  | inr s =>
    rw [hg] at fy
    have fy : MR y τ N s := fy
    have f3 := fy.2.2.2.2.2.2.1
    have hle0 : nI 0 ≤ 0 := by decide
    refine ⟨y, fun d => ?_, oy.ex_u, fy, Wy, ?_⟩
    · unfold exAt
      refine (e176_23).trans ?_
      simp only [e176_0, e176_1, e176_2, e176_5, e176_6, e176_9, e176_10, e176_11, e176_12, e176_13, e176_16, e176_17, e176_20, e176_24, e176_26, e176_29, e176_32, e176_33, e176_36, e176_38, e176_41, e176_42, e176_43, e176_46, e176_47, e176_48, e176_51, e176_52, e176_53, e176_56, e176_57, e176_60, e176_61, e176_64, e176_65, e176_68, e176_70, e176_71, e176_72, e176_73, e176_76, e176_77, e176_78, e176_81, e176_84, e176_85, e176_88, e176_89, e176_92, e176_95, e176_97, e176_99, e176_102, e176_105, e176_106, e176_109, e176_110, e176_113, e176_114, e176_115, e176_118, e176_119, e176_120, e176_123, e176_124, e176_125, e176_128, e176_129, e176_130, e176_133, e176_134, e176_135, e176_138, e176_139, e176_142, e176_145, e176_146, e176_148, e176_151, e176_154, e176_155, e176_157, e176_160, e176_163, e176_164, e176_166, e176_169, e176_172, e176_173, e176_175, e176_178, e176_181, e176_182, e176_185, e176_186, e176_187, e176_188, e176_191, e176_192, e176_195, e176_196, e176_199, e176_200, e176_201, e176_204, e176_205, e176_206, e176_209, e176_210, e176_211, e176_212, e176_214, e176_217, e176_220, e176_221, e176_223, e176_226, e176_229, e176_230, e176_233, e176_234, e176_237, e176_238, e176_241, e176_242, e176_245, e176_246, e176_249, e176_250, e176_253, e176_254, e176_255, e176_256, e176_257, e176_260, e176_261, e176_262, e176_265, e176_266, e176_269, e176_272, mk_458 hM, mp_71 hM, mk_461 hM, mp_111 hM, mk_488 hM, mk_458 hMy, mp_71 hMy, mk_461 hMy, mp_111 hMy, mk_488 hMy, ↓reduceIte, Nat.reduceAdd, Nat.reduceLeDiff, Nat.reduceLT, Nat.reduceEqDiff, not_false_eq_true, false_or, true_or, or_true, or_false, n0_e, n1_ne, n1_11, bI_z, bI_1, bI_fo, va_rf_some, aBk_1, aBk_0, nI_add, nI_mul, hk_si, hp_si, hl_si, hk_sp, hk_sl, hk_cp, hp_cp, ei, ey, f3, hle0]
    · unfold unX at hg
      by_cases q : tk_ τ σ.1 = 2 ∨ (32 ≤ tk_ τ σ.1 ∧ tk_ τ σ.1 ≤ 40)
      · rw [if_pos q] at hg
        have es := (go_inr hg).2
        have l1 : (unC τ σ).length = 1 := by
          unfold unC
          by_cases q2 : tk_ τ σ.1 = 2
          · rw [if_pos q2]; rfl
          · rw [if_neg q2, if_pos (by omega)]; rfl
        rw [List.length_append, l1, es]
        show _ ≤ b0 + (σ.1 + 1)
        omega
      · rw [if_neg q] at hg; cases hg
theorem ex_p0 (hv : ∀ j, tv_ τ j ≤ 9999) (h0 : b0 ≤ 420) {n : Nat} (P0 : exP0 τ N p b0 base n) (P1 : exP1 τ N p b0 base n) (P2 : exP2 τ N p b0 base n) : exP0 τ N p b0 base (n + 1) := by
  intro h σ ws c hE hb h6 hn hl
  rw [ex0]
  by_cases q : tk_ τ σ.1 = 2 ∨ (32 ≤ tk_ τ σ.1 ∧ tk_ τ σ.1 ≤ 40)
  · rw [if_pos q]
    have S := ex_unit (base := base) hE h0 (by omega)
    have eu : unX τ σ = goX τ σ := if_pos q
    rw [eu] at S
    cases hg : goX τ σ with
    | inl e => rw [hg] at S; exact S
    | inr s =>
      rw [hg] at S
      obtain ⟨h1, e1, o1, E1⟩ := S
      exact ⟨h1, ws, _, e1, o1, E1, rfl⟩
  · rw [if_neg q]
    by_cases q6 : tk_ τ σ.1 = 6
    · rw [if_pos q6]
      by_cases qo : σ.2.1 = 6
      · rw [if_pos qo]
        obtain ⟨h1, e1, o1, f1⟩ := ex_open6 (base := base) (B := b0 + 420) hE.1 hE.2.1 q6 qo
        exact ⟨h1, e1, o1, f1⟩
      · rw [if_neg qo]
        have S := ex_open (base := base) hE q6 (by omega) (by omega)
        cases hg : goX τ (opn σ) with
        | inl e => rw [hg] at S; exact S
        | inr s =>
          rw [hg] at S
          obtain ⟨h1, e1, o1, E1⟩ := S
          obtain ⟨-, es⟩ := go_inr hg
          have s1 : s.1 = σ.1 + 1 := by rw [es]; rfl
          have s2 : s.2.1 = σ.2.1 + 1 := by rw [es]; rfl
          have U := P0 h1 s _ _ E1 (by omega) (by omega) (by omega) (by rw [List.length_cons]; omega)
          show exS τ N p b0 base h ws c (eB (exX τ n 0 s []) _)
          cases hx : exX τ n 0 s [] with
          | inl e =>
            rw [hx] at U
            obtain ⟨h2, e2, o2, f2⟩ := U
            exact ⟨h2, fun d => (e1 d).trans (e2 d), o1.trans o2, f2⟩
          | inr r =>
            obtain ⟨r1, r2⟩ := r
            rw [hx] at U
            obtain ⟨h2, ws2, c2, e2, o2, E2, k2⟩ := U
            obtain ⟨a1, a2, a3, -⟩ := (ex_mono hv n).1 _ _ _ _ hx
            have a4 : r1.2.1 = σ.2.1 + 1 := by rw [a3]; exact s2
            have V := P1 h2 r1 (6 :: ws) c r2 ws2 c2 E2 k2 (fun x => co_6) (by omega) (by omega) (by omega) (by rw [List.length_cons]; omega)
            show exS τ N p b0 base h ws c (eB (exX τ n 1 r1 r2) _)
            cases hy : exX τ n 1 r1 r2 with
            | inl e =>
              rw [hy] at V
              obtain ⟨h3, e3, o3, f3⟩ := V
              exact ⟨h3, fun d => ((e1 d).trans (e2 d)).trans (e3 d), (o1.trans o2).trans o3, f3⟩
            | inr w =>
              obtain ⟨w1, w2⟩ := w
              rw [hy] at V
              obtain ⟨h3, ws3, c3, e3, o3, E3, k3, s3, -⟩ := V
              obtain ⟨b1, b2, b3, -⟩ := (ex_mono hv n).2 1 (Or.inl rfl) _ _ _ _ hy
              have b4 : w1.2.1 = σ.2.1 + 1 := by rw [b3]; exact a4
              have X := P2 h3 w1 (6 :: ws) c w2 ws3 c3 E3 k3 s3 (fun x => co_6) (by omega) (by omega) (by omega) (by rw [List.length_cons]; omega)
              show exS τ N p b0 base h ws c (eB (exX τ n 2 w1 w2) _)
              cases hz : exX τ n 2 w1 w2 with
              | inl e =>
                rw [hz] at X
                obtain ⟨h4, e4, o4, f4⟩ := X
                exact ⟨h4, fun d => (((e1 d).trans (e2 d)).trans (e3 d)).trans (e4 d), ((o1.trans o2).trans o3).trans o4, f4⟩
              | inr y =>
                obtain ⟨y1, y2⟩ := y
                rw [hz] at X
                obtain ⟨h4, ws4, c4, e4, o4, E4, k4, s4, t4⟩ := X
                obtain ⟨c1, c2', c3', -⟩ := (ex_mono hv n).2 2 (Or.inr rfl) _ _ _ _ hz
                have c5 : y1.2.1 = σ.2.1 + 1 := by rw [c3']; exact b4
                have s4 : bs τ y1 = false := s4
                have k4 : co (bs τ y1) ws4 c4 = co (bs τ y1) (6 :: ws) (c ++ y2) := k4
                rw [s4, co_6] at k4
                obtain ⟨t8, t9⟩ := t4 rfl
                obtain ⟨t10, t15⟩ := bs_n s4
                have E4 : EC h4 τ N p b0 ws4 c4 y1 := E4
                show exS τ N p b0 base h ws c (eB (mustX τ y1 7) _)
                unfold mustX
                by_cases q7 : tk_ τ y1.1 = 7
                · rw [if_pos q7]
                  have Y := ex_close (base := base) E4 h0 q7 (by omega) (by omega) k4
                  have eg : goX τ (cls y1) = eB (goX τ y1) (fun s => .inr (cls s)) := by
                    unfold goX
                    by_cases z : y1.1 = 400
                    · rw [if_pos z, if_pos (show (cls y1).1 = 400 from z)]; rfl
                    · rw [if_neg z, if_neg (show ¬ (cls y1).1 = 400 from z)]; rfl
                  rw [eg] at Y
                  cases hh : goX τ y1 with
                  | inl e =>
                    rw [hh] at Y
                    obtain ⟨h5, e5, o5, f5⟩ := Y
                    exact ⟨h5, fun d => ((((e1 d).trans (e2 d)).trans (e3 d)).trans (e4 d)).trans (e5 d), (((o1.trans o2).trans o3).trans o4).trans o5, f5⟩
                  | inr s =>
                    rw [hh] at Y
                    obtain ⟨h5, e5, o5, E5⟩ := Y
                    exact ⟨h5, ws, _, fun d => ((((e1 d).trans (e2 d)).trans (e3 d)).trans (e4 d)).trans (e5 d), (((o1.trans o2).trans o3).trans o4).trans o5, E5, rfl⟩
                · rw [if_neg q7]
                  obtain ⟨h5, e5, o5, f5⟩ := (ex_end (base := base) E4 h0 ⟨t8, t9, t10, t15⟩ (by omega)).1 (by omega) q7
                  exact ⟨h5, fun d => ((((e1 d).trans (e2 d)).trans (e3 d)).trans (e4 d)).trans (e5 d), (((o1.trans o2).trans o3).trans o4).trans o5, f5⟩
    · rw [if_neg q6]
      have S := ex_unit (base := base) hE h0 q6
      have eu : unX τ σ = failX τ σ 1 := if_neg q
      rw [eu] at S
      exact S
theorem ex_all (hv : ∀ j, tv_ τ j ≤ 9999) (h0 : b0 ≤ 420) : ∀ n, exP0 τ N p b0 base n ∧ exP1 τ N p b0 base n ∧ exP2 τ N p b0 base n
  | 0 => ⟨fun h σ ws c hE _ _ hn _ => absurd hE.1.le (by omega), fun h σ ws c u ws0 c0 hE _ _ _ _ hn _ => absurd hE.1.le (by omega), fun h σ ws c u ws0 c0 hE _ _ _ _ _ hn _ => absurd hE.1.le (by omega)⟩
  | n + 1 => by
    obtain ⟨a, b, c⟩ := ex_all hv h0 n
    exact ⟨ex_p0 hv h0 a b c, ex_p1 hv h0 a b, ex_p2 hv h0 a b c⟩
end M21
section M21b
variable {N p b0 : Nat} {τ : aTok} {h : aH} {σ : aPs}
theorem m_exprN {n : Nat} (hn : 401 ≤ n + σ.1) (hv : ∀ j, tv_ τ j ≤ 9999) (h0 : b0 ≤ 420) (hR : MR h τ N σ) (hc : hi_ h 458 108 = nI p) (hp : p ≤ b0 + σ.1) (h6 : σ.2.1 ≤ 6) : match sumN τ n σ with
    | .inl e => ∃ h', (∀ d, (run (d + 3) 176 0 [.ref 458, aU, aU] [] h) = some (.returned none, h')) ∧ On (EXs p (b0 + 420)) h h' ∧ MF h' e.1 e.2
    | .inr q => ∃ h', (∀ d, (run (d + 3) 176 0 [.ref 458, aU, aU] [] h) = some (.returned none, h')) ∧ On (EXs p (b0 + 420)) h h' ∧ MR h' τ N q.1 ∧ hi_ h' 458 108 = nI (p + q.2.length) ∧ cdM h' p q.2 := by
  have hM := hR.1
  have hle := hR.le
  have o0 : On PU h (si_ h 458 112 (nI 0)) := On.si (Or.inr ⟨rfl, rfl⟩)
  have R0 := hR.pu o0
  have hM0 := R0.1
  have h3 := R0.2.2.2.2.2.1
  have h3' : hi_ h 458 78 = nI σ.2.1 := hR.2.2.2.2.2.1
  have h4 := R0.2.2.2.2.2.2.1
  have h4' := hR.2.2.2.2.2.2.1
  have E0 : EC (si_ h 458 112 (nI 0)) τ N p b0 [] [] σ := ⟨R0, ⟨(hi_ne (by omega)).trans hc, ⟨by show p + 0 ≤ 840; omega, fun i hi => absurd hi (Nat.not_lt_zero i)⟩, hi_same, by show 0 ≤ 60; omega, trivial⟩, by show p + 0 + 0 ≤ _; omega⟩
  have st : ∀ d, (run (d + 3) 176 0 [.ref 458, aU, aU] [] h) = exAt d 23 σ.2.1 (si_ h 458 112 (nI 0)) := fun d => by
    unfold exAt
    simp only [e176_0, e176_1, e176_2, e176_5, e176_6, e176_9, e176_10, e176_11, e176_12, e176_13, e176_16, e176_17, e176_20, e176_24, e176_26, e176_29, e176_32, e176_33, e176_36, e176_38, e176_41, e176_42, e176_43, e176_46, e176_47, e176_48, e176_51, e176_52, e176_53, e176_56, e176_57, e176_60, e176_61, e176_64, e176_65, e176_68, e176_70, e176_71, e176_72, e176_73, e176_76, e176_77, e176_78, e176_81, e176_84, e176_85, e176_88, e176_89, e176_92, e176_95, e176_97, e176_99, e176_102, e176_105, e176_106, e176_109, e176_110, e176_113, e176_114, e176_115, e176_118, e176_119, e176_120, e176_123, e176_124, e176_125, e176_128, e176_129, e176_130, e176_133, e176_134, e176_135, e176_138, e176_139, e176_142, e176_145, e176_146, e176_148, e176_151, e176_154, e176_155, e176_157, e176_160, e176_163, e176_164, e176_166, e176_169, e176_172, e176_173, e176_175, e176_178, e176_181, e176_182, e176_185, e176_186, e176_187, e176_188, e176_191, e176_192, e176_195, e176_196, e176_199, e176_200, e176_201, e176_204, e176_205, e176_206, e176_209, e176_210, e176_211, e176_212, e176_214, e176_217, e176_220, e176_221, e176_223, e176_226, e176_229, e176_230, e176_233, e176_234, e176_237, e176_238, e176_241, e176_242, e176_245, e176_246, e176_249, e176_250, e176_253, e176_254, e176_255, e176_256, e176_257, e176_260, e176_261, e176_262, e176_265, e176_266, e176_269, e176_272, mk_458 hM, mp_71 hM, mk_461 hM, mp_111 hM, mk_488 hM, mk_458 hM0, mp_71 hM0, mk_461 hM0, mp_111 hM0, mk_488 hM0, ↓reduceIte, Nat.reduceAdd, Nat.reduceLeDiff, Nat.reduceLT, not_false_eq_true, false_or, true_or, or_true, or_false, n0_e, n1_ne, n1_11, bI_z, bI_1, bI_fo, va_rf_some, aBk_1, aBk_0, nI_add, nI_mul, hk_si, hp_si, hl_si, hk_sp, hk_sl, hk_cp, hp_cp, h3', h4', hi_si, Nat.reduceEqDiff, false_and, true_and, and_false, and_true]
  obtain ⟨P0, P1, P2⟩ := ex_all (N := N) (p := p) (base := σ.2.1) hv h0 n
  unfold sumN
  have U := P0 _ σ _ _ E0 (Nat.le_refl _) h6 (by omega) (by show 0 ≤ _; omega)
  cases hx : exX τ n 0 σ [] with
  | inl e =>
    rw [hx] at U
    obtain ⟨h2, e2, o2, f2⟩ := U
    exact ⟨h2, fun d => (st d).trans (e2 d), o0.ex_p.trans o2, f2⟩
  | inr r =>
    obtain ⟨r1, r2⟩ := r
    rw [hx] at U
    obtain ⟨h2, ws2, c2, e2, o2, E2, k2⟩ := U
    obtain ⟨a1, a2, a3, -⟩ := (ex_mono hv n).1 _ _ _ _ hx
    have V := P1 h2 r1 [] [] r2 ws2 c2 E2 k2 (fun x => rfl) (by rw [a3]; exact Nat.le_refl _) (by rw [a3]; exact h6) (by omega) (by show 0 ≤ _; omega)
    show match eB (exX τ n 1 r1 r2) (fun q => exX τ n 2 q.1 q.2) with
      | .inl e => _
      | .inr q => _
    cases hy : exX τ n 1 r1 r2 with
    | inl e =>
      rw [hy] at V
      obtain ⟨h3, e3, o3, f3⟩ := V
      exact ⟨h3, fun d => ((st d).trans (e2 d)).trans (e3 d), (o0.ex_p.trans o2).trans o3, f3⟩
    | inr w =>
      obtain ⟨w1, w2⟩ := w
      rw [hy] at V
      obtain ⟨h3, ws3, c3, e3, o3, E3, k3, s3, -⟩ := V
      obtain ⟨b1, b2, b3, -⟩ := (ex_mono hv n).2 1 (Or.inl rfl) _ _ _ _ hy
      have X := P2 h3 w1 [] [] w2 ws3 c3 E3 k3 s3 (fun x => rfl) (by rw [b3, a3]; exact Nat.le_refl _) (by rw [b3, a3]; exact h6) (by omega) (by show 0 ≤ _; omega)
      show match exX τ n 2 w1 w2 with
        | .inl e => _
        | .inr q => _
      cases hz : exX τ n 2 w1 w2 with
      | inl e =>
        rw [hz] at X
        obtain ⟨h4, e4, o4, f4⟩ := X
        exact ⟨h4, fun d => (((st d).trans (e2 d)).trans (e3 d)).trans (e4 d), ((o0.ex_p.trans o2).trans o3).trans o4, f4⟩
      | inr y =>
        obtain ⟨y1, y2⟩ := y
        rw [hz] at X
        obtain ⟨h4, ws4, c4, e4, o4, E4, k4, s4, t4⟩ := X
        obtain ⟨c1, c2', c3', -⟩ := (ex_mono hv n).2 2 (Or.inr rfl) _ _ _ _ hz
        have s4 : bs τ y1 = false := s4
        have k4 : co (bs τ y1) ws4 c4 = co (bs τ y1) [] ([] ++ y2) := k4
        rw [s4] at k4
        have k4 : co false ws4 c4 = ([], y2) := k4
        obtain ⟨t8, t9⟩ := t4 rfl
        obtain ⟨t10, t15⟩ := bs_n s4
        have eo : y1.2 = σ.2 := by rw [c3', b3, a3]
        obtain ⟨h5, e5, o5, R5, W5⟩ := (ex_end (base := σ.2.1) E4 h0 ⟨t8, t9, t10, t15⟩ (by show y1.2.1 ≤ 6; rw [eo]; exact h6)).2 (by show σ.2.1 = y1.2.1; rw [eo])
        rw [k4] at W5
        exact ⟨h5, fun d => ((((st d).trans (e2 d)).trans (e3 d)).trans (e4 d)).trans (e5 d), (((o0.ex_p.trans o2).trans o3).trans o4).trans o5, R5, W5.1, W5.2.1⟩
theorem m_expression (hv : ∀ j, tv_ τ j ≤ 9999) (h0 : b0 ≤ 420) (hR : MR h τ N σ) (hc : hi_ h 458 108 = nI p) (hp : p ≤ b0 + σ.1) (h6 : σ.2.1 ≤ 6) : match sumX τ σ with
    | .inl e => ∃ h', (∀ d, (run (d + 3) 176 0 [.ref 458, aU, aU] [] h) = some (.returned none, h')) ∧ On (EXs p (b0 + 420)) h h' ∧ MF h' e.1 e.2
    | .inr q => ∃ h', (∀ d, (run (d + 3) 176 0 [.ref 458, aU, aU] [] h) = some (.returned none, h')) ∧ On (EXs p (b0 + 420)) h h' ∧ MR h' τ N q.1 ∧ hi_ h' 458 108 = nI (p + q.2.length) ∧ cdM h' p q.2 := m_exprN (n := 402) (by omega) hv h0 hR hc hp h6
end M21b
