set_option maxRecDepth 100000
/-! X: lettings (2) -/
section XB_
variable {d : Nat} {h h' : aH} {T : aTx} {w r : Nat → Int32} {tx sa ga la : Nat} {qs qg : Nat → Nat}
/-- greatest of what may be, in any order -/
theorem mx_s (c : Nat → Bool) (v : Nat → Int32) (p : Nat → Nat) (b0 : Int32) : ∀ n, (itn n (fun j b => if c (p j) = true ∧ b < v (p j) then v (p j) else b) b0 = b0 ∨ ∃ j, j < n ∧ c (p j) = true ∧ v (p j) = itn n (fun j b => if c (p j) = true ∧ b < v (p j) then v (p j) else b) b0) ∧ b0 ≤ itn n (fun j b => if c (p j) = true ∧ b < v (p j) then v (p j) else b) b0 ∧ ∀ j, j < n → c (p j) = true → v (p j) ≤ itn n (fun j b => if c (p j) = true ∧ b < v (p j) then v (p j) else b) b0 := by
  intro n
  induction n with
  | zero => exact ⟨Or.inl rfl, Int32.le_refl _, fun j hj => absurd hj (Nat.not_lt_zero j)⟩
  | succ n ih =>
    rw [itn]
    generalize itn n (fun j b => if c (p j) = true ∧ b < v (p j) then v (p j) else b) b0 = b at ih ⊢
    obtain ⟨h1, h2, h3⟩ := ih
    by_cases q : c (p n) = true ∧ b < v (p n)
    · rw [if_pos q]
      refine ⟨Or.inr ⟨n, by omega, q.1, rfl⟩, Int32.le_trans h2 (Int32.le_of_lt q.2), fun j hj hc => ?_⟩
      by_cases e : j = n
      · rw [e]; exact Int32.le_refl _
      · exact Int32.le_trans (h3 j (by omega) hc) (Int32.le_of_lt q.2)
    · rw [if_neg q]
      refine ⟨h1.imp id (fun ⟨j, hj, hc⟩ => ⟨j, by omega, hc⟩), h2, fun j hj hc => ?_⟩
      by_cases e : j = n
      · rw [e] at hc ⊢
        exact Int32.not_lt.mp (fun z => q ⟨hc, z⟩)
      · exact h3 j (by omega) hc
theorem mx_eq (c : Nat → Bool) (v : Nat → Int32) (p q : Nat → Nat) (b0 : Int32) (n : Nat) (hp : ∀ j, j < n → ∃ i, i < n ∧ q i = p j) (hq : ∀ j, j < n → ∃ i, i < n ∧ p i = q j) : itn n (fun j b => if c (p j) = true ∧ b < v (p j) then v (p j) else b) b0 = itn n (fun j b => if c (q j) = true ∧ b < v (q j) then v (q j) else b) b0 := by
  obtain ⟨h1, h2, h3⟩ := mx_s c v p b0 n
  obtain ⟨k1, k2, k3⟩ := mx_s c v q b0 n
  apply Int32.le_antisymm
  · rcases h1 with e | ⟨j, hj, hc, e⟩
    · rw [e]; exact k2
    · obtain ⟨i, hi, ei⟩ := hp j hj
      rw [← e, ← ei]
      exact k3 i hi (by rw [ei]; exact hc)
  · rcases k1 with e | ⟨j, hj, hc, e⟩
    · rw [e]; exact h2
    · obtain ⟨i, hi, ei⟩ := hq j hj
      rw [← e, ← ei]
      exact h3 i hi (by rw [ei]; exact hc)
theorem mo_dn (s set : Nat) : mo_ T w (s + 1) set = itn (set + 1) (fun j b => if cb_ T w s (set - j) set = true ∧ b < pv_ T w s (set - j) + mo_ T w s (dif set (set - j)) then pv_ T w s (set - j) + mo_ T w s (dif set (set - j)) else b) (nI 0) := by
  rw [mo_]
  exact mx_eq (fun k => cb_ T w s k set) (fun k => pv_ T w s k + mo_ T w s (dif set k)) (fun j => j) (fun j => set - j) (nI 0) (set + 1) (fun j hj => ⟨set - j, by omega, by omega⟩) (fun j hj => ⟨set - j, by omega, rfl⟩)
/-- the best of X lies -/
def MX (h : aH) (T : aTx) (w : Nat → Int32) (n : Nat) : Prop := ∀ s, s ≤ n → ∀ k, k < 2 ^ ng_ T → hi_ h (129 + s) k = mo_ T w s k
def QM (x _f : Nat) : Prop := 129 ≤ x ∧ x ≤ 133
theorem QM.Q {x f : Nat} (q : QM x f) : QX x f := by unfold QM at q; unfold QX; omega
theorem PL.on {S : Nat → Nat → Prop} (hp : PL h T w) (hV : TV T) (o : On S h h') (hS : ∀ x f, S x f → ¬ (124 ≤ x ∧ x ≤ 127)) : PL h' T w := fun s hs k hk => (o.i (fun z => hS _ _ z (by have := hV.1; omega))).trans (hp s hs k hk)
theorem x_laysMost (hB : XB h T w tx sa ga la qs qg) (hW : WV T w) : ∃ h', (∀ d, (run (d + 406) 33 0 [.ref 64, aU, aU, aU] [] h) = some (.returned none, h')) ∧ On QX h h' ∧ PL h' T w ∧ MX h' T w (ns_ T) := by
  have hXS := hB.S
  have hV := hB.X.v
  have h7 := hB.X.ng7
  have h4 := hB.X.ns4
  have h128 := x27 hB
  obtain ⟨h1, e1, o1, v1⟩ := x_laysPay hB hW
  have o1 : On QX h h1 := o1.mono (fun _ _ q => q.Q)
  have b1 := hB.onQ o1
  refine Exists.elim (run_fill (F := fun d j x => (run (d + 406) 33 6 [.ref 64, .int (nI j), aU, aU] [] x)) (b := 129) (n := 2 ^ ng_ T) (r := fun _ => nI 0) (h := h1) (fun d j x hj o _ _ => ?_)) (fun h2 hh => ?_)
  · have bx := b1.onQ (o.mono (fun x f q => by unfold AB at q; unfold QX; omega))
    have hXSx := bx.S
    have g1 : ¬ nI (2 ^ ng_ T) ≤ nI j := nI_ge hj (by omega)
    have g2 : j < 128 := by omega
    refine (e33_6).trans ?_
    simp only [e33_0, e33_1, e33_4, e33_5, e33_7, e33_8, e33_11, e33_14, e33_15, e33_18, e33_19, e33_20, e33_21, e33_22, e33_23, e33_26, e33_29, e33_30, e33_32, e33_33, e33_36, e33_39, e33_40, e33_42, e33_43, e33_46, e33_49, e33_50, e33_53, e33_54, e33_55, e33_56, e33_57, e33_58, e33_59, e33_61, e33_64, e33_65, e33_66, e33_67, e33_68, e33_69, e33_72, e33_73, e33_76, e33_77, e33_78, e33_79, e33_80, e33_81, e33_82, e33_85, e33_86, e33_89, e33_90, e33_91, e33_92, e33_93, e33_96, e33_97, e33_98, e33_99, e33_100, e33_101, e33_104, e33_105, e33_106, e33_107, e33_108, e33_109, e33_110, e33_111, e33_114, e33_115, e33_116, e33_117, e33_118, e33_119, e33_120, e33_121, e33_122, e33_123, e33_124, e33_125, e33_128, e33_129, e33_132, e33_135, e33_138, e33_141, e33_144, e33_147, xk_64 hXSx, xp_14 hXSx, xk_123 hXSx, xp_15 hXSx, xk_128 hXSx, ↓reduceIte, Nat.reduceAdd, Nat.reduceLeDiff, Nat.reduceLT, Nat.reduceEqDiff, not_false_eq_true, false_or, true_or, or_true, or_false, n0_e, n1_ne, n1_11, bI_z, bI_1, bI_fo, va_rf_some, aBk_1, aBk_0, nI_add, nI_mul, hk_si, hp_si, hl_si, hk_sp, hk_sl, hk_cp, hp_cp, x_sets bx, g1, g2, xp_most hXSx (show 0 < 5 by decide), Nat.add_zero, xk_129 hXSx]
  obtain ⟨e2, o2, f2⟩ := hh
  have o2 : On QM h1 h2 := o2.mono (fun x f q => by unfold AB at q; unfold QM; omega)
  have b2 := b1.onQ (o2.mono (fun _ _ q => q.Q))
  have hXS2 := b2.S
  have nq : ∀ x f, QM x f → ¬ (124 ≤ x ∧ x ≤ 127) := fun x f q => by unfold QM at q; omega
  have m0 : MX h2 T w 0 := fun s hs k hk => by
    have : s = 0 := by omega
    subst this
    exact f2 k hk
  obtain ⟨y, e, oy, my⟩ := run_invd (F := fun d j (x : (Value × Value) × aH) => (run (d + 406) 33 31 [.ref 64, .int (nI (j + 1)), x.1.1, x.1.2] [] x.2)) (I := fun j x => On QM h1 x.2 ∧ MX x.2 T w j) (n := ns_ T) (x := ((aU, aU), h2)) ⟨o2, m0⟩ (fun j x hj hI => by
    obtain ⟨⟨v2, v3⟩, x⟩ := x
    obtain ⟨o, mx⟩ := hI
    have o : On QM h1 x := o
    have mx : MX x T w j := mx
    have bx := b1.onQ (o.mono (fun _ _ q => q.Q))
    have hXSx := bx.S
    have g1 : ¬ nI (ns_ T) < nI (j + 1) := nI_nlt (by omega) (by omega)
    have j4 : j < 4 := by omega
    have j5 : j + 1 < 5 := by omega
    have j5' : j < 5 := by omega
    have g6 : 64 ≤ 129 + (j + 1) := by omega
    obtain ⟨z, ez, oz, mz1, mz2⟩ := run_invd (F := fun d i (x : Value × aH) => (run (d + 406) 33 41 [.ref 64, .int (nI (j + 1)), .int (nI i), x.1] [] x.2)) (I := fun i x => On QM h1 x.2 ∧ MX x.2 T w j ∧ ∀ k, k < i → hi_ x.2 (129 + (j + 1)) k = mo_ T w (j + 1) k) (n := 2 ^ ng_ T) (x := (v3, x)) ⟨o, mx, fun k hk => absurd hk (Nat.not_lt_zero k)⟩ (fun i x hi hI => by
      obtain ⟨v3, x⟩ := x
      obtain ⟨o, mx, mi⟩ := hI
      have o : On QM h1 x := o
      have mx : MX x T w j := mx
      have mi : ∀ k, k < i → hi_ x (129 + (j + 1)) k = mo_ T w (j + 1) k := mi
      have bx := b1.onQ (o.mono (fun _ _ q => q.Q))
      have hXSx := bx.S
      have g2 : ¬ nI (2 ^ ng_ T) ≤ nI i := nI_ge hi (by omega)
      have g3 : i < 128 := by omega
      have oA : On QM h1 (si_ x (129 + (j + 1)) i (nI 0)) := o.trans (On.si ⟨by omega, by omega⟩)
      -- the subsets, downwards
      obtain ⟨y, ey, oy, uy, vy⟩ := run_invd (F := fun d c (z : aH) => (run (d + 406) 33 60 [.ref 64, .int (nI (j + 1)), .int (nI i), .int (if c ≤ i then nI (i - c) else -1)] [] z)) (I := fun c z => On QM h1 z ∧ (∀ s f, s < 5 → (s ≠ j + 1 ∨ f ≠ i) → hi_ z (129 + s) f = hi_ x (129 + s) f) ∧ hi_ z (129 + (j + 1)) i = itn c (fun c b => if cb_ T w j (i - c) i = true ∧ b < pv_ T w j (i - c) + mo_ T w j (dif i (i - c)) then pv_ T w j (i - c) + mo_ T w j (dif i (i - c)) else b) (nI 0)) (n := i + 1) (x := si_ x (129 + (j + 1)) i (nI 0)) ⟨oA, fun s f hs hn => by rw [hi_si, if_neg (by omega)], by rw [hi_si, if_pos ⟨rfl, rfl⟩]; rfl⟩ (fun c z hc hI => by
        obtain ⟨o, u, v⟩ := hI
        have bz := b1.onQ (o.mono (fun _ _ q => q.Q))
        have hXSz := bz.S
        have hc' : c ≤ i := by omega
        have ec : (if c + 1 ≤ i then nI (i - (c + 1)) else (-1 : Int32)) = nI (i - c) + (-1) := by
          by_cases q : c + 1 ≤ i
          · rw [if_pos q, show i - c = (i - (c + 1)) + 1 by omega, nI_m1]
          · rw [if_neg q, show i - c = 0 by omega]; decide
        rw [itn]
        generalize itn c (fun c b => if cb_ T w j (i - c) i = true ∧ b < pv_ T w j (i - c) + mo_ T w j (dif i (i - c)) then pv_ T w j (i - c) + mo_ T w j (dif i (i - c)) else b) (nI 0) = b at v ⊢
        simp only [if_pos hc', ec]
        have hsub : i - c < 2 ^ ng_ T := by omega
        generalize i - c = sub at hsub ⊢
        have g4 : (nI sub < 0) = False := nI_lt0 (by omega)
        have g5 : sub < 128 := by omega
        have hdl : dif i sub < 2 ^ ng_ T := dif_lt hi
        have g7 : dif i sub < 128 := by omega
        have hz : dif sub i < 2147483648 := dif_lt (n := 31) (by omega)
        have f1 : hi_ z (124 + j) sub = pv_ T w j sub := (v1.on hV o nq) j hj sub hsub
        have f2 : hi_ z (129 + j) (dif i sub) = mo_ T w j (dif i sub) := (u j _ j5' (Or.inl (by omega))).trans (mx j (Nat.le_refl j) _ hdl)
        have same : ∃ y, (∀ d, (run (d + 406) 33 60 [.ref 64, .int (nI (j + 1)), .int (nI i), .int (nI sub)] [] z) = (run (d + 406) 33 60 [.ref 64, .int (nI (j + 1)), .int (nI i), .int (nI sub + (-1))] [] y)) ∧ On QM h1 y ∧ (∀ s f, s < 5 → (s ≠ j + 1 ∨ f ≠ i) → hi_ y (129 + s) f = hi_ x (129 + s) f) ∧ hi_ y (129 + (j + 1)) i = if cb_ T w j sub i = true ∧ b < pv_ T w j sub + mo_ T w j (dif i sub) then pv_ T w j sub + mo_ T w j (dif i sub) else b := by
          by_cases q1 : dif sub i = 0
          · by_cases q2 : 0 ≤ pv_ T w j sub
            · have q2' : ¬ pv_ T w j sub < 0 := Int32.not_lt.mpr q2
              have hcb : cb_ T w j sub i = true := by unfold cb_; rw [decide_eq_true q1, decide_eq_true q2]; rfl
              refine ⟨si_ z (129 + (j + 1)) i (max_ b (pv_ T w j sub + mo_ T w j (dif i sub))), fun d => ?_, o.trans (On.si ⟨by omega, by omega⟩), fun s f hs hn => by rw [hi_si, if_neg (by omega)]; exact u s f hs hn, ?_⟩
              · refine (e33_60).trans ?_
                simp only [e33_0, e33_1, e33_4, e33_5, e33_7, e33_8, e33_11, e33_14, e33_15, e33_18, e33_19, e33_20, e33_21, e33_22, e33_23, e33_26, e33_29, e33_30, e33_32, e33_33, e33_36, e33_39, e33_40, e33_42, e33_43, e33_46, e33_49, e33_50, e33_53, e33_54, e33_55, e33_56, e33_57, e33_58, e33_59, e33_61, e33_64, e33_65, e33_66, e33_67, e33_68, e33_69, e33_72, e33_73, e33_76, e33_77, e33_78, e33_79, e33_80, e33_81, e33_82, e33_85, e33_86, e33_89, e33_90, e33_91, e33_92, e33_93, e33_96, e33_97, e33_98, e33_99, e33_100, e33_101, e33_104, e33_105, e33_106, e33_107, e33_108, e33_109, e33_110, e33_111, e33_114, e33_115, e33_116, e33_117, e33_118, e33_119, e33_120, e33_121, e33_122, e33_123, e33_124, e33_125, e33_128, e33_129, e33_132, e33_135, e33_138, e33_141, e33_144, e33_147, xk_64 hXSz, xp_14 hXSz, xk_123 hXSz, xp_15 hXSz, xk_128 hXSz, ↓reduceIte, Nat.reduceAdd, Nat.reduceLeDiff, Nat.reduceLT, Nat.reduceEqDiff, not_false_eq_true, false_or, true_or, or_true, or_false, n0_e, n1_ne, n1_11, bI_z, bI_1, bI_fo, va_rf_some, aBk_1, aBk_0, nI_add, nI_mul, hk_si, hp_si, hl_si, hk_sp, hk_sl, hk_cp, hp_cp, g4, nI_dif (show i < 2 ^ 31 by omega) (show sub < 2 ^ 31 by omega), nI_dif (show sub < 2 ^ 31 by omega) (show i < 2 ^ 31 by omega), nI_z hz, q1, nI_s1, j4, j5, j5', xp_pay hXSz j4, xk_pay hXSz j4, xp_most hXSz j5, xk_most hXSz j5, xp_most hXSz j5', xk_most hXSz j5', g5, g7, g3, g6, f1, f2, v, q2']
              · rw [hi_si, if_pos ⟨rfl, rfl⟩, hcb]
                unfold max_
                simp only [true_and]
            · have q2' : pv_ T w j sub < 0 := Int32.not_le.mp q2
              have hcb : cb_ T w j sub i = false := by unfold cb_; rw [decide_eq_false q2, Bool.and_false]
              refine ⟨z, fun d => ?_, o, u, ?_⟩
              · refine (e33_60).trans ?_
                simp only [e33_0, e33_1, e33_4, e33_5, e33_7, e33_8, e33_11, e33_14, e33_15, e33_18, e33_19, e33_20, e33_21, e33_22, e33_23, e33_26, e33_29, e33_30, e33_32, e33_33, e33_36, e33_39, e33_40, e33_42, e33_43, e33_46, e33_49, e33_50, e33_53, e33_54, e33_55, e33_56, e33_57, e33_58, e33_59, e33_61, e33_64, e33_65, e33_66, e33_67, e33_68, e33_69, e33_72, e33_73, e33_76, e33_77, e33_78, e33_79, e33_80, e33_81, e33_82, e33_85, e33_86, e33_89, e33_90, e33_91, e33_92, e33_93, e33_96, e33_97, e33_98, e33_99, e33_100, e33_101, e33_104, e33_105, e33_106, e33_107, e33_108, e33_109, e33_110, e33_111, e33_114, e33_115, e33_116, e33_117, e33_118, e33_119, e33_120, e33_121, e33_122, e33_123, e33_124, e33_125, e33_128, e33_129, e33_132, e33_135, e33_138, e33_141, e33_144, e33_147, xk_64 hXSz, xp_14 hXSz, xk_123 hXSz, xp_15 hXSz, xk_128 hXSz, ↓reduceIte, Nat.reduceAdd, Nat.reduceLeDiff, Nat.reduceLT, Nat.reduceEqDiff, not_false_eq_true, false_or, true_or, or_true, or_false, n0_e, n1_ne, n1_11, bI_z, bI_1, bI_fo, va_rf_some, aBk_1, aBk_0, nI_add, nI_mul, hk_si, hp_si, hl_si, hk_sp, hk_sl, hk_cp, hp_cp, g4, nI_dif (show i < 2 ^ 31 by omega) (show sub < 2 ^ 31 by omega), nI_z hz, q1, nI_s1, j4, xp_pay hXSz j4, xk_pay hXSz j4, g5, f1, q2']
              · rw [hcb, if_neg (fun z => by cases z.1)]; exact v
          · have hcb : cb_ T w j sub i = false := by unfold cb_; rw [decide_eq_false q1, Bool.false_and]
            refine ⟨z, fun d => ?_, o, u, ?_⟩
            · refine (e33_60).trans ?_
              simp only [e33_0, e33_1, e33_4, e33_5, e33_7, e33_8, e33_11, e33_14, e33_15, e33_18, e33_19, e33_20, e33_21, e33_22, e33_23, e33_26, e33_29, e33_30, e33_32, e33_33, e33_36, e33_39, e33_40, e33_42, e33_43, e33_46, e33_49, e33_50, e33_53, e33_54, e33_55, e33_56, e33_57, e33_58, e33_59, e33_61, e33_64, e33_65, e33_66, e33_67, e33_68, e33_69, e33_72, e33_73, e33_76, e33_77, e33_78, e33_79, e33_80, e33_81, e33_82, e33_85, e33_86, e33_89, e33_90, e33_91, e33_92, e33_93, e33_96, e33_97, e33_98, e33_99, e33_100, e33_101, e33_104, e33_105, e33_106, e33_107, e33_108, e33_109, e33_110, e33_111, e33_114, e33_115, e33_116, e33_117, e33_118, e33_119, e33_120, e33_121, e33_122, e33_123, e33_124, e33_125, e33_128, e33_129, e33_132, e33_135, e33_138, e33_141, e33_144, e33_147, xk_64 hXSz, xp_14 hXSz, xk_123 hXSz, xp_15 hXSz, xk_128 hXSz, ↓reduceIte, Nat.reduceAdd, Nat.reduceLeDiff, Nat.reduceLT, Nat.reduceEqDiff, not_false_eq_true, false_or, true_or, or_true, or_false, n0_e, n1_ne, n1_11, bI_z, bI_1, bI_fo, va_rf_some, aBk_1, aBk_0, nI_add, nI_mul, hk_si, hp_si, hl_si, hk_sp, hk_sl, hk_cp, hp_cp, g4, nI_dif (show i < 2 ^ 31 by omega) (show sub < 2 ^ 31 by omega), nI_z hz, q1]
            · rw [hcb, if_neg (fun z => by cases z.1)]; exact v
        exact same)
      have bA := b1.onQ (oA.mono (fun _ _ q => q.Q))
      have hXSA := bA.S
      have by' := b1.onQ (oy.mono (fun _ _ q => q.Q))
      have hXSy := by'.S
      rw [← mo_dn] at vy
      have hm1 : ((-1 : Int32) < 0) = True := by decide
      refine ⟨(.int (-1), y), fun d => ?_, oy, ?_, ?_⟩
      · refine (e33_41).trans ?_
        simp only [e33_0, e33_1, e33_4, e33_5, e33_7, e33_8, e33_11, e33_14, e33_15, e33_18, e33_19, e33_20, e33_21, e33_22, e33_23, e33_26, e33_29, e33_30, e33_32, e33_33, e33_36, e33_39, e33_40, e33_42, e33_43, e33_46, e33_49, e33_50, e33_53, e33_54, e33_55, e33_56, e33_57, e33_58, e33_59, e33_61, e33_64, e33_65, e33_66, e33_67, e33_68, e33_69, e33_72, e33_73, e33_76, e33_77, e33_78, e33_79, e33_80, e33_81, e33_82, e33_85, e33_86, e33_89, e33_90, e33_91, e33_92, e33_93, e33_96, e33_97, e33_98, e33_99, e33_100, e33_101, e33_104, e33_105, e33_106, e33_107, e33_108, e33_109, e33_110, e33_111, e33_114, e33_115, e33_116, e33_117, e33_118, e33_119, e33_120, e33_121, e33_122, e33_123, e33_124, e33_125, e33_128, e33_129, e33_132, e33_135, e33_138, e33_141, e33_144, e33_147, xk_64 hXSx, xp_14 hXSx, xk_123 hXSx, xp_15 hXSx, xk_128 hXSx, ↓reduceIte, Nat.reduceAdd, Nat.reduceLeDiff, Nat.reduceLT, Nat.reduceEqDiff, not_false_eq_true, false_or, true_or, or_true, or_false, n0_e, n1_ne, n1_11, bI_z, bI_1, bI_fo, va_rf_some, aBk_1, aBk_0, nI_add, nI_mul, hk_si, hp_si, hl_si, hk_sp, hk_sl, hk_cp, hp_cp, x_sets bx, g2, g3, j5, xp_most hXSx j5, xk_most hXSx j5, g6]
        have e0 := ey d
        simp only [Nat.zero_le, ↓reduceIte, Nat.sub_zero, show ¬ i + 1 ≤ i by omega] at e0
        refine e0.trans ?_
        refine (e33_60).trans ?_
        simp only [e33_0, e33_1, e33_4, e33_5, e33_7, e33_8, e33_11, e33_14, e33_15, e33_18, e33_19, e33_20, e33_21, e33_22, e33_23, e33_26, e33_29, e33_30, e33_32, e33_33, e33_36, e33_39, e33_40, e33_42, e33_43, e33_46, e33_49, e33_50, e33_53, e33_54, e33_55, e33_56, e33_57, e33_58, e33_59, e33_61, e33_64, e33_65, e33_66, e33_67, e33_68, e33_69, e33_72, e33_73, e33_76, e33_77, e33_78, e33_79, e33_80, e33_81, e33_82, e33_85, e33_86, e33_89, e33_90, e33_91, e33_92, e33_93, e33_96, e33_97, e33_98, e33_99, e33_100, e33_101, e33_104, e33_105, e33_106, e33_107, e33_108, e33_109, e33_110, e33_111, e33_114, e33_115, e33_116, e33_117, e33_118, e33_119, e33_120, e33_121, e33_122, e33_123, e33_124, e33_125, e33_128, e33_129, e33_132, e33_135, e33_138, e33_141, e33_144, e33_147, ↓reduceIte, Nat.reduceAdd, Nat.reduceLeDiff, Nat.reduceLT, Nat.reduceEqDiff, not_false_eq_true, false_or, true_or, or_true, or_false, n0_e, n1_ne, n1_11, bI_z, bI_1, bI_fo, va_rf_some, aBk_1, aBk_0, nI_add, nI_mul, hk_si, hp_si, hl_si, hk_sp, hk_sl, hk_cp, hp_cp, hm1]
      · intro s hs k hk
        exact (uy s k (by omega) (Or.inl (by omega))).trans (mx s hs k hk)
      · intro k hk
        by_cases q : k = i
        · rw [q]; exact vy
        · exact (uy (j + 1) k j5 (Or.inr q)).trans (mi k (by omega)))
    obtain ⟨u3, z⟩ := z
    have oz : On QM h1 z := oz
    have mz1 : MX z T w j := mz1
    have mz2 : ∀ k, k < 2 ^ ng_ T → hi_ z (129 + (j + 1)) k = mo_ T w (j + 1) k := mz2
    have bz := b1.onQ (oz.mono (fun _ _ q => q.Q))
    have hXSz := bz.S
    refine ⟨((.int (nI (2 ^ ng_ T)), u3), z), fun d => ?_, oz, ?_⟩
    · refine (e33_31).trans ?_
      simp only [e33_0, e33_1, e33_4, e33_5, e33_7, e33_8, e33_11, e33_14, e33_15, e33_18, e33_19, e33_20, e33_21, e33_22, e33_23, e33_26, e33_29, e33_30, e33_32, e33_33, e33_36, e33_39, e33_40, e33_42, e33_43, e33_46, e33_49, e33_50, e33_53, e33_54, e33_55, e33_56, e33_57, e33_58, e33_59, e33_61, e33_64, e33_65, e33_66, e33_67, e33_68, e33_69, e33_72, e33_73, e33_76, e33_77, e33_78, e33_79, e33_80, e33_81, e33_82, e33_85, e33_86, e33_89, e33_90, e33_91, e33_92, e33_93, e33_96, e33_97, e33_98, e33_99, e33_100, e33_101, e33_104, e33_105, e33_106, e33_107, e33_108, e33_109, e33_110, e33_111, e33_114, e33_115, e33_116, e33_117, e33_118, e33_119, e33_120, e33_121, e33_122, e33_123, e33_124, e33_125, e33_128, e33_129, e33_132, e33_135, e33_138, e33_141, e33_144, e33_147, xk_64 hXSx, xp_14 hXSx, xk_123 hXSx, xp_15 hXSx, xk_128 hXSx, ↓reduceIte, Nat.reduceAdd, Nat.reduceLeDiff, Nat.reduceLT, Nat.reduceEqDiff, not_false_eq_true, false_or, true_or, or_true, or_false, n0_e, n1_ne, n1_11, bI_z, bI_1, bI_fo, va_rf_some, aBk_1, aBk_0, nI_add, nI_mul, hk_si, hp_si, hl_si, hk_sp, hk_sl, hk_cp, hp_cp, x_sundays bx, g1]
      refine (ez d).trans ?_
      refine (e33_41).trans ?_
      simp only [e33_0, e33_1, e33_4, e33_5, e33_7, e33_8, e33_11, e33_14, e33_15, e33_18, e33_19, e33_20, e33_21, e33_22, e33_23, e33_26, e33_29, e33_30, e33_32, e33_33, e33_36, e33_39, e33_40, e33_42, e33_43, e33_46, e33_49, e33_50, e33_53, e33_54, e33_55, e33_56, e33_57, e33_58, e33_59, e33_61, e33_64, e33_65, e33_66, e33_67, e33_68, e33_69, e33_72, e33_73, e33_76, e33_77, e33_78, e33_79, e33_80, e33_81, e33_82, e33_85, e33_86, e33_89, e33_90, e33_91, e33_92, e33_93, e33_96, e33_97, e33_98, e33_99, e33_100, e33_101, e33_104, e33_105, e33_106, e33_107, e33_108, e33_109, e33_110, e33_111, e33_114, e33_115, e33_116, e33_117, e33_118, e33_119, e33_120, e33_121, e33_122, e33_123, e33_124, e33_125, e33_128, e33_129, e33_132, e33_135, e33_138, e33_141, e33_144, e33_147, xk_64 hXSz, xp_14 hXSz, xk_123 hXSz, xp_15 hXSz, xk_128 hXSz, ↓reduceIte, Nat.reduceAdd, Nat.reduceLeDiff, Nat.reduceLT, Nat.reduceEqDiff, not_false_eq_true, false_or, true_or, or_true, or_false, n0_e, n1_ne, n1_11, bI_z, bI_1, bI_fo, va_rf_some, aBk_1, aBk_0, nI_add, nI_mul, hk_si, hp_si, hl_si, hk_sp, hk_sl, hk_cp, hp_cp, x_sets bz, Int32.le_refl]
    · intro s hs k hk
      by_cases q : s = j + 1
      · rw [q]; exact mz2 k hk
      · exact mz1 s (by omega) k hk)
  obtain ⟨⟨v2, v3⟩, y⟩ := y
  have oy : On QM h1 y := oy
  have my : MX y T w (ns_ T) := my
  have by' := b1.onQ (oy.mono (fun _ _ q => q.Q))
  have hXSy := by'.S
  have gl : nI (ns_ T) < nI (ns_ T + 1) := nI_lt (by omega) (by omega)
  refine ⟨y, fun d => ?_, o1.trans (oy.mono (fun _ _ q => q.Q)), v1.on hV oy nq, my⟩
  simp only [e33_0, e33_1, e33_4, e33_5, e33_7, e33_8, e33_11, e33_14, e33_15, e33_18, e33_19, e33_20, e33_21, e33_22, e33_23, e33_26, e33_29, e33_30, e33_32, e33_33, e33_36, e33_39, e33_40, e33_42, e33_43, e33_46, e33_49, e33_50, e33_53, e33_54, e33_55, e33_56, e33_57, e33_58, e33_59, e33_61, e33_64, e33_65, e33_66, e33_67, e33_68, e33_69, e33_72, e33_73, e33_76, e33_77, e33_78, e33_79, e33_80, e33_81, e33_82, e33_85, e33_86, e33_89, e33_90, e33_91, e33_92, e33_93, e33_96, e33_97, e33_98, e33_99, e33_100, e33_101, e33_104, e33_105, e33_106, e33_107, e33_108, e33_109, e33_110, e33_111, e33_114, e33_115, e33_116, e33_117, e33_118, e33_119, e33_120, e33_121, e33_122, e33_123, e33_124, e33_125, e33_128, e33_129, e33_132, e33_135, e33_138, e33_141, e33_144, e33_147, xk_64 hXS, xp_14 hXS, xk_123 hXS, xp_15 hXS, xk_128 hXS, ↓reduceIte, Nat.reduceAdd, Nat.reduceLeDiff, Nat.reduceLT, Nat.reduceEqDiff, not_false_eq_true, false_or, true_or, or_true, or_false, n0_e, n1_ne, n1_11, bI_z, bI_1, bI_fo, va_rf_some, aBk_1, aBk_0, nI_add, nI_mul, hk_si, hp_si, hl_si, hk_sp, hk_sl, hk_cp, hp_cp, e1]
  refine (e2 d).trans ?_
  refine (e33_6).trans ?_
  simp only [e33_0, e33_1, e33_4, e33_5, e33_7, e33_8, e33_11, e33_14, e33_15, e33_18, e33_19, e33_20, e33_21, e33_22, e33_23, e33_26, e33_29, e33_30, e33_32, e33_33, e33_36, e33_39, e33_40, e33_42, e33_43, e33_46, e33_49, e33_50, e33_53, e33_54, e33_55, e33_56, e33_57, e33_58, e33_59, e33_61, e33_64, e33_65, e33_66, e33_67, e33_68, e33_69, e33_72, e33_73, e33_76, e33_77, e33_78, e33_79, e33_80, e33_81, e33_82, e33_85, e33_86, e33_89, e33_90, e33_91, e33_92, e33_93, e33_96, e33_97, e33_98, e33_99, e33_100, e33_101, e33_104, e33_105, e33_106, e33_107, e33_108, e33_109, e33_110, e33_111, e33_114, e33_115, e33_116, e33_117, e33_118, e33_119, e33_120, e33_121, e33_122, e33_123, e33_124, e33_125, e33_128, e33_129, e33_132, e33_135, e33_138, e33_141, e33_144, e33_147, xk_64 hXS2, xp_14 hXS2, xk_123 hXS2, xp_15 hXS2, xk_128 hXS2, ↓reduceIte, Nat.reduceAdd, Nat.reduceLeDiff, Nat.reduceLT, Nat.reduceEqDiff, not_false_eq_true, false_or, true_or, or_true, or_false, n0_e, n1_ne, n1_11, bI_z, bI_1, bI_fo, va_rf_some, aBk_1, aBk_0, nI_add, nI_mul, hk_si, hp_si, hl_si, hk_sp, hk_sl, hk_cp, hp_cp, x_sets b2, Int32.le_refl]
  refine (e d).trans ?_
  refine (e33_31).trans ?_
  simp only [e33_0, e33_1, e33_4, e33_5, e33_7, e33_8, e33_11, e33_14, e33_15, e33_18, e33_19, e33_20, e33_21, e33_22, e33_23, e33_26, e33_29, e33_30, e33_32, e33_33, e33_36, e33_39, e33_40, e33_42, e33_43, e33_46, e33_49, e33_50, e33_53, e33_54, e33_55, e33_56, e33_57, e33_58, e33_59, e33_61, e33_64, e33_65, e33_66, e33_67, e33_68, e33_69, e33_72, e33_73, e33_76, e33_77, e33_78, e33_79, e33_80, e33_81, e33_82, e33_85, e33_86, e33_89, e33_90, e33_91, e33_92, e33_93, e33_96, e33_97, e33_98, e33_99, e33_100, e33_101, e33_104, e33_105, e33_106, e33_107, e33_108, e33_109, e33_110, e33_111, e33_114, e33_115, e33_116, e33_117, e33_118, e33_119, e33_120, e33_121, e33_122, e33_123, e33_124, e33_125, e33_128, e33_129, e33_132, e33_135, e33_138, e33_141, e33_144, e33_147, xk_64 hXSy, xp_14 hXSy, xk_123 hXSy, xp_15 hXSy, xk_128 hXSy, ↓reduceIte, Nat.reduceAdd, Nat.reduceLeDiff, Nat.reduceLT, Nat.reduceEqDiff, not_false_eq_true, false_or, true_or, or_true, or_false, n0_e, n1_ne, n1_11, bI_z, bI_1, bI_fo, va_rf_some, aBk_1, aBk_0, nI_add, nI_mul, hk_si, hp_si, hl_si, hk_sp, hk_sl, hk_cp, hp_cp, x_sundays by', gl]
theorem x_lastOf (hB : XB h T w tx sa ga la qs qg) (hp : PL h T w) (hm : MX h T w (ns_ T)) {s of : Nat} (hs : s < ns_ T) (ho : of < 2 ^ ng_ T) : (run (d) 34 0 [.ref 64, .int (nI (s + 1)), .int (nI of), aU] [] h) = some (.returned (some (.int (nI (lf_ T w s of)))), h) := by
  have hXS := hB.S
  have h4 := hB.X.ns4
  have h128 := x27 hB
  have s4 : s < 4 := by omega
  have s5 : s < 5 := by omega
  have s5' : s + 1 < 5 := by omega
  simp only [e34_0, e34_1, e34_3, e34_4, e34_5, e34_6, e34_7, e34_10, e34_11, e34_14, e34_15, e34_16, e34_17, e34_18, e34_19, e34_20, e34_23, e34_24, e34_27, e34_28, e34_29, e34_30, e34_31, e34_32, e34_33, e34_34, e34_37, e34_38, e34_39, e34_40, e34_41, e34_42, e34_43, e34_44, e34_45, e34_46, e34_47, e34_48, e34_49, e34_52, e34_53, e34_54, e34_55, e34_56, e34_59, e34_62, e34_65, e34_66, ↓reduceIte, Nat.reduceAdd, Nat.reduceLeDiff, Nat.reduceLT, Nat.reduceEqDiff, not_false_eq_true, false_or, true_or, or_true, or_false, n0_e, n1_ne, n1_11, bI_z, bI_1, bI_fo, va_rf_some, aBk_1, aBk_0, nI_add, nI_mul, hk_si, hp_si, hl_si, hk_sp, hk_sl, hk_cp, hp_cp]
  refine (run_find (F := fun j => (run (d) 34 2 [.ref 64, .int (nI (s + 1)), .int (nI of), .int (nI j)] [] h)) (R := fun j => some (.returned (some (.int (nI j))), h)) (P := lfP T w s of) (n := of + 1) (fun j hj => ?_)).trans ?_
  · have hz : dif j of < 2147483648 := dif_lt (n := 31) (by omega)
    have g5 : j < 128 := by omega
    have hdl : dif of j < 2 ^ ng_ T := dif_lt ho
    have g7 : dif of j < 128 := by omega
    have g8 : of < 128 := by omega
    have f1 := hp s hs j (by omega)
    have f2 := hm s (by omega) _ hdl
    have f3 := hm (s + 1) (by omega) of ho
    unfold lfP cb_
    refine (e34_2).trans ?_
    by_cases q1 : dif j of = 0
    · by_cases q2 : 0 ≤ pv_ T w s j
      · have q2' : ¬ pv_ T w s j < 0 := Int32.not_lt.mpr q2
        by_cases q3 : pv_ T w s j + mo_ T w s (dif of j) = mo_ T w (s + 1) of
        · simp only [e34_0, e34_1, e34_3, e34_4, e34_5, e34_6, e34_7, e34_10, e34_11, e34_14, e34_15, e34_16, e34_17, e34_18, e34_19, e34_20, e34_23, e34_24, e34_27, e34_28, e34_29, e34_30, e34_31, e34_32, e34_33, e34_34, e34_37, e34_38, e34_39, e34_40, e34_41, e34_42, e34_43, e34_44, e34_45, e34_46, e34_47, e34_48, e34_49, e34_52, e34_53, e34_54, e34_55, e34_56, e34_59, e34_62, e34_65, e34_66, xk_64 hXS, xp_14 hXS, xk_123 hXS, xp_15 hXS, xk_128 hXS, ↓reduceIte, Nat.reduceAdd, Nat.reduceLeDiff, Nat.reduceLT, Nat.reduceEqDiff, not_false_eq_true, false_or, true_or, or_true, or_false, n0_e, n1_ne, n1_11, bI_z, bI_1, bI_fo, va_rf_some, aBk_1, aBk_0, nI_add, nI_mul, hk_si, hp_si, hl_si, hk_sp, hk_sl, hk_cp, hp_cp, nI_dif (show of < 2 ^ 31 by omega) (show j < 2 ^ 31 by omega), nI_dif (show j < 2 ^ 31 by omega) (show of < 2 ^ 31 by omega), nI_z hz, q1, nI_s1, s4, s5, s5', xp_pay hXS s4, xk_pay hXS s4, xp_most hXS s5, xk_most hXS s5, xp_most hXS s5', xk_most hXS s5', g5, g7, g8, f1, f2, f3, q2, q2', q3, decide_true, Bool.and_self]
        · simp only [e34_0, e34_1, e34_3, e34_4, e34_5, e34_6, e34_7, e34_10, e34_11, e34_14, e34_15, e34_16, e34_17, e34_18, e34_19, e34_20, e34_23, e34_24, e34_27, e34_28, e34_29, e34_30, e34_31, e34_32, e34_33, e34_34, e34_37, e34_38, e34_39, e34_40, e34_41, e34_42, e34_43, e34_44, e34_45, e34_46, e34_47, e34_48, e34_49, e34_52, e34_53, e34_54, e34_55, e34_56, e34_59, e34_62, e34_65, e34_66, xk_64 hXS, xp_14 hXS, xk_123 hXS, xp_15 hXS, xk_128 hXS, ↓reduceIte, Nat.reduceAdd, Nat.reduceLeDiff, Nat.reduceLT, Nat.reduceEqDiff, not_false_eq_true, false_or, true_or, or_true, or_false, n0_e, n1_ne, n1_11, bI_z, bI_1, bI_fo, va_rf_some, aBk_1, aBk_0, nI_add, nI_mul, hk_si, hp_si, hl_si, hk_sp, hk_sl, hk_cp, hp_cp, nI_dif (show of < 2 ^ 31 by omega) (show j < 2 ^ 31 by omega), nI_dif (show j < 2 ^ 31 by omega) (show of < 2 ^ 31 by omega), nI_z hz, q1, nI_s1, s4, s5, s5', xp_pay hXS s4, xk_pay hXS s4, xp_most hXS s5, xk_most hXS s5, xp_most hXS s5', xk_most hXS s5', g5, g7, g8, f1, f2, f3, q2, q2', q3, decide_true, decide_false, Bool.and_self, Bool.and_false, reduceCtorEq]
      · have q2' : pv_ T w s j < 0 := Int32.not_le.mp q2
        simp only [e34_0, e34_1, e34_3, e34_4, e34_5, e34_6, e34_7, e34_10, e34_11, e34_14, e34_15, e34_16, e34_17, e34_18, e34_19, e34_20, e34_23, e34_24, e34_27, e34_28, e34_29, e34_30, e34_31, e34_32, e34_33, e34_34, e34_37, e34_38, e34_39, e34_40, e34_41, e34_42, e34_43, e34_44, e34_45, e34_46, e34_47, e34_48, e34_49, e34_52, e34_53, e34_54, e34_55, e34_56, e34_59, e34_62, e34_65, e34_66, xk_64 hXS, xp_14 hXS, xk_123 hXS, xp_15 hXS, xk_128 hXS, ↓reduceIte, Nat.reduceAdd, Nat.reduceLeDiff, Nat.reduceLT, Nat.reduceEqDiff, not_false_eq_true, false_or, true_or, or_true, or_false, n0_e, n1_ne, n1_11, bI_z, bI_1, bI_fo, va_rf_some, aBk_1, aBk_0, nI_add, nI_mul, hk_si, hp_si, hl_si, hk_sp, hk_sl, hk_cp, hp_cp, nI_dif (show of < 2 ^ 31 by omega) (show j < 2 ^ 31 by omega), nI_z hz, q1, nI_s1, s4, xp_pay hXS s4, xk_pay hXS s4, g5, f1, q2, q2', decide_true, decide_false, Bool.and_false, Bool.false_and, reduceCtorEq]
    · simp only [e34_0, e34_1, e34_3, e34_4, e34_5, e34_6, e34_7, e34_10, e34_11, e34_14, e34_15, e34_16, e34_17, e34_18, e34_19, e34_20, e34_23, e34_24, e34_27, e34_28, e34_29, e34_30, e34_31, e34_32, e34_33, e34_34, e34_37, e34_38, e34_39, e34_40, e34_41, e34_42, e34_43, e34_44, e34_45, e34_46, e34_47, e34_48, e34_49, e34_52, e34_53, e34_54, e34_55, e34_56, e34_59, e34_62, e34_65, e34_66, xk_64 hXS, xp_14 hXS, xk_123 hXS, xp_15 hXS, xk_128 hXS, ↓reduceIte, Nat.reduceAdd, Nat.reduceLeDiff, Nat.reduceLT, Nat.reduceEqDiff, not_false_eq_true, false_or, true_or, or_true, or_false, n0_e, n1_ne, n1_11, bI_z, bI_1, bI_fo, va_rf_some, aBk_1, aBk_0, nI_add, nI_mul, hk_si, hp_si, hl_si, hk_sp, hk_sl, hk_cp, hp_cp, nI_dif (show of < 2 ^ 31 by omega) (show j < 2 ^ 31 by omega), nI_z hz, q1, decide_false, Bool.false_and, reduceCtorEq]
  · rw [lf_f]
/-- X begins with all, the dead among them -/
def letx_ (T : aTx) (w : Nat → Int32) (i : Nat) : Nat := itn (ns_ T - 1 - i) (fun k of => dif of (lf_ T w (ns_ T - 1 - k) of)) (2 ^ ng_ T - 1)
def qLetX (T : aTx) (w : Nat → Int32) (i : Int32) : Int32 := if i = -1 then mo_ T w (ns_ T) (2 ^ ng_ T - 1) else if isS T i = true then nI (lf_ T w (kk i) (letx_ T w (kk i))) else -1
theorem letx_b : ∀ j, itn j (fun k of => dif of (lf_ T w (ns_ T - 1 - k) of)) (2 ^ ng_ T - 1) < 2 ^ ng_ T := by
  intro j
  induction j with
  | zero => have : 1 ≤ 2 ^ ng_ T := Nat.one_le_two_pow; show 2 ^ ng_ T - 1 < _; omega
  | succ j ih => exact dif_lt ih
theorem x_letting (hB : XB h T w tx sa ga la qs qg) (hW : WV T w) (i : Int32) : ∃ h', (∀ d, (run (d + 407) 32 0 [.ref 64, .int i, aU, aU] [] h) = some (.returned (some (.int (qLetX T w i))), h')) ∧ On QX h h' := by
  have hXS := hB.S
  have hT := hB.X
  have h7 := hT.ng7
  have h4 := hT.ns4
  have h128 := x27 hB
  have hp1 : 1 ≤ 2 ^ ng_ T := Nat.one_le_two_pow
  unfold qLetX
  by_cases q : i = -1
  · rw [if_pos q]
    obtain ⟨h1, e1, o1, v1, m1⟩ := x_laysMost hB hW
    have b1 := hB.onQ o1
    have hXS1 := b1.S
    have n5 : ns_ T < 5 := by omega
    have g1 : 2 ^ ng_ T - 1 < 128 := by omega
    refine ⟨h1, fun d => ?_, o1⟩
    simp only [e32_0, e32_1, e32_2, e32_5, e32_6, e32_7, e32_10, e32_13, e32_14, e32_15, e32_16, e32_19, e32_20, e32_23, e32_24, e32_25, e32_26, e32_27, e32_28, e32_31, e32_32, e32_35, e32_36, e32_39, e32_40, e32_41, e32_42, e32_43, e32_44, e32_47, e32_49, e32_50, e32_51, e32_52, e32_55, e32_56, e32_57, e32_58, e32_59, e32_62, e32_63, e32_64, e32_65, e32_66, e32_69, e32_72, e32_73, e32_74, e32_75, e32_76, e32_77, e32_80, xk_64 hXS, xp_15 hXS, xk_128 hXS, xk_64 hXS1, xp_15 hXS1, xk_128 hXS1, ↓reduceIte, Nat.reduceAdd, Nat.reduceLeDiff, Nat.reduceLT, Nat.reduceEqDiff, not_false_eq_true, false_or, true_or, or_true, or_false, n0_e, n1_ne, n1_11, bI_z, bI_1, bI_fo, va_rf_some, aBk_1, aBk_0, nI_add, nI_mul, hk_si, hp_si, hl_si, hk_sp, hk_sl, hk_cp, hp_cp, q, e1, x_sets b1, nI_sub hp1, x_sundays b1, n5, xp_most hXS1 n5, xk_most hXS1 n5, g1, m1 _ (Nat.le_refl _) _ (show 2 ^ ng_ T - 1 < 2 ^ ng_ T by omega)]
  · rw [if_neg q]
    cases hq : isS T i with
    | false =>
      refine ⟨h, fun d => ?_, On.refl⟩
      simp only [e32_0, e32_1, e32_2, e32_5, e32_6, e32_7, e32_10, e32_13, e32_14, e32_15, e32_16, e32_19, e32_20, e32_23, e32_24, e32_25, e32_26, e32_27, e32_28, e32_31, e32_32, e32_35, e32_36, e32_39, e32_40, e32_41, e32_42, e32_43, e32_44, e32_47, e32_49, e32_50, e32_51, e32_52, e32_55, e32_56, e32_57, e32_58, e32_59, e32_62, e32_63, e32_64, e32_65, e32_66, e32_69, e32_72, e32_73, e32_74, e32_75, e32_76, e32_77, e32_80, xk_64 hXS, xp_15 hXS, xk_128 hXS, ↓reduceIte, Nat.reduceAdd, Nat.reduceLeDiff, Nat.reduceLT, Nat.reduceEqDiff, not_false_eq_true, false_or, true_or, or_true, or_false, n0_e, n1_ne, n1_11, bI_1, bI_fo, va_rf_some, aBk_1, aBk_0, nI_add, nI_mul, hk_si, hp_si, hl_si, hk_sp, hk_sl, hk_cp, hp_cp, q, x_isSunday hB, hq, bI_z, reduceCtorEq]
    | true =>
      obtain ⟨k, hk, rfl⟩ := isS_n hT.v hq
      rw [if_pos rfl, kk_n (by omega)]
      obtain ⟨h1, e1, o1, v1, m1⟩ := x_laysMost hB hW
      have b1 := hB.onQ o1
      have hXS1 := b1.S
      refine ⟨h1, fun d => ?_, o1⟩
      have e0 : ns_ T = (ns_ T - 1 - 0) + 1 := by omega
      simp only [e32_0, e32_1, e32_2, e32_5, e32_6, e32_7, e32_10, e32_13, e32_14, e32_15, e32_16, e32_19, e32_20, e32_23, e32_24, e32_25, e32_26, e32_27, e32_28, e32_31, e32_32, e32_35, e32_36, e32_39, e32_40, e32_41, e32_42, e32_43, e32_44, e32_47, e32_49, e32_50, e32_51, e32_52, e32_55, e32_56, e32_57, e32_58, e32_59, e32_62, e32_63, e32_64, e32_65, e32_66, e32_69, e32_72, e32_73, e32_74, e32_75, e32_76, e32_77, e32_80, xk_64 hXS, xp_15 hXS, xk_128 hXS, xk_64 hXS1, xp_15 hXS1, xk_128 hXS1, ↓reduceIte, Nat.reduceAdd, Nat.reduceLeDiff, Nat.reduceLT, Nat.reduceEqDiff, not_false_eq_true, false_or, true_or, or_true, or_false, n0_e, n1_ne, n1_11, bI_1, bI_fo, va_rf_some, aBk_1, aBk_0, nI_add, nI_mul, hk_si, hp_si, hl_si, hk_sp, hk_sl, hk_cp, hp_cp, q, x_isSunday hB, hq, bI_z, reduceCtorEq, e1, x_sets b1, nI_sub hp1, x_sundays b1]
      refine Eq.trans ?_ ((run_for (F := fun j of => (run (d + 407) 32 48 [.ref 64, .int (nI k), .int (nI of), .int (nI ((ns_ T - 1 - j) + 1))] [] h1)) (f := fun j of => dif of (lf_ T w (ns_ T - 1 - j) of)) (a := 2 ^ ng_ T - 1) (n := ns_ T - 1 - k) (fun j hj => ?_)).trans ?_)
      · rw [← e0]
      · have hb := letx_b (T := T) (w := w) j
        generalize itn j (fun k of => dif of (lf_ T w (ns_ T - 1 - k) of)) (2 ^ ng_ T - 1) = of at hb ⊢
        have g1 : ¬ nI ((ns_ T - 1 - j) + 1) ≤ nI (k + 1) := nI_ge (by omega) (by omega)
        have hlf := (lf_s (T := T) (w := w) (ns_ T - 1 - j) of).1
        have ed : nI (ns_ T - 1 - j) = nI ((ns_ T - 1 - (j + 1)) + 1) := by congr 1; omega
        refine (e32_48).trans ?_
        simp only [e32_0, e32_1, e32_2, e32_5, e32_6, e32_7, e32_10, e32_13, e32_14, e32_15, e32_16, e32_19, e32_20, e32_23, e32_24, e32_25, e32_26, e32_27, e32_28, e32_31, e32_32, e32_35, e32_36, e32_39, e32_40, e32_41, e32_42, e32_43, e32_44, e32_47, e32_49, e32_50, e32_51, e32_52, e32_55, e32_56, e32_57, e32_58, e32_59, e32_62, e32_63, e32_64, e32_65, e32_66, e32_69, e32_72, e32_73, e32_74, e32_75, e32_76, e32_77, e32_80, xk_64 hXS1, xp_15 hXS1, xk_128 hXS1, ↓reduceIte, Nat.reduceAdd, Nat.reduceLeDiff, Nat.reduceLT, Nat.reduceEqDiff, not_false_eq_true, false_or, true_or, or_true, or_false, n0_e, n1_ne, n1_11, bI_z, bI_1, bI_fo, va_rf_some, aBk_1, aBk_0, nI_add, nI_mul, hk_si, hp_si, hl_si, hk_sp, hk_sl, hk_cp, hp_cp, g1, x_lastOf b1 v1 m1 (show ns_ T - 1 - j < ns_ T by omega) hb, nI_dif (show lf_ T w (ns_ T - 1 - j) of < 2 ^ 31 by omega) (show of < 2 ^ 31 by omega), nI_m1, ed]
      · have hb := letx_b (T := T) (w := w) (ns_ T - 1 - k)
        have e : itn (ns_ T - 1 - k) (fun k of => dif of (lf_ T w (ns_ T - 1 - k) of)) (2 ^ ng_ T - 1) = letx_ T w k := rfl
        rw [e] at hb ⊢
        rw [show ns_ T - 1 - (ns_ T - 1 - k) = k by omega]
        refine (e32_48).trans ?_
        simp only [e32_0, e32_1, e32_2, e32_5, e32_6, e32_7, e32_10, e32_13, e32_14, e32_15, e32_16, e32_19, e32_20, e32_23, e32_24, e32_25, e32_26, e32_27, e32_28, e32_31, e32_32, e32_35, e32_36, e32_39, e32_40, e32_41, e32_42, e32_43, e32_44, e32_47, e32_49, e32_50, e32_51, e32_52, e32_55, e32_56, e32_57, e32_58, e32_59, e32_62, e32_63, e32_64, e32_65, e32_66, e32_69, e32_72, e32_73, e32_74, e32_75, e32_76, e32_77, e32_80, xk_64 hXS1, xp_15 hXS1, xk_128 hXS1, ↓reduceIte, Nat.reduceAdd, Nat.reduceLeDiff, Nat.reduceLT, Nat.reduceEqDiff, not_false_eq_true, false_or, true_or, or_true, or_false, n0_e, n1_ne, n1_11, bI_z, bI_1, bI_fo, va_rf_some, aBk_1, aBk_0, nI_add, nI_mul, hk_si, hp_si, hl_si, hk_sp, hk_sl, hk_cp, hp_cp, Int32.le_refl, x_lastOf b1 v1 m1 hk hb]
end XB_
