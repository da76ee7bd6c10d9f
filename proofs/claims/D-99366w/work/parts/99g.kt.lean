set_option maxRecDepth 100000
/-! X: reading (21): bytes and words -/
def wd (k : Nat) : List Nat := ([[115, 117, 110, 100, 97, 121], [103, 117, 101, 115, 116], [102, 111, 101, 115], [112, 97, 121, 115], [114, 101, 115, 116, 115], [119, 101, 97, 114, 115], [115, 101, 108, 108, 115], [100, 101, 97, 116, 104], [115, 101, 101, 100], [105, 102], [116, 104, 101, 110], [101, 108, 115, 101], [102, 101, 101], [104, 111, 117, 114, 115], [104, 111, 117, 114], [114, 101, 115, 116, 101, 100], [119, 111, 114, 110], [119, 111, 114, 116, 104], [119, 101, 101, 107], [119, 104, 105, 99, 104], [111, 116, 104, 101, 114, 115]] : List (List Nat)).getD k []
def wdc (k i : Nat) : Nat := (wd k).getD i 0
theorem wd_ok : ∀ k, k < 21 → (wd k).length ≤ 6 ∧ (wd k).length ≠ 0 ∧ mKy k = lN (nmW (wdc k) (wd k).length) ∧ ∀ i, i < (wd k).length → isL (wdc k i) = true := by decide
/-- a word lies there -/
def wmt (β : Nat → Nat) (a m k : Nat) : Bool := eqW (wdc k) (wd k).length (fun i => β (a + i)) m
def wordX (β : Nat → Nat) (a m : Nat) : Option Nat := fnd (wmt β a m) 21 0
theorem mKy_i : ∀ k, k < 21 → ∀ l, l < 21 → mKy k = mKy l → k = l := by decide
theorem kyz_some {v k : Nat} (hk : k < 21) (h : mKy k = lN v) : kyz v = 20 + k := by
  have : ∀ m, m ≤ 21 → itn m (fun k a => if mKy k = lN v then 20 + k else a) 1 = if k < m then 20 + k else 1 := by
    intro m
    induction m with
    | zero => intro _; rfl
    | succ m ih =>
      intro hm
      show (if mKy m = lN v then 20 + m else itn m _ 1) = _
      by_cases q : m = k
      · subst q; rw [if_pos h, if_pos (Nat.lt_succ_self _)]
      · rw [if_neg (fun z => q (mKy_i m (by omega) k hk (z.trans h.symm))), ih (by omega)]
        by_cases q2 : k < m
        · rw [if_pos q2, if_pos (by omega)]
        · rw [if_neg q2, if_neg (by omega)]
  exact (this 21 (Nat.le_refl _)).trans (if_pos hk)
theorem kyz_none {v : Nat} (h : ∀ k, k < 21 → mKy k ≠ lN v) : kyz v = 1 := by
  have : ∀ m, m ≤ 21 → itn m (fun k a => if mKy k = lN v then 20 + k else a) 1 = 1 := by
    intro m
    induction m with
    | zero => intro _; rfl
    | succ m ih =>
      intro hm
      show (if mKy m = lN v then 20 + m else itn m _ 1) = _
      rw [if_neg (h m (by omega))]; exact ih (by omega)
  exact this 21 (Nat.le_refl _)
section KT
variable {β : Nat → Nat} {a m n : Nat}
theorem wmt_iff (hm : m ≤ 8) (hl : ∀ i, i < m → isL (β (a + i)) = true) {k : Nat} (hk : k < 21) : wmt β a m k = true ↔ mKy k = lN (nmN β a m) := by
  obtain ⟨w1, -, w2, w3⟩ := wd_ok k hk
  unfold wmt
  rw [eqW_iff, w2, nmN_W]
  have l1 := nmW_b (w := wdc k) _ w3
  have l2 := nmW_b (w := fun i => β (a + i)) m hl
  have p1 : 27 ^ (wd k).length ≤ 27 ^ 8 := Nat.pow_le_pow_right (by decide) (by omega)
  have p2 : 27 ^ m ≤ 27 ^ 8 := Nat.pow_le_pow_right (by decide) hm
  have p3 : (27 : Nat) ^ 8 < 2 ^ 63 := by decide
  constructor
  · rintro ⟨e1, e2⟩
    congr 1
    have : ∀ j, j ≤ (wd k).length → nmW (wdc k) j = nmW (fun i => β (a + i)) j := by
      intro j
      induction j with
      | zero => intro _; rfl
      | succ j ih => intro hj; show 27 * nmW (wdc k) j + _ = 27 * nmW _ j + _; rw [ih (by omega), e2 j (by omega)]
    rw [this _ (Nat.le_refl _), e1]
  · intro z
    exact nmW_i _ m w3 hl (lN_i63 (by omega) (by omega) z)
theorem wordX_some (hm : m ≤ 8) (hl : ∀ i, i < m → isL (β (a + i)) = true) {k : Nat} (h : wordX β a m = some k) : k < 21 ∧ kyz (nmN β a m) = 20 + k := by
  obtain ⟨-, h1, h2, -⟩ := fnd_some _ _ _ h
  have hk : k < 21 := by omega
  exact ⟨hk, kyz_some hk ((wmt_iff hm hl hk).mp h2)⟩
theorem wordX_none (hm : m ≤ 8) (hl : ∀ i, i < m → isL (β (a + i)) = true) (h : wordX β a m = none) : kyz (nmN β a m) = 1 := by
  have h0 := fnd_none _ _ h
  refine kyz_none (fun k hk z => ?_)
  have := (wmt_iff hm hl hk).mpr z
  rw [h0 k (Nat.zero_le _) (by omega)] at this
  cases this
theorem wordX_long (hm : 8 < m) : wordX β a m = none := fnd_nn (fun k hk => by
  obtain ⟨w1, -⟩ := wd_ok k hk
  rw [Bool.eq_false_iff]
  intro z
  have := (eqW_iff.mp z).1
  omega)
end KT
/-- the words' strings -/
def WDx (h : aH) : Prop := ∀ k, k < 21 → hk_ h (2 + k) = (11, 0) ∧ hi_ h (2 + k) 134 = nI 0 ∧ hp_ h (2 + k) 133 = some (24 + k) ∧ hk_ h (24 + k) = (101, (wd k).length) ∧ ∀ i, i < (wd k).length → hi_ h (24 + k) i = nI (wdc k i)
theorem aWs_2 : ∀ k, k < 21 → aWs k = 2 + k := by decide
theorem sb_toInt {b : Nat} (hb : b < 256) : (sb b).toInt = if b < 128 then (b : Int) else (b : Int) - 256 := by
  unfold sb
  by_cases q : b < 128
  · rw [if_pos q, if_pos q]; exact nI_toInt (by omega)
  · rw [if_neg q, if_neg q, ti_sub (by rw [nI_toInt (by omega), nI_toInt (by decide)]; omega) (by rw [nI_toInt (by omega), nI_toInt (by decide)]; omega), nI_toInt (by omega), nI_toInt (by decide)]
    rfl
theorem sb_ltI {b c : Nat} (hb : b < 256) (hc : c < 128) : (sb b < nI c) = (b < c ∨ 128 ≤ b) := by
  rw [Int32.lt_iff_toInt_lt, sb_toInt hb, nI_toInt (by omega)]
  apply propext
  split <;> omega
theorem sb_gtI {b c : Nat} (hb : b < 256) (hc : c < 128) : (nI c < sb b) = (c < b ∧ b < 128) := by
  rw [Int32.lt_iff_toInt_lt, sb_toInt hb, nI_toInt (by omega)]
  apply propext
  split <;> omega
theorem sb_eqI {b c : Nat} (hb : b < 256) (hc : c < 128) : (sb b = nI c) = (b = c) := by
  rw [← Int32.toInt_inj, sb_toInt hb, nI_toInt (by omega)]
  apply propext
  split <;> omega
theorem sb_eqI' {b c : Nat} (hb : b < 256) (hc : c < 128) : (nI c = sb b) = (b = c) := by
  rw [eq_comm (a := nI c), sb_eqI hb hc]
theorem i16_c {c : Nat} (hc : c < 32768) : (nI c).toInt16.toInt32 = nI c := by
  apply Int32.toInt_inj.mp
  rw [Int16.toInt_toInt32, Int32.toInt_toInt16, nI_toInt (by omega)]
  dsimp only [Int.bmod]
  split <;> omega
section KT2
variable {d n : Nat} {h h' : aH} {β : Nat → Nat}
/-- X's tape -/
def XBt (h : aH) (β : Nat → Nat) (n : Nat) : Prop := hi_ h 66 31 = nI n ∧ ∀ i, i < n → hi_ h 68 i = sb (β i)
theorem k_at (hX : XS h) (hV : BV β n) (hB : XBt h β n) {k : Nat} (hk : k < 100000) : (run (d) 76 0 [.ref 66, .int (nI k)] [] h) = some (.returned (some (.int (sb (β k)))), h) := by
  have hn := hV.1
  by_cases q : k < n
  · have g1 : ¬ nI n ≤ nI k := nI_ge q (by omega)
    have g2 : k < 2000 := by omega
    simp only [e76_0, e76_1, e76_2, e76_5, e76_8, e76_9, e76_12, e76_13, e76_14, e76_17, e76_18, xk_64 hX, xk_66 hX, xp_30 hX, xk_68 hX, ↓reduceIte, Nat.reduceAdd, Nat.reduceLeDiff, Nat.reduceLT, Nat.reduceEqDiff, not_false_eq_true, false_or, true_or, or_true, or_false, n0_e, n1_ne, n1_11, bI_z, bI_1, bI_fo, va_rf_some, aBk_1, aBk_0, nI_add, nI_mul, hk_si, hp_si, hl_si, hk_sp, hk_sl, hk_cp, hp_cp, hB.1, g1, g2, hB.2 k q]
  · have g1 : nI n ≤ nI k := by rw [nI_leL (by omega) (by omega)]; omega
    rw [hV.2.2 k (by omega)]
    have e0 : sb 0 = nI 0 := rfl
    simp only [e76_0, e76_1, e76_2, e76_5, e76_8, e76_9, e76_12, e76_13, e76_14, e76_17, e76_18, xk_64 hX, xk_66 hX, xp_30 hX, xk_68 hX, ↓reduceIte, Nat.reduceAdd, Nat.reduceLeDiff, Nat.reduceLT, Nat.reduceEqDiff, not_false_eq_true, false_or, true_or, or_true, or_false, n0_e, n1_ne, n1_11, bI_z, bI_1, bI_fo, va_rf_some, aBk_1, aBk_0, nI_add, nI_mul, hk_si, hp_si, hl_si, hk_sp, hk_sl, hk_cp, hp_cp, hB.1, g1, e0]
theorem k_isLetter (hX : XS h) (hV : BV β n) (hB : XBt h β n) {k : Nat} (hk : k < 100000) : (run (d + 1) 75 0 [.ref 66, .int (nI k)] [] h) = some (.returned (some (.int (bI (isL (β k))))), h) := by
  have ea := fun d => k_at (d := d) hX hV hB hk
  have b := hV.2.1 k
  have e1 := sb_ltI (b := β k) (c := 97) b (by decide)
  have e2 := sb_gtI (b := β k) (c := 122) b (by decide)
  unfold isL
  by_cases q1 : β k < 97 ∨ 128 ≤ β k
  · rw [decide_eq_false (by omega)]
    have e1' : (sb (β k) < nI 97) = True := by rw [e1]; exact eq_true q1
    simp only [e75_0, e75_1, e75_2, e75_5, e75_7, e75_10, e75_11, e75_12, e75_15, e75_17, e75_20, e75_21, e75_24, e75_25, xk_64 hX, xk_66 hX, ↓reduceIte, Nat.reduceAdd, Nat.reduceLeDiff, Nat.reduceLT, Nat.reduceEqDiff, not_false_eq_true, false_or, true_or, or_true, or_false, n0_e, n1_ne, n1_11, bI_z, bI_1, bI_fo, va_rf_some, aBk_1, aBk_0, nI_add, nI_mul, hk_si, hp_si, hl_si, hk_sp, hk_sl, hk_cp, hp_cp, ea, e1']
    rfl
  · have e1' : (sb (β k) < nI 97) = False := by rw [e1]; exact eq_false q1
    by_cases q2 : 122 < β k ∧ β k < 128
    · rw [decide_eq_false (by omega)]
      have e2' : (nI 122 < sb (β k)) = True := by rw [e2]; exact eq_true q2
      simp only [e75_0, e75_1, e75_2, e75_5, e75_7, e75_10, e75_11, e75_12, e75_15, e75_17, e75_20, e75_21, e75_24, e75_25, xk_64 hX, xk_66 hX, ↓reduceIte, Nat.reduceAdd, Nat.reduceLeDiff, Nat.reduceLT, Nat.reduceEqDiff, not_false_eq_true, false_or, true_or, or_true, or_false, n0_e, n1_ne, n1_11, bI_z, bI_1, bI_fo, va_rf_some, aBk_1, aBk_0, nI_add, nI_mul, hk_si, hp_si, hl_si, hk_sp, hk_sl, hk_cp, hp_cp, ea, e1', e2']
      rfl
    · rw [decide_eq_true (by omega)]
      have e2' : (nI 122 < sb (β k)) = False := by rw [e2]; exact eq_false q2
      simp only [e75_0, e75_1, e75_2, e75_5, e75_7, e75_10, e75_11, e75_12, e75_15, e75_17, e75_20, e75_21, e75_24, e75_25, xk_64 hX, xk_66 hX, ↓reduceIte, Nat.reduceAdd, Nat.reduceLeDiff, Nat.reduceLT, Nat.reduceEqDiff, not_false_eq_true, false_or, true_or, or_true, or_false, n0_e, n1_ne, n1_11, bI_z, bI_1, bI_fo, va_rf_some, aBk_1, aBk_0, nI_add, nI_mul, hk_si, hp_si, hl_si, hk_sp, hk_sl, hk_cp, hp_cp, ea, e1', e2']
      rfl
theorem k_isDigit (hX : XS h) (hV : BV β n) (hB : XBt h β n) {k : Nat} (hk : k < 100000) : (run (d + 1) 78 0 [.ref 66, .int (nI k)] [] h) = some (.returned (some (.int (bI (isD (β k))))), h) := by
  have ea := fun d => k_at (d := d) hX hV hB hk
  have b := hV.2.1 k
  have e1 := sb_ltI (b := β k) (c := 48) b (by decide)
  have e2 := sb_gtI (b := β k) (c := 57) b (by decide)
  unfold isD
  by_cases q1 : β k < 48 ∨ 128 ≤ β k
  · rw [decide_eq_false (by omega)]
    have e1' : (sb (β k) < nI 48) = True := by rw [e1]; exact eq_true q1
    simp only [e78_0, e78_1, e78_2, e78_5, e78_7, e78_10, e78_11, e78_12, e78_15, e78_17, e78_20, e78_21, e78_24, e78_25, xk_64 hX, xk_66 hX, ↓reduceIte, Nat.reduceAdd, Nat.reduceLeDiff, Nat.reduceLT, Nat.reduceEqDiff, not_false_eq_true, false_or, true_or, or_true, or_false, n0_e, n1_ne, n1_11, bI_z, bI_1, bI_fo, va_rf_some, aBk_1, aBk_0, nI_add, nI_mul, hk_si, hp_si, hl_si, hk_sp, hk_sl, hk_cp, hp_cp, ea, e1']
    rfl
  · have e1' : (sb (β k) < nI 48) = False := by rw [e1]; exact eq_false q1
    by_cases q2 : 57 < β k ∧ β k < 128
    · rw [decide_eq_false (by omega)]
      have e2' : (nI 57 < sb (β k)) = True := by rw [e2]; exact eq_true q2
      simp only [e78_0, e78_1, e78_2, e78_5, e78_7, e78_10, e78_11, e78_12, e78_15, e78_17, e78_20, e78_21, e78_24, e78_25, xk_64 hX, xk_66 hX, ↓reduceIte, Nat.reduceAdd, Nat.reduceLeDiff, Nat.reduceLT, Nat.reduceEqDiff, not_false_eq_true, false_or, true_or, or_true, or_false, n0_e, n1_ne, n1_11, bI_z, bI_1, bI_fo, va_rf_some, aBk_1, aBk_0, nI_add, nI_mul, hk_si, hp_si, hl_si, hk_sp, hk_sl, hk_cp, hp_cp, ea, e1', e2']
      rfl
    · rw [decide_eq_true (by omega)]
      have e2' : (nI 57 < sb (β k)) = False := by rw [e2]; exact eq_false q2
      simp only [e78_0, e78_1, e78_2, e78_5, e78_7, e78_10, e78_11, e78_12, e78_15, e78_17, e78_20, e78_21, e78_24, e78_25, xk_64 hX, xk_66 hX, ↓reduceIte, Nat.reduceAdd, Nat.reduceLeDiff, Nat.reduceLT, Nat.reduceEqDiff, not_false_eq_true, false_or, true_or, or_true, or_false, n0_e, n1_ne, n1_11, bI_z, bI_1, bI_fo, va_rf_some, aBk_1, aBk_0, nI_add, nI_mul, hk_si, hp_si, hl_si, hk_sp, hk_sl, hk_cp, hp_cp, ea, e1', e2']
      rfl
end KT2
