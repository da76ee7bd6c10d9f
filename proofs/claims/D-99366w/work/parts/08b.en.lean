set_option maxRecDepth 100000
/-! the same for places that are natural numbers -/
section EN
variable {d μ pc : Nat} {ls st : List Value} {h : aH}
theorem aPl_n {a κ n : Nat} (hκ : (hk_ h a).1 = κ) (hn : n < (hk_ h a).2) (hb : (hk_ h a).2 ≤ 2147483647) : aPl h a κ (nI n) := ⟨hκ, nI_in hn (by omega)⟩
theorem nI_cl {a n : Nat} (hn : n < (hk_ h a).2) (hb : (hk_ h a).2 ≤ 2147483647) : (nI n).toNatClampNeg = n := nI_clamp (by omega)
theorem e_iald_n {x n : Nat} (hκ : (hk_ h x).1 = 100) (hn : n < (hk_ h x).2) (hb : (hk_ h x).2 ≤ 2147483647) : aDo d μ pc ls h (aAct μ pc ls (.int (nI n) :: .ref x :: st) h .iaload 1) = run d μ (pc + 1) ls (.int (hi_ h x n) :: st) h := by
  rw [e_iald (aPl_n hκ hn hb), nI_cl hn hb]
theorem e_sald_n {x n : Nat} (hκ : (hk_ h x).1 = 102) (hn : n < (hk_ h x).2) (hb : (hk_ h x).2 ≤ 2147483647) : aDo d μ pc ls h (aAct μ pc ls (.int (nI n) :: .ref x :: st) h .saload 1) = run d μ (pc + 1) ls (.int (hi_ h x n) :: st) h := by
  rw [e_sald (aPl_n hκ hn hb), nI_cl hn hb]
theorem e_lald_n {x n : Nat} (hκ : (hk_ h x).1 = 104) (hn : n < (hk_ h x).2) (hb : (hk_ h x).2 ≤ 2147483647) : aDo d μ pc ls h (aAct μ pc ls (.int (nI n) :: .ref x :: st) h .laload 1) = run d μ (pc + 1) ls (.long (hl_ h x n) :: st) h := by
  rw [e_lald (aPl_n hκ hn hb), nI_cl hn hb]
theorem e_bald_n {x n : Nat} (hκ : (hk_ h x).1 = 101 ∨ (hk_ h x).1 = 103) (hn : n < (hk_ h x).2) (hb : (hk_ h x).2 ≤ 2147483647) : aDo d μ pc ls h (aAct μ pc ls (.int (nI n) :: .ref x :: st) h .baload 1) = run d μ (pc + 1) ls (.int (hi_ h x n) :: st) h := by
  rw [e_bald (hκ.imp (fun hκ => aPl_n hκ hn hb) (fun hκ => aPl_n hκ hn hb)), nI_cl hn hb]
theorem e_aald_n {x n : Nat} (hκ : 110 ≤ (hk_ h x).1) (hn : n < (hk_ h x).2) (hb : (hk_ h x).2 ≤ 2147483647) : aDo d μ pc ls h (aAct μ pc ls (.int (nI n) :: .ref x :: st) h .aaload 1) = run d μ (pc + 1) ls (va_rf (hp_ h x n) :: st) h := by
  rw [e_aald hκ (aPl_n rfl hn hb), nI_cl hn hb]
theorem e_iastore_n {x n : Nat} {v : Int32} (h6 : 64 ≤ x) (hκ : (hk_ h x).1 = 100) (hn : n < (hk_ h x).2) (hb : (hk_ h x).2 ≤ 2147483647) : aDo d μ pc ls h (aAct μ pc ls (.int v :: .int (nI n) :: .ref x :: st) h .iastore 1) = run d μ (pc + 1) ls st (si_ h x n v) := by
  rw [e_iastore h6 (aPl_n hκ hn hb), nI_cl hn hb]
theorem e_sastore_n {x n : Nat} {v : Int32} (h6 : 64 ≤ x) (hκ : (hk_ h x).1 = 102) (hn : n < (hk_ h x).2) (hb : (hk_ h x).2 ≤ 2147483647) : aDo d μ pc ls h (aAct μ pc ls (.int v :: .int (nI n) :: .ref x :: st) h .sastore 1) = run d μ (pc + 1) ls st (si_ h x n v.toInt16.toInt32) := by
  rw [e_sastore h6 (aPl_n hκ hn hb), nI_cl hn hb]
theorem e_lastore_n {x n : Nat} {v : Int64} (h6 : 64 ≤ x) (hκ : (hk_ h x).1 = 104) (hn : n < (hk_ h x).2) (hb : (hk_ h x).2 ≤ 2147483647) : aDo d μ pc ls h (aAct μ pc ls (.long v :: .int (nI n) :: .ref x :: st) h .lastore 1) = run d μ (pc + 1) ls st (sl_ h x n v) := by
  rw [e_lastore h6 (aPl_n hκ hn hb), nI_cl hn hb]
theorem e_bastore_n {x n : Nat} {v : Int32} (h6 : 64 ≤ x) (hκ : (hk_ h x).1 = 101) (hn : n < (hk_ h x).2) (hb : (hk_ h x).2 ≤ 2147483647) : aDo d μ pc ls h (aAct μ pc ls (.int v :: .int (nI n) :: .ref x :: st) h .bastore 1) = run d μ (pc + 1) ls st (si_ h x n v.toInt8.toInt32) := by
  rw [e_bastore h6 (aPl_n hκ hn hb), nI_cl hn hb]
theorem e_zastore_n {x n : Nat} {v : Int32} (h6 : 64 ≤ x) (hκ : (hk_ h x).1 = 103) (hn : n < (hk_ h x).2) (hb : (hk_ h x).2 ≤ 2147483647) (hv : v = 0 ∨ v = 1) : aDo d μ pc ls h (aAct μ pc ls (.int v :: .int (nI n) :: .ref x :: st) h .bastore 1) = run d μ (pc + 1) ls st (si_ h x n v) := by
  rw [e_zastore h6 (aPl_n hκ hn hb) hv, nI_cl hn hb]
theorem e_aastore_n {x v n : Nat} (h6 : 64 ≤ x) (hκ : aSto (hk_ h x).1 (hk_ h v).1 = true) (hn : n < (hk_ h x).2) (hb : (hk_ h x).2 ≤ 2147483647) : aDo d μ pc ls h (aAct μ pc ls (.ref v :: .int (nI n) :: .ref x :: st) h .aastore 1) = run d μ (pc + 1) ls st (sp_ h x n (some v)) := by
  rw [e_aastore h6 hκ (aPl_n rfl hn hb), nI_cl hn hb]
theorem aSz_n {m : Nat} (hm : m ≤ 1000000) : aSz (nI m) := ⟨nI_pos (by omega), by rw [nI_clamp (by omega)]; exact hm⟩
theorem e_newa_n {t : ArrayType} {κ m : Nat} (hk : aAk t = some κ) (hm : m ≤ 1000000) : aDo d μ pc ls h (aAct μ pc ls (.int (nI m) :: st) h (.newarray t) 2) = run d μ (pc + 2) ls (.ref (hz_ h) :: st) (nw_ h κ m m) := by
  rw [e_newa hk (aSz_n hm), nI_clamp (by omega)]
theorem e_anew_n {j κ m : Nat} (hk : aArr (aCo μ) j = some κ) (hn : Nat.beq κ 115 = false) (hm : m ≤ 1000000) : aDo d μ pc ls h (aAct μ pc ls (.int (nI m) :: st) h (.anewarray j) 3) = run d μ (pc + 3) ls (.ref (hz_ h) :: st) (nw_ h κ m m) := by
  rw [e_anew hk hn (aSz_n hm), nI_clamp (by omega)]
theorem e_multi_n {j k m : Nat} (hj : aArr (aCo μ) j = some 115) (hm : m ≤ 1000000) (hk : k ≤ 1000000) : aDo d μ pc ls h (aAct μ pc ls (.int (nI k) :: .int (nI m) :: st) h (.multianewarray j 2) 4) = run d μ (pc + 4) ls (.ref (hz_ h) :: st) (mw_ h m k) := by
  rw [e_multi hj (aSz_n hm) (aSz_n hk), nI_clamp (by omega), nI_clamp (by omega)]
theorem e_copy_n {j n m dp sp q s : Nat} (hi : aInv (aCo μ) j = some (6, n, [])) (h1 : 64 ≤ q) (h2 : s ≠ q) (h3 : (hk_ h s).1 = (hk_ h q).1) (h4 : (hk_ h q).1 = 100 ∨ ((hk_ h q).1 = 101 ∧ ∀ i, i < m → (hi_ h s (sp + i)).toInt8.toInt32 = hi_ h s (sp + i))) (h8 : sp + m ≤ (hk_ h s).2) (h9 : dp + m ≤ (hk_ h q).2) (hb : (hk_ h s).2 ≤ 2147483647) (hb2 : (hk_ h q).2 ≤ 2147483647) (hl : st.length ≤ 2) :
    aDo d μ pc ls h (aAct μ pc ls (.int (nI m) :: .int (nI dp) :: .ref q :: .int (nI sp) :: .ref s :: st) h (.invokestatic j) 3) = run d μ (pc + 3) ls st (cp_ h s sp q dp m) := by
  have e1 : (nI m).toNatClampNeg = m := nI_clamp (by omega)
  have e2 : (nI dp).toNatClampNeg = dp := nI_clamp (by omega)
  have e3 : (nI sp).toNatClampNeg = sp := nI_clamp (by omega)
  have := e_copy (d := d) (μ := μ) (pc := pc) (ls := ls) (st := st) (h := h) (m := nI m) (dp := nI dp) (sp := nI sp) (q := q) (s := s) hi (by
    rw [e1, e2, e3]
    exact ⟨h1, h2, h3, h4, nI_pos (by omega), nI_pos (by omega), nI_pos (by omega), h8, h9, hl⟩)
  rw [this, e1, e2, e3]
end EN
