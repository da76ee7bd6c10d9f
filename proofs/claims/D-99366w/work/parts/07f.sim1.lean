set_option maxRecDepth 100000
/-! SIMULATION 2: acts on the stack, loads, stores, jumps, ends -/
/-- what is known of the classes all through -/
def aAK (D : va_G) (E : Nat → Value) (s : State) : Prop :=
  (∀ (κ : Nat) (q : vw_C), aKl[κ]? = some q → u_Kn s q.1 q.2.1 q.2.2 (D.1 κ) (D.2 κ)) ∧ aAX s ∧ (∀ q ∈ aStrL, ∃ x : Nat, E q.2.2.2 = .ref x ∧ vk_R q.1 q.2.1 q.2.2.1 x s)
theorem aAK.warm {D : va_G} {E : Nat → Value} {s U : State} (hW : s.WarmedH U.vm) (h : aAK D E s) : aAK D E U :=
  ⟨fun κ q hq => u_Kn_moved hW.alike (h.1 κ q hq), h.2.1.warm hW, fun q hq => by obtain ⟨x, h1, h2⟩ := h.2.2 q hq; exact ⟨x, h1, h2.warm hW⟩⟩
/-- the method that stands -/
def aCx (p : Program) (s : State) (m : MethodId) (args : Array Value) (meth : Method) (c : Code) (μ : Nat) : Prop :=
  p.tables.exec = Jvm.exec ∧ c.code = aCode μ ∧ c.maxLocals = aML μ ∧ meth.sig.returnType = aRt μ ∧ meth.locks = false ∧ s.vm.findClass (aNm (aCo μ)) = some m.cls ∧ (∀ w ∈ lw_all, w.before args s = true) ∧ (aIn μ = true → meth.name = "<init>") ∧ c.exceptionTable.toList = tableOf (aHd μ) ∧ μ < 343
def aIv : Value → Bool
  | .retAddr _ => false
  | _ => true
/-- the locals -/
def aLo (b : Nat) (E : Nat → Value) (μ : Nat) (JL : Array Slot) (ls : List Value) : Prop :=
  ls.length = aML μ ∧ JL.size = aML μ ∧ lv_wf JL ∧ (∀ (i : Nat) (v : Value), ls[i]? = some v → aIv v = true → JL[i]? = some (Slot.val (aPhi b E v))) ∧ (∀ (i : Nat) (v : Value), ls[i]? = some v → v.category = 2 → (aLg μ).any (fun j => Nat.beq j (i + 1)) = true) ∧ (∀ (i : Nat) (v : Value), ls[i]? = some v → (aLg μ).any (fun j => Nat.beq j i) = true → aIv v = false)
theorem aLn_some {α : Type} {n k : Nat} {x : Option α} {y : α} (h : aLn n k x = some y) : n = k ∧ x = some y := by
  unfold aLn at h
  cases hb : Nat.beq n k with
  | false => rw [hb] at h; cases h
  | true => rw [hb] at h; exact ⟨Nat.eq_of_beq_eq_true hb, h⟩
theorem aI2_some {f : Int32 → Int32 → Int32} {st st' : List Value} (h : aI2 f st = some st') : ∃ x y r, st = .int y :: .int x :: r ∧ st' = .int (f x y) :: r := by
  unfold aI2 at h
  split at h
  · cases h; exact ⟨_, _, _, rfl, rfl⟩
  · cases h
theorem aI1_some {f : Int32 → Int32} {st st' : List Value} (h : aI1 f st = some st') : ∃ x r, st = .int x :: r ∧ st' = .int (f x) :: r := by
  unfold aI1 at h
  split at h
  · cases h; exact ⟨_, _, rfl, rfl⟩
  · cases h
theorem aStrL_lt : ∀ q ∈ aStrL, q.2.2.2 < 64 := by decide +kernel
theorem aPhi_cat1 {D : va_G} {b : Nat} {E : Nat → Value} {s : State} {h : aH} {H : Heap} (hR : aRel D b E s h H) {a : Nat} : (aPhi b E (.ref a)).category = 1 := by
  by_cases ha : a < 64
  · rw [show aPhi b E (.ref a) = E a from if_pos ha]
    rcases hR.2.2.1 a ha with q | ⟨x, q, -⟩ <;> rw [q] <;> rfl
  · rw [aPhi_own (by omega)]; rfl
section SIM1
variable {p : Program} {l : Launch} {e : Env} {R : Room} {s : State} {m : MethodId} {args : Array Value} {below : List Frame} {meth : Method} {c : Code} {H : Heap} {locs : List Loc} {cells slots : Nat} {Q : State → Prop}
variable {D : va_G} {b : Nat} {E : Nat → Value} {μ pc : Nat} {JL : Array Slot} {ls st : List Value} {h : aH}
set_option maxHeartbeats 1000000 in
theorem aPure_sim (C : aCx p s m args meth c μ) (K : aAK D E s) (hR : aRel D b E s h H) {i : Instr} {n : Nat} {st' : List Value} (hd : decode (aCode μ) pc = .ok (i, n)) (hp : aPure μ i n st = some st')
    (k : W p l e R s m args below meth c H locs cells slots Q (F0 m (pc + n) JL (st'.map (aPhi b E)))) : W p l e R s m args below meth c H locs cells slots Q (F0 m pc JL (st.map (aPhi b E))) := by
  obtain ⟨hx, hb, hml, hret, hlk, hown, hts, hin, htab, hμ⟩ := C
  cases i
  case iconst v => obtain ⟨rfl, e1⟩ := aLn_some hp; cases e1; exact lv_iconst hx hb hd rfl k
  case bipush v => obtain ⟨rfl, e1⟩ := aLn_some hp; cases e1; exact lv_bipush hx hb hd rfl k
  case sipush v => obtain ⟨rfl, e1⟩ := aLn_some hp; cases e1; exact lv_sipush hx hb hd rfl k
  case lconst v => obtain ⟨rfl, e1⟩ := aLn_some hp; cases e1; exact lv_lconst hx hb hd rfl k
  case aconst_null => obtain ⟨rfl, e1⟩ := aLn_some hp; cases e1; exact lv_null hx hb hd k
  case ldc j =>
    obtain ⟨rfl, e1⟩ := aLn_some hp
    split at e1
    · rename_i x hc; cases e1; exact lv_ldc hx hb hown (hts _ (aCst_ok hc)) hd k
    · rename_i a hc
      cases e1
      obtain ⟨tx, hm⟩ := aCst_ok hc
      obtain ⟨x, h1, h2⟩ := K.2.2 _ hm
      have h3 : aPhi b E (.ref a) = .ref x := (if_pos (aStrL_lt _ hm)).trans h1
      refine va_ldcS hx hb hown h2 hd ?_
      rw [show (Value.ref a :: st).map (aPhi b E) = Value.ref x :: st.map (aPhi b E) from by rw [List.map_cons, h3]] at k
      exact k
    · cases e1
  case ldc2_w j =>
    obtain ⟨rfl, e1⟩ := aLn_some hp
    split at e1
    · rename_i x hc; cases e1; exact lv_ldc2 hx hb hown (hts _ (aCst_ok hc)) hd k
    · cases e1
  case ldc_w j =>
    obtain ⟨rfl, e1⟩ := aLn_some hp
    split at e1
    · rename_i x hc; cases e1; exact lv_ldcw hx hb hown (hts _ (aCst_ok hc)) hd k
    · cases e1
  case getstatic j =>
    obtain ⟨rfl, e1⟩ := aLn_some hp
    split at e1
    · rename_i v hc
      cases e1
      obtain ⟨C, nm, ds, hm, hl⟩ := aSta_ok hc
      obtain ⟨cf, kf, fi, f, a, cell, r1, r2, r3, r4, r5, r6, r7, r8⟩ := hR.2.2.2.2.2 _ hm
      exact W.gets hx hb hown (hts _ hl) r1 r2 r3 r4 r5 (fun z => by rw [z] at r6; cases r6) r7 rfl hd k
    · cases e1
  case iadd => obtain ⟨rfl, e1⟩ := aLn_some hp; obtain ⟨x, y, r, rfl, rfl⟩ := aI2_some e1; exact lv_iadd hx hb hd k
  case isub => obtain ⟨rfl, e1⟩ := aLn_some hp; obtain ⟨x, y, r, rfl, rfl⟩ := aI2_some e1; exact lv_isub hx hb hd k
  case imul => obtain ⟨rfl, e1⟩ := aLn_some hp; obtain ⟨x, y, r, rfl, rfl⟩ := aI2_some e1; exact lv_imul hx hb hd k
  case iand => obtain ⟨rfl, e1⟩ := aLn_some hp; obtain ⟨x, y, r, rfl, rfl⟩ := aI2_some e1; exact lv_iand hx hb hd k
  case ior => obtain ⟨rfl, e1⟩ := aLn_some hp; obtain ⟨x, y, r, rfl, rfl⟩ := aI2_some e1; exact lv_ior hx hb hd k
  case ixor => obtain ⟨rfl, e1⟩ := aLn_some hp; obtain ⟨x, y, r, rfl, rfl⟩ := aI2_some e1; exact lv_ixor hx hb hd k
  case ishl => obtain ⟨rfl, e1⟩ := aLn_some hp; obtain ⟨x, y, r, rfl, rfl⟩ := aI2_some e1; exact lv_ishl hx hb hd k
  case ishr => obtain ⟨rfl, e1⟩ := aLn_some hp; obtain ⟨x, y, r, rfl, rfl⟩ := aI2_some e1; exact lv_ishr hx hb hd k
  case iushr => obtain ⟨rfl, e1⟩ := aLn_some hp; obtain ⟨x, y, r, rfl, rfl⟩ := aI2_some e1; exact lv_iushr hx hb hd rfl k
  case i2b => obtain ⟨rfl, e1⟩ := aLn_some hp; obtain ⟨x, r, rfl, rfl⟩ := aI1_some e1; exact lv_i2b hx hb hd rfl k
  case i2s => obtain ⟨rfl, e1⟩ := aLn_some hp; obtain ⟨x, r, rfl, rfl⟩ := aI1_some e1; exact lv_i2s hx hb hd rfl k
  case i2c => obtain ⟨rfl, e1⟩ := aLn_some hp; obtain ⟨x, r, rfl, rfl⟩ := aI1_some e1; exact lv_i2c hx hb hd rfl k
  case ineg => obtain ⟨rfl, e1⟩ := aLn_some hp; obtain ⟨x, r, rfl, rfl⟩ := aI1_some e1; exact lv_ineg hx hb hd k
  case idiv =>
    obtain ⟨rfl, e1⟩ := aLn_some hp
    split at e1
    · split at e1
      · cases e1
      · rename_i hy; cases e1; exact lv_idiv hx hb hd hy k
    · cases e1
  case irem =>
    obtain ⟨rfl, e1⟩ := aLn_some hp
    split at e1
    · split at e1
      · cases e1
      · rename_i hy; cases e1; exact lv_irem hx hb hd hy k
    · cases e1
  case ladd =>
    obtain ⟨rfl, e1⟩ := aLn_some hp
    split at e1
    · cases e1; exact lv_ladd hx hb hd k
    · cases e1
  case lmul =>
    obtain ⟨rfl, e1⟩ := aLn_some hp
    split at e1
    · cases e1; exact lv_lmul hx hb hd k
    · cases e1
  case lcmp =>
    obtain ⟨rfl, e1⟩ := aLn_some hp
    split at e1
    · cases e1; exact W.lcmp hx hb hd k
    · cases e1
  case i2l =>
    obtain ⟨rfl, e1⟩ := aLn_some hp
    split at e1
    · cases e1; exact lv_i2l hx hb hd rfl k
    · cases e1
  case pop =>
    obtain ⟨rfl, e1⟩ := aLn_some hp
    split at e1
    · cases e1; exact lv_pop hx hb hd rfl k
    · cases e1; exact lv_pop hx hb hd (aPhi_cat1 hR) k
    · cases e1
  case dup =>
    obtain ⟨rfl, e1⟩ := aLn_some hp
    split at e1
    · cases e1; exact lv_dup hx hb hd rfl k
    · cases e1; exact lv_dup hx hb hd (aPhi_cat1 hR) k
    · cases e1
  case dup_x1 =>
    obtain ⟨rfl, e1⟩ := aLn_some hp
    split at e1
    · cases e1; exact lv_dup_x1 hx hb hd rfl (aPhi_cat1 hR) k
    · cases e1; exact lv_dup_x1 hx hb hd (aPhi_cat1 hR) (aPhi_cat1 hR) k
    · cases e1
  case dup2 =>
    obtain ⟨rfl, e1⟩ := aLn_some hp
    split at e1
    · cases e1; exact lv_dup2_11 hx hb hd rfl (aPhi_cat1 hR) k
    · cases e1
  all_goals cases hp
theorem aGo_inl {pc' pc'' : Nat} {l1 l2 s1 s2 : List Value} {h1 h2 : aH} (q : aGo pc' l1 s1 h1 = some (.inl (pc'', l2, s2, h2))) : pc' = pc'' ∧ l1 = l2 ∧ s1 = s2 ∧ h1 = h2 := by
  cases q; exact ⟨rfl, rfl, rfl, rfl⟩
theorem aJk_some {off : Int} {f : Nat → aT} {r : (Nat × List Value × List Value × aH) ⊕ ((Nat × List Value × Bool × List Value) ⊕ (Outcome × aH))} (q : aJk pc off f = some r) : ∃ t : Nat, (pc : Int) + off = (t : Int) ∧ f t = some r := by
  unfold aJk at q
  split at q
  · rename_i t ht; exact ⟨t, ht, q⟩
  · cases q
/-- the locals as a list of pairs -/
def aPr (b : Nat) (E : Nat → Value) (ls : List Value) : List (Nat × Value) := (List.range ls.length).filterMap (fun i => match ls[i]? with
  | some v => if aIv v = true then some (i, aPhi b E v) else none
  | none => none)
theorem aPr_mem {q : Nat × Value} : q ∈ aPr b E ls ↔ ∃ v, ls[q.1]? = some v ∧ aIv v = true ∧ q.2 = aPhi b E v := by
  unfold aPr
  rw [List.mem_filterMap]
  constructor
  · rintro ⟨i, -, hi⟩
    cases hv : ls[i]? with
    | none => rw [hv] at hi; cases hi
    | some v =>
      rw [hv] at hi
      dsimp only at hi
      split at hi
      · rename_i hiv; cases hi; exact ⟨v, hv, hiv, rfl⟩
      · cases hi
  · rintro ⟨v, hv, hiv, e1⟩
    refine ⟨q.1, List.mem_range.mpr (List.getElem?_eq_some_iff.mp hv).1, ?_⟩
    rw [hv]
    dsimp only
    rw [if_pos hiv, ← e1]
theorem aLo.has (hL : aLo b E μ JL ls) : lv_has JL (aML μ) (aPr b E ls) := ⟨hL.2.1, hL.2.2.1, fun q hq => by
  obtain ⟨v, h1, h2, h3⟩ := aPr_mem.mp hq
  rw [h3]
  exact hL.2.2.2.1 _ _ h1 h2⟩
theorem aPhi_cat {D : va_G} {s : State} {H : Heap} (hR : aRel D b E s h H) (v : Value) : (aPhi b E v).category = v.category := by
  cases v with
  | ref a => exact aPhi_cat1 hR
  | _ => rfl
theorem aS1_some {i : Nat} {v : Value} {ls' : List Value} (q : aS1 μ ls i v = some ls') : i < ls.length ∧ (aLg μ).any (fun j => Nat.beq j i) = false ∧ ls' = ls.set i v := by
  unfold aS1 at q
  cases hb : Nat.blt i ls.length && !((aLg μ).any (fun j => Nat.beq j i)) with
  | false => rw [hb] at q; cases q
  | true =>
    rw [hb] at q
    cases q
    rw [Bool.and_eq_true] at hb
    exact ⟨Nat.le_of_ble_eq_true hb.1, by simpa using hb.2, rfl⟩
theorem aS2_some {i : Nat} {v : Value} {ls' : List Value} (q : aS2 μ ls i v = some ls') : i + 1 < ls.length ∧ (aLg μ).any (fun j => Nat.beq j i) = false ∧ (aLg μ).any (fun j => Nat.beq j (i + 1)) = true ∧ ls' = ls.set i v := by
  unfold aS2 at q
  cases hb : Nat.blt (i + 1) ls.length && !((aLg μ).any (fun j => Nat.beq j i)) && (aLg μ).any (fun j => Nat.beq j (i + 1)) with
  | false => rw [hb] at q; cases q
  | true =>
    rw [hb] at q
    cases q
    rw [Bool.and_eq_true, Bool.and_eq_true] at hb
    exact ⟨Nat.le_of_ble_eq_true hb.1.1, by simpa using hb.1.2, hb.2, rfl⟩
theorem aLo.set1 {D : va_G} {s : State} {H : Heap} (hR : aRel D b E s h H) (hL : aLo b E μ JL ls) {i : Nat} {v : Value} (hi : i < ls.length) (hg : (aLg μ).any (fun j => Nat.beq j i) = false) (hc : v.category = 1) {JL' : Array Slot}
    (hh : lv_has JL' (aML μ) ((i, aPhi b E v) :: (aPr b E ls).filter (fun q => !(q.1 == i) && !(q.1 + 1 == i && q.2.category == 2)))) : aLo b E μ JL' (ls.set i v) := by
  refine ⟨by rw [List.length_set]; exact hL.1, hh.1, hh.2.1, fun j u hj hu => ?_, fun j u hj hu => ?_, fun j u hj hu => ?_⟩
  · by_cases hji : j = i
    · subst hji
      rw [List.getElem?_set_self hi] at hj
      cases hj
      exact hh.2.2 (j, _) List.mem_cons_self
    · rw [List.getElem?_set_ne (Ne.symm hji)] at hj
      refine hh.2.2 (j, aPhi b E u) (List.mem_cons_of_mem _ (List.mem_filter.mpr ⟨aPr_mem.mpr ⟨u, hj, hu, rfl⟩, ?_⟩))
      have h1 : (j == i) = false := by simpa using hji
      rw [h1]
      by_cases hc2 : u.category = 2
      · have h2 := hL.2.2.2.2.1 j u hj hc2
        have h3 : (j + 1 == i) = false := by
          simp only [beq_eq_false_iff_ne]
          intro z
          rw [z, hg] at h2
          cases h2
        simp [h3]
      · have h4 : ((aPhi b E u).category == 2) = false := by rw [aPhi_cat hR]; simpa using hc2
        simp [h4]
  · by_cases hji : j = i
    · subst hji
      rw [List.getElem?_set_self hi] at hj
      cases hj
      omega
    · rw [List.getElem?_set_ne (Ne.symm hji)] at hj
      exact hL.2.2.2.2.1 j u hj hu
  · by_cases hji : j = i
    · subst hji
      rw [hg] at hu
      cases hu
    · rw [List.getElem?_set_ne (Ne.symm hji)] at hj
      exact hL.2.2.2.2.2 j u hj hu
theorem aLo.set2 {D : va_G} {s : State} {H : Heap} (hR : aRel D b E s h H) (hL : aLo b E μ JL ls) {i : Nat} {x : Int64} (hi : i + 1 < ls.length) (hg : (aLg μ).any (fun j => Nat.beq j i) = false) (hg2 : (aLg μ).any (fun j => Nat.beq j (i + 1)) = true) {JL' : Array Slot}
    (hh : lv_has JL' (aML μ) ((i, .long x) :: (aPr b E ls).filter (fun q => !(q.1 == i) && (!(q.1 == i + 1) && !(q.1 + 1 == i && q.2.category == 2))))) : aLo b E μ JL' (ls.set i (.long x)) := by
  refine ⟨by rw [List.length_set]; exact hL.1, hh.1, hh.2.1, fun j u hj hu => ?_, fun j u hj hu => ?_, fun j u hj hu => ?_⟩
  · by_cases hji : j = i
    · subst hji
      rw [List.getElem?_set_self (by omega)] at hj
      cases hj
      exact hh.2.2 (j, _) List.mem_cons_self
    · rw [List.getElem?_set_ne (Ne.symm hji)] at hj
      refine hh.2.2 (j, aPhi b E u) (List.mem_cons_of_mem _ (List.mem_filter.mpr ⟨aPr_mem.mpr ⟨u, hj, hu, rfl⟩, ?_⟩))
      have h1 : (j == i) = false := by simpa using hji
      have h5 : (j == i + 1) = false := by
        simp only [beq_eq_false_iff_ne]
        intro z
        subst z
        have := hL.2.2.2.2.2 _ u hj hg2
        rw [this] at hu
        cases hu
      rw [h1, h5]
      by_cases hc2 : u.category = 2
      · have h2 := hL.2.2.2.2.1 j u hj hc2
        have h3 : (j + 1 == i) = false := by
          simp only [beq_eq_false_iff_ne]
          intro z
          rw [z, hg] at h2
          cases h2
        simp [h3]
      · have h4 : ((aPhi b E u).category == 2) = false := by rw [aPhi_cat hR]; simpa using hc2
        simp [h4]
  · by_cases hji : j = i
    · subst hji
      exact hg2
    · rw [List.getElem?_set_ne (Ne.symm hji)] at hj
      exact hL.2.2.2.2.1 j u hj hu
  · by_cases hji : j = i
    · subst hji
      rw [hg] at hu
      cases hu
    · rw [List.getElem?_set_ne (Ne.symm hji)] at hj
      exact hL.2.2.2.2.2 j u hj hu
theorem aPhi_ref {D : va_G} {s : State} {H : Heap} (hR : aRel D b E s h H) (a : Nat) : aPhi b E (.ref a) = .null ∨ ∃ x : Nat, aPhi b E (.ref a) = .ref x := by
  by_cases ha : a < 64
  · rw [show aPhi b E (.ref a) = E a from if_pos ha]
    rcases hR.2.2.1 a ha with q | ⟨x, q, -⟩
    · exact Or.inl q
    · exact Or.inr ⟨x, q⟩
  · exact Or.inr ⟨_, aPhi_own (by omega)⟩
theorem aRet_inl {i : Instr} {x : Nat × List Value × List Value × aH} : ¬ aRet μ st h i = some (.inl x) := by
  intro q
  unfold aRet at q
  cases i <;> dsimp only at q
  case ireturn =>
    split at q
    · split at q
      · cases q
      · split at q <;> cases q
      · split at q <;> cases q
      · split at q <;> cases q
      · cases q
    · cases q
  case lreturn =>
    split at q
    · cases hb : Nat.beq (aRc μ) 4 <;> rw [hb] at q <;> cases q
    · cases q
  case areturn =>
    split at q
    · cases hb : Nat.beq (aRc μ) 5 <;> rw [hb] at q <;> cases q
    · cases hb : Nat.beq (aRc μ) 5 <;> rw [hb] at q <;> cases q
    · cases q
  case return_ =>
    split at q
    · cases hb : Nat.beq (aRc μ) 0 <;> rw [hb] at q <;> cases q
    · cases q
  case athrow =>
    split at q
    · rename_i q0 r
      cases hb : (aHd μ).isEmpty && Nat.ble 64 q0 with
      | false => rw [hb] at q; cases q
      | true =>
        rw [hb, cond_true] at q
        split at q <;> cases q
    · cases q
  all_goals cases q
set_option maxHeartbeats 2000000 in
theorem aFlow_sim (C : aCx p s m args meth c μ) (hR : aRel D b E s h H) (hL : aLo b E μ JL ls) {i : Instr} {n pc' : Nat} {ls' st' : List Value} {h' : aH} (hd : decode (aCode μ) pc = .ok (i, n)) (hf : aFlow μ pc ls st h i n = some (.inl (pc', ls', st', h')))
    (k : ∀ JL', aLo b E μ JL' ls' → W p l e R s m args below meth c H locs cells slots Q (F0 m pc' JL' (st'.map (aPhi b E)))) : h' = h ∧ W p l e R s m args below meth c H locs cells slots Q (F0 m pc JL (st.map (aPhi b E))) := by
  obtain ⟨hx, hb, hml, hret, hlk, hown, hts, hin, htab, hμ⟩ := C
  cases i
  case iload_n j =>
    obtain ⟨rfl, e1⟩ := aLn_some hf
    unfold aLdI at e1
    split at e1
    · rename_i x hj; obtain ⟨rfl, rfl, rfl, rfl⟩ := aGo_inl e1; exact ⟨rfl, lv_iload_n hx hb hd rfl (hL.2.2.2.1 _ _ hj rfl) (k _ hL)⟩
    · cases e1
  case iload j =>
    obtain ⟨rfl, e1⟩ := aLn_some hf
    unfold aLdI at e1
    split at e1
    · rename_i x hj; obtain ⟨rfl, rfl, rfl, rfl⟩ := aGo_inl e1; exact ⟨rfl, lv_iload hx hb hd (hL.2.2.2.1 _ _ hj rfl) (k _ hL)⟩
    · cases e1
  case lload_n j =>
    obtain ⟨rfl, e1⟩ := aLn_some hf
    unfold aLdL at e1
    split at e1
    · rename_i x hj; obtain ⟨rfl, rfl, rfl, rfl⟩ := aGo_inl e1; exact ⟨rfl, lv_lload_n hx hb hd rfl (hL.2.2.2.1 _ _ hj rfl) (k _ hL)⟩
    · cases e1
  case lload j =>
    obtain ⟨rfl, e1⟩ := aLn_some hf
    unfold aLdL at e1
    split at e1
    · rename_i x hj; obtain ⟨rfl, rfl, rfl, rfl⟩ := aGo_inl e1; exact ⟨rfl, lv_lload hx hb hd (hL.2.2.2.1 _ _ hj rfl) (k _ hL)⟩
    · cases e1
  case aload_n j =>
    obtain ⟨rfl, e1⟩ := aLn_some hf
    unfold aLdA at e1
    split at e1
    · rename_i x hj
      obtain ⟨rfl, rfl, rfl, rfl⟩ := aGo_inl e1
      have hv := hL.2.2.2.1 _ _ hj rfl
      have hk := k _ hL
      rw [List.map_cons] at hk
      rcases aPhi_ref hR x with q | ⟨y, q⟩
      · rw [q] at hv hk; exact ⟨rfl, lv_aload_nN hx hb hd rfl hv hk⟩
      · rw [q] at hv hk; exact ⟨rfl, lv_aload_n hx hb hd rfl hv hk⟩
    · rename_i hj; obtain ⟨rfl, rfl, rfl, rfl⟩ := aGo_inl e1; exact ⟨rfl, lv_aload_nN hx hb hd rfl (hL.2.2.2.1 _ _ hj rfl) (k _ hL)⟩
    · cases e1
  case aload j =>
    obtain ⟨rfl, e1⟩ := aLn_some hf
    unfold aLdA at e1
    split at e1
    · rename_i x hj
      obtain ⟨rfl, rfl, rfl, rfl⟩ := aGo_inl e1
      have hv := hL.2.2.2.1 _ _ hj rfl
      have hk := k _ hL
      rw [List.map_cons] at hk
      rcases aPhi_ref hR x with q | ⟨y, q⟩
      · rw [q] at hv hk; exact ⟨rfl, lv_aloadN hx hb hd hv hk⟩
      · rw [q] at hv hk; exact ⟨rfl, lv_aload hx hb hd hv hk⟩
    · rename_i hj; obtain ⟨rfl, rfl, rfl, rfl⟩ := aGo_inl e1; exact ⟨rfl, lv_aloadN hx hb hd (hL.2.2.2.1 _ _ hj rfl) (k _ hL)⟩
    · cases e1
  case istore_n j =>
    obtain ⟨rfl, e1⟩ := aLn_some hf
    unfold aStI at e1
    split at e1
    · split at e1
      · rename_i hs
        obtain ⟨hi, hg, rfl⟩ := aS1_some hs
        obtain ⟨rfl, rfl, rfl, rfl⟩ := aGo_inl e1
        exact ⟨rfl, lv_istore_n hx hb hd rfl hL.has (hL.1 ▸ hi) rfl (fun JL' hh => k _ (hL.set1 hR hi hg rfl hh))⟩
      · cases e1
    · cases e1
  case istore j =>
    obtain ⟨rfl, e1⟩ := aLn_some hf
    unfold aStI at e1
    split at e1
    · split at e1
      · rename_i hs
        obtain ⟨hi, hg, rfl⟩ := aS1_some hs
        obtain ⟨rfl, rfl, rfl, rfl⟩ := aGo_inl e1
        exact ⟨rfl, lv_istore hx hb hd hL.has (hL.1 ▸ hi) rfl (fun JL' hh => k _ (hL.set1 hR hi hg rfl hh))⟩
      · cases e1
    · cases e1
  case astore_n j =>
    obtain ⟨rfl, e1⟩ := aLn_some hf
    unfold aStA at e1
    split at e1
    · rename_i x r
      split at e1
      · rename_i hs
        obtain ⟨hi, hg, rfl⟩ := aS1_some hs
        obtain ⟨rfl, rfl, rfl, rfl⟩ := aGo_inl e1
        have hi' : (j : Nat) < aML μ := by rw [← hL.1]; exact hi
        rw [List.map_cons]
        rcases aPhi_ref hR x with q | ⟨y, q⟩
        · rw [q]; exact ⟨rfl, lv_astore_nN hx hb hd rfl hL.has hi' rfl (fun JL' hh => k _ (hL.set1 hR hi hg (v := .ref x) rfl (by rw [q]; exact hh)))⟩
        · rw [q]; exact ⟨rfl, lv_astore_n hx hb hd rfl hL.has hi' rfl (fun JL' hh => k _ (hL.set1 hR hi hg (v := .ref x) rfl (by rw [q]; exact hh)))⟩
      · cases e1
    · cases e1
  case astore j =>
    obtain ⟨rfl, e1⟩ := aLn_some hf
    unfold aStA at e1
    split at e1
    · rename_i x r
      split at e1
      · rename_i hs
        obtain ⟨hi, hg, rfl⟩ := aS1_some hs
        obtain ⟨rfl, rfl, rfl, rfl⟩ := aGo_inl e1
        have hi' : j < aML μ := by rw [← hL.1]; exact hi
        rw [List.map_cons]
        rcases aPhi_ref hR x with q | ⟨y, q⟩
        · rw [q]; exact ⟨rfl, lv_astoreN hx hb hd hL.has hi' rfl (fun JL' hh => k _ (hL.set1 hR hi hg (v := .ref x) rfl (by rw [q]; exact hh)))⟩
        · rw [q]; exact ⟨rfl, lv_astore hx hb hd hL.has hi' rfl (fun JL' hh => k _ (hL.set1 hR hi hg (v := .ref x) rfl (by rw [q]; exact hh)))⟩
      · cases e1
    · cases e1
  case lstore j =>
    obtain ⟨rfl, e1⟩ := aLn_some hf
    split at e1
    · split at e1
      · rename_i hs
        obtain ⟨hi, hg, hg2, rfl⟩ := aS2_some hs
        obtain ⟨rfl, rfl, rfl, rfl⟩ := aGo_inl e1
        exact ⟨rfl, lv_lstore hx hb hd hL.has (hL.1 ▸ hi) rfl (fun JL' hh => k _ (hL.set2 hR hi hg hg2 hh))⟩
      · cases e1
    · cases e1
  case iinc j v =>
    obtain ⟨rfl, e1⟩ := aLn_some hf
    split at e1
    · rename_i x hj
      split at e1
      · rename_i hs
        obtain ⟨hi, hg, rfl⟩ := aS1_some hs
        obtain ⟨rfl, rfl, rfl, rfl⟩ := aGo_inl e1
        obtain ⟨kk, hkk⟩ := List.getElem?_of_mem (aPr_mem.mpr ⟨_, hj, rfl, rfl⟩ : (j, aPhi b E (.int x)) ∈ aPr b E ls)
        exact ⟨rfl, lv_iinc hx hb hd hL.has hkk rfl (hL.1 ▸ hi) rfl (fun JL' hh => k _ (hL.set1 hR hi hg (v := .int (x + Int32.ofInt v)) rfl hh))⟩
      · cases e1
    · cases e1
  case goto off =>
    obtain ⟨rfl, e1⟩ := aLn_some hf
    obtain ⟨t, ht, e1⟩ := aJk_some e1
    obtain ⟨rfl, rfl, rfl, rfl⟩ := aGo_inl e1
    exact ⟨rfl, lv_goto hx hb hd ht (k _ hL)⟩
  case ifCond cnd off =>
    obtain ⟨rfl, e1⟩ := aLn_some hf
    unfold aIf1 at e1
    split at e1
    · rename_i x r
      obtain ⟨t, ht, e1⟩ := aJk_some e1
      cases cnd <;> dsimp only at e1 <;> split at e1 <;> rename_i hc <;> obtain ⟨rfl, rfl, rfl, rfl⟩ := aGo_inl e1 <;> refine ⟨rfl, ?_⟩
      · exact lv_if_eq hx hb hd ht (fun _ => k _ hL) (fun q => absurd hc q)
      · exact lv_if_eq hx hb hd ht (fun q => absurd q hc) (fun _ => k _ hL)
      · exact lv_if_ne hx hb hd ht (fun q => absurd hc q) (fun _ => k _ hL)
      · exact lv_if_ne hx hb hd ht (fun _ => k _ hL) (fun q => absurd q hc)
      · exact lv_if_lt hx hb hd ht (fun _ => k _ hL) (fun q => absurd hc q)
      · exact lv_if_lt hx hb hd ht (fun q => absurd q hc) (fun _ => k _ hL)
      · exact lv_if_ge hx hb hd ht (fun _ => k _ hL) (fun q => absurd hc q)
      · exact lv_if_ge hx hb hd ht (fun q => absurd q hc) (fun _ => k _ hL)
      · exact lv_if_gt hx hb hd ht (fun _ => k _ hL) (fun q => absurd hc q)
      · exact lv_if_gt hx hb hd ht (fun q => absurd q hc) (fun _ => k _ hL)
      · exact lv_if_le hx hb hd ht (fun _ => k _ hL) (fun q => absurd hc q)
      · exact lv_if_le hx hb hd ht (fun q => absurd q hc) (fun _ => k _ hL)
    · cases e1
  case if_icmp cnd off =>
    obtain ⟨rfl, e1⟩ := aLn_some hf
    unfold aIf2 at e1
    split at e1
    · rename_i y x r
      obtain ⟨t, ht, e1⟩ := aJk_some e1
      cases cnd <;> dsimp only at e1 <;> split at e1 <;> rename_i hc <;> obtain ⟨rfl, rfl, rfl, rfl⟩ := aGo_inl e1 <;> refine ⟨rfl, ?_⟩
      · exact lv_icmp_eq hx hb hd ht (fun _ => k _ hL) (fun q => absurd hc q)
      · exact lv_icmp_eq hx hb hd ht (fun q => absurd q hc) (fun _ => k _ hL)
      · exact lv_icmp_ne hx hb hd ht (fun q => absurd hc q) (fun _ => k _ hL)
      · exact lv_icmp_ne hx hb hd ht (fun _ => k _ hL) (fun q => absurd q hc)
      · exact lv_icmp_lt hx hb hd ht (fun _ => k _ hL) (fun q => absurd hc q)
      · exact lv_icmp_lt hx hb hd ht (fun q => absurd q hc) (fun _ => k _ hL)
      · exact lv_icmp_ge hx hb hd ht (fun _ => k _ hL) (fun q => absurd hc q)
      · exact lv_icmp_ge hx hb hd ht (fun q => absurd q hc) (fun _ => k _ hL)
      · exact lv_icmp_gt hx hb hd ht (fun _ => k _ hL) (fun q => absurd hc q)
      · exact lv_icmp_gt hx hb hd ht (fun q => absurd q hc) (fun _ => k _ hL)
      · exact lv_icmp_le hx hb hd ht (fun _ => k _ hL) (fun q => absurd hc q)
      · exact lv_icmp_le hx hb hd ht (fun q => absurd q hc) (fun _ => k _ hL)
    · cases e1
  case if_acmp cnd off =>
    obtain ⟨rfl, e1⟩ := aLn_some hf
    split at e1
    · rename_i y x r
      obtain ⟨t, ht, e1⟩ := aJk_some e1
      obtain ⟨rx, hrx⟩ : ∃ r0 : Option Nat, aPhi b E (.ref x) = va_rf r0 := by
        rcases aPhi_ref hR x with q | ⟨z, q⟩
        · exact ⟨none, q⟩
        · exact ⟨some z, q⟩
      obtain ⟨ry, hry⟩ : ∃ r0 : Option Nat, aPhi b E (.ref y) = va_rf r0 := by
        rcases aPhi_ref hR y with q | ⟨z, q⟩
        · exact ⟨none, q⟩
        · exact ⟨some z, q⟩
      have hne : ∀ (x y : Nat) (rx ry : Option Nat), aPhi b E (.ref x) = va_rf rx → aPhi b E (.ref y) = va_rf ry → 64 ≤ x → ¬ x = y → ¬ rx = ry := by
        intro x y rx ry h1 h2 h6 hn q
        subst q
        have h3 : aPhi b E (.ref y) = .ref (b + (x - 64)) := by rw [h2, ← h1, aPhi_own h6]
        exact hn (aPhi_inj hR h6 h3 rfl).symm
      have hne2 : (64 ≤ x ∨ 64 ≤ y) → ¬ x = y → ¬ rx = ry := by
        intro h6 hn
        rcases h6 with h6 | h6
        · exact hne x y rx ry hrx hry h6 hn
        · exact fun q => hne y x ry rx hry hrx h6 (fun z => hn z.symm) q.symm
      rw [List.map_cons, List.map_cons, hrx, hry]
      cases cnd <;> dsimp only at e1 <;> split at e1
      · rename_i hc
        obtain ⟨rfl, rfl, rfl, rfl⟩ := aGo_inl e1
        have hxy : rx = ry := by
          subst hc
          have q := hrx.symm.trans hry
          cases rx <;> cases ry <;> cases q <;> rfl
        exact ⟨rfl, lv_acmp_eq hx hb hd ht (fun _ => k _ hL) (fun q => absurd hxy q)⟩
      · rename_i hc
        split at e1
        · rename_i h6
          obtain ⟨rfl, rfl, rfl, rfl⟩ := aGo_inl e1
          exact ⟨rfl, lv_acmp_eq hx hb hd ht (fun q => absurd q (hne2 h6 hc)) (fun _ => k _ hL)⟩
        · cases e1
      · rename_i hc
        obtain ⟨rfl, rfl, rfl, rfl⟩ := aGo_inl e1
        have hxy : rx = ry := by
          subst hc
          have q := hrx.symm.trans hry
          cases rx <;> cases ry <;> cases q <;> rfl
        exact ⟨rfl, lv_acmp_ne hx hb hd ht (fun q => absurd hxy q) (fun _ => k _ hL)⟩
      · rename_i hc
        split at e1
        · rename_i h6
          obtain ⟨rfl, rfl, rfl, rfl⟩ := aGo_inl e1
          exact ⟨rfl, lv_acmp_ne hx hb hd ht (fun _ => k _ hL) (fun q => absurd q (hne2 h6 hc))⟩
        · cases e1
    · cases e1
  case ifnonnull off =>
    obtain ⟨rfl, e1⟩ := aLn_some hf
    split at e1
    · obtain ⟨rfl, rfl, rfl, rfl⟩ := aGo_inl e1; exact ⟨rfl, lv_ifnonnullN hx hb hd (k _ hL)⟩
    · rename_i a r
      split at e1
      · rename_i h6
        obtain ⟨t, ht, e1⟩ := aJk_some e1
        obtain ⟨rfl, rfl, rfl, rfl⟩ := aGo_inl e1
        rw [List.map_cons, aPhi_own h6]
        exact ⟨rfl, lv_ifnonnull hx hb hd ht (k _ hL)⟩
      · cases e1
    · cases e1
  case tableswitch df lo up offs =>
    dsimp only [aFlow] at hf
    split at hf
    · rename_i x r
      split at hf
      · rename_i hc
        obtain ⟨t, ht, e1⟩ := aJk_some hf
        obtain ⟨rfl, rfl, rfl, rfl⟩ := aGo_inl e1
        exact ⟨rfl, lv_tableOut hx hb hd hc ht (k _ hL)⟩
      · rename_i hc
        split at hf
        · rename_i off ho
          obtain ⟨t, ht, e1⟩ := aJk_some hf
          obtain ⟨rfl, rfl, rfl, rfl⟩ := aGo_inl e1
          exact ⟨rfl, lv_tableIn hx hb hd (fun q => hc (Or.inl q)) (fun q => hc (Or.inr q)) ho ht (k _ hL)⟩
        · cases hf
    · cases hf
  all_goals (obtain ⟨rfl, e1⟩ := aLn_some hf; exact absurd e1 (aRet_inl))
end SIM1
