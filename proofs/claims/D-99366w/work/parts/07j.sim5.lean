set_option maxRecDepth 100000
/-! SIMULATION 6: new cells, casts, lengths; all heap acts -/
section SIM5
variable {p : Program} {l : Launch} {e : Env} {R : Room} {s : State} {m : MethodId} {args : Array Value} {below : List Frame} {meth : Method} {c : Code} {H : Heap} {locs : List Loc} {cells slots : Nat} {Q : State → Prop}
variable {D : va_G} {b : Nat} {E : Nat → Value} {μ pc : Nat} {JL : Array Slot} {ls st : List Value} {h : aH}
theorem hz_nw {κ n u : Nat} : hz_ (nw_ h κ n u) = hz_ h + 1 := rfl
theorem hu_nw {κ n u : Nat} : hu_ (nw_ h κ n u) = hu_ h + u := rfl
theorem hk_nw {κ n u : Nat} : hk_ (nw_ h κ n u) (hz_ h) = (κ, n) := if_pos rfl
/-- a new cell goes on -/
theorem aM1.new {κ n u pc' : Nat} {st' r : List Value} {t : (Nat × List Value × List Value × aH) ⊕ ((Nat × List Value × Bool × List Value) ⊕ (Outcome × aH))} (hR : aRel D b E s h H) (hl : ∀ q ∈ locs, b ≤ q.base) (ht : t = .inl (pc', ls, .ref (hz_ h) :: r, nw_ h κ n u))
    (k : cells + 1 ≤ R.cells → slots + u ≤ R.slots → (∀ (H' : Heap) (cell' : Cell), H'[H.size]? = some cell' → H'.size = H.size + 1 → (∀ q, q < H.size → H'[q]? = H[q]?) → aOb D (aPhi b E) s (nw_ h κ n u) (hz_ h) cell' → W p l e R s m args below meth c H' locs (cells + 1) (slots + u) Q (F0 m pc' JL (.ref H.size :: r.map (aPhi b E)))) → W p l e R s m args below meth c H locs cells slots Q (F0 m pc JL (st.map (aPhi b E)))) :
    aM1 p l e R s m args below meth c H locs cells slots Q D b E JL h pc ls st t := by
  refine ⟨pc', _, _, ht, by rw [hz_nw]; omega, by rw [hu_nw]; omega, fun h1 h2 kk => ?_⟩
  rw [hz_nw, Nat.add_sub_cancel_left] at h1
  rw [hu_nw, Nat.add_sub_cancel_left] at h2
  refine k h1 h2 (fun H' cell' g1 g2 g3 g4 => ?_)
  obtain ⟨q1, q2⟩ := hR.new g1 g2 g3 g4
  have := kk H' locs q1 hl
  rw [hz_nw, Nat.add_sub_cancel_left, hu_nw, Nat.add_sub_cancel_left, List.map_cons, q2] at this
  exact this
theorem aFresh (hR : aRel D b E s h H) (f : Nat) : hp_ h (hz_ h) f = none ∧ hi_ h (hz_ h) f = 0 ∧ hl_ h (hz_ h) f = 0 := (hR.2.2.2.1 _ (Nat.le_refl _)).2 f
set_option maxHeartbeats 1000000 in
theorem aNew_sim (C : aCx p s m args meth c μ) (K : aAK D E s) (hR : aRel D b E s h H) {j κ : Nat} (hl : ∀ q ∈ locs, b ≤ q.base) (hd : decode (aCode μ) pc = .ok (.new j, 3)) (hf : aNew (aCo μ) j = some κ) :
    aM1 p l e R s m args below meth c H locs cells slots Q D b E JL h pc ls st (.inl (pc + 3, ls, .ref (hz_ h) :: st, nw_ h κ 0 (aSlL.getD κ 0))) := by
  obtain ⟨hx, hb, hml, hret, hlk, hown, hts, hin, htab, hμ⟩ := C
  obtain ⟨hκ, hcl⟩ := aNew_ok hf
  have hq : ∃ q, aKl[κ]? = some q := ⟨_, List.getElem?_eq_getElem (show κ < aKl.length from hκ)⟩
  obtain ⟨q, hq⟩ := hq
  have hok := aKoks _ _ hq
  obtain ⟨k1, k2, k3, k4, k5, k6, k7⟩ := id hok
  have hkn : aKn κ = q.1 := by unfold aKn; rw [(getD_of hq).2]
  rw [hkn] at hcl
  have hKn := K.1 _ _ hq
  refine aM1.new (st' := []) hR hl rfl (fun h1 h2 kk => ?_)
  refine W.newcK hx hb hown (hts _ hcl) (hts _ k3) (hts _ k2) rfl hd h1 h2 hKn.2.1 rfl fun H' kC hkC g1 g2 g3 => ?_
  refine kk H' _ g1 g2 g3 ?_
  have hty : ∀ k, k < q.2.2 → parseFieldDescriptor (q.2.1 k).2.2.1 = some ((parseFieldDescriptor (q.2.1 k).2.2.1).getD .int) := by
    intro k hk
    obtain ⟨a1, -, a3⟩ := k6 k hk
    obtain ⟨ft, pa, -⟩ := aFt_of a3
    rw [← a1] at pa
    rw [pa]; rfl
  obtain ⟨cell, c1, c2, c3, c4⟩ := u_born (fun k => (parseFieldDescriptor (q.2.1 k).2.2.1).getD .int) hts k1 hKn hkC g1 hty
  rw [g1] at c1
  cases c1
  unfold aOb
  rw [hk_nw]
  refine ⟨(fun z => by cases z), rfl, fun _ => rfl, fun _ => ⟨rfl, hκ, fun k r hr => ?_⟩, fun hc => absurd hc (by omega)⟩
  obtain ⟨hkl, hkd⟩ := getD_of (d := (0, 0)) hr
  have hkN : k < q.2.2 := by rw [← k5]; exact hkl
  obtain ⟨a1, a2, a3⟩ := k6 k hkN
  rw [hkd] at a1 a2 a3
  obtain ⟨ft, pa, htk⟩ := aFt_of a3
  rw [c4 k hkN]
  dsimp only
  rw [a1, pa, a2]
  obtain ⟨z1, z2, z3⟩ := aFresh hR r.1
  have y1 : hp_ (nw_ h κ 0 (aSlL.getD κ 0)) (hz_ h) r.1 = none := z1
  have y2 : hi_ (nw_ h κ 0 (aSlL.getD κ 0)) (hz_ h) r.1 = 0 := z2
  have y3 : hl_ (nw_ h κ 0 (aSlL.getD κ 0)) (hz_ h) r.1 = 0 := z3
  generalize aTy r.1 = ty at htk ⊢
  unfold aVl
  rw [y1, y2, y3]
  match ty, ft, htk with
  | 0, .int, _ => rfl
  | 1, .long, _ => rfl
  | 3, .boolean, _ => rfl
  | 4, .byte, _ => rfl
  | 2, .object _, _ => rfl
  | 2, .array _, _ => rfl
theorem aNewArr_ob (hR : aRel D b E s h H) {κ n : Nat} (hκ : 100 ≤ κ) (hκ2 : κ < 116) {cell : Cell} (h1 : cell.vm = .none) (h2 : s.isArrayOf cell (aFt κ)) (h3 : 110 ≤ κ → va_RA s cell.cls (aFt κ)) (h4 : cell.slots.size = n)
    (h5 : ∀ j, j < n → cell.slots[j]? = some (if κ = 104 then .long 0 else if 110 ≤ κ then .null else .int 0)) : aOb D (aPhi b E) s (nw_ h κ n n) (hz_ h) cell := by
  unfold aOb
  rw [hk_nw]
  refine ⟨(by rw [h1]; exact (fun z => by cases z)), by rw [h1]; rfl, fun _ => h1, fun hc => absurd hc (by omega), fun _ => ⟨h2, h3, h4, fun j hj => ?_, hκ2⟩⟩
  rw [h5 j hj]
  obtain ⟨z1, z2, z3⟩ := aFresh hR j
  have y1 : hp_ (nw_ h κ n n) (hz_ h) j = none := z1
  have y2 : hi_ (nw_ h κ n n) (hz_ h) j = 0 := z2
  have y3 : hl_ (nw_ h κ n n) (hz_ h) j = 0 := z3
  unfold aEl
  rw [y1, y2, y3]
  dsimp only
  split
  · rfl
  · split <;> rfl
theorem aSi_some {α : Type} {mm : Int32} {x y z : α} (hy : y ≠ z) (hp : aSi mm x y = z) : aSz mm ∧ x = z := by
  unfold aSi at hp
  by_cases hc : aSz mm
  · rw [@if_pos _ (aSzD mm) hc] at hp; exact ⟨hc, hp⟩
  · rw [@if_neg _ (aSzD mm) hc] at hp; exact absurd hp hy
set_option maxHeartbeats 1000000 in
theorem aNewa_sim (C : aCx p s m args meth c μ) (hR : aRel D b E s h H) {t : ArrayType} {κ : Nat} {k : Int32} {r : List Value} (hl : ∀ q ∈ locs, b ≤ q.base) (hd : decode (aCode μ) pc = .ok (.newarray t, 2)) (hf : aAk t = some κ) (hk : aSz k) :
    aM1 p l e R s m args below meth c H locs cells slots Q D b E JL h pc ls (.int k :: r) (.inl (pc + 2, ls, .ref (hz_ h) :: r, nw_ h κ k.toNatClampNeg k.toNatClampNeg)) := by
  obtain ⟨hx, hb, hml, hret, hlk, hown, hts, hin, htab, hμ⟩ := C
  obtain ⟨hk1, hk2⟩ := hk
  have key : ∀ (ty : FieldType), newarray.typeOf t = ty → aFt κ = ty → κ < 110 → 100 ≤ κ → (Cond.arrayClass ty).before args s = true → componentBytes ty ≤ 8 → defaultValue ty = (if κ = 104 then .long 0 else .int 0) →
      aM1 p l e R s m args below meth c H locs cells slots Q D b E JL h pc ls (.int k :: r) (.inl (pc + 2, ls, .ref (hz_ h) :: r, nw_ h κ k.toNatClampNeg k.toNatClampNeg)) := by
    intro ty t1 t2 t3 t4 t5 t6 t7
    refine aM1.new (st' := []) hR hl rfl (fun h1 h2 kk => ?_)
    refine W.newaK hx hb (atype := t) (by rw [t1]; exact t5) rfl hd rfl hk1 rfl (by rw [t1]; exact Nat.le_trans (Nat.mul_le_mul hk2 t6) (by decide)) h1 h2 rfl (fun H' cA g1 g2 g3 g4 => ?_)
    refine kk H' _ g1 g2 g3 (aNewArr_ob hR t4 (by omega) rfl ?_ (fun z => absurd z (by omega)) (arrV_size _ _ _) (fun j hj => ?_))
    · rw [t2, ← t1]; exact g4 _ _
    · rw [arrV_read _ _ hj, t1, t7]
      split
      · rfl
      · rw [if_neg (by omega)]
  cases t <;> simp only [aAk, Option.some.injEq, reduceCtorEq] at hf <;> subst hf
  · exact key .boolean rfl rfl (by decide) (by decide) (hts _ q558) (by decide) rfl
  · exact key .byte rfl rfl (by decide) (by decide) (hts _ q246) (by decide) rfl
  · exact key .short rfl rfl (by decide) (by decide) (hts _ q306) (by decide) rfl
  · exact key .int rfl rfl (by decide) (by decide) (hts _ q424) (by decide) rfl
  · exact key .long rfl rfl (by decide) (by decide) (hts _ q1736) (by decide) rfl
set_option maxHeartbeats 1000000 in
theorem aAnew_sim (C : aCx p s m args meth c μ) (K : aAK D E s) (hR : aRel D b E s h H) {j κ : Nat} {k : Int32} {r : List Value} (hl : ∀ q ∈ locs, b ≤ q.base) (hd : decode (aCode μ) pc = .ok (.anewarray j, 3)) (hf : aArr (aCo μ) j = some κ) (hk : aSz k) (h115 : κ ≠ 115) :
    aM1 p l e R s m args below meth c H locs cells slots Q D b E JL h pc ls (.int k :: r) (.inl (pc + 3, ls, .ref (hz_ h) :: r, nw_ h κ k.toNatClampNeg k.toNatClampNeg)) := by
  obtain ⟨hx, hb, hml, hret, hlk, hown, hts, hin, htab, hμ⟩ := C
  obtain ⟨hk1, hk2⟩ := hk
  rcases aArr_ok hf with ⟨-, a2, a3, ⟨cn, a4, a5⟩, a6⟩ | ⟨a1, -⟩
  · have hover : (Cond.arrayOver (.object cn)).before args s = true := by rw [← a4]; exact K.2.1.2.2.2.1 _ a6
    refine aM1.new (st' := []) hR hl rfl (fun h1 h2 kk => ?_)
    refine W.anew hx hb hown (hts _ a5) hover rfl hd rfl hk1 (Nat.le_trans (Nat.mul_le_mul_right 4 hk2) (by decide)) h1 h2 (fun cA kA comp g1 g2 g3 g4 => ?_)
    refine kk _ _ (Array.getElem?_push_size ..) (Array.size_push ..) (fun q hq => by rw [Array.getElem?_push, if_neg (by omega)]) (aNewArr_ob hR (by omega) (by omega) rfl ?_ (fun _ => ?_) (by simp) (fun i hi => ?_))
    · rw [a4]; exact ⟨(fun z hz => by cases hz), kA, g2, comp, g3⟩
    · rw [a4]; exact ⟨kA, comp, g2, g3, g4, g1⟩
    · rw [if_neg (by omega), if_pos a2]; simp [hi]
  · exact absurd a1 h115
theorem aOb.keep {h' : aH} {a : Nat} {cell : Cell} (hO : aOb D (aPhi b E) s h a cell) (hk : hk_ h' a = hk_ h a) (hs : ∀ f, hp_ h' a f = hp_ h a f ∧ hi_ h' a f = hi_ h a f ∧ hl_ h' a f = hl_ h a f) : aOb D (aPhi b E) s h' a cell := hO.same ⟨hk, hs⟩
set_option maxHeartbeats 2000000 in
theorem aMulti_sim (C : aCx p s m args meth c μ) (K : aAK D E s) (hR : aRel D b E s h H) {j : Nat} {k n : Int32} {r : List Value} (hl : ∀ q ∈ locs, b ≤ q.base) (hd : decode (aCode μ) pc = .ok (.multianewarray j 2, 4)) (hf : aArr (aCo μ) j = some 115) (hn : aSz n) (hk : aSz k) :
    aM1 p l e R s m args below meth c H locs cells slots Q D b E JL h pc ls (.int k :: .int n :: r) (.inl (pc + 4, ls, .ref (hz_ h) :: r, mw_ h n.toNatClampNeg k.toNatClampNeg)) := by
  obtain ⟨hx, hb, hml, hret, hlk, hown, hts, hin, htab, hμ⟩ := C
  obtain ⟨hn1, hn2⟩ := hn
  obtain ⟨hk1, hk2⟩ := hk
  rcases aArr_ok hf with ⟨a1, -⟩ | ⟨-, hcl⟩
  · exact absurd rfl a1
  have hover : (Cond.arrayOver (.array .int)).before args s = true := K.2.1.2.2.2.1 _ (List.mem_of_getElem? (i := 5) rfl)
  generalize hN : n.toNatClampNeg = N at *
  generalize hM : k.toNatClampNeg = M at *
  have z1 : hz_ (mw_ h N M) = hz_ h + (1 + N) := rfl
  have z2 : hu_ (mw_ h N M) = hu_ h + (N + N * M) := rfl
  refine ⟨_, _, _, rfl, by rw [z1]; omega, by rw [z2]; omega, fun h1 h2 kk => ?_⟩
  rw [z1, Nat.add_sub_cancel_left] at h1
  rw [z2, Nat.add_sub_cancel_left] at h2
  intro T hT X
  obtain ⟨vm₁, cA, comp, hW, hfA, hfC, hO, hI, X1, step⟩ := X.multianewarray2F hx (ty := .int) hown (hts _ hcl) hover (hts _ q424) (g := F0 m pc JL (.int k :: .int n :: r.map (aPhi b E))) rfl (by rw [hb]; exact hd) (n := n) (k := k) (rest := r.map (aPhi b E)) rfl hn1 hk1
    (by rw [hN]; omega) (by rw [hM]; show M * 4 ≤ _; omega) (by rw [hM]; omega) rfl rfl (by rw [hN]; exact h1) (by rw [hN, hM]; exact h2)
  rw [hN, hM] at X1 step
  obtain ⟨f1, f2, f3, f4⟩ := Jvm.Free.Multi.fill_facts (T.setVm vm₁) cA comp N M (defaultValue .int) N
  have hsz : (T.setVm vm₁).heap.size = H.size := by show T.heap.size = _; rw [hT]
  have hold := fun (x : Nat) (hx : x < H.size) => Jvm.Free.Multi.fill_old (T.setVm vm₁) cA comp N M (defaultValue .int) (a := x) (by rw [hsz]; exact hx) N
  have hinn := fun (j : Nat) (hj : j < N) => Jvm.Free.Multi.fill_inner (T.setVm vm₁) cA comp N M (defaultValue .int) N j hj
  obtain ⟨o1, o2, o3⟩ := Jvm.Free.Multi.outerC_facts cA N (T.setVm vm₁).heap.size N
  have hos := fun (j : Nat) (hj : j < N) => Jvm.Free.Multi.outerC_slot cA N (T.setVm vm₁).heap.size N j hj
  rw [hsz] at f1 f2 hinn o1 o2 o3 hos
  generalize hF : Jvm.Free.Multi.fill (T.setVm vm₁) cA comp N M (defaultValue .int) N = F at X1 step f1 f2 f3 f4 hold hinn
  have h64 := hR.1
  have hHs := hR.2.1
  have hkz : hk_ (mw_ h N M) (hz_ h) = (115, N) := if_pos rfl
  have hki : ∀ j, j < N → hk_ (mw_ h N M) (hz_ h + 1 + j) = (100, M) := fun j hj => by
    show (if hz_ h + 1 + j = hz_ h then (115, N) else if hz_ h < hz_ h + 1 + j ∧ hz_ h + 1 + j ≤ hz_ h + N then (100, M) else hk_ h (hz_ h + 1 + j)) = _
    rw [if_neg (by omega), if_pos (by omega)]
  have hko : ∀ x, (x < hz_ h ∨ hz_ h + N < x) → hk_ (mw_ h N M) x = hk_ h x := fun x hx => by
    show (if x = hz_ h then (115, N) else if hz_ h < x ∧ x ≤ hz_ h + N then (100, M) else hk_ h x) = _
    rw [if_neg (by omega), if_neg (by omega)]
  have hpo : ∀ x f, x ≠ hz_ h → hp_ (mw_ h N M) x f = hp_ h x f := fun x f hx => if_neg (fun q => hx q.1)
  have hpz : ∀ f, f < N → hp_ (mw_ h N M) (hz_ h) f = some (hz_ h + 1 + f) := fun f hf => if_pos ⟨rfl, hf⟩
  have hrel : aRel D b E s (mw_ h N M) F.heap := by
    refine ⟨by rw [z1]; omega, by rw [z1, f1]; omega, hR.2.2.1, fun x hx => ?_, fun x hx => ?_, fun q hq => (hR.2.2.2.2.2 q hq).kept (fun y hy _ => by rw [hold y hy]; show T.heap[y]? = _; rw [hT])⟩
    · rw [z1] at hx
      obtain ⟨r1, r2⟩ := hR.2.2.2.1 x (by omega)
      exact ⟨by rw [hko x (by omega)]; exact r1, fun f => ⟨by rw [hpo x f (by omega)]; exact (r2 f).1, (r2 f).2⟩⟩
    · rw [z1] at hx
      by_cases hxz : x < hz_ h
      · rw [hko x (Or.inl hxz)]
        rcases hR.2.2.2.2.1 x hxz with q | q | ⟨y, cell, q1, q2, q3⟩
        · exact Or.inl q
        · exact Or.inr (Or.inl q)
        · refine Or.inr (Or.inr ⟨y, cell, q1, ?_, q3.keep (hko x (Or.inl hxz)) (fun f => ⟨hpo x f (by omega), rfl, rfl⟩)⟩)
          rw [hold y (Array.getElem?_eq_some_iff.mp q2).1]
          show T.heap[y]? = _
          rw [hT]; exact q2
      · by_cases hxe : x = hz_ h
        · subst hxe
          refine Or.inr (Or.inr ⟨H.size, _, by rw [aPhi_own h64, hHs], f2, ?_⟩)
          unfold aOb
          rw [hkz]
          refine ⟨(by rw [o2]; exact (fun z => by cases z)), by rw [o2]; rfl, fun _ => o2, fun hc => absurd hc (by show ¬ 115 < 98; decide), fun _ => ⟨(hO N H.size N).1, fun _ => by rw [o1]; exact hfA, o3, fun i hi => ?_, by show 115 < 116; decide⟩⟩
          rw [hos i hi, if_pos hi]
          have : aEl (mw_ h N M) (hz_ h) 115 i = .ref (hz_ h + 1 + i) := by
            unfold aEl
            rw [if_neg (by decide), if_pos (by decide), hpz i hi]; rfl
          have hnum : b + (hz_ h + 1 + i - 64) = H.size + 1 + i := by rw [hHs]; omega
          rw [this, aPhi_own (by omega), hnum]
        · obtain ⟨i, hi, rfl⟩ : ∃ i, i < N ∧ x = hz_ h + 1 + i := ⟨x - hz_ h - 1, by omega, by omega⟩
          refine Or.inr (Or.inr ⟨H.size + 1 + i, _, (by rw [aPhi_own (by omega)]; exact congrArg Value.ref (show b + (hz_ h + 1 + i - 64) = H.size + 1 + i by rw [hHs]; omega)), hinn i hi, ?_⟩)
          unfold aOb
          rw [hki i hi]
          refine ⟨(fun z => by cases z), rfl, fun _ => rfl, fun hc => absurd hc (by show ¬ 100 < 98; decide), fun _ => ⟨(hI M _).1, fun hc => absurd hc (by show ¬ 110 ≤ 100; decide), by simp [Jvm.Free.Multi.innerC], fun i' hi' => ?_, by show 100 < 116; decide⟩⟩
          obtain ⟨y1, y2, y3⟩ := (hR.2.2.2.1 (hz_ h + 1 + i) (by omega)).2 i'
          have : aEl (mw_ h N M) (hz_ h + 1 + i) 100 i' = .int 0 := by
            unfold aEl
            rw [if_neg (by decide), if_neg (by decide)]
            exact congrArg Value.int y2
          rw [this]
          have hi'' : i' < M := hi'
          simp [Jvm.Free.Multi.innerC, hi'', defaultValue, aPhi]
  obtain ⟨t, a1, b1⟩ := kk F.heap locs hrel hl F rfl (by
    rw [z1, Nat.add_sub_cancel_left, z2, Nat.add_sub_cancel_left]
    have e1 : cells + 1 + N = cells + (1 + N) := by omega
    have e2 : slots + N + N * M = slots + (N + N * M) := by omega
    rw [e1, e2] at X1
    exact X1)
  refine ⟨t, step t ?_, b1⟩
  have e3 : aPhi b E (.ref (hz_ h)) = .ref T.heap.size := by rw [aPhi_own h64, hT, hHs]
  rw [List.map_cons, e3] at a1
  exact a1
theorem aRecv (K : aAK D E s) (hR : aRel D b E s h H) {a κ : Nat} (hκ : (hk_ h a).1 = κ) (h19 : κ < 19) : ∃ x : Nat, aPhi b E (.ref a) = .ref x ∧ ∃ cell : Cell, H[x]? = some cell ∧ cell.vm.isStatics = false ∧ s.vm.findClass (aKn κ) = some cell.cls := by
  subst hκ
  obtain ⟨hlt, x, cell, e1, e2, o1, o2, o3, o4, o5⟩ := hR.get (a := a) (by omega) (by omega)
  have hq : ∃ q, aKl[(hk_ h a).1]? = some q := ⟨_, List.getElem?_eq_getElem (show (hk_ h a).1 < aKl.length from h19)⟩
  obtain ⟨q, hq⟩ := hq
  refine ⟨x, e1, cell, e2, o2, ?_⟩
  rw [(o4 (by omega)).1]
  unfold aKn
  rw [(getD_of hq).2]
  exact (K.1 _ _ hq).2.1
theorem aClassAt (K : aAK D E s) {κ : Nat} (h19 : κ < 19) : ClassAt s (aKn κ) (D.1 κ) := by
  have hq : ∃ q, aKl[κ]? = some q := ⟨_, List.getElem?_eq_getElem (show κ < aKl.length from h19)⟩
  obtain ⟨q, hq⟩ := hq
  unfold aKn
  rw [(getD_of hq).2]
  exact (K.1 _ _ hq).2
theorem aRest_sim (C : aCx p s m args meth c μ) (K : aAK D E s) (hR : aRel D b E s h H) {i : Instr} {t : (Nat × List Value × List Value × aH) ⊕ ((Nat × List Value × Bool × List Value) ⊕ (Outcome × aH))} (hl : ∀ q ∈ locs, b ≤ q.base) (hd : decode (aCode μ) pc = .ok (i, 1)) (e1 : aRst pc ls st h i = some t) : aM1 p l e R s m args below meth c H locs cells slots Q D b E JL h pc ls st t := by
  unfold aRst at e1
  split at e1
  · split at e1
    · rename_i hv; cases e1; exact aAld_sim C hR hl hd hv
    · cases e1
  · split at e1
    · rename_i hv; cases e1; exact aAst_sim C K hR hl hd hv
    · cases e1
  · cases e1
set_option maxHeartbeats 2000000 in
theorem aMem_sim (C : aCx p s m args meth c μ) (K : aAK D E s) (hR : aRel D b E s h H) {i : Instr} {n : Nat} {t : (Nat × List Value × List Value × aH) ⊕ ((Nat × List Value × Bool × List Value) ⊕ (Outcome × aH))} (hl : ∀ q ∈ locs, b ≤ q.base) (hd : decode (aCode μ) pc = .ok (i, n)) (hf : aMem μ pc ls st h i n = some t) :
    aM1 p l e R s m args below meth c H locs cells slots Q D b E JL h pc ls st t := by
  cases i
  case getfield j =>
    obtain ⟨rfl, e1⟩ := aLn_some hf
    split at e1
    · split at e1
      · rename_i hv; cases e1; exact aGet_sim C K hR hl hd hv
      · cases e1
    · cases e1
  case putfield j =>
    obtain ⟨rfl, e1⟩ := aLn_some hf
    split at e1
    · split at e1
      · rename_i hv; cases e1; exact aPut_sim C K hR hl hd hv
      · cases e1
    · cases e1
  case arraylength =>
    obtain ⟨rfl, e1⟩ := aLn_some hf
    obtain ⟨hx, hb, hml, hret, hlk, hown, hts, hin, htab, hμ⟩ := C
    split at e1
    · rename_i a r
      split at e1
      · rename_i hκ
        cases e1
        refine aM1.same rfl rfl rfl (fun kk => ?_)
        have hlt : a < hz_ h := by
          refine Nat.lt_of_not_le (fun hc => ?_)
          rw [(hR.2.2.2.1 a hc).1] at hκ
          exact absurd hκ (by decide)
        obtain ⟨-, x, cell, e1, e2, o1, o2, o3, o4, o5⟩ := hR.get (a := a) (by omega) (by omega)
        obtain ⟨r1, r2, r3, r4, r5⟩ := o5 hκ
        rw [List.map_cons, e1]
        exact W.alen hx hb e2 r1 (by rw [r3]; rfl) rfl rfl hd (kk H locs hR hl)
      · cases e1
    · cases e1
  case new j =>
    obtain ⟨rfl, e1⟩ := aLn_some hf
    split at e1
    · rename_i hv; cases e1; exact aNew_sim C K hR hl hd hv
    · cases e1
  case newarray ty =>
    obtain ⟨rfl, e1⟩ := aLn_some hf
    split at e1
    · split at e1
      · rename_i hv
        obtain ⟨hs, e2⟩ := aSi_some (by simp) e1
        cases e2
        exact aNewa_sim C hR hl hd hv hs
      · cases e1
    · cases e1
  case anewarray j =>
    obtain ⟨rfl, e1⟩ := aLn_some hf
    split at e1
    · split at e1
      · rename_i κ hv
        cases h115 : Nat.beq κ 115 with
        | true => rw [h115] at e1; cases e1
        | false =>
          rw [h115, cond_false] at e1
          obtain ⟨hs, e2⟩ := aSi_some (by simp) e1
          cases e2
          exact aAnew_sim C K hR hl hd hv hs (fun q => by rw [q] at h115; cases h115)
      · cases e1
    · cases e1
  case multianewarray j dims =>
    obtain ⟨rfl, e1⟩ := aLn_some hf
    split at e1
    · split at e1
      · rename_i κ hv
        cases hb0 : Nat.beq κ 115 && Nat.beq dims 2 with
        | false => rw [hb0] at e1; cases e1
        | true =>
          rw [hb0, cond_true] at e1
          rw [Bool.and_eq_true] at hb0
          have q1 := Nat.eq_of_beq_eq_true hb0.1
          have q2 := Nat.eq_of_beq_eq_true hb0.2
          subst q1; subst q2
          obtain ⟨hs, e2⟩ := aSi_some (by simp) e1
          obtain ⟨hs2, e3⟩ := aSi_some (by simp) e2
          cases e3
          exact aMulti_sim C K hR hl hd hv hs hs2
      · cases e1
    · cases e1
  case checkcast j =>
    obtain ⟨rfl, e1⟩ := aLn_some hf
    obtain ⟨hx, hb, hml, hret, hlk, hown, hts, hin, htab, hμ⟩ := C
    split at e1
    · rename_i a r
      split at e1
      · rename_i lst hv
        split at e1
        · rename_i hm
          cases e1
          obtain ⟨h19, nm, hcl, hor⟩ := aCas_ok hv _ hm
          obtain ⟨x, e2, hr⟩ := aRecv K hR rfl h19
          refine aM1.same rfl rfl rfl (fun kk => ?_)
          have k := kk H locs hR hl
          rw [List.map_cons, e2] at k ⊢
          rcases hor with rfl | hor
          · exact va_castS hx hb hown (hts _ hcl) (aClassAt K h19) hr hd k
          · exact va_castY hx hb hown (hts _ hcl) (K.2.1.2.1 _ hor) hr hd k
        · cases e1
      · cases e1
    · cases e1
  case instanceof j =>
    obtain ⟨rfl, e1⟩ := aLn_some hf
    obtain ⟨hx, hb, hml, hret, hlk, hown, hts, hin, htab, hμ⟩ := C
    split at e1
    · rename_i a r
      split at e1
      · rename_i lst hv
        split at e1
        · rename_i hm
          cases e1
          obtain ⟨h19, nm, hcl, hor⟩ := aCas_ok hv _ hm
          obtain ⟨x, e2, hr⟩ := aRecv K hR rfl h19
          refine aM1.same rfl rfl rfl (fun kk => ?_)
          have k := kk H locs hR hl
          rw [List.map_cons, e2]
          rcases hor with rfl | hor
          · exact va_instS hx hb hown (hts _ hcl) (aClassAt K h19) hr hd k
          · exact va_instY hx hb hown (hts _ hcl) (K.2.1.2.1 _ hor) hr hd k
        · cases e1
      · cases e1
    · cases e1
  all_goals (obtain ⟨rfl, e1⟩ := aLn_some hf; exact aRest_sim C K hR hl hd e1)
end SIM5
