set_option maxRecDepth 100000
/-! SIMULATION 5: array stores, new cells, casts -/
theorem aSto_cases {κ v : Nat} (h : aSto κ v = true) : (κ = 110 ∧ v = 11) ∨ (κ = 111 ∧ (v = 13 ∨ v = 14 ∨ v = 15)) ∨ (κ = 112 ∧ v = 12) ∨ (κ = 113 ∧ v = 6) ∨ (κ = 114 ∧ (v = 16 ∨ v = 18)) := by
  unfold aSto at h
  cases hl : aLk κ aStoL with
  | none => rw [hl] at h; cases h
  | some l =>
    rw [hl] at h
    have hm := aLk_mem hl
    simp only [aStoL, List.mem_cons, List.not_mem_nil, or_false, Prod.mk.injEq] at hm
    obtain ⟨z, hz, hb⟩ := List.any_eq_true.mp h
    have hz' := Nat.eq_of_beq_eq_true hb
    subst hz'
    rcases hm with ⟨rfl, rfl⟩ | ⟨rfl, rfl⟩ | ⟨rfl, rfl⟩ | ⟨rfl, rfl⟩ | ⟨rfl, rfl⟩ | ⟨rfl, rfl⟩ <;> simp at hz <;> omega
section SIM4
variable {p : Program} {l : Launch} {e : Env} {R : Room} {s : State} {m : MethodId} {args : Array Value} {below : List Frame} {meth : Method} {c : Code} {H : Heap} {locs : List Loc} {cells slots : Nat} {Q : State → Prop}
variable {D : va_G} {b : Nat} {E : Nat → Value} {μ pc : Nat} {JL : Array Slot} {ls st : List Value} {h : aH}
/-- an object's class is at or below a class of that name -/
theorem aAsg (K : aAK D E s) {κ v : Nat} (hs : aSto κ v = true) {cA : ClassId} (hra : va_RA s cA (aFt κ)) : ∃ (kA : Class) (comp : ClassId) (kC kV : Class), s.vm.classes[cA]? = some kA ∧ kA.kind = .array comp (aFt κ) ∧ s.vm.classes[comp]? = some kC ∧ s.vm.classes[D.1 v]? = some kV ∧ s.vm.assignable (D.1 v) comp = true := by
  have same : ∀ (C : String) (w : Nat) (q : vw_C), aFt κ = .object C → aKl[w]? = some q → q.1 = C → v = w → ∃ (kA : Class) (comp : ClassId) (kC kV : Class), s.vm.classes[cA]? = some kA ∧ kA.kind = .array comp (aFt κ) ∧ s.vm.classes[comp]? = some kC ∧ s.vm.classes[D.1 v]? = some kV ∧ s.vm.assignable (D.1 v) comp = true := by
    intro C w q h1 h2 h3 h4
    subst h4
    rw [h1] at hra ⊢
    obtain ⟨kA, comp, g1, g2, g3, g4⟩ := hra
    have hc := (K.1 v q h2).2
    rw [h3] at hc
    have he : comp = D.1 v := Option.some.inj (g3.symm.trans hc.1)
    subst he
    obtain ⟨kC, hkC, -⟩ := id hc.2
    exact ⟨kA, _, kC, kC, g1, g2, hkC, hkC, va_assign hc⟩
  have sub : ∀ (C : String) (w : Nat) (q : vw_C), aFt κ = .object C → aKl[w]? = some q → (q.1, C) ∈ aCsl → v = w → ∃ (kA : Class) (comp : ClassId) (kC kV : Class), s.vm.classes[cA]? = some kA ∧ kA.kind = .array comp (aFt κ) ∧ s.vm.classes[comp]? = some kC ∧ s.vm.classes[D.1 v]? = some kV ∧ s.vm.assignable (D.1 v) comp = true := by
    intro C w q h1 h2 h3 h4
    subst h4
    rw [h1] at hra ⊢
    obtain ⟨kA, comp, g1, g2, g3, g4⟩ := hra
    have hc := (K.1 v q h2).2
    obtain ⟨c0, t0, f1, f2, f3⟩ := Cond.castable_spec (va_Nw.use (A := #[]) rfl (K.2.1.2.1 _ h3))
    cases hc.1.symm.trans f1
    cases g3.symm.trans f2
    obtain ⟨kV, hkV, -⟩ := hc.2
    obtain ⟨kC, hkC, -⟩ := Vm.findClass_spec g3
    exact ⟨kA, _, kC, kV, g1, g2, hkC, hkV, f3⟩
  rcases aSto_cases hs with ⟨rfl, rfl⟩ | ⟨rfl, rfl | rfl | rfl⟩ | ⟨rfl, rfl⟩ | ⟨rfl, rfl⟩ | ⟨rfl, rfl | rfl⟩
  · exact same _ 11 _ rfl rfl rfl rfl
  · exact sub _ 13 _ rfl rfl (List.mem_of_getElem? (i := 2) rfl) rfl
  · exact sub _ 14 _ rfl rfl (List.mem_of_getElem? (i := 3) rfl) rfl
  · exact sub _ 15 _ rfl rfl (List.mem_of_getElem? (i := 4) rfl) rfl
  · exact same _ 12 _ rfl rfl rfl rfl
  · exact same _ 6 _ rfl rfl rfl rfl
  · exact sub _ 16 _ rfl rfl (List.mem_of_getElem? (i := 5) rfl) rfl
  · exact sub _ 18 _ rfl rfl (List.mem_of_getElem? (i := 6) rfl) rfl
set_option maxHeartbeats 1000000 in
theorem aAst_sim (C : aCx p s m args meth c μ) (K : aAK D E s) (hR : aRel D b E s h H) {a : Nat} {j : Int32} {i : Instr} {r : List Value} {v : Value} {h' : aH} (hl : ∀ q ∈ locs, b ≤ q.base) (hd : decode (aCode μ) pc = .ok (i, 1)) (hf : aAst h a j v i = some h') :
    aM1 p l e R s m args below meth c H locs cells slots Q D b E JL h pc ls (v :: .int j :: .ref a :: r) (.inl (pc + 1, ls, r, h')) := by
  obtain ⟨hx, hb, hml, hret, hlk, hown, hts, hin, htab, hμ⟩ := C
  unfold aAst at hf
  split at hf
  · rename_i h64
    have key : ∀ (κ : Nat) (w : Value), 100 ≤ κ → aPl h a κ j → aOne h h' a j.toNatClampNeg → aPhi b E (aEl h' a κ j.toNatClampNeg) = w → (∀ (cell : Cell), H[b + (a - 64)]? = some cell → s.isArrayOf cell (aFt κ) → cell.vm ≠ .unknown → ¬ (j < 0 ∨ cell.slots.size ≤ j.toNatClampNeg) → aOb D (aPhi b E) s h a cell →
        (∀ H' : Heap, H'[b + (a - 64)]? = some (cell.setSlot j.toNatClampNeg w) → H'.size = H.size → (∀ q, q ≠ b + (a - 64) → H'[q]? = H[q]?) → W p l e R s m args below meth c H' (locs ++ [⟨b + (a - 64), j.toNatClampNeg⟩]) cells slots Q (F0 m (pc + 1) JL (r.map (aPhi b E)))) →
        W p l e R s m args below meth c H locs cells slots Q (F0 m pc JL (aPhi b E v :: .int j :: .ref (b + (a - 64)) :: r.map (aPhi b E)))) →
        aM1 p l e R s m args below meth c H locs cells slots Q D b E JL h pc ls (v :: .int j :: .ref a :: r) (.inl (pc + 1, ls, r, h')) := by
      intro κ w hκ hj hone hw row
      obtain ⟨x, cell, hlt, e1, e2, e3, r1, r2, r3, r4, r5⟩ := aArr_of hR hj hκ
      rw [aPhi_own h64] at e1
      cases e1
      have hκe : (hk_ h a).1 = κ := hj.1
      refine aM1.same rfl hone.1 hone.2.1 (fun kk => ?_)
      rw [List.map_cons, List.map_cons, List.map_cons, aPhi_own h64]
      refine row cell e2 r1 r2 r3 e3 (fun H' g1 g2 g3 => kk H' _ (hR.put h64 hlt hone.1 hone.2.2.1 hone.2.2.2.1 g1 g2 g3 (e3.place hone (by omega) r4 (by rw [hκe]; exact hw))) (aLocs hl (Nat.le_add_right _ _)))
    split at hf
    · obtain ⟨hj, hv⟩ := aPi_some (by simp) hf
      cases hv
      exact key 100 _ (by decide) hj aOne_si (by show aPhi b E (.int (hi_ (si_ h a _ _) a _)) = _; rw [hi_si_self]; rfl) (fun cell q1 q2 q3 q4 q5 k => W.iast hx hb q1 q2 q3 q4 rfl rfl hd k)
    · rename_i x
      by_cases hj : aPl h a 101 j
      · rw [show aPi h a 101 j (some (si_ h a j.toNatClampNeg x.toInt8.toInt32)) _ = some (si_ h a j.toNatClampNeg x.toInt8.toInt32) from @if_pos _ (aPlD ..) hj _ _ _] at hf
        cases hf
        exact key 101 (.int x.toInt8.toInt32) (by decide) hj aOne_si (by show aPhi b E (.int (hi_ (si_ h a _ _) a _)) = _; rw [hi_si_self]; rfl) (fun cell q1 q2 q3 q4 q5 k => W.bast hx hb q1 q2 q3 q4 rfl rfl hd k)
      · rw [show aPi h a 101 j (some (si_ h a j.toNatClampNeg x.toInt8.toInt32)) (aPi h a 103 j (if x = 0 ∨ x = 1 then some (si_ h a j.toNatClampNeg x) else none) none) = aPi h a 103 j (if x = 0 ∨ x = 1 then some (si_ h a j.toNatClampNeg x) else none) none from @if_neg _ (aPlD ..) hj _ _ _] at hf
        obtain ⟨hj, hv⟩ := aPi_some (by simp) hf
        split at hv
        · rename_i hx01
          cases hv
          have hn : narrow .boolean (.int x) = .int x := by rcases hx01 with rfl | rfl <;> decide
          exact key 103 (narrow .boolean (.int x)) (by decide) hj aOne_si (by rw [hn]; show aPhi b E (.int (hi_ (si_ h a _ _) a _)) = _; rw [hi_si_self]; rfl) (fun cell q1 q2 q3 q4 q5 k => W.zast hx hb q1 q2 q3 q4 rfl rfl hd k)
        · cases hv
    · rename_i x
      obtain ⟨hj, hv⟩ := aPi_some (by simp) hf
      cases hv
      exact key 102 (.int x.toInt16.toInt32) (by decide) hj aOne_si (by show aPhi b E (.int (hi_ (si_ h a _ _) a _)) = _; rw [hi_si_self]; rfl) (fun cell q1 q2 q3 q4 q5 k => W.sast hx hb q1 q2 q3 q4 rfl rfl hd k)
    · obtain ⟨hj, hv⟩ := aPi_some (by simp) hf
      cases hv
      exact key 104 _ (by decide) hj aOne_sl (by show aPhi b E (.long (hl_ (sl_ h a _ _) a _)) = _; rw [hl_sl_self]; rfl) (fun cell q1 q2 q3 q4 q5 k => W.last hx hb q1 q2 q3 q4 rfl rfl hd k)
    · rename_i y
      split at hf
      · rename_i hsto
        obtain ⟨hj, hv⟩ := aPi_some (by simp) hf
        cases hv
        have hκ : 110 ≤ (hk_ h a).1 ∧ (hk_ h y).1 < 19 := by rcases aSto_cases hsto with q | q | q | q | q <;> omega
        obtain ⟨hylt, xy, cy, ey1, ey2, oy1, oy2, oy3, oy4, oy5⟩ := hR.get (a := y) (by omega) (by omega)
        have hcy := (oy4 (by omega)).1
        have hel : aEl (sp_ h a j.toNatClampNeg (some y)) a (hk_ h a).1 j.toNatClampNeg = .ref y := by
          unfold aEl
          rw [if_neg (by omega), if_pos hκ.1, hp_sp_self]; rfl
        refine key (hk_ h a).1 (.ref xy) (by omega) hj aOne_sp (by rw [hel, ey1]) (fun cell q1 q2 q3 q4 q5 k => ?_)
        obtain ⟨o1, o2, o3, o4, o5⟩ := q5
        obtain ⟨-, hra, -, -⟩ := o5 (by omega)
        obtain ⟨kA, comp, kC, kV, g1, g2, g3, g4, g5⟩ := aAsg K hsto (hra hκ.1)
        rw [ey1]
        refine W.aast hx hb q1 (fun q hq => by rw [hq] at o2; cases o2) q3 g1 g2 (aFt_ref hκ.1 (o5 (by omega)).2.2.2.2) g3 ⟨fun q => q4 (Or.inl q), Nat.not_le.mp (fun q => q4 (Or.inr q))⟩ ey2 (fun q hq => by rw [hq] at oy2; cases oy2) (by rw [hcy]; exact g4) (by rw [hcy]; exact g5) rfl rfl hd k
      · cases hf
    · cases hf
  · cases hf
end SIM4
