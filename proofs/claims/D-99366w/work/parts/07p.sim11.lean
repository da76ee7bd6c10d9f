set_option maxRecDepth 100000
/-! SIMULATION 12: invokevirtual -/
section SIM11
variable {p : Program} {l : Launch} {e : Env} {R : Room} {s : State} {m : MethodId} {args : Array Value} {below : List Frame} {meth : Method} {c : Code} {H : Heap} {locs : List Loc} {cells slots : Nat} {Q : State → Prop}
variable {D : va_G} {b : Nat} {E : Nat → Value} {μ pc : Nat} {JL : Array Slot} {ls st : List Value} {h : aH}
theorem aGoodU {own C owner : String} {idx : Nat} {x y : MethodName} {by_ : ByteArray} {L : Nat} {r : Option FieldType} (g1 : Cond.methodLink own idx x ∈ lw_all) (g2 : Cond.sameMethod x.cls owner x.name x.desc ∈ lw_all) (g3 : Cond.selects C x y ∈ lw_all) (g4 : Cond.instanceMethod y ∈ lw_all) (g5 : Cond.initialized y.cls ∈ lw_all) (g6 : Cond.code y by_ L r ∈ lw_all) : GoodIn lw_all (va_wsU own idx C owner x y (ws_ y by_ L r)) := by
  refine lw_app ?_ (lw_meth g6)
  intro w hw
  simp only [List.mem_cons, List.not_mem_nil, or_false] at hw
  rcases hw with q | q | q | q | q <;> rw [q] <;> assumption
theorem aGoodO {own C owner : String} {idx : Nat} {x y : MethodName} {by_ : ByteArray} {L : Nat} {r : Option FieldType} (g1 : Cond.methodLink own idx x ∈ lw_all) (g2 : Cond.sameMethod x.cls owner x.name x.desc ∈ lw_all) (g0 : Cond.instanceMethod ⟨owner, x.name, x.desc⟩ ∈ lw_all) (g3 : Cond.selects C x y ∈ lw_all) (g4 : Cond.instanceMethod y ∈ lw_all) (g5 : Cond.initialized y.cls ∈ lw_all) (g6 : Cond.code y by_ L r ∈ lw_all) : GoodIn lw_all (va_wsO own idx C owner x y (ws_ y by_ L r)) := by
  refine lw_app ?_ (lw_meth g6)
  intro w hw
  simp only [List.mem_cons, List.not_mem_nil, or_false] at hw
  rcases hw with q | q | q | q | q | q <;> rw [q] <;> assumption
/-- behind a call that comes back or throws -/
theorem aRunX_go {r : Outcome × aH} {a : Array Value} {st0 rest : List Value} {thr : Bool} (hl : ∀ q ∈ locs, b ≤ q.base) (hr : vx_Run p l e R s m args below meth c H locs cells slots (hz_ r.2 - hz_ h) (hu_ r.2 - hu_ h) (F0 m pc JL st0) (rest.map (aPhi b E)) (aQc D b E r a) (aXc D b E r) (fun q => b ≤ q))
    (k : aCk p l e R s m args below meth c cells slots Q D b E JL h pc rest thr r) : W p l e R s m args below meth c H locs cells slots Q (F0 m pc JL st0) := by
  intro T hT X
  rcases hr T hT X with ⟨v', st₀, t, T', L, h0, X', hL, e1, e2, ⟨v, q1, q2, q3⟩, st⟩ | ⟨q, st₀, t, T', L, E', ce, h0, X', hL, e1, e2, ⟨q0, q1, q5, q3, q4⟩, c1, c2, c3, st⟩
  · cases q2
    have hal : t.vm.Alike s.vm := by rw [← e2]; exact X'.warmed.alike.symm
    rw [← e1] at q3
    obtain ⟨t2, a1, b1⟩ := k.1 v q1 T'.heap (locs ++ L) (q3.moved hal) (fun q hq => (List.mem_append.mp hq).elim (hl q) (hL q)) T' rfl X'
    refine ⟨t2, st t2 ?_, b1⟩
    have hmap : (aOc b E v).toList ++ rest.map (aPhi b E) = (v.toList ++ rest).map (aPhi b E) := by cases v <;> rfl
    rw [hmap]
    exact a1
  · subst q5
    have hal : t.vm.Alike s.vm := by rw [← e2]; exact X'.warmed.alike.symm
    rw [← e1] at q4 c1
    obtain ⟨t2, a1, b1⟩ := (k.2 q0 q1).2 T'.heap (locs ++ L) q ce (q4.moved hal) (fun q hq => (List.mem_append.mp hq).elim (hl q) (hL q)) q3 c1 c2 c3 T' rfl X'
    exact ⟨t2, st.trans a1, b1⟩
theorem aW4i : Cond.initialized (aKn 0) ∈ lw_all := q128
theorem aW4c : Cond.codeWith (aY 4) (aCode 4) (aML 4) (aRt 4) (aHd 4) ∈ lw_all := q574
theorem aW4d : (aY 4).cls = aKn 0 ∧ (aY 4).cls ≠ "java/lang/invoke/MethodHandle" ∧ (aY 4).cls ≠ "java/lang/invoke/VarHandle" ∧ (parseMethodDescriptor (aY 4).desc).map (fun d => d.parameters.length) = some 0 := ⟨rfl, by decide, by decide, by decide +kernel⟩
set_option maxHeartbeats 4000000 in
theorem aCalls_virt (C : aCx p s m args meth c μ) (K : aAK D E s) (hR : aRel D b E s h H) (hL : aLo b E μ JL ls) {j n d ν : Nat} {as rest : List Value} {thr : Bool} {r : Outcome × aH} (hl : ∀ q ∈ locs, b ≤ q.base) (hd : decode (aCode μ) pc = .ok (.invokevirtual j, n)) (hf : aCalls μ pc ls st h (.invokevirtual j) n = some (.inr (.inl (ν, as, thr, rest))))
    (hG : aGives l D b E d ν 0 (aEnt ν as) [] h r) (hn : aEn ν as = true) (hfr : d + 1 + 1 ≤ R.frames) (hlo : 64 * (d + 1 + 1) ≤ R.locals) (hcl : cells + (hz_ r.2 - hz_ h) ≤ R.cells) (hsl : slots + (hu_ r.2 - hu_ h) ≤ R.slots)
    (k : aCk p l e R s m args below meth c cells slots Q D b E JL h pc rest thr r) : W p l e R s m args below meth c H locs cells slots Q (F0 m pc JL (st.map (aPhi b E))) := by
  have C0 := C
  obtain ⟨hx, hb, hml, hret, hlk, hown, hts, hin, htab, hμ⟩ := C
  obtain ⟨n1, n2, n3, n4, hpn⟩ := aEn_spec hn
  have hmL := (aStat1 ν n3).2.2.2
  have hJs : (F0 m pc JL (st.map (aPhi b E))).locals.size = aML μ := hL.2.1
  have S : CallFix p m c (aCode μ) (aML μ) s args lw_all (aNm (aCo μ)) := ⟨hx, hb, hml, hown, hts⟩
  have hRm : (aRm d (hz_ r.2 - hz_ h) (hu_ r.2 - hu_ h)).frames + 1 ≤ R.frames ∧ 8 + (aML ν + 11) + (aRm d (hz_ r.2 - hz_ h) (hu_ r.2 - hu_ h)).locals ≤ R.locals := ⟨hfr, by show 8 + (aML ν + 11) + 64 * (d + 1) ≤ _; omega⟩
  have hsum : aWd rest ≤ 8 → 2 * (F0 m pc JL (st.map (aPhi b E))).monitorRoom + ((rest.map (aPhi b E)).map fun v => v.category).sum ≤ 8 := fun q => by rw [aWd_sum hR]; show 2 * 0 + _ ≤ _; omega
  -- a callee that comes back
  have ret : ∀ (y : Array Value), thr = false → (∀ v, r.1 = .returned v → va_Run p l e R s m args below meth c H locs cells slots (hz_ r.2 - hz_ h) (hu_ r.2 - hu_ h) (F0 m pc JL (st.map (aPhi b E))) (rest.map (aPhi b E)) (aQc D b E r y) (fun q => b ≤ q)) → W p l e R s m args below meth c H locs cells slots Q (F0 m pc JL (st.map (aPhi b E))) := by
    intro y ht hr
    cases ho : r.1 with
    | returned g => exact aRun_go ho hl (hr g ho) (fun H' locs' g1 g2 => k.1 g ho H' locs' g1 g2)
    | threw q0 => have := (k.2 q0 ho).1; rw [ht] at this; cases this
  obtain ⟨rfl, e1⟩ := aLn_some hf
  split at e1
  · rename_i ent hi
    have hok := aInv_ok hi
    obtain ⟨md, mm, tg⟩ := ent
    unfold aVirt at e1
    dsimp only at e1
    split at e1
    · rename_i as0 a rest0 hp
      obtain ⟨hst, hlen⟩ := aPop_spec hp
      split at e1
      · rename_i ν0 hlk2
        have hmem := aLk_mem hlk2
        have hlen' : (as0.map (aPhi b E)).length = mm := by rw [List.length_map, hlen]; rfl
        have hstk : ∀ x : Nat, aPhi b E (.ref a) = .ref x → st.map (aPhi b E) = (as0.map (aPhi b E)).reverse ++ .ref x :: rest0.map (aPhi b E) := fun x hax => by
          have : st = as0.reverse ++ (.ref a :: rest0) := by rw [hst]; rfl
          rw [this, List.map_append, List.map_cons, hax, List.map_reverse]
        cases h4 : Nat.beq md 4 with
        | true =>
          have h4' := Nat.eq_of_beq_eq_true h4
          rw [h4, cond_true] at e1
          obtain ⟨hw, he⟩ := aCl_some e1
          cases he
          subst h4'
          have hz : aIok (aCo μ) j 4 mm (hk_ h a).1 ν := by
            rcases hok with ⟨q, -⟩ | ⟨q, -⟩ | ⟨q, -⟩ | ⟨q, -⟩ | ⟨-, hz⟩
            · cases q
            · cases q
            · cases q
            · cases q
            · exact hz _ hmem
          obtain ⟨h19, hor, g1, g2, g3, g4⟩ := hz
          obtain ⟨x, hax, -⟩ := aRecv K hR rfl h19
          by_cases hν : ν = 4
          · subst hν
            obtain ⟨rfl, hk0⟩ := g4 rfl
            refine ret ((Value.ref x :: as0.map (aPhi b E)).toArray) rfl (fun v hv => ?_)
            obtain ⟨o, h'⟩ := r
            cases hv
            have hv := aPreV K hR as0 hk0 (by decide) hax
            rw [hk0] at g3
            exact vx_runVW S (aMet4 hG hn) (vx_cwVW 0 hts (lw_VW g1 g2 g3 aW4i aW4c) rfl rfl rfl aW4d hRm) hv rfl hlen' hJs (hstk x hax) (hsum hw) hd ⟨hcl, hsl⟩
          · rcases hor with q | hM
            · exact absurd q hν
            · refine aRunX_go hl ?_ k (a := (Value.ref x :: as0.map (aPhi b E)).toArray)
              exact vx_runV S (aMetX hG hn hM) ⟨callB_of mm hts (lw_meth hM.1) rfl rfl rfl (hts _ hM.2.2.1) (hts _ g1) hM.2.2.2 hRm, hts _ g2, hts _ g3⟩ (aPreV K hR as0 rfl h19 hax) rfl hlen' hJs (hstk x hax) (hsum hw) hd ⟨hcl, hsl⟩
        | false =>
          rw [h4, cond_false] at e1
          cases h58 : (Nat.beq md 5 || Nat.beq md 8) with
          | false => rw [h58] at e1; cases e1
          | true =>
            rw [h58, cond_true] at e1
            obtain ⟨hw, he⟩ := aCl_some e1
            cases he
            rw [Bool.or_eq_true] at h58
            rcases h58 with q | q
            · have q := Nat.eq_of_beq_eq_true q
              subst q
              have hz : aIok (aCo μ) j 5 mm (hk_ h a).1 ν := by
                rcases hok with ⟨q, -⟩ | ⟨q, -⟩ | ⟨q, -⟩ | ⟨q, -⟩ | ⟨-, hz⟩
                · cases q
                · cases q
                · cases q
                · cases q
                · exact hz _ hmem
              obtain ⟨h19, hM, xn, owner, ⟨g1, g2, g3, g4⟩, g5, hor⟩ := hz
              obtain ⟨x, hax, -⟩ := aRecv K hR rfl h19
              refine ret ((Value.ref x :: as0.map (aPhi b E)).toArray) rfl (fun v hv => ?_)
              obtain ⟨o, h'⟩ := r
              cases hv
              rcases hor with q | ⟨q, b0, m0, r0, q0⟩ | q
              · exact va_runU S (aMetR hG hn hM) (va_cwU mm hts (aGoodU g1 g2 g3 g4 hM.2.2.1 hM.1) rfl rfl rfl q g5 hRm) (aPreV K hR as0 rfl h19 hax) rfl hlen' hJs (hstk x hax) (hsum hw) hd ⟨hcl, hsl⟩
              · exact va_runU S (aMetR hG hn hM) (va_cwO mm hts (aGoodO g1 g2 q g3 g4 hM.2.2.1 hM.1) rfl rfl rfl q0 g5 hRm) (aPreV K hR as0 rfl h19 hax) rfl hlen' hJs (hstk x hax) (hsum hw) hd ⟨hcl, hsl⟩
              · exact va_runU S (aMetR hG hn hM) (va_cwA mm hts (aGoodU g1 g2 g3 g4 hM.2.2.1 hM.1) rfl rfl rfl (K.2.1.2.2.1 _ q) g5 hRm) (aPreV K hR as0 rfl h19 hax) rfl hlen' hJs (hstk x hax) (hsum hw) hd ⟨hcl, hsl⟩
            · have q := Nat.eq_of_beq_eq_true q
              subst q
              have hz : aIok (aCo μ) j 8 mm (hk_ h a).1 ν := by
                rcases hok with ⟨q, -⟩ | ⟨q, -⟩ | ⟨q, -⟩ | ⟨q, -⟩ | ⟨-, hz⟩
                · cases q
                · cases q
                · cases q
                · cases q
                · exact hz _ hmem
              obtain ⟨h17, hM, g1, g2, g3⟩ := hz
              obtain ⟨x, hax, -⟩ := aRecv K hR h17 (by decide)
              refine ret ((Value.ref x :: as0.map (aPhi b E)).toArray) rfl (fun v hv => ?_)
              obtain ⟨o, h'⟩ := r
              cases hv
              exact va_runV S (aMetR hG hn hM) ⟨callB_of mm hts (lw_meth hM.1) rfl rfl rfl (hts _ hM.2.2.1) (hts _ g1) hM.2.2.2 hRm, hts _ g2, K.2.1.2.2.2.2 _ g3⟩ (aPreV K hR as0 h17 (by decide) hax) rfl hlen' hJs (hstk x hax) (hsum hw) hd ⟨hcl, hsl⟩
      · cases e1
    · cases e1
  · cases e1
end SIM11
