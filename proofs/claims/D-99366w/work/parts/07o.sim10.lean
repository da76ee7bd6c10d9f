set_option maxRecDepth 100000
/-! SIMULATION 11: invokespecial -/
section SIM10
variable {p : Program} {l : Launch} {e : Env} {R : Room} {s : State} {m : MethodId} {args : Array Value} {below : List Frame} {meth : Method} {c : Code} {H : Heap} {locs : List Loc} {cells slots : Nat} {Q : State → Prop}
variable {D : va_G} {b : Nat} {E : Nat → Value} {μ pc : Nat} {JL : Array Slot} {ls st : List Value} {h : aH}
set_option maxHeartbeats 4000000 in
theorem aCalls_spec (C : aCx p s m args meth c μ) (K : aAK D E s) (hR : aRel D b E s h H) (hL : aLo b E μ JL ls) {j n d ν : Nat} {as rest : List Value} {thr : Bool} {r : Outcome × aH} (hl : ∀ q ∈ locs, b ≤ q.base) (hd : decode (aCode μ) pc = .ok (.invokespecial j, n)) (hf : aCalls μ pc ls st h (.invokespecial j) n = some (.inr (.inl (ν, as, thr, rest))))
    (hG : aGives l D b E d ν 0 (aEnt ν as) [] h r) (hn : aEn ν as = true) (hfr : d + 1 + 1 ≤ R.frames) (hlo : 64 * (d + 1 + 1) ≤ R.locals) (hcl : cells + (hz_ r.2 - hz_ h) ≤ R.cells) (hsl : slots + (hu_ r.2 - hu_ h) ≤ R.slots)
    (k : aCk p l e R s m args below meth c cells slots Q D b E JL h pc rest thr r) : W p l e R s m args below meth c H locs cells slots Q (F0 m pc JL (st.map (aPhi b E))) := by
  have C0 := C
  obtain ⟨hx, hb, hml, hret, hlk, hown, hts, hin, htab, hμ⟩ := C
  obtain ⟨n1, n2, n3, n4, hpn⟩ := aEn_spec hn
  have hmL := (aStat1 ν n3).2.2.2
  have hJs : (F0 m pc JL (st.map (aPhi b E))).locals.size = aML μ := hL.2.1
  have S : CallFix p m c (aCode μ) (aML μ) s args lw_all (aNm (aCo μ)) := ⟨hx, hb, hml, hown, hts⟩
  have hRm : (aRm d (hz_ r.2 - hz_ h) (hu_ r.2 - hu_ h)).frames + 1 ≤ R.frames ∧ 8 + (aML ν + 11) + (aRm d (hz_ r.2 - hz_ h) (hu_ r.2 - hu_ h)).locals ≤ R.locals := ⟨hfr, by show 8 + (aML ν + 11) + 64 * (d + 1) ≤ _; omega⟩
  have hsum : aWd rest ≤ 8 → 2 * (F0 m pc JL (st.map (aPhi b E))).monitorRoom + ((rest.map (aPhi b E)).map fun v => v.category).sum ≤ 8 := fun q => by rw [aWd_sum hR]; show 2 * 0 + _ ≤ _; omega
  -- a callee that comes back
  have ret : ∀ (y : Array Value), thr = false → (∀ v, r.1 = .returned v → va_Run p l e R s m args below meth c H locs cells slots (hz_ r.2 - hz_ h) (hu_ r.2 - hu_ h) (F0 m pc JL (st.map (aPhi b E))) (rest.map (aPhi b E)) (aQc D b E r y) (fun q => b ≤ q)) → W p l e R s m args below meth c H locs cells slots Q (F0 m pc JL (st.map (aPhi b E))) := by
    intro y ht hr
    cases ho : r.1 with
    | returned g => exact aRun_go ho hl (hr g ho) (fun H' locs' g1 g2 => k.1 g ho H' locs' g1 g2)
    | threw q0 => have := (k.2 q0 ho).1; rw [ht] at this; cases this
  obtain ⟨rfl, e1⟩ := aLn_some hf
  split at e1
  · rename_i ent hi
    have hok := aInv_ok hi
    unfold aSpec at e1
    split at e1
    · rename_i md mm
      exfalso
      cases h9 : Nat.beq md 9 with
      | false => rw [h9] at e1; cases e1
      | true =>
        rw [h9, cond_true] at e1
        unfold aOi at e1
        split at e1
        · rename_i a0 rr
          split at e1
          · cases hb8 : Nat.ble (aWd rr) 8 <;> rw [hb8] at e1 <;> cases e1
          · cases e1
        · cases e1
    · rename_i md mm κ ν0
      split at e1
      · rename_i as0 a rest0 hp
        obtain ⟨hst, hlen⟩ := aPop_spec hp
        have fin : ∀ (hw : aWd rest ≤ 8) (hast : as = .ref a :: as0) (hrest : rest0 = rest) (hν : ν0 = ν) (hthr : thr = false) (x : Nat), aPhi b E (.ref a) = .ref x → (md = 1 ∨ md = 2 ∨ (md = 7 ∧ (hk_ h a).1 = κ)) → W p l e R s m args below meth c H locs cells slots Q (F0 m pc JL (st.map (aPhi b E))) := by
          intro hw hast hrest hν hthr x hax hmd
          subst hrest; subst hν; subst hast
          have hstk : st.map (aPhi b E) = (as0.map (aPhi b E)).reverse ++ .ref x :: rest0.map (aPhi b E) := by
            have : st = as0.reverse ++ (.ref a :: rest0) := by rw [hst]; rfl
            rw [this, List.map_append, List.map_cons, hax, List.map_reverse]
          have hlen' : (as0.map (aPhi b E)).length = mm := by rw [List.length_map, hlen]; rfl
          have hpre : PreS s H (aPre D b E (.ref a :: as0) h) (.ref x :: as0.map (aPhi b E)) := by
            have := aPreS K hR (.ref a :: as0)
            rw [List.map_cons, hax] at this
            exact this
          refine ret ((Value.ref x :: as0.map (aPhi b E)).toArray) hthr (fun v hv => ?_)
          obtain ⟨o, h'⟩ := r
          cases hv
          rcases hmd with rfl | rfl | ⟨rfl, hκ⟩
          · rcases hok with ⟨q, -⟩ | ⟨q, -⟩ | ⟨q, -⟩ | ⟨q, -⟩ | ⟨-, hz⟩
            · cases q
            · cases q
            · cases q
            · cases q
            · obtain ⟨hM, g1, g2, g3, g4⟩ := hz _ List.mem_cons_self
              have hm := aMetR hG hn hM
              have hcd := hM.1
              rw [g4] at hm hcd
              exact va_runI S hm (cwI mm hts (lw_meth hcd) rfl rfl rfl (hts _ hM.2.2.1) (hts _ g1) (hts _ g2) g3 hM.2.2.2 hRm) hpre rfl hlen' hJs hstk (hsum hw) hd ⟨hcl, hsl⟩
          · rcases hok with ⟨q, -⟩ | ⟨q, -⟩ | ⟨q, -⟩ | ⟨q, -⟩ | ⟨-, hz⟩
            · cases q
            · cases q
            · cases q
            · cases q
            · obtain ⟨hM, ⟨host, g1⟩, g2, g3, g4⟩ := hz _ List.mem_cons_self
              have hm := aMetR hG hn hM
              have hcd := hM.1
              rw [g4] at hm hcd
              exact va_runIN S hm ⟨va_cnB mm hts (lw_meth hcd) rfl rfl rfl (K.2.1.1 _ g1) (hts _ hM.2.2.1) hM.2.2.2 hRm, g3, hts _ g2⟩ hpre rfl hlen' hJs hstk (hsum hw) hd ⟨hcl, hsl⟩
          · rcases hok with ⟨q, -⟩ | ⟨q, -⟩ | ⟨q, -⟩ | ⟨q, -⟩ | ⟨-, hz⟩
            · cases q
            · cases q
            · cases q
            · cases q
            · obtain ⟨h19, hM, g1, g2, g3, g4, g5⟩ := hz _ List.mem_cons_self
              refine va_runSU (aClassAt K h19) S (aMetR hG hn hM) (va_cwSU mm hts (lw_app ?_ (lw_meth hM.1)) rfl rfl rfl ⟨g5, hM.2.2.2.2.2⟩ hRm) (aPreV K hR as0 hκ h19 hax) rfl hlen' hJs hstk (hsum hw) hd ⟨hcl, hsl⟩
              intro w hw
              simp only [List.mem_cons, List.not_mem_nil, or_false] at hw
              rcases hw with q | q | q | q | q <;> rw [q]
              · exact g1
              · exact g2
              · exact g3
              · exact g4
              · exact hM.2.2.1
        have hkk : ∀ κ0, (hk_ h a).1 < 98 → κ0 = (hk_ h a).1 → ∃ x : Nat, aPhi b E (.ref a) = .ref x := fun κ0 h1 h2 => by
          obtain ⟨-, x, cell, q, -⟩ := hR.get (a := a) (by omega) (by omega)
          exact ⟨x, q⟩
        cases hmd : (Nat.beq md 1 || Nat.beq md 2) with
        | true =>
          rw [hmd, cond_true] at e1
          split at e1
          · rename_i h98
            obtain ⟨hw, he⟩ := aCl_some e1
            cases he
            obtain ⟨x, hax⟩ := hkk _ h98 rfl
            refine fin hw rfl rfl rfl rfl x hax ?_
            rw [Bool.or_eq_true] at hmd
            rcases hmd with q | q
            · exact Or.inl (Nat.eq_of_beq_eq_true q)
            · exact Or.inr (Or.inl (Nat.eq_of_beq_eq_true q))
          · cases e1
        | false =>
          rw [hmd, cond_false] at e1
          cases h7 : Nat.beq md 7 with
          | false => rw [h7] at e1; cases e1
          | true =>
            rw [h7, cond_true] at e1
            split at e1
            · rename_i hκ
              have h7 := Nat.eq_of_beq_eq_true h7
              obtain ⟨hw, he⟩ := aCl_some e1
              cases he
              have h19 : κ < 19 := by
                subst h7
                rcases hok with ⟨q, -⟩ | ⟨q, -⟩ | ⟨q, -⟩ | ⟨q, -⟩ | ⟨-, hz⟩
                · cases q
                · cases q
                · cases q
                · cases q
                · exact (hz _ List.mem_cons_self).1
              obtain ⟨x, hax⟩ := hkk _ (by omega) rfl
              exact fin hw rfl rfl rfl rfl x hax (Or.inr (Or.inr ⟨h7, hκ⟩))
            · cases e1
      · cases e1
    · cases e1
  · cases e1
end SIM10
