set_option maxRecDepth 100000
/-! SIMULATION 10: calls -/
section SIM9
variable {p : Program} {l : Launch} {e : Env} {R : Room} {s : State} {m : MethodId} {args : Array Value} {below : List Frame} {meth : Method} {c : Code} {H : Heap} {locs : List Loc} {cells slots : Nat} {Q : State → Prop}
variable {D : va_G} {b : Nat} {E : Nat → Value} {μ pc : Nat} {JL : Array Slot} {ls st : List Value} {h : aH}
/-- read, with its handlers -/
theorem aMet4 {d : Nat} {as : List Value} {v : Option Value} {h' : aH} (hG : aGives l D b E d 4 0 (aEnt 4 as) [] h (.returned v, h')) (hn : aEn 4 as = true) :
    Met l (aY 4) (wsW_ (aY 4) (aCode 4) (aML 4) (aRt 4) (aHd 4)) (aRm d (hz_ h' - hz_ h) (hu_ h' - hu_ h)) (aPre D b E as h) (aQc D b E (.returned v, h')) (hz_ h' - hz_ h) (hu_ h' - hu_ h) (fun q => b ≤ q) := by
  refine va_MetW (cc := aCode 4) (maxL := aML 4) (ret := aRt 4) (hh := aHd 4) (by decide +kernel) rfl ?_
  intro p e s m args below meth c s₁ B hml hP
  have hts := atoms_spec (ws := wsW_ (aY 4) (aCode 4) (aML 4) (aRt 4) (aHd 4)) B.pre
  have htab : c.exceptionTable.toList = tableOf (aHd 4) := vx_table (x := aY 4) B (hts _ List.mem_cons_self)
  refine W.mono (fun t ht => ?_) (aBody hG hn rfl rfl rfl B hml htab (fun w hw => hts w (List.mem_cons_of_mem _ hw)) hP)
  obtain ⟨o, o1, o2, o3⟩ := ht
  rcases o3 with ⟨q1, q2⟩ | ⟨q, rfl, X, ce, L, ⟨q0, q1, -⟩, -⟩
  · exact ⟨o, o1, o2, q1, q2⟩
  · cases q1
theorem aGood3 {a : List Cond} {y : MethodName} {by_ : ByteArray} {L : Nat} {r : Option FieldType} (ha : ∀ w ∈ a, w ∈ lw_all) (hc : Cond.code y by_ L r ∈ lw_all) : GoodIn lw_all (a ++ ws_ y by_ L r) := lw_app ha (lw_meth hc)
theorem aPreS (K : aAK D E s) (hR : aRel D b E s h H) (as : List Value) : PreS s H (aPre D b E as h) (as.map (aPhi b E)) :=
  ⟨aPre_blind, fun U hU hW => ⟨rfl, by rw [hU]; exact hR.moved hW.alike, K.warm hW⟩⟩
theorem aPreV (K : aAK D E s) (hR : aRel D b E s h H) {a κ x : Nat} (as : List Value) (hκ : (hk_ h a).1 = κ) (h19 : κ < 19) (hx : aPhi b E (.ref a) = .ref x) : PreV s H (aKn κ) x (aPre D b E (.ref a :: as) h) (as.map (aPhi b E)) := by
  obtain ⟨x', e1, hc⟩ := aRecv K hR hκ h19
  rw [hx] at e1
  cases e1
  exact ⟨aPre_blind, hc, fun U hU hW => ⟨by rw [List.map_cons, hx], by rw [hU]; exact hR.moved hW.alike, K.warm hW⟩⟩
/-- what a call owes: where it goes on, or where a thing is thrown over it -/
def aCk (p : Program) (l : Launch) (e : Env) (R : Room) (s : State) (m : MethodId) (args : Array Value) (below : List Frame) (meth : Method) (c : Code) (cells slots : Nat) (Q : State → Prop) (D : va_G) (b : Nat) (E : Nat → Value) (JL : Array Slot) (h : aH) (pc : Nat) (rest : List Value) (thr : Bool) (r : Outcome × aH) : Prop :=
  (∀ g, r.1 = .returned g → ∀ (H' : Heap) (locs' : List Loc), aRel D b E s r.2 H' → (∀ q ∈ locs', b ≤ q.base) → W p l e R s m args below meth c H' locs' (cells + (hz_ r.2 - hz_ h)) (slots + (hu_ r.2 - hu_ h)) Q (F0 m (pc + 3) JL ((g.toList ++ rest).map (aPhi b E)))) ∧
  (∀ q0, r.1 = .threw q0 → thr = true ∧ ∀ (H' : Heap) (locs' : List Loc) (q : Nat) (ce : Cell), aRel D b E s r.2 H' → (∀ q ∈ locs', b ≤ q.base) → aPhi b E (.ref q0) = .ref q → H'[q]? = some ce → ce.vm = .none → s.vm.findClass "LentSundays$Fault" = some ce.cls → vx_W p l e R s m args below meth c H' locs' (cells + (hz_ r.2 - hz_ h)) (slots + (hu_ r.2 - hu_ h)) Q (F0 m pc JL (rest.map (aPhi b E))) q)
set_option maxHeartbeats 4000000 in
theorem aCalls_stat (C : aCx p s m args meth c μ) (K : aAK D E s) (hR : aRel D b E s h H) (hL : aLo b E μ JL ls) {j n d ν : Nat} {as rest : List Value} {thr : Bool} {r : Outcome × aH} (hl : ∀ q ∈ locs, b ≤ q.base) (hd : decode (aCode μ) pc = .ok (.invokestatic j, n)) (hf : aCalls μ pc ls st h (.invokestatic j) n = some (.inr (.inl (ν, as, thr, rest))))
    (hG : aGives l D b E d ν 0 (aEnt ν as) [] h r) (hn : aEn ν as = true) (hfr : d + 1 + 1 ≤ R.frames) (hlo : 64 * (d + 1 + 1) ≤ R.locals) (hcl : cells + (hz_ r.2 - hz_ h) ≤ R.cells) (hsl : slots + (hu_ r.2 - hu_ h) ≤ R.slots)
    (k : aCk p l e R s m args below meth c cells slots Q D b E JL h pc rest thr r) : W p l e R s m args below meth c H locs cells slots Q (F0 m pc JL (st.map (aPhi b E))) := by
  have C0 := C
  obtain ⟨hx, hb, hml, hret, hlk, hown, hts, hin, htab, hμ⟩ := C
  obtain ⟨n1, n2, n3, n4, hpn⟩ := aEn_spec hn
  have hmL := (aStat1 ν n3).2.2.2
  have hJs : (F0 m pc JL (st.map (aPhi b E))).locals.size = aML μ := hL.2.1
  have S : CallFix p m c (aCode μ) (aML μ) s args lw_all (aNm (aCo μ)) := ⟨hx, hb, hml, hown, hts⟩
  have hRm : (aRm d (hz_ r.2 - hz_ h) (hu_ r.2 - hu_ h)).frames + 1 ≤ R.frames ∧ 8 + (aML ν + 11) + (aRm d (hz_ r.2 - hz_ h) (hu_ r.2 - hu_ h)).locals ≤ R.locals := ⟨hfr, by show 8 + (aML ν + 11) + 64 * (d + 1) ≤ _; omega⟩
  have hsum : aWd rest ≤ 8 → 2 * (F0 m pc JL (st.map (aPhi b E))).monitorRoom + ((rest.map (aPhi b E)).map fun v => v.category).sum ≤ 8 := fun q => by rw [aWd_sum hR]; show 2 * 0 + _ ≤ _; omega
  -- a callee that comes back
  have ret : ∀ (y : Array Value), thr = false → (∀ v, r.1 = .returned v → va_Run p l e R s m args below meth c H locs cells slots (hz_ r.2 - hz_ h) (hu_ r.2 - hu_ h) (F0 m pc JL (st.map (aPhi b E))) (rest.map (aPhi b E)) (aQc D b E r y) (fun q => b ≤ q)) → W p l e R s m args below meth c H locs cells slots Q (F0 m pc JL (st.map (aPhi b E))) := by
    intro y ht hr
    cases ho : r.1 with
    | returned g => exact aRun_go ho hl (hr g ho) (fun H' locs' g1 g2 => k.1 g ho H' locs' g1 g2)
    | threw q0 => have := (k.2 q0 ho).1; rw [ht] at this; cases this
  obtain ⟨rfl, e1⟩ := aLn_some hf
  split at e1
  · rename_i ent hi
    have hok := aInv_ok hi
    unfold aStat at e1
    split at e1
    · rename_i md mm κ ν0
      cases hmd : (Nat.beq md 0 || Nat.beq md 3) with
      | false => rw [hmd] at e1; cases e1
      | true =>
        rw [hmd, cond_true] at e1
        split at e1
        · rename_i as0 rest0 hp
          obtain ⟨hw, he⟩ := aCl_some e1
          cases he
          obtain ⟨hst, hlen⟩ := aPop_spec hp
          have hstk : st.map (aPhi b E) = (as.map (aPhi b E)).reverse ++ rest.map (aPhi b E) := by rw [← List.map_reverse, ← List.map_append, hst]; rfl
          have hlen' : (as.map (aPhi b E)).length = mm := by rw [List.length_map, hlen]; rfl
          refine ret ((as.map (aPhi b E)).toArray) rfl (fun v hv => ?_)
          obtain ⟨o, h'⟩ := r
          cases hv
          rw [Bool.or_eq_true] at hmd
          rcases hmd with hm | hm
          · have hm := Nat.eq_of_beq_eq_true hm
            subst hm
            rcases hok with ⟨q, -⟩ | ⟨q, -⟩ | ⟨q, -⟩ | ⟨q, -⟩ | ⟨-, hz⟩
            · cases q
            · cases q
            · cases q
            · cases q
            · obtain ⟨hM, g1, g2⟩ := hz _ List.mem_cons_self
              exact va_runS S (aMetR hG hn hM) (va_cwS mm hts (lw_S g1 g2 hM.2.2.1 hM.1) rfl rfl rfl hM.2.2.2 hRm) (aPreS K hR as) rfl hlen' hJs hstk (hsum hw) hd ⟨hcl, hsl⟩
          · have hm := Nat.eq_of_beq_eq_true hm
            subst hm
            rcases hok with ⟨q, -⟩ | ⟨q, -⟩ | ⟨q, -⟩ | ⟨q, -⟩ | ⟨-, hz⟩
            · cases q
            · cases q
            · cases q
            · cases q
            · obtain ⟨hM, ⟨host, g1⟩, g2⟩ := hz _ List.mem_cons_self
              exact va_runSN S (aMetR hG hn hM) ⟨va_cnB mm hts (lw_meth hM.1) rfl rfl rfl (K.2.1.1 _ g1) (hts _ hM.2.2.1) hM.2.2.2 hRm, hts _ g2, trivial⟩ (aPreS K hR as) rfl hlen' hJs hstk (hsum hw) hd ⟨hcl, hsl⟩
        · cases e1
    · rename_i md mm
      exfalso
      cases h6 : Nat.beq md 6 with
      | true =>
        rw [h6, cond_true] at e1
        unfold aCpy at e1
        split at e1
        · split at e1 <;> cases e1
        · cases e1
      | false =>
        rw [h6, cond_false] at e1
        have hmx : ∀ f, aMx pc ls st h f = some (.inr (.inl (ν, as, thr, rest))) → False := by
          intro f q
          unfold aMx at q
          split at q
          · rename_i rr
            cases hb8 : Nat.ble (aWd rr) 8 <;> rw [hb8] at q <;> cases q
          · cases q
        cases h10 : Nat.beq md 10 with
        | true => rw [h10, cond_true] at e1; exact hmx _ e1
        | false =>
          rw [h10, cond_false] at e1
          cases h11 : Nat.beq md 11 with
          | true => rw [h11, cond_true] at e1; exact hmx _ e1
          | false => rw [h11] at e1; cases e1
    · cases e1
  · cases e1
end SIM9
