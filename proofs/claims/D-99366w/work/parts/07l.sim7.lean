set_option maxRecDepth 100000
/-! SIMULATION 8: contracts out of runs -/
theorem aStat1 : ∀ ν, ν < 343 → aNm (aCo ν) = (aY ν).cls ∧ (aPn ν = false → plainName (aY ν).cls = true) ∧ (aIn ν = true → (aY ν).name = "<init>") ∧ aML ν ≤ 8 := by decide +kernel
section SIM7
variable {p : Program} {l : Launch} {e : Env} {R : Room} {s : State} {m : MethodId} {args : Array Value} {below : List Frame} {meth : Method} {c : Code} {H : Heap} {locs : List Loc} {cells slots : Nat} {Q : State → Prop}
variable {D : va_G} {b : Nat} {E : Nat → Value} {μ pc : Nat} {JL : Array Slot} {ls st : List Value} {h : aH}
theorem aEk_spec {g : List Nat} : ∀ {l : List Value} {i : Nat}, aEk g i l = true → ∀ (j : Nat) (v : Value), l[j]? = some v → (v.category = 2 → g.any (fun z => Nat.beq z (i + j + 1)) = true ∧ ∃ x, v = .long x) ∧ (aIv v = true → g.any (fun z => Nat.beq z (i + j)) = false)
  | [], _, _, j, v, hj => by simp at hj
  | u :: l, i, hk, j, v, hj => by
    unfold aEk at hk
    rw [Bool.and_eq_true, Bool.and_eq_true] at hk
    obtain ⟨⟨k1, k2⟩, k3⟩ := hk
    cases j with
    | zero =>
      rw [List.getElem?_cons_zero] at hj
      cases hj
      refine ⟨fun hc => ?_, fun hv => ?_⟩
      · cases u <;> simp only [Value.category] at hc <;> try omega
        · exact ⟨k1, _, rfl⟩
        · cases k1
      · cases u <;> first | (simpa using k2) | cases hv
    | succ j =>
      rw [List.getElem?_cons_succ] at hj
      have := aEk_spec k3 j v hj
      rw [show i + 1 + j + 1 = i + (j + 1) + 1 by omega, show i + 1 + j = i + (j + 1) by omega] at this
      exact this
theorem aSl_mem : ∀ {as : List Value} {v : Value}, v ∈ as → v ∈ aSl as
  | u :: l, v, hv => by
    rcases List.mem_cons.mp hv with rfl | hv
    · cases v <;> exact List.mem_cons_self
    · have ih := aSl_mem hv
      cases u <;> first | exact List.mem_cons_of_mem _ (List.mem_cons_of_mem _ ih) | exact List.mem_cons_of_mem _ ih
theorem aSl_entry (hR : aRel D b E s h H) : ∀ (as : List Value) (k : Nat), (∀ v ∈ as, v.category = 2 → ∃ x, v = .long x) → (lg_sl (as.map (aPhi b E))).length = (aSl as).length ∧ ∀ (i : Nat) (v : Value), (aSl as)[i]? = some v → aIv v = true → (k + i, aPhi b E v) ∈ lv_args k (as.map (aPhi b E))
  | [], k, _ => ⟨rfl, fun i v hi => by simp [aSl] at hi⟩
  | u :: l, k, hnd => by
    have one : u.category = 1 → aSl (u :: l) = u :: aSl l → (lg_sl ((u :: l).map (aPhi b E))).length = (aSl (u :: l)).length ∧ ∀ (i : Nat) (v : Value), (aSl (u :: l))[i]? = some v → aIv v = true → (k + i, aPhi b E v) ∈ lv_args k ((u :: l).map (aPhi b E)) := by
      intro hc he
      obtain ⟨g1, g2⟩ := aSl_entry hR l (k + 1) (fun v hv => hnd v (List.mem_cons_of_mem _ hv))
      have hcp : ¬ (aPhi b E u).category = 2 := by rw [aPhi_cat hR, hc]; decide
      rw [he, List.map_cons]
      refine ⟨?_, fun i v hi hv => ?_⟩
      · unfold lg_sl at g1 ⊢
        rw [List.flatMap_cons, if_neg hcp, List.length_append, g1]
        simp [Nat.add_comm]
      · show (k + i, aPhi b E v) ∈ (k, aPhi b E u) :: lv_args (if (aPhi b E u).category = 2 then k + 2 else k + 1) (l.map (aPhi b E))
        rw [if_neg hcp]
        cases i with
        | zero =>
          rw [List.getElem?_cons_zero] at hi
          cases hi
          exact List.mem_cons_self
        | succ i =>
          rw [List.getElem?_cons_succ] at hi
          have := g2 i v hi hv
          rw [show k + 1 + i = k + (i + 1) by omega] at this
          exact List.mem_cons_of_mem _ this
    cases u with
    | long x =>
      obtain ⟨g1, g2⟩ := aSl_entry hR l (k + 2) (fun v hv => hnd v (List.mem_cons_of_mem _ hv))
      refine ⟨?_, fun i v hi hv => ?_⟩
      · unfold lg_sl at g1 ⊢
        rw [List.map_cons, List.flatMap_cons, if_pos (show (aPhi b E (Value.long x)).category = 2 from rfl), List.length_append, g1]
        show 2 + (aSl l).length = (aSl l).length + 1 + 1
        omega
      · show (k + i, aPhi b E v) ∈ (k, Value.long x) :: lv_args (k + 2) (l.map (aPhi b E))
        match i, hi with
        | 0, hi => cases hi; exact List.mem_cons_self
        | 1, hi => cases hi; cases hv
        | i + 2, hi =>
          have := g2 i v hi hv
          rw [show k + 2 + i = k + (i + 2) by omega] at this
          exact List.mem_cons_of_mem _ this
    | double x => obtain ⟨y, hy⟩ := hnd _ List.mem_cons_self rfl; cases hy
    | int x => exact one rfl rfl
    | float x => exact one rfl rfl
    | null => exact one rfl rfl
    | ref x => exact one rfl rfl
    | retAddr x => exact one rfl rfl
theorem aEn_spec {ν : Nat} {as : List Value} (hn : aEn ν as = true) : (aSl as).length ≤ aML ν ∧ aEk (aLg ν) 0 (aEnt ν as) = true ∧ ν < 343 ∧ (∀ v ∈ as, v.category = 2 → ∃ x, v = .long x) ∧ aPn ν = false := by
  unfold aEn at hn
  rw [Bool.and_eq_true, Bool.and_eq_true, Bool.and_eq_true] at hn
  obtain ⟨⟨⟨h1, h2⟩, h3⟩, h4⟩ := hn
  refine ⟨Nat.le_of_ble_eq_true h1, h2, Nat.le_of_ble_eq_true h3, fun v hv hc => ?_, by simpa using h4⟩
  obtain ⟨j, hj⟩ := List.getElem?_of_mem (show v ∈ aEnt ν as from List.mem_append_left _ (aSl_mem hv))
  exact ((aEk_spec h2 j v hj).1 hc).2
theorem aEntry (hR : aRel D b E s h H) {ν : Nat} {as : List Value} (hn : aEn ν as = true) :
    aLo b E ν ((lg_sl (as.map (aPhi b E)) ++ List.replicate (aML ν - (lg_sl (as.map (aPhi b E))).length) Slot.unset).toArray) (aEnt ν as) := by
  obtain ⟨h1, h2, h3, h4, -⟩ := aEn_spec hn
  obtain ⟨g1, g2⟩ := aSl_entry hR as 0 h4
  have hh := lv_entry (as.map (aPhi b E)) (n := aML ν) (by rw [g1]; exact h1)
  refine ⟨?_, hh.1, hh.2.1, fun i v hi hv => ?_, fun i v hi hc => ?_, fun i v hi hg => ?_⟩
  · unfold aEnt
    rw [List.length_append, List.length_replicate]
    omega
  · have hi2 : (aSl as)[i]? = some v := by
      unfold aEnt at hi
      by_cases hl : i < (aSl as).length
      · rw [List.getElem?_append_left hl] at hi; exact hi
      · rw [List.getElem?_append_right (by omega)] at hi
        have := List.mem_of_getElem? hi
        rw [(List.mem_replicate.mp this).2] at hv
        cases hv
    have := g2 i v hi2 hv
    rw [Nat.zero_add] at this
    exact hh.2.2 _ this
  · have := ((aEk_spec h2 i v hi).1 hc).1
    rw [Nat.zero_add] at this
    exact this
  · cases hv : aIv v with
    | false => rfl
    | true =>
      have := (aEk_spec h2 i v hi).2 hv
      rw [Nat.zero_add, hg] at this
      cases this
/-- a contract's start and end -/
def aPre (D : va_G) (b : Nat) (E : Nat → Value) (as : List Value) (h : aH) : Array Value → State → Prop := fun v U => v = (as.map (aPhi b E)).toArray ∧ aRel D b E U h U.heap ∧ aAK D E U
def aQc (D : va_G) (b : Nat) (E : Nat → Value) (r : Outcome × aH) : Array Value → State → Outcome → State → Prop := fun _ _ o t => ∃ v, r.1 = .returned v ∧ o = .returned (aOc b E v) ∧ aRel D b E t r.2 t.heap
def aXc (D : va_G) (b : Nat) (E : Nat → Value) (r : Outcome × aH) : String → Addr → State → State → Prop := fun X q _ t => ∃ q0 : Nat, r.1 = .threw q0 ∧ X = "LentSundays$Fault" ∧ aPhi b E (.ref q0) = .ref q ∧ aRel D b E t r.2 t.heap
theorem aPre_blind {as : List Value} : FrameBlind (aPre D b E as h) := fun a U g mk q => ⟨q.1, q.2.1.moved (Vm.Alike.refl U.vm), aAK.warm (s := U) (State.WarmedH.refl U) q.2.2⟩
/-- what a run gives, anywhere -/
def aGives (l : Launch) (D : va_G) (b : Nat) (E : Nat → Value) (d μ pc : Nat) (ls st : List Value) (h : aH) (r : Outcome × aH) : Prop :=
  hz_ h ≤ hz_ r.2 ∧ hu_ h ≤ hu_ r.2 ∧ ∀ (p : Program) (e : Env) (R : Room) (s : State) (m : MethodId) (args : Array Value) (below : List Frame) (meth : Method) (c : Code) (H : Heap) (locs : List Loc) (cells slots : Nat) (JL : Array Slot),
    aCx p s m args meth c μ → aAK D E s → aRel D b E s h H → aLo b E μ JL ls → (∀ q ∈ locs, b ≤ q.base) → d + 1 ≤ R.frames → 64 * (d + 1) ≤ R.locals → cells + (hz_ r.2 - hz_ h) ≤ R.cells → slots + (hu_ r.2 - hu_ h) ≤ R.slots →
    W p l e R s m args below meth c H locs cells slots (vx_MQ below (aQc D b E r) (aXc D b E r) args s (cells + (hz_ r.2 - hz_ h)) (slots + (hu_ r.2 - hu_ h)) (fun q => b ≤ q)) (F0 m pc JL (st.map (aPhi b E)))
def aRm (d mc ms : Nat) : Room := { frames := d + 1, cells := mc, slots := ms, locals := 64 * (d + 1) }
theorem W.mono {Q' : State → Prop} {g : JFrame} (hq : ∀ t, Q t → Q' t) (k : W p l e R s m args below meth c H locs cells slots Q g) : W p l e R s m args below meth c H locs cells slots Q' g := fun T hT X => by
  obtain ⟨t, a, b⟩ := k T hT X
  exact ⟨t, a, hq t b⟩
set_option maxHeartbeats 1000000 in
theorem aBody {d ν : Nat} {as : List Value} {r : Outcome × aH} (hG : aGives l D b E d ν 0 (aEnt ν as) [] h r) (hn : aEn ν as = true) {ws : List Cond} {bytes : ByteArray} {maxL : Nat} {ret : Option FieldType} {s₁ : State}
    (e1 : bytes = aCode ν) (e2 : maxL = aML ν) (e3 : ret = aRt ν)
    (B : BodyLoose p l (aY ν) (headSpec ws (aRm d (hz_ r.2 - hz_ h) (hu_ r.2 - hu_ h))) bytes maxL ret e s m args below meth c s₁) (hml : c.maxLocals = maxL) (htab : c.exceptionTable.toList = tableOf (aHd ν)) (hts : ∀ w ∈ lw_all, w.before args s = true) (hP : aPre D b E as h args s) :
    W p l e (headSpec ws (aRm d (hz_ r.2 - hz_ h) (hu_ r.2 - hu_ h))).room s m args below meth c s.heap [] 0 0 (vx_MQ below (aQc D b E r) (aXc D b E r) args s (hz_ r.2 - hz_ h) (hu_ r.2 - hu_ h) (fun q => b ≤ q)) (entryFrame m args maxL) := by
  subst e1; subst e2; subst e3
  obtain ⟨rfl, hR, hK⟩ := hP
  obtain ⟨g1, g2, g3⟩ := hG
  obtain ⟨n1, n2, n3, n4, hpn⟩ := aEn_spec hn
  obtain ⟨f1, f2, f3, f4⟩ := aStat1 ν n3
  rw [lg_entry_eq]
  have := g3 p e (headSpec ws (aRm d (hz_ r.2 - hz_ h) (hu_ r.2 - hu_ h))).room s m (as.map (aPhi b E)).toArray below meth c s.heap [] 0 0 _ ⟨B.exec, B.bytes, hml, B.returns, B.notSynchronized, by rw [f1]; exact findClass_of_methodNamed B.named, hts, fun hi => (name_of_methodNamed B.named B.method).1.trans (f3 hi), htab, n3⟩ hK hR (aEntry hR hn) (fun q hq => by cases hq) (Nat.le_refl _) (Nat.le_refl _) (by rw [Nat.zero_add]; exact Nat.le_refl _) (by rw [Nat.zero_add]; exact Nat.le_refl _)
  rw [Nat.zero_add, Nat.zero_add] at this
  exact this
theorem aMetX {d ν n : Nat} {as : List Value} {r : Outcome × aH} (hG : aGives l D b E d ν 0 (aEnt ν as) [] h r) (hn : aEn ν as = true) (hM : aMok ν n)  :
    vx_Met l (aY ν) (ws_ (aY ν) (aCode ν) (aML ν) (aRt ν)) (aRm d (hz_ r.2 - hz_ h) (hu_ r.2 - hu_ h)) (aPre D b E as h) (aQc D b E r) (aXc D b E r) (hz_ r.2 - hz_ h) (hu_ r.2 - hu_ h) (fun q => b ≤ q) := by
  obtain ⟨n1, n2, n3, n4, hpn⟩ := aEn_spec hn
  refine vx_ofW (cc := aCode ν) (maxL := aML ν) (ret := aRt ν) ((aStat1 ν n3).2.1 hpn) rfl ?_
  intro p e s m args below meth c s₁ B hml htab hP
  have hts := atoms_spec (ws := ws_ (aY ν) (aCode ν) (aML ν) (aRt ν)) B.pre
  exact aBody hG hn rfl rfl rfl B hml (by rw [hM.2.1]; exact List.eq_nil_iff_forall_not_mem.mpr (fun x hx => htab x hx)) (fun w hw => hts w (List.mem_cons_of_mem _ hw)) hP
theorem aMetR {d ν n : Nat} {as : List Value} {v : Option Value} {h' : aH} (hG : aGives l D b E d ν 0 (aEnt ν as) [] h (.returned v, h')) (hn : aEn ν as = true) (hM : aMok ν n)  :
    Met l (aY ν) (ws_ (aY ν) (aCode ν) (aML ν) (aRt ν)) (aRm d (hz_ h' - hz_ h) (hu_ h' - hu_ h)) (aPre D b E as h) (aQc D b E (.returned v, h')) (hz_ h' - hz_ h) (hu_ h' - hu_ h) (fun q => b ≤ q) := by
  obtain ⟨n1, n2, n3, n4, hpn⟩ := aEn_spec hn
  refine Met.ofW (cc := aCode ν) (maxL := aML ν) (ret := aRt ν) ((aStat1 ν n3).2.1 hpn) rfl ?_
  intro p e s m args below meth c s₁ B hml hP
  have hts := atoms_spec (ws := ws_ (aY ν) (aCode ν) (aML ν) (aRt ν)) B.pre
  have htab : c.exceptionTable.toList = tableOf (aHd ν) := by
    obtain ⟨meth9, c9, h1, h2, -, -, -, -, h7, -⟩ := Cond.code_spec B.named (hts _ List.mem_cons_self)
    cases Option.some.inj (h1.symm.trans B.method)
    cases Option.some.inj (h2.symm.trans (Stand.of_body B).code)
    rw [hM.2.1, Array.isEmpty_iff.mp h7]; rfl
  refine W.mono (fun t ht => ?_) (aBody hG hn rfl rfl rfl B hml htab (fun w hw => hts w (List.mem_cons_of_mem _ hw)) hP)
  obtain ⟨o, o1, o2, o3⟩ := ht
  rcases o3 with ⟨q1, q2⟩ | ⟨q, rfl, X, ce, L, ⟨q0, q1, -⟩, -⟩
  · exact ⟨o, o1, o2, q1, q2⟩
  · cases q1
/-- behind a call that has come back -/
theorem aRun_go {r' : Outcome × aH} {mc ms : Nat} {g : Option Value} {a : Array Value} {st0 rest : List Value} (hv : r'.1 = .returned g) (hl : ∀ q ∈ locs, b ≤ q.base) (hr : va_Run p l e R s m args below meth c H locs cells slots mc ms (F0 m pc JL st0) (rest.map (aPhi b E)) (aQc D b E r' a) (fun q => b ≤ q))
    (kk : ∀ (H' : Heap) (locs' : List Loc), aRel D b E s r'.2 H' → (∀ q ∈ locs', b ≤ q.base) → W p l e R s m args below meth c H' locs' (cells + mc) (slots + ms) Q (F0 m (pc + 3) JL ((g.toList ++ rest).map (aPhi b E)))) : W p l e R s m args below meth c H locs cells slots Q (F0 m pc JL st0) := by
  intro T hT X
  obtain ⟨v', st₀, t, T', L, h0, X', hL, e1, e2, ⟨v, q1, q2, q3⟩, st⟩ := hr T hT X
  rw [hv] at q1
  cases q1
  cases q2
  have hal : t.vm.Alike s.vm := by rw [← e2]; exact X'.warmed.alike.symm
  rw [← e1] at q3
  obtain ⟨t2, a1, b1⟩ := kk T'.heap (locs ++ L) (q3.moved hal) (fun q hq => (List.mem_append.mp hq).elim (hl q) (hL q)) T' rfl X'
  refine ⟨t2, st t2 ?_, b1⟩
  have hmap : (aOc b E g).toList ++ rest.map (aPhi b E) = (g.toList ++ rest).map (aPhi b E) := by cases g <;> rfl
  rw [hmap]
  exact a1
end SIM7
