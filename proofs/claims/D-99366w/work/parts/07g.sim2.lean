set_option maxRecDepth 100000
/-! SIMULATION 3: ends, fields -/
def aRk : Nat → Option FieldType → Bool
  | 0, none => true
  | 1, some .int => true
  | 2, some .boolean => true
  | 3, some .byte => true
  | 4, some .long => true
  | 7, some .char => true
  | 5, some (.object _) => true
  | 5, some (.array _) => true
  | _, _ => false
theorem aRk_ok : ∀ μ, μ < 343 → aRk (aRc μ) (aRt μ) = true := by decide +kernel
section SIM2
variable {p : Program} {l : Launch} {e : Env} {R : Room} {s : State} {m : MethodId} {args : Array Value} {below : List Frame} {meth : Method} {c : Code} {H : Heap} {locs : List Loc} {cells slots : Nat} {Q : State → Prop}
variable {D : va_G} {b : Nat} {E : Nat → Value} {μ pc : Nat} {JL : Array Slot} {ls st : List Value} {h : aH}
/-- an outcome, over there -/
def aOc (b : Nat) (E : Nat → Value) (o : Option Value) : Option Value := o.map (aPhi b E)
set_option maxHeartbeats 1000000 in
theorem aRet_sim {Qc : Array Value → State → Outcome → State → Prop} {XC : String → Addr → State → State → Prop} {free : Addr → Prop} (C : aCx p s m args meth c μ) (K : aAK D E s) (hR : aRel D b E s h H) {i : Instr} {o : Outcome} {h' : aH} (hd : decode (aCode μ) pc = .ok (i, 1)) (hf : aRet μ st h i = some (.inr (.inr (o, h')))) (hfr : ∀ q ∈ locs, free q.base)
    (hq : ∀ v, o = .returned v → ∀ t : State, t.heap = H → s.WarmedH t.vm → Qc args s (.returned (aOc b E v)) t)
    (hxq : ∀ q, o = .threw q → ∀ x : Nat, aPhi b E (.ref q) = .ref x → ∀ t : State, t.heap = H → s.vm.Alike t.vm → XC "LentSundays$Fault" x s t) :
    h' = h ∧ W p l e R s m args below meth c H locs cells slots (vx_MQ below Qc XC args s cells slots free) (F0 m pc JL (st.map (aPhi b E))) := by
  obtain ⟨hx, hb, hml, hret, hlk, hown, hts, hin, htab, hμ⟩ := C
  have hrk := aRk_ok μ hμ
  unfold aRet at hf
  cases i <;> dsimp only at hf
  case ireturn =>
    split at hf
    · rename_i x
      split at hf
      · rename_i hrc
        cases hf
        rw [hrc] at hrk
        have hrt : aRt μ = some .int := by
          generalize aRt μ = rt at hrk
          match rt, hrk with
          | some .int, _ => rfl
        exact ⟨rfl, vx_ret (W.iret hx hb (hret.trans hrt) (hq _ rfl) hfr hd hlk)⟩
      · rename_i hrc
        split at hf
        · rename_i hv
          cases hf
          rw [hrc] at hrk
          have hrt : aRt μ = some .boolean := by
            generalize aRt μ = rt at hrk
            match rt, hrk with
            | some .boolean, _ => rfl
          have hn : narrow .boolean (.int x) = .int x := by rcases hv with rfl | rfl <;> decide
          exact ⟨rfl, vx_ret (W.zret hx hb (hret.trans hrt) hn (hq _ rfl) hfr hd hlk)⟩
        · cases hf
      · rename_i hrc
        split at hf
        · rename_i hv
          cases hf
          rw [hrc] at hrk
          have hrt : aRt μ = some .byte := by
            generalize aRt μ = rt at hrk
            match rt, hrk with
            | some .byte, _ => rfl
          have hn : narrow .byte (.int x) = .int x := by rw [narrow_byte, hv]
          exact ⟨rfl, vx_ret (W.zret hx hb (hret.trans hrt) hn (hq _ rfl) hfr hd hlk)⟩
        · cases hf
      · rename_i hrc
        split at hf
        · rename_i hv
          cases hf
          rw [hrc] at hrk
          have hrt : aRt μ = some .char := by
            generalize aRt μ = rt at hrk
            match rt, hrk with
            | some .char, _ => rfl
          have hn : narrow .char (.int x) = .int x := by rw [← hv]; exact pk_nc x
          exact ⟨rfl, vx_ret (W.zret hx hb (hret.trans hrt) hn (hq _ rfl) hfr hd hlk)⟩
        · cases hf
      · cases hf
    · cases hf
  case lreturn =>
    split at hf
    · rename_i x
      cases hb4 : Nat.beq (aRc μ) 4 with
      | false => rw [hb4] at hf; cases hf
      | true =>
        rw [hb4] at hf
        cases hf
        rw [Nat.eq_of_beq_eq_true hb4] at hrk
        have hrt : aRt μ = some .long := by
          generalize aRt μ = rt at hrk
          match rt, hrk with
          | some .long, _ => rfl
        exact ⟨rfl, vx_ret (W.lret hx hb (hret.trans hrt) (hq _ rfl) hfr hd hlk)⟩
    · cases hf
  case areturn =>
    have key : ∀ v : Value, (aPhi b E v = .null ∨ ∃ a, aPhi b E v = .ref a) → Nat.beq (aRc μ) 5 = true → o = .returned (some v) → W p l e R s m args below meth c H locs cells slots (vx_MQ below Qc XC args s cells slots free) (F0 m pc JL [aPhi b E v]) := by
      intro v hv hb5 ho
      rw [Nat.eq_of_beq_eq_true hb5] at hrk
      have hrt : ∃ rt, aRt μ = some rt ∧ ((∃ n, rt = .object n) ∨ ∃ t, rt = .array t) := by
        generalize aRt μ = rt at hrk
        match rt, hrk with
        | some (.object n), _ => exact ⟨_, rfl, Or.inl ⟨_, rfl⟩⟩
        | some (.array n), _ => exact ⟨_, rfl, Or.inr ⟨_, rfl⟩⟩
      obtain ⟨rt, hrt, hk⟩ := hrt
      exact vx_ret (W.aret hx hb (hret.trans hrt) hk hv (hq _ ho) hfr hd hlk)
    split at hf
    · rename_i x
      cases hb5 : Nat.beq (aRc μ) 5 with
      | false => rw [hb5] at hf; cases hf
      | true =>
        rw [hb5] at hf
        cases hf
        exact ⟨rfl, key (.ref x) (aPhi_ref hR x) hb5 rfl⟩
    · cases hb5 : Nat.beq (aRc μ) 5 with
      | false => rw [hb5] at hf; cases hf
      | true =>
        rw [hb5] at hf
        cases hf
        exact ⟨rfl, key .null (Or.inl rfl) hb5 rfl⟩
    · cases hf
  case return_ =>
    split at hf
    · cases hb0 : Nat.beq (aRc μ) 0 with
      | false => rw [hb0] at hf; cases hf
      | true =>
        rw [hb0] at hf
        cases hf
        rw [Nat.eq_of_beq_eq_true hb0] at hrk
        have hrt : aRt μ = none := by
          generalize aRt μ = rt at hrk
          match rt, hrk with
          | none, _ => rfl
        exact ⟨rfl, vx_ret (W.vret hx hb (hret.trans hrt) (hq _ rfl) hfr hd hlk)⟩
    · cases hf
  case athrow =>
    split at hf
    · rename_i q r
      cases hb0 : (aHd μ).isEmpty && Nat.ble 64 q with
      | false => rw [hb0] at hf; cases hf
      | true =>
        rw [hb0, cond_true] at hf
        rw [Bool.and_eq_true] at hb0
        split at hf
        · rename_i hκ
          cases hf
          have h64 : 64 ≤ q := Nat.le_of_ble_eq_true hb0.2
          obtain ⟨hlt, x, cell, e1, e2, o1, o2, o3, o4, -⟩ := hR.get (a := q) (by rw [hκ]; decide) (by rw [hκ]; decide)
          have hmap : (Value.ref q :: r).map (aPhi b E) = Value.ref x :: r.map (aPhi b E) := by rw [List.map_cons, e1]
          rw [hmap]
          refine ⟨rfl, vx_athrow hx hb hd (vx_out (E := "LentSundays$Fault") (fun z hz => ?_) hlk e2 (o3 h64) ?_ (fun t ht hA => hxq q rfl x e1 t ht hA) hfr (Nat.le_refl _) (Nat.le_refl _))⟩
          · rw [htab, List.isEmpty_iff.mp hb0.1] at hz
            cases hz
          · rw [(o4 (by rw [hκ]; decide)).1, hκ]
            exact (K.1 1 _ rfl).2.1
        · cases hf
    · cases hf
  all_goals cases hf
theorem aFt_of {g : Nat} (hg : g < 157) : ∃ ft, parseFieldDescriptor (aGT g).2.2.1 = some ft ∧ aTk (aTy g) ft = true := by
  have h1 := aTk_ok g hg
  cases hp : parseFieldDescriptor (aGT g).2.2.1 with
  | none => rw [hp] at h1; cases h1
  | some ft => rw [hp] at h1; exact ⟨ft, rfl, h1⟩
/-- a field found -/
theorem aField_of (C : aCx p s m args meth c μ) (K : aAK D E s) (hR : aRel D b E s h H) {a j g ty fin : Nat} (hf : aFld (aCo μ) j = some (g, ty, fin)) (hh : aHas (hk_ h a).1 g = true) :
    ∃ (x : Nat) (cell : Cell) (q : vw_C) (k : Nat) (ref : String) (cf : ClassId) (kf : Class) (fi : Nat) (f : Field) (kC : Class),
      (a < hz_ h ∧ aPhi b E (.ref a) = .ref x ∧ H[x]? = some cell ∧ aOb D (aPhi b E) s h a cell) ∧ ((hk_ h a).1 < 19 ∧ aKl[(hk_ h a).1]? = some q ∧ aKok (hk_ h a).1 q ∧ k < q.2.2 ∧ (aKfL.getD (hk_ h a).1 [])[k]? = some (g, ty) ∧ q.2.1 k = aGT g) ∧
      ((Cond.fieldLink (aNm (aCo μ)) j ref (aGT g).2.1 (aGT g).2.2.1).before args s = true ∧ s.fieldFound? ref (aGT g).2.1 (aGT g).2.2.1 = some (cf, kf, fi, f) ∧ s.fieldFound? (aGT g).1 (aGT g).2.1 (aGT g).2.2.1 = some (cf, kf, fi, f)) ∧
      (f.slot = D.2 (hk_ h a).1 k ∧ f.isStatic = false ∧ s.vm.findClass q.1 = some (D.1 (hk_ h a).1) ∧ s.vm.classes[D.1 (hk_ h a).1]? = some kC ∧ kC.kind = .ordinary) ∧ aFok (aCo μ) j g ty fin := by
  obtain ⟨hx, hb, hml, hret, hlk, hown, hts, hin, htab, hμ⟩ := C
  unfold aHas at hh
  obtain ⟨ty', hty'⟩ := Option.isSome_iff_exists.mp hh
  have hκ : (hk_ h a).1 < 19 := by
    refine Nat.lt_of_not_le (fun hc => ?_)
    have : aKfL.getD (hk_ h a).1 [] = [] := by rw [List.getD_eq_getElem?_getD, List.getElem?_eq_none (show aKfL.length ≤ _ from hc)]; rfl
    rw [this] at hty'
    cases hty'
  obtain ⟨k, hk⟩ := aLk_at hty'
  obtain ⟨hlt, x, cell, e1, e2, e3⟩ := hR.get (a := a) (by omega) (by omega)
  have hq : ∃ q, aKl[(hk_ h a).1]? = some q := ⟨_, List.getElem?_eq_getElem (show (hk_ h a).1 < aKl.length from hκ)⟩
  obtain ⟨q, hq⟩ := hq
  have hok := aKoks _ _ hq
  obtain ⟨k1, k2, k3, k4, k5, k6, k7⟩ := id hok
  obtain ⟨hkl, hkd⟩ := getD_of (d := (0, 0)) hk
  have hkN : k < q.2.2 := by rw [← k5]; exact hkl
  obtain ⟨t1, t2, t3⟩ := k6 k hkN
  rw [hkd] at t1 t2 t3
  have hFok := aFoks hf
  obtain ⟨f1, f2, ⟨ref, f3, f4⟩, f5, f6⟩ := id hFok
  obtain ⟨hS, hfc, kC, hkC, hkind⟩ := K.1 _ _ hq
  obtain ⟨cf, kf, fi, f, hi, hsl⟩ := hS k hkN
  have hst := (u_facts hfc hkC (u_lays hts k1 hkN) hi).1
  dsimp only at t1 t2
  rw [t1] at hi
  have hty : ty' = ty := t2.trans f2.symm
  subst hty
  refine ⟨x, cell, q, k, ref, cf, kf, fi, f, kC, ⟨hlt, e1, e2, e3⟩, ⟨hκ, hq, hok, hkN, hk, t1⟩, ⟨hts _ f3, ?_, hi⟩, ⟨hsl, hst, hfc, hkC, hkind⟩, hFok⟩
  rcases f4 with rfl | f4
  · exact hi
  · exact u_same (hts _ f4) _ hi
theorem aKfL_inj {κ : Nat} {q : vw_C} (hok : aKok κ q) {j k : Nat} {r r' : Nat × Nat} (hj : (aKfL.getD κ [])[j]? = some r) (hk : (aKfL.getD κ [])[k]? = some r') (he : r.1 = r'.1) : j = k := by
  obtain ⟨k1, k2, k3, k4, k5, k6, k7⟩ := hok
  obtain ⟨l1, d1⟩ := getD_of (d := (0, 0)) hj
  obtain ⟨l2, d2⟩ := getD_of (d := (0, 0)) hk
  exact k7 j (by rw [← k5]; exact l1) k (by rw [← k5]; exact l2) (by rw [d1, d2]; exact he)
theorem aSlots_apart (hts : ∀ w ∈ lw_all, w.before args s = true) (K : aAK D E s) {κ : Nat} {q : vw_C} (hq : aKl[κ]? = some q) (hok : aKok κ q) {j k : Nat} (hj : j < q.2.2) (hk : k < q.2.2) (hne : j ≠ k) : D.2 κ k ≠ D.2 κ j := by
  obtain ⟨k1, k2, k3, k4, k5, k6, k7⟩ := hok
  obtain ⟨hS, -⟩ := K.1 _ _ hq
  obtain ⟨_, _, _, fa, hia, ea⟩ := hS k hk
  obtain ⟨_, _, _, fb, hib, eb⟩ := hS j hj
  rw [← ea, ← eb]
  refine u_apart (u_lays hts k1 hk) (u_lays hts k1 hj) hia hib ?_
  obtain ⟨a1, -, a3⟩ := k6 k hk
  obtain ⟨b1, -, b3⟩ := k6 j hj
  obtain ⟨fa', pa, -⟩ := aFt_of a3
  obtain ⟨fb', pb, -⟩ := aFt_of b3
  rw [← a1] at pa
  rw [← b1] at pb
  rw [(State.fieldFound?_type hia pa).1, (State.fieldFound?_type hib pb).1]
  exact k4 k hk j hj (Ne.symm hne)
end SIM2
