set_option maxRecDepth 100000
/-! SIMULATION 4: acts on the heap -/
theorem aFt_ref {κ : Nat} (h1 : 110 ≤ κ) (h2 : κ < 116) : (aFt κ).isReference = true := by
  have : κ = 110 ∨ κ = 111 ∨ κ = 112 ∨ κ = 113 ∨ κ = 114 ∨ κ = 115 := by omega
  rcases this with rfl | rfl | rfl | rfl | rfl | rfl <;> rfl
section SIM3
variable {p : Program} {l : Launch} {e : Env} {R : Room} {s : State} {m : MethodId} {args : Array Value} {below : List Frame} {meth : Method} {c : Code} {H : Heap} {locs : List Loc} {cells slots : Nat} {Q : State → Prop}
variable {D : va_G} {b : Nat} {E : Nat → Value} {μ pc : Nat} {JL : Array Slot} {ls st : List Value} {h : aH}
/-- how it goes on -/
def aK1 (p : Program) (l : Launch) (e : Env) (R : Room) (s : State) (m : MethodId) (args : Array Value) (below : List Frame) (meth : Method) (c : Code) (cells slots : Nat) (Q : State → Prop) (D : va_G) (b : Nat) (E : Nat → Value) (JL : Array Slot) (h : aH) (pc' : Nat) (st' : List Value) (h' : aH) : Prop :=
  ∀ (H' : Heap) (locs' : List Loc), aRel D b E s h' H' → (∀ q ∈ locs', b ≤ q.base) → W p l e R s m args below meth c H' locs' (cells + (hz_ h' - hz_ h)) (slots + (hu_ h' - hu_ h)) Q (F0 m pc' JL (st'.map (aPhi b E)))
/-- what a heap act owes -/
def aM1 (p : Program) (l : Launch) (e : Env) (R : Room) (s : State) (m : MethodId) (args : Array Value) (below : List Frame) (meth : Method) (c : Code) (H : Heap) (locs : List Loc) (cells slots : Nat) (Q : State → Prop) (D : va_G) (b : Nat) (E : Nat → Value) (JL : Array Slot) (h : aH) (pc : Nat) (ls st : List Value) (t : (Nat × List Value × List Value × aH) ⊕ ((Nat × List Value × Bool × List Value) ⊕ (Outcome × aH))) : Prop :=
  ∃ (pc' : Nat) (st' : List Value) (h' : aH), t = .inl (pc', ls, st', h') ∧ hz_ h ≤ hz_ h' ∧ hu_ h ≤ hu_ h' ∧
    (cells + (hz_ h' - hz_ h) ≤ R.cells → slots + (hu_ h' - hu_ h) ≤ R.slots → aK1 p l e R s m args below meth c cells slots Q D b E JL h pc' st' h' → W p l e R s m args below meth c H locs cells slots Q (F0 m pc JL (st.map (aPhi b E))))
theorem aM1.same {pc' : Nat} {st' : List Value} {h' : aH} {t : (Nat × List Value × List Value × aH) ⊕ ((Nat × List Value × Bool × List Value) ⊕ (Outcome × aH))} (ht : t = .inl (pc', ls, st', h')) (hz : hz_ h' = hz_ h) (hu : hu_ h' = hu_ h)
    (k : (∀ (H' : Heap) (locs' : List Loc), aRel D b E s h' H' → (∀ q ∈ locs', b ≤ q.base) → W p l e R s m args below meth c H' locs' cells slots Q (F0 m pc' JL (st'.map (aPhi b E)))) → W p l e R s m args below meth c H locs cells slots Q (F0 m pc JL (st.map (aPhi b E)))) :
    aM1 p l e R s m args below meth c H locs cells slots Q D b E JL h pc ls st t := by
  refine ⟨pc', st', h', ht, Nat.le_of_eq hz.symm, Nat.le_of_eq hu.symm, fun _ _ kk => k (fun H' locs' hR hl => ?_)⟩
  have := kk H' locs' hR hl
  rw [hz, hu, Nat.sub_self, Nat.sub_self] at this
  exact this
theorem aLocs {a i : Nat} (hl : ∀ q ∈ locs, b ≤ q.base) (ha : b ≤ a) : ∀ q ∈ locs ++ [(⟨a, i⟩ : Loc)], b ≤ q.base := by
  intro q hq
  rcases List.mem_append.mp hq with h1 | h1
  · exact hl q h1
  · rw [List.mem_singleton] at h1; subst h1; exact ha
set_option maxHeartbeats 1000000 in
theorem aGet_sim (C : aCx p s m args meth c μ) (K : aAK D E s) (hR : aRel D b E s h H) {a j : Nat} {r : List Value} {v : Value} (hl : ∀ q ∈ locs, b ≤ q.base) (hd : decode (aCode μ) pc = .ok (.getfield j, 3)) (hf : aGf h a (aFld (aCo μ) j) = some v) :
    aM1 p l e R s m args below meth c H locs cells slots Q D b E JL h pc ls (.ref a :: r) (.inl (pc + 3, ls, v :: r, h)) := by
  unfold aGf at hf
  split at hf
  · rename_i g ty fin hF
    split at hf
    · rename_i hh
      cases hf
      obtain ⟨x, cell, q, k, ref, cf, kf, fi, f, kC, ⟨hlt, e1, e2, o1, o2, o3, o4, o5⟩, ⟨hκ, hq, hok, hkN, hk, ht⟩, ⟨hlink, hfo, hfo2⟩, ⟨hsl, hst, hfc, hkC, hkind⟩, hFok⟩ := aField_of C K hR hF hh
      obtain ⟨hx, hb, hml, hret, hlk, hown, hts, hin, htab, hμ⟩ := C
      refine aM1.same rfl rfl rfl (fun kk => ?_)
      rw [List.map_cons, e1]
      have hv := (o4 (by omega)).2.2 k _ hk
      rw [← hsl] at hv
      exact W.getf hx hb hown hlink hfo hst e2 o1 hv rfl rfl hd (kk H locs hR hl)
    · cases hf
  · cases hf
/-- a value that a field takes -/
theorem aPt_ok {a g ty : Nat} {v : Value} {h' : aH} {ft : FieldType} (hR : aRel D b E s h H) (hp : aPt h a g ty v = some h') (hty : aTk ty ft = true) : aOne h h' a g ∧ aVl h' a g ty = v ∧ narrow ft (aPhi b E v) = aPhi b E v ∧ fits ft (aPhi b E v) = true := by
  unfold aPt at hp
  split at hp
  · cases hp
    refine ⟨aOne_si, ?_, ?_⟩
    · show Value.int (hi_ (si_ h a g _) a g) = _; rw [hi_si_self]
    · match ft, hty with
      | .int, _ => exact ⟨rfl, rfl⟩
  · cases hp
    refine ⟨aOne_sl, ?_, ?_⟩
    · show Value.long (hl_ (sl_ h a g _) a g) = _; rw [hl_sl_self]
    · match ft, hty with
      | .long, _ => exact ⟨rfl, rfl⟩
  · rename_i y
    cases hp
    refine ⟨aOne_sp, ?_, ?_⟩
    · show va_rf (hp_ (sp_ h a g _) a g) = _; rw [hp_sp_self]; rfl
    · rcases aPhi_ref hR y with q | ⟨z, q⟩
      · rw [q]
        match ft, hty with
        | .object _, _ => exact ⟨rfl, rfl⟩
        | .array _, _ => exact ⟨rfl, rfl⟩
      · rw [q]
        match ft, hty with
        | .object _, _ => exact ⟨rfl, rfl⟩
        | .array _, _ => exact ⟨rfl, rfl⟩
  · cases hp
    refine ⟨aOne_sp, ?_, ?_⟩
    · show va_rf (hp_ (sp_ h a g _) a g) = _; rw [hp_sp_self]; rfl
    · match ft, hty with
      | .object _, _ => exact ⟨rfl, rfl⟩
      | .array _, _ => exact ⟨rfl, rfl⟩
  · split at hp
    · rename_i hv
      cases hp
      refine ⟨aOne_si, ?_, ?_⟩
      · show Value.int (hi_ (si_ h a g _) a g) = _; rw [hi_si_self]
      · match ft, hty with
        | .boolean, _ => rcases hv with rfl | rfl <;> exact ⟨by rw [aPhi_int]; decide, by rw [aPhi_int]; decide⟩
    · cases hp
  · split at hp
    · rename_i hv
      cases hp
      refine ⟨aOne_si, ?_, ?_⟩
      · show Value.int (hi_ (si_ h a g _) a g) = _; rw [hi_si_self]
      · match ft, hty with
        | .byte, _ => exact ⟨by rw [aPhi_int, narrow_byte, hv], by rw [aPhi_int, ← hv]; exact pk_fb _⟩
    · cases hp
  · cases hp
set_option maxHeartbeats 1000000 in
theorem aPut_sim (C : aCx p s m args meth c μ) (K : aAK D E s) (hR : aRel D b E s h H) {a j : Nat} {r : List Value} {v : Value} {h' : aH} (hl : ∀ q ∈ locs, b ≤ q.base) (hd : decode (aCode μ) pc = .ok (.putfield j, 3)) (hf : aPf μ h a v (aFld (aCo μ) j) = some h') :
    aM1 p l e R s m args below meth c H locs cells slots Q D b E JL h pc ls (v :: .ref a :: r) (.inl (pc + 3, ls, r, h')) := by
  unfold aPf at hf
  split at hf
  · rename_i g ty fin hF
    cases hfin : (Nat.beq fin 0 || (Nat.beq fin 1 && aIn μ)) with
    | false => rw [hfin] at hf; cases hf
    | true =>
      rw [hfin, cond_true] at hf
      split at hf
      · rename_i hh
        obtain ⟨hh, h64⟩ := hh
        obtain ⟨x, cell, q, k, ref, cf, kf, fi, f, kC, ⟨hlt, e1, e2, hO⟩, ⟨hκ, hq, hok, hkN, hk, ht⟩, ⟨hlink, hfo, hfo2⟩, ⟨hsl, hst, hfc, hkC, hkind⟩, hFok⟩ := aField_of C K hR hF hh
        obtain ⟨hx, hb, hml, hret, hlk, hown, hts, hin, htab, hμ⟩ := C
        obtain ⟨f1, f2, -, f5, f6⟩ := hFok
        obtain ⟨ft, hpf, htk⟩ := aFt_of f1
        rw [← f2] at htk
        obtain ⟨hone, hvl, hn, hfit⟩ := aPt_ok hR hf htk
        obtain ⟨o1, o2, o3, o4, o5⟩ := id hO
        rw [aPhi_own h64] at e1
        cases e1
        have hcls := (o4 (by omega)).1
        have hslot := (o4 (by omega)).2.2 k _ hk
        have k1 := hok.1
        have hlay := hts _ (k1 _ (u_in_lay hkN))
        unfold u_lay at hlay
        rw [ht] at hlay
        have fin2 : ∀ (H' : Heap), H'[b + (a - 64)]? = some (cell.setSlot f.slot (aPhi b E v)) → H'.size = H.size → (∀ q, q ≠ b + (a - 64) → H'[q]? = H[q]?) → aRel D b E s h' H' := by
          intro H' g1 g2 g3
          rw [hsl] at g1
          refine hR.put h64 hlt hone.1 hone.2.2.1 hone.2.2.2.1 g1 g2 g3 (hO.field hone hκ hk hvl (fun j' r' hj' he => aKfL_inj hok hj' hk he) (fun j' hj' r' hr' => ?_))
          refine aSlots_apart hts K hq hok ?_ hkN hj'
          have := (getD_of (d := (0, 0)) hr').1
          rw [hok.2.2.2.2.1] at this
          exact this
        refine aM1.same rfl hone.1 hone.2.1 (fun kk => ?_)
        rw [List.map_cons, List.map_cons, aPhi_own h64]
        rw [Bool.or_eq_true] at hfin
        rcases hfin with hf0 | hf1
        · have hz := f5 (Nat.eq_of_beq_eq_true hf0)
          rw [if_neg (by rw [hz]; decide)] at hlay
          have h6 := u_store hfc hkC hkind hlay hfo2 hpf hn hfit
          refine W.putK hx hb (f := f) ⟨hown, hlink, ⟨_, _, _, hfo⟩, hst⟩ (by rw [hcls]; exact h6) e2 (o3 h64) (by rw [hsl]; exact k2_hasslot hslot) rfl rfl hd fun H' g1 g2 g3 => ?_
          exact kk H' _ (fin2 H' g1 g2 g3) (aLocs hl (Nat.le_add_right _ _))
        · rw [Bool.and_eq_true] at hf1
          obtain ⟨hz, hdecl⟩ := f6 (Nat.eq_of_beq_eq_true hf1.1)
          rw [if_pos hz] at hlay
          have hcf : m.cls = cf := by
            obtain ⟨_, _, c', _, _, _, -, -, hf', -, -, -, hown2, -⟩ := Cond.laysFinal_spec hlay
            have e1 : c' = cf := by have := hfo2.symm.trans hf'; simp at this; exact this.1.symm
            rw [hdecl] at hown2
            rw [← e1]; exact Option.some.inj (hown.symm.trans hown2)
          have h6 := u_fits hfc hkC hkind (Or.inr hlay) hfo2 hpf hn hfit
          refine W.putFinK hx hb hown hlink hfo hst hcf (hin hf1.2) (by rw [hcls]; exact h6) e2 (o3 h64) (by rw [hsl]; exact k2_hasslot hslot) rfl rfl hd fun H' g1 g2 g3 => ?_
          exact kk H' _ (fin2 H' g1 g2 g3) (aLocs hl (Nat.le_add_right _ _))
      · cases hf
  · cases hf
theorem aPi_some {α : Type} {a κ : Nat} {j : Int32} {x y z : α} (hy : y ≠ z) (hp : aPi h a κ j x y = z) : aPl h a κ j ∧ x = z := by
  unfold aPi at hp
  by_cases hc : aPl h a κ j
  · rw [@if_pos _ (aPlD ..) hc] at hp; exact ⟨hc, hp⟩
  · rw [@if_neg _ (aPlD ..) hc] at hp; exact absurd hp hy
theorem aArr_of (hR : aRel D b E s h H) {a κ : Nat} {j : Int32} (hj : aPl h a κ j) (hκ : 100 ≤ κ) :
    ∃ (x : Nat) (cell : Cell), a < hz_ h ∧ aPhi b E (.ref a) = .ref x ∧ H[x]? = some cell ∧ aOb D (aPhi b E) s h a cell ∧ s.isArrayOf cell (aFt κ) ∧ cell.vm ≠ .unknown ∧ ¬ (j < 0 ∨ cell.slots.size ≤ j.toNatClampNeg) ∧ j.toNatClampNeg < (hk_ h a).2 ∧ cell.slots[j.toNatClampNeg]? = some (aPhi b E (aEl h a κ j.toNatClampNeg)) := by
  obtain ⟨h1, h2⟩ := hj
  obtain ⟨hlt, x, cell, e1, e2, e3⟩ := hR.get (a := a) (by omega) (by omega)
  obtain ⟨o1, o2, o3, o4, o5⟩ := id e3
  obtain ⟨r1, r2, r3, r4, r5⟩ := o5 (by omega)
  rw [h1] at r1 r4
  have hj : j.toNatClampNeg < (hk_ h a).2 := Nat.not_le.mp (fun q => h2 (Or.inr q))
  exact ⟨x, cell, hlt, e1, e2, e3, r1, o1, by rw [r3]; exact h2, hj, r4 _ hj⟩
set_option maxHeartbeats 1000000 in
theorem aAld_sim (C : aCx p s m args meth c μ) (hR : aRel D b E s h H) {a : Nat} {j : Int32} {i : Instr} {r : List Value} {v : Value} (hl : ∀ q ∈ locs, b ≤ q.base) (hd : decode (aCode μ) pc = .ok (i, 1)) (hf : aAld h a j i = some v) :
    aM1 p l e R s m args below meth c H locs cells slots Q D b E JL h pc ls (.int j :: .ref a :: r) (.inl (pc + 1, ls, v :: r, h)) := by
  obtain ⟨hx, hb, hml, hret, hlk, hown, hts, hin, htab, hμ⟩ := C
  refine aM1.same rfl rfl rfl (fun kk => ?_)
  have k := kk H locs hR hl
  unfold aAld at hf
  cases i <;> dsimp only at hf
  case iaload =>
    obtain ⟨hj, hv⟩ := aPi_some (by simp) hf
    obtain ⟨x, cell, hlt, e1, e2, e3, r1, r2, r3, r4, r5⟩ := aArr_of hR hj (by decide)
    rw [List.map_cons, List.map_cons, e1]
    cases hv
    exact W.iald hx hb e2 r1 r2 r3 r5 rfl rfl hd k
  case saload =>
    obtain ⟨hj, hv⟩ := aPi_some (by simp) hf
    obtain ⟨x, cell, hlt, e1, e2, e3, r1, r2, r3, r4, r5⟩ := aArr_of hR hj (by decide)
    rw [List.map_cons, List.map_cons, e1]
    cases hv
    exact W.sald hx hb e2 r1 r2 r3 r5 rfl rfl hd k
  case laload =>
    obtain ⟨hj, hv⟩ := aPi_some (by simp) hf
    obtain ⟨x, cell, hlt, e1, e2, e3, r1, r2, r3, r4, r5⟩ := aArr_of hR hj (by decide)
    rw [List.map_cons, List.map_cons, e1]
    cases hv
    exact W.lald hx hb e2 r1 r2 r3 r5 rfl rfl hd k
  case baload =>
    by_cases hj : aPl h a 101 j
    · rw [show aPi h a 101 j (some (Value.int (hi_ h a j.toNatClampNeg))) _ = some (Value.int (hi_ h a j.toNatClampNeg)) from @if_pos _ (aPlD ..) hj _ _ _] at hf
      obtain ⟨x, cell, hlt, e1, e2, e3, r1, r2, r3, r4, r5⟩ := aArr_of hR hj (by decide)
      rw [List.map_cons, List.map_cons, e1]
      cases hf
      exact W.bald hx hb e2 r1 r2 r3 r5 rfl rfl hd k
    · rw [show aPi h a 101 j (some (Value.int (hi_ h a j.toNatClampNeg))) (aPi h a 103 j (some (Value.int (hi_ h a j.toNatClampNeg))) none) = aPi h a 103 j (some (Value.int (hi_ h a j.toNatClampNeg))) none from @if_neg _ (aPlD ..) hj _ _ _] at hf
      obtain ⟨hj, hv⟩ := aPi_some (by simp) hf
      obtain ⟨x, cell, hlt, e1, e2, e3, r1, r2, r3, r4, r5⟩ := aArr_of hR hj (by decide)
      rw [List.map_cons, List.map_cons, e1]
      cases hv
      exact W.zald hx hb e2 r1 r2 r3 r5 rfl rfl hd k
  case aaload =>
    split at hf
    · rename_i hκ
      obtain ⟨hj, hv⟩ := aPi_some (by simp) hf
      obtain ⟨x, cell, hlt, e1, e2, e3, r1, r2, r3, r4, r5⟩ := aArr_of hR hj (by omega)
      rw [List.map_cons, List.map_cons, e1]
      cases hv
      have hel : aEl h a (hk_ h a).1 j.toNatClampNeg = va_rf (hp_ h a j.toNatClampNeg) := by
        unfold aEl
        rw [if_neg (by omega), if_pos hκ]
      rw [hel] at r5
      refine W.aald hx hb e2 r1 ?_ r2 r3 r5 rfl rfl hd k
      obtain ⟨o1, o2, o3, o4, o5⟩ := e3
      have hra := (o5 (by omega)).2.1 hκ
      exact aFt_ref hκ (o5 (by omega)).2.2.2.2
    · cases hf
  all_goals cases hf
end SIM3
