set_option maxRecDepth 100000
/-! SIMULATION 13: all runs -/
section SIM12
variable {p : Program} {l : Launch} {e : Env} {R : Room} {s : State} {m : MethodId} {args : Array Value} {below : List Frame} {meth : Method} {c : Code} {H : Heap} {locs : List Loc} {cells slots : Nat} {Q : State → Prop}
variable {D : va_G} {b : Nat} {E : Nat → Value} {μ pc : Nat} {JL : Array Slot} {ls st : List Value} {h : aH}

set_option maxHeartbeats 1000000 in
theorem aFlow_h {i : Instr} {n pc' : Nat} {ls' st' : List Value} {h' : aH} (hf : aFlow μ pc ls st h i n = some (.inl (pc', ls', st', h'))) : h' = h := by
  cases i
  case iload_n j => obtain ⟨rfl, e1⟩ := aLn_some hf; unfold aLdI at e1; split at e1 <;> cases e1; rfl
  case iload j => obtain ⟨rfl, e1⟩ := aLn_some hf; unfold aLdI at e1; split at e1 <;> cases e1; rfl
  case lload_n j => obtain ⟨rfl, e1⟩ := aLn_some hf; unfold aLdL at e1; split at e1 <;> cases e1; rfl
  case lload j => obtain ⟨rfl, e1⟩ := aLn_some hf; unfold aLdL at e1; split at e1 <;> cases e1; rfl
  case aload_n j => obtain ⟨rfl, e1⟩ := aLn_some hf; unfold aLdA at e1; split at e1 <;> cases e1 <;> rfl
  case aload j => obtain ⟨rfl, e1⟩ := aLn_some hf; unfold aLdA at e1; split at e1 <;> cases e1 <;> rfl
  case istore_n j => obtain ⟨rfl, e1⟩ := aLn_some hf; unfold aStI at e1; split at e1 <;> (try split at e1) <;> cases e1 <;> rfl
  case istore j => obtain ⟨rfl, e1⟩ := aLn_some hf; unfold aStI at e1; split at e1 <;> (try split at e1) <;> cases e1 <;> rfl
  case astore_n j => obtain ⟨rfl, e1⟩ := aLn_some hf; unfold aStA at e1; split at e1 <;> (try split at e1) <;> cases e1 <;> rfl
  case astore j => obtain ⟨rfl, e1⟩ := aLn_some hf; unfold aStA at e1; split at e1 <;> (try split at e1) <;> cases e1 <;> rfl
  case lstore j => obtain ⟨rfl, e1⟩ := aLn_some hf; split at e1 <;> (try split at e1) <;> cases e1 <;> rfl
  case iinc j v => obtain ⟨rfl, e1⟩ := aLn_some hf; split at e1 <;> (try split at e1) <;> cases e1 <;> rfl
  case goto off =>
    obtain ⟨rfl, e1⟩ := aLn_some hf
    obtain ⟨t, ht, e1⟩ := aJk_some e1
    cases e1; rfl
  case ifCond cnd off =>
    obtain ⟨rfl, e1⟩ := aLn_some hf
    unfold aIf1 at e1
    split at e1
    · obtain ⟨t, ht, e1⟩ := aJk_some e1
      cases cnd <;> dsimp only at e1 <;> split at e1 <;> cases e1 <;> rfl
    · cases e1
  case if_icmp cnd off =>
    obtain ⟨rfl, e1⟩ := aLn_some hf
    unfold aIf2 at e1
    split at e1
    · obtain ⟨t, ht, e1⟩ := aJk_some e1
      cases cnd <;> dsimp only at e1 <;> split at e1 <;> cases e1 <;> rfl
    · cases e1
  case if_acmp cnd off =>
    obtain ⟨rfl, e1⟩ := aLn_some hf
    split at e1
    · obtain ⟨t, ht, e1⟩ := aJk_some e1
      cases cnd <;> dsimp only at e1 <;> split at e1 <;> (try split at e1) <;> cases e1 <;> rfl
    · cases e1
  case ifnonnull off =>
    obtain ⟨rfl, e1⟩ := aLn_some hf
    split at e1
    · cases e1; rfl
    · split at e1
      · obtain ⟨t, ht, e1⟩ := aJk_some e1
        cases e1; rfl
      · cases e1
    · cases e1
  case tableswitch df lo up offs =>
    dsimp only [aFlow] at hf
    split at hf
    · split at hf
      · obtain ⟨t, ht, e1⟩ := aJk_some hf
        cases e1; rfl
      · split at hf
        · obtain ⟨t, ht, e1⟩ := aJk_some hf
          cases e1; rfl
        · cases hf
    · cases hf
  all_goals exact absurd (aLn_some hf).2 aRet_inl
theorem aMx_some {f : Int32 → Int32 → Int32} {t : (Nat × List Value × List Value × aH) ⊕ ((Nat × List Value × Bool × List Value) ⊕ (Outcome × aH))} (q : aMx pc ls st h f = some t) : ∃ (x y : Int32) (r : List Value), st = .int y :: .int x :: r ∧ aWd r ≤ 8 ∧ t = .inl (pc + 3, ls, .int (f x y) :: r, h) := by
  unfold aMx at q
  split at q
  · rename_i y x r
    cases hb8 : Nat.ble (aWd r) 8 with
    | false => rw [hb8] at q; cases q
    | true => rw [hb8] at q; cases q; exact ⟨x, y, r, rfl, Nat.le_of_ble_eq_true hb8, rfl⟩
  · cases q
theorem aOi_some {t : (Nat × List Value × List Value × aH) ⊕ ((Nat × List Value × Bool × List Value) ⊕ (Outcome × aH))} (q : aOi pc ls st h = some t) : ∃ (a : Nat) (r : List Value), st = .ref a :: r ∧ (hk_ h a).1 < 98 ∧ aWd r ≤ 8 ∧ t = .inl (pc + 3, ls, r, h) := by
  unfold aOi at q
  split at q
  · rename_i a r
    split at q
    · rename_i hk
      cases hb8 : Nat.ble (aWd r) 8 with
      | false => rw [hb8] at q; cases q
      | true => rw [hb8] at q; cases q; exact ⟨a, r, rfl, hk, Nat.le_of_ble_eq_true hb8, rfl⟩
    · cases q
  · cases q
/-- what the machine runs by itself, or a call -/
def aCd (μ pc : Nat) (ls st : List Value) (h : aH) (i : Instr) (n : Nat) (t : (Nat × List Value × List Value × aH) ⊕ ((Nat × List Value × Bool × List Value) ⊕ (Outcome × aH))) : Prop :=
  (∃ c, t = .inr (.inl c)) ∨ (n = 3 ∧ ∃ j, ((i = .invokestatic j ∧ Cond.methodLink (aNm (aCo μ)) j arraycopyName ∈ lw_all ∧ aCpy pc ls st h = some t) ∨
    (i = .invokestatic j ∧ Cond.methodLink (aNm (aCo μ)) j Lib.Math.max.name ∈ lw_all ∧ aMx pc ls st h max_ = some t) ∨
    (i = .invokestatic j ∧ Cond.methodLink (aNm (aCo μ)) j Lib.Math.min.name ∈ lw_all ∧ aMx pc ls st h min_ = some t) ∨
    (i = .invokespecial j ∧ Cond.methodLink (aNm (aCo μ)) j Lib.objectInit ∈ lw_all ∧ aOi pc ls st h = some t)))
theorem aIoks_md {c md n j : Nat} (h : aIoks c (j, md, n, [])) : (md = 6 → Cond.methodLink (aNm c) j arraycopyName ∈ lw_all) ∧ (md = 9 → Cond.methodLink (aNm c) j Lib.objectInit ∈ lw_all) ∧ (md = 10 → Cond.methodLink (aNm c) j Lib.Math.max.name ∈ lw_all) ∧ (md = 11 → Cond.methodLink (aNm c) j Lib.Math.min.name ∈ lw_all) := by
  rcases h with ⟨q, h⟩ | ⟨q, h⟩ | ⟨q, h⟩ | ⟨q, h⟩ | ⟨q, -⟩
  · have q : md = 6 := q
    exact ⟨fun _ => h, fun z => by omega, fun z => by omega, fun z => by omega⟩
  · have q : md = 9 := q
    exact ⟨fun z => by omega, fun _ => h, fun z => by omega, fun z => by omega⟩
  · have q : md = 10 := q
    exact ⟨fun z => by omega, fun z => by omega, fun _ => h, fun z => by omega⟩
  · have q : md = 11 := q
    exact ⟨fun z => by omega, fun z => by omega, fun z => by omega, fun _ => h⟩
  · exact absurd rfl q
theorem aCalls_cl {i : Instr} {n : Nat} {t : (Nat × List Value × List Value × aH) ⊕ ((Nat × List Value × Bool × List Value) ⊕ (Outcome × aH))} (hf : aCalls μ pc ls st h i n = some t) : aCd μ pc ls st h i n t := by
  cases i
  case invokestatic j =>
    obtain ⟨rfl, e1⟩ := aLn_some hf
    split at e1
    · rename_i ent hi
      have hok := aInv_ok hi
      unfold aStat at e1
      split at e1
      · rename_i md mm κ ν0
        cases hmd : (Nat.beq md 0 || Nat.beq md 3) with
        | false => rw [hmd] at e1; cases e1
        | true =>
          rw [hmd, cond_true] at e1
          split at e1
          · exact Or.inl ⟨_, (aCl_some e1).2⟩
          · cases e1
      · rename_i md mm
        obtain ⟨k1, k2, k3, k4⟩ := aIoks_md hok
        cases h6 : Nat.beq md 6 with
        | true =>
          rw [h6, cond_true] at e1
          exact Or.inr ⟨rfl, j, Or.inl ⟨rfl, k1 (Nat.eq_of_beq_eq_true h6), e1⟩⟩
        | false =>
          rw [h6, cond_false] at e1
          cases h10 : Nat.beq md 10 with
          | true =>
            rw [h10, cond_true] at e1
            exact Or.inr ⟨rfl, j, Or.inr (Or.inl ⟨rfl, k3 (Nat.eq_of_beq_eq_true h10), e1⟩)⟩
          | false =>
            rw [h10, cond_false] at e1
            cases h11 : Nat.beq md 11 with
            | true =>
              rw [h11, cond_true] at e1
              exact Or.inr ⟨rfl, j, Or.inr (Or.inr (Or.inl ⟨rfl, k4 (Nat.eq_of_beq_eq_true h11), e1⟩))⟩
            | false => rw [h11] at e1; cases e1
      · cases e1
    · cases e1
  case invokespecial j =>
    obtain ⟨rfl, e1⟩ := aLn_some hf
    split at e1
    · rename_i ent hi
      have hok := aInv_ok hi
      unfold aSpec at e1
      split at e1
      · rename_i md mm
        obtain ⟨k1, k2, k3, k4⟩ := aIoks_md hok
        cases h9 : Nat.beq md 9 with
        | false => rw [h9] at e1; cases e1
        | true =>
          rw [h9, cond_true] at e1
          exact Or.inr ⟨rfl, j, Or.inr (Or.inr (Or.inr ⟨rfl, k2 (Nat.eq_of_beq_eq_true h9), e1⟩))⟩
      · rename_i md mm κ ν0
        split at e1
        · rename_i as0 a rest0 hp
          cases hmd : (Nat.beq md 1 || Nat.beq md 2) with
          | true =>
            rw [hmd, cond_true] at e1
            split at e1
            · exact Or.inl ⟨_, (aCl_some e1).2⟩
            · cases e1
          | false =>
            rw [hmd, cond_false] at e1
            cases h7 : Nat.beq md 7 with
            | false => rw [h7] at e1; cases e1
            | true =>
              rw [h7, cond_true] at e1
              split at e1
              · exact Or.inl ⟨_, (aCl_some e1).2⟩
              · cases e1
        · cases e1
      · cases e1
    · cases e1
  case invokevirtual j =>
    obtain ⟨rfl, e1⟩ := aLn_some hf
    split at e1
    · rename_i ent hi
      obtain ⟨md, mm, tg⟩ := ent
      unfold aVirt at e1
      dsimp only at e1
      split at e1
      · split at e1
        · cases h4 : Nat.beq md 4 with
          | true => rw [h4, cond_true] at e1; exact Or.inl ⟨_, (aCl_some e1).2⟩
          | false =>
            rw [h4, cond_false] at e1
            cases h58 : (Nat.beq md 5 || Nat.beq md 8) with
            | false => rw [h58] at e1; cases e1
            | true => rw [h58, cond_true] at e1; exact Or.inl ⟨_, (aCl_some e1).2⟩
        · cases e1
      · cases e1
    · cases e1
  all_goals cases hf
theorem aCpy_cl {t : (Nat × List Value × List Value × aH) ⊕ ((Nat × List Value × Bool × List Value) ⊕ (Outcome × aH))} (hf : aCpy pc ls st h = some t) : aGr h ls t := by
  unfold aCpy at hf
  split at hf
  · split at hf
    · cases hf; exact ⟨_, _, _, rfl, Nat.le_refl _, Nat.le_refl _⟩
    · cases hf
  · cases hf
theorem aCin_cl {i : Instr} {n : Nat} {t : (Nat × List Value × List Value × aH) ⊕ ((Nat × List Value × Bool × List Value) ⊕ (Outcome × aH))} (hf : aCalls μ pc ls st h i n = some t) : (∃ c, t = .inr (.inl c)) ∨ aGr h ls t := by
  rcases aCalls_cl hf with q | ⟨-, j, ⟨-, -, q⟩ | ⟨-, -, q⟩ | ⟨-, -, q⟩ | ⟨-, -, q⟩⟩
  · exact Or.inl q
  · exact Or.inr (aCpy_cl q)
  · obtain ⟨x, y, r, -, -, rfl⟩ := aMx_some q
    exact Or.inr ⟨_, _, _, rfl, Nat.le_refl _, Nat.le_refl _⟩
  · obtain ⟨x, y, r, -, -, rfl⟩ := aMx_some q
    exact Or.inr ⟨_, _, _, rfl, Nat.le_refl _, Nat.le_refl _⟩
  · obtain ⟨x, r, -, -, -, rfl⟩ := aOi_some q
    exact Or.inr ⟨_, _, _, rfl, Nat.le_refl _, Nat.le_refl _⟩
theorem aCin_sim (C : aCx p s m args meth c μ) (hR : aRel D b E s h H) (hL : aLo b E μ JL ls) {i : Instr} {n : Nat} {t : Nat × List Value × List Value × aH} (hl : ∀ q ∈ locs, b ≤ q.base) (hd : decode (aCode μ) pc = .ok (i, n)) (hf : aCalls μ pc ls st h i n = some (.inl t))
    (hfr : 1 ≤ R.frames) (hlo : 64 ≤ R.locals) (hcl : cells ≤ R.cells) (hsl : slots ≤ R.slots) : aM1 p l e R s m args below meth c H locs cells slots Q D b E JL h pc ls st (.inl t) := by
  rcases aCalls_cl hf with ⟨c, q⟩ | ⟨rfl, j, ⟨rfl, lk, q⟩ | ⟨rfl, lk, q⟩ | ⟨rfl, lk, q⟩ | ⟨rfl, lk, q⟩⟩
  · cases q
  · exact aCpy_sim C hR hL.2.1 hl hd lk hfr hlo q
  · obtain ⟨x, y, r, rfl, hw, ht⟩ := aMx_some q
    obtain ⟨hx, hb, hml, hret, hlk, hown, hts, hin, htab, hμ⟩ := C
    refine aM1.same ht rfl rfl (fun kk => ?_)
    have k := kk H locs hR hl
    exact va_mmax hx hb (hml.trans hL.2.1.symm) hown (hts _ lk) (hts _ q852) (hts _ q159) (hts _ q853) hfr (by rw [aWd_sum hR]; omega) hcl hsl hd k
  · obtain ⟨x, y, r, rfl, hw, ht⟩ := aMx_some q
    obtain ⟨hx, hb, hml, hret, hlk, hown, hts, hin, htab, hμ⟩ := C
    refine aM1.same ht rfl rfl (fun kk => ?_)
    have k := kk H locs hR hl
    exact va_mmin hx hb (hml.trans hL.2.1.symm) hown (hts _ lk) (hts _ q870) (hts _ q159) (hts _ q871) hfr (by rw [aWd_sum hR]; omega) hcl hsl hd k
  · obtain ⟨a, r, rfl, hk, hw, ht⟩ := aOi_some q
    obtain ⟨hx, hb, hml, hret, hlk, hown, hts, hin, htab, hμ⟩ := C
    obtain ⟨-, x, cell, hax, -⟩ := hR.get (a := a) (by omega) (by omega)
    refine aM1.same ht rfl rfl (fun kk => ?_)
    have k := kk H locs hR hl
    rw [List.map_cons, hax]
    exact W.objInit hx hb hown (hts _ lk) (hts _ q171) (hts _ q172) (g := F0 m pc JL (.ref x :: r.map (aPhi b E))) rfl (hL.2.1.trans hml.symm) rfl hd hfr (by rw [aWd_sum hR]; show 2 * 0 + _ + 12 ≤ _; omega) k
theorem aCall_sim (C : aCx p s m args meth c μ) (K : aAK D E s) (hR : aRel D b E s h H) (hL : aLo b E μ JL ls) {i : Instr} {n d ν : Nat} {as rest : List Value} {thr : Bool} {r : Outcome × aH} (hl : ∀ q ∈ locs, b ≤ q.base) (hd : decode (aCode μ) pc = .ok (i, n)) (hf : aCalls μ pc ls st h i n = some (.inr (.inl (ν, as, thr, rest))))
    (hG : aGives l D b E d ν 0 (aEnt ν as) [] h r) (hn : aEn ν as = true) (hfr : d + 1 + 1 ≤ R.frames) (hlo : 64 * (d + 1 + 1) ≤ R.locals) (hcl : cells + (hz_ r.2 - hz_ h) ≤ R.cells) (hsl : slots + (hu_ r.2 - hu_ h) ≤ R.slots)
    (k : aCk p l e R s m args below meth c cells slots Q D b E JL h pc rest thr r) : W p l e R s m args below meth c H locs cells slots Q (F0 m pc JL (st.map (aPhi b E))) := by
  cases i
  case invokestatic j => exact aCalls_stat C K hR hL hl hd hf hG hn hfr hlo hcl hsl k
  case invokespecial j => exact aCalls_spec C K hR hL hl hd hf hG hn hfr hlo hcl hsl k
  case invokevirtual j => exact aCalls_virt C K hR hL hl hd hf hG hn hfr hlo hcl hsl k
  all_goals cases hf
/-- a thing thrown over this method -/
theorem aOver (C : aCx p s m args meth c μ) (K : aAK D E s) {q : Nat} {ce : Cell} {rest : List Value} {t q0 : Nat} (hc : aCatch μ pc = some t) (hq : aPhi b E (.ref q0) = .ref q) (hcell : H[q]? = some ce) (hv : ce.vm = .none) (hcl : s.vm.findClass "LentSundays$Fault" = some ce.cls)
    (kk : W p l e R s m args below meth c H locs cells slots Q (F0 m t JL (([.ref q0] : List Value).map (aPhi b E)))) : vx_W p l e R s m args below meth c H locs cells slots Q (F0 m pc JL (rest.map (aPhi b E))) q := by
  obtain ⟨hx, hb, hml, hret, hlk, hown, hts, hin, htab, hμ⟩ := C
  unfold aCatch at hc
  by_cases h4 : μ = 4
  · subst h4
    have hk : (Nat.ble 7 pc && Nat.blt pc 59) = true := by
      cases hb : (Nat.ble 7 pc && Nat.blt pc 59) with
      | true => rfl
      | false =>
        rw [show (aHd 4) = [(7, 59, 62, 14)] from rfl, List.find?_cons_of_neg (by rw [hb]; decide)] at hc
        cases hc
    rw [show (aHd 4) = [(7, 59, 62, 14)] from rfl, List.find?_cons_of_pos (p := fun x : Nat × Nat × Nat × Nat => Nat.ble x.1 pc && Nat.blt pc x.2.1) hk] at hc
    cases hc
    rw [Bool.and_eq_true] at hk
    rw [List.map_cons, hq] at kk
    refine vx_catch (own := "LentSundays") (name := "LentSundays$Fault") (E := "LentSundays$Fault") hown [] ⟨7, 59, 62, 14⟩ [] htab (fun z hz => by cases hz) ?_ (by decide) (hts _ q173) (K.2.1.2.1 _ (List.mem_of_getElem? (i := 7) rfl)) hcell hv hcl kk
    show (decide (7 ≤ pc) && decide (pc < 59)) = true
    rw [decide_eq_true (Nat.le_of_ble_eq_true hk.1), decide_eq_true (show pc < 59 from Nat.le_of_ble_eq_true hk.2)]; rfl
  · have : aHd μ = [] := by
      unfold aHd
      cases hb : Nat.beq μ 4 with
      | true => exact absurd (Nat.eq_of_beq_eq_true hb) h4
      | false => rfl
    rw [this] at hc
    cases hc
theorem aNoCatch {μ pc : Nat} (hc : aCatch μ pc = none) : ∀ x ∈ tableOf (aHd μ), covers x pc = false := by
  intro x hx
  unfold aCatch at hc
  obtain ⟨q, hq, rfl⟩ := List.mem_map.mp hx
  cases hf : (aHd μ).find? (fun x => Nat.ble x.1 pc && Nat.blt pc x.2.1) with
  | some y => rw [hf] at hc; cases hc
  | none =>
    have := List.find?_eq_none.mp hf q hq
    show (decide (q.1 ≤ pc) && decide (pc < q.2.1)) = false
    by_cases h1 : q.1 ≤ pc
    · by_cases h2 : pc < q.2.1
      · exact absurd (by rw [Nat.ble_eq_true_of_le h1]; exact Nat.ble_eq_true_of_le h2) this
      · rw [decide_eq_false h2, Bool.and_false]
    · rw [decide_eq_false h1, Bool.false_and]
theorem aSub {x a y z : Nat} (h1 : a ≤ y) (h2 : y ≤ z) : x + (y - a) + (z - y) = x + (z - a) := by omega
set_option maxHeartbeats 1000000 in
/-- THE SIMULATION -/
theorem aSim : ∀ (f d μ pc : Nat) (ls st : List Value) (h : aH) (r : Outcome × aH), aEx f d μ pc ls st h = some r → aGives l D b E d μ pc ls st h r := by
  intro f
  induction f with
  | zero => intro d μ pc ls st h r hr; cases hr
  | succ f ih =>
    intro d μ pc ls st h r hr
    rw [aEx] at hr
    cases hd : decode (aCode μ) pc with
    | error e => rw [hd] at hr; cases hr
    | ok v =>
      obtain ⟨i, n⟩ := v
      rw [hd] at hr
      dsimp only at hr
      -- a heap act
      have mem : ∀ (pc' : Nat) (st' : List Value) (h' : aH), aEx f d μ pc' ls st' h' = some r → hz_ h ≤ hz_ h' → hu_ h ≤ hu_ h' →
          (∀ (p : Program) (e : Env) (R : Room) (s : State) (m : MethodId) (args : Array Value) (below : List Frame) (meth : Method) (c : Code) (H : Heap) (locs : List Loc) (cells slots : Nat) (JL : Array Slot) (Q : State → Prop),
            aCx p s m args meth c μ → aAK D E s → aRel D b E s h H → aLo b E μ JL ls → (∀ q ∈ locs, b ≤ q.base) → 1 ≤ R.frames → 64 ≤ R.locals → cells ≤ R.cells → slots ≤ R.slots → aM1 p l e R s m args below meth c H locs cells slots Q D b E JL h pc ls st (.inl (pc', ls, st', h'))) → aGives l D b E d μ pc ls st h r := by
        intro pc' st' h' hr' z1 z2 hm
        obtain ⟨g1, g2, g3⟩ := ih _ _ _ _ _ _ _ hr'
        refine ⟨Nat.le_trans z1 g1, Nat.le_trans z2 g2, fun p e R s m args below meth c H locs cells slots JL C K hR hL hl hfr hlo hcl hsl => ?_⟩
        obtain ⟨pc1, st1, h1, e1, -, -, hk⟩ := hm p e R s m args below meth c H locs cells slots JL (vx_MQ below (aQc D b E r) (aXc D b E r) args s (cells + (hz_ r.2 - hz_ h)) (slots + (hu_ r.2 - hu_ h)) (fun q => b ≤ q)) C K hR hL hl (by omega) (by omega) (by omega) (by omega)
        cases e1
        refine hk (by omega) (by omega) (fun H' locs' hR' hl' => ?_)
        have := g3 p e R s m args below meth c H' locs' (cells + (hz_ h' - hz_ h)) (slots + (hu_ h' - hu_ h)) JL C K hR' hL hl' hfr hlo (by omega) (by omega)
        rw [aSub z1 g1, aSub z2 g2] at this
        exact this
      cases ha : aAct μ pc ls st h i n with
      | none => rw [ha] at hr; cases hr
      | some t =>
        rw [ha] at hr
        unfold aAct at ha
        split at ha
        · rename_i st' hp
          cases ha
          have hr : aEx f d μ (pc + n) ls st' h = some r := hr
          obtain ⟨g1, g2, g3⟩ := ih _ _ _ _ _ _ _ hr
          exact ⟨g1, g2, fun p e R s m args below meth c H locs cells slots JL C K hR hL hl hfr hlo hcl hsl => aPure_sim C K hR hd hp (g3 p e R s m args below meth c H locs cells slots JL C K hR hL hl hfr hlo hcl hsl)⟩
        · split at ha
          · rename_i t1 hfl
            cases ha
            match t, hr, hfl with
            | .inl (pc', ls', st', h'), hr, hfl =>
              have hh := aFlow_h hfl
              subst hh
              have hr : aEx f d μ pc' ls' st' h' = some r := hr
              obtain ⟨g1, g2, g3⟩ := ih _ _ _ _ _ _ _ hr
              exact ⟨g1, g2, fun p e R s m args below meth c H locs cells slots JL C K hR hL hl hfr hlo hcl hsl => (aFlow_sim C hR hL hd hfl (fun JL' hL' => g3 p e R s m args below meth c H locs cells slots JL' C K hR hL' hl hfr hlo hcl hsl)).2⟩
            | .inr x, hr, hfl =>
              obtain ⟨rfl, hrt⟩ := aFlow_cl hfl
              obtain ⟨o, rfl⟩ := aRet_cl hrt
              cases hr
              refine ⟨Nat.le_refl _, Nat.le_refl _, fun p e R s m args below meth c H locs cells slots JL C K hR hL hl hfr hlo hcl hsl => ?_⟩
              rw [Nat.sub_self, Nat.sub_self]
              exact (aRet_sim C K hR hd hrt hl (fun v hv t ht hw => ⟨v, hv, rfl, by rw [ht]; exact hR.moved hw.alike⟩) (fun q hq x hx t ht hw => ⟨q, hq, rfl, hx, by rw [ht]; exact hR.moved hw⟩)).2
          · split at ha
            · rename_i t1 hfm
              cases ha
              obtain ⟨pc', st', h', rfl, z1, z2⟩ := aMem_cl hfm
              exact mem pc' st' h' hr z1 z2 (fun p e R s m args below meth c H locs cells slots JL Q C K hR hL hl hfr hlo hcl hsl => aMem_sim C K hR hl hd hfm)
            · rcases aCin_cl ha with ⟨⟨ν, as, thr, rest⟩, rfl⟩ | ⟨pc', st', h', rfl, z1, z2⟩
              · dsimp only at hr
                cases d with
                | zero => cases hr
                | succ d' =>
                  dsimp only at hr
                  cases hn : aEn ν as with
                  | false => rw [hn] at hr; cases hr
                  | true =>
                    rw [hn, cond_true] at hr
                    cases hc : aEx f d' ν 0 (aEnt ν as) [] h with
                    | none => rw [hc] at hr; cases hr
                    | some rc =>
                      rw [hc] at hr
                      have hG := ih _ _ _ _ _ _ _ hc
                      have z1 := hG.1
                      have z2 := hG.2.1
                      obtain ⟨o, h1⟩ := rc
                      cases o with
                      | returned v =>
                        have hr : aEx f (d' + 1) μ (pc + 3) ls (v.toList ++ rest) h1 = some r := hr
                        obtain ⟨g1, g2, g3⟩ := ih _ _ _ _ _ _ _ hr
                        refine ⟨Nat.le_trans z1 g1, Nat.le_trans z2 g2, fun p e R s m args below meth c H locs cells slots JL C K hR hL hl hfr hlo hcl hsl => ?_⟩
                        dsimp only at z1 z2
                        refine aCall_sim C K hR hL hl hd ha hG hn hfr hlo (by dsimp only; omega) (by dsimp only; omega) ⟨fun g hg H' locs' hR' hl' => ?_, fun q0 hq => by cases hq⟩
                        cases hg
                        have := g3 p e R s m args below meth c H' locs' (cells + (hz_ h1 - hz_ h)) (slots + (hu_ h1 - hu_ h)) JL C K hR' hL hl' hfr hlo (by omega) (by omega)
                        rw [aSub z1 g1, aSub z2 g2] at this
                        exact this
                      | threw q0 =>
                        dsimp only at hr
                        cases thr with
                        | false => cases hr
                        | true =>
                          rw [cond_true] at hr
                          cases hcc : aCatch μ pc with
                          | some tt =>
                            rw [hcc] at hr
                            have hr : aEx f (d' + 1) μ tt ls [.ref q0] h1 = some r := hr
                            obtain ⟨g1, g2, g3⟩ := ih _ _ _ _ _ _ _ hr
                            refine ⟨Nat.le_trans z1 g1, Nat.le_trans z2 g2, fun p e R s m args below meth c H locs cells slots JL C K hR hL hl hfr hlo hcl hsl => ?_⟩
                            dsimp only at z1 z2
                            refine aCall_sim C K hR hL hl hd ha hG hn hfr hlo (by dsimp only; omega) (by dsimp only; omega) ⟨fun g hg => (by cases hg), fun q1 hq => ⟨rfl, fun H' locs' q ce hR' hl' e1 e2 e3 e4 => ?_⟩⟩
                            cases hq
                            have := g3 p e R s m args below meth c H' locs' (cells + (hz_ h1 - hz_ h)) (slots + (hu_ h1 - hu_ h)) JL C K hR' hL hl' hfr hlo (by omega) (by omega)
                            rw [aSub z1 g1, aSub z2 g2] at this
                            exact aOver C K hcc e1 e2 e3 e4 this
                          | none =>
                            rw [hcc] at hr
                            cases hr
                            refine ⟨z1, z2, fun p e R s m args below meth c H locs cells slots JL C K hR hL hl hfr hlo hcl hsl => ?_⟩
                            refine aCall_sim C K hR hL hl hd ha hG hn hfr hlo hcl hsl ⟨fun g hg => (by cases hg), fun q1 hq => ⟨rfl, fun H' locs' q ce hR' hl' e1 e2 e3 e4 => ?_⟩⟩
                            cases hq
                            refine vx_out (by rw [C.2.2.2.2.2.2.2.2.1]; exact aNoCatch hcc) C.2.2.2.2.1 e2 e3 e4 (fun t ht hw => ⟨q0, rfl, rfl, e1, by rw [ht]; exact hR'.moved hw⟩) hl' (Nat.le_refl _) (Nat.le_refl _)
              · exact mem pc' st' h' hr z1 z2 (fun p e R s m args below meth c H locs cells slots JL Q C K hR hL hl hfr hlo hcl hsl => aCin_sim C hR hL hl hd ha hfr hlo hcl hsl)
end SIM12
