set_option maxRecDepth 100000
/-! SIMULATION 9: one act; all runs -/
section SIM8
variable {p : Program} {l : Launch} {e : Env} {R : Room} {s : State} {m : MethodId} {args : Array Value} {below : List Frame} {meth : Method} {c : Code} {H : Heap} {locs : List Loc} {cells slots : Nat} {Q : State → Prop}
variable {D : va_G} {b : Nat} {E : Nat → Value} {μ pc : Nat} {JL : Array Slot} {ls st : List Value} {h : aH}
theorem aPt_grow {a g ty : Nat} {v : Value} {h' : aH} (hp : aPt h a g ty v = some h') : hz_ h' = hz_ h ∧ hu_ h' = hu_ h := by
  unfold aPt at hp
  split at hp
  · cases hp; exact ⟨rfl, rfl⟩
  · cases hp; exact ⟨rfl, rfl⟩
  · cases hp; exact ⟨rfl, rfl⟩
  · cases hp; exact ⟨rfl, rfl⟩
  · split at hp
    · cases hp; exact ⟨rfl, rfl⟩
    · cases hp
  · split at hp
    · cases hp; exact ⟨rfl, rfl⟩
    · cases hp
  · cases hp
theorem aPf_grow {a : Nat} {v : Value} {x : Option (Nat × Nat × Nat)} {h' : aH} (hp : aPf μ h a v x = some h') : hz_ h' = hz_ h ∧ hu_ h' = hu_ h := by
  unfold aPf at hp
  split at hp
  · rename_i g ty fin
    cases hfin : (Nat.beq fin 0 || (Nat.beq fin 1 && aIn μ)) with
    | false => rw [hfin] at hp; cases hp
    | true =>
      rw [hfin, cond_true] at hp
      split at hp
      · exact aPt_grow hp
      · cases hp
  · cases hp
theorem aPi_or {α : Type} {a κ : Nat} {j : Int32} {x y : α} : aPi h a κ j x y = x ∨ aPi h a κ j x y = y := by
  unfold aPi
  by_cases hc : aPl h a κ j
  · exact Or.inl (@if_pos _ (aPlD ..) hc _ _ _)
  · exact Or.inr (@if_neg _ (aPlD ..) hc _ _ _)
theorem aAst_grow {a : Nat} {j : Int32} {v : Value} {i : Instr} {h' : aH} (hp : aAst h a j v i = some h') : hz_ h' = hz_ h ∧ hu_ h' = hu_ h := by
  unfold aAst at hp
  split at hp
  · split at hp
    · obtain ⟨-, hv⟩ := aPi_some (by simp) hp; cases hv; exact ⟨rfl, rfl⟩
    · rcases aPi_or with q | q
      · rw [q] at hp; cases hp; exact ⟨rfl, rfl⟩
      · rw [q] at hp
        obtain ⟨-, hv⟩ := aPi_some (by simp) hp
        split at hv
        · cases hv; exact ⟨rfl, rfl⟩
        · cases hv
    · obtain ⟨-, hv⟩ := aPi_some (by simp) hp; cases hv; exact ⟨rfl, rfl⟩
    · obtain ⟨-, hv⟩ := aPi_some (by simp) hp; cases hv; exact ⟨rfl, rfl⟩
    · split at hp
      · obtain ⟨-, hv⟩ := aPi_some (by simp) hp; cases hv; exact ⟨rfl, rfl⟩
      · cases hp
    · cases hp
  · cases hp
abbrev aTt : Type := (Nat × List Value × List Value × aH) ⊕ ((Nat × List Value × Bool × List Value) ⊕ (Outcome × aH))
/-- a heap act goes on, and the heap grows -/
def aGr (h : aH) (ls : List Value) (t : aTt) : Prop := ∃ (pc' : Nat) (st' : List Value) (h' : aH), t = .inl (pc', ls, st', h') ∧ hz_ h ≤ hz_ h' ∧ hu_ h ≤ hu_ h'
theorem aRest_cl {i : Instr} {t : (Nat × List Value × List Value × aH) ⊕ ((Nat × List Value × Bool × List Value) ⊕ (Outcome × aH))} (e1 : aRst pc ls st h i = some t) : aGr h ls t := by
  unfold aRst at e1
  split at e1
  · split at e1
    · cases e1; exact ⟨_, _, _, rfl, Nat.le_refl _, Nat.le_refl _⟩
    · cases e1
  · split at e1
    · rename_i hv
      cases e1
      obtain ⟨q1, q2⟩ := aAst_grow hv
      exact ⟨_, _, _, rfl, Nat.le_of_eq q1.symm, Nat.le_of_eq q2.symm⟩
    · cases e1
  · cases e1
set_option maxHeartbeats 1000000 in
theorem aMem_cl {i : Instr} {n : Nat} {t : (Nat × List Value × List Value × aH) ⊕ ((Nat × List Value × Bool × List Value) ⊕ (Outcome × aH))} (hf : aMem μ pc ls st h i n = some t) : aGr h ls t := by
  cases i
  case getfield j =>
    obtain ⟨rfl, e1⟩ := aLn_some hf
    split at e1
    · split at e1
      · cases e1; exact ⟨_, _, _, rfl, Nat.le_refl _, Nat.le_refl _⟩
      · cases e1
    · cases e1
  case putfield j =>
    obtain ⟨rfl, e1⟩ := aLn_some hf
    split at e1
    · split at e1
      · rename_i hv
        cases e1
        obtain ⟨q1, q2⟩ := aPf_grow hv
        exact ⟨_, _, _, rfl, Nat.le_of_eq q1.symm, Nat.le_of_eq q2.symm⟩
      · cases e1
    · cases e1
  case arraylength =>
    obtain ⟨rfl, e1⟩ := aLn_some hf
    split at e1
    · split at e1
      · cases e1; exact ⟨_, _, _, rfl, Nat.le_refl _, Nat.le_refl _⟩
      · cases e1
    · cases e1
  case new j =>
    obtain ⟨rfl, e1⟩ := aLn_some hf
    split at e1
    · cases e1; exact ⟨_, _, _, rfl, Nat.le_add_right _ _, Nat.le_add_right _ _⟩
    · cases e1
  case newarray ty =>
    obtain ⟨rfl, e1⟩ := aLn_some hf
    split at e1
    · split at e1
      · obtain ⟨-, e2⟩ := aSi_some (by simp) e1
        cases e2
        exact ⟨_, _, _, rfl, Nat.le_add_right _ _, Nat.le_add_right _ _⟩
      · cases e1
    · cases e1
  case anewarray j =>
    obtain ⟨rfl, e1⟩ := aLn_some hf
    split at e1
    · split at e1
      · rename_i κ hv
        cases h115 : Nat.beq κ 115 with
        | true => rw [h115] at e1; cases e1
        | false =>
          rw [h115, cond_false] at e1
          obtain ⟨-, e2⟩ := aSi_some (by simp) e1
          cases e2
          exact ⟨_, _, _, rfl, Nat.le_add_right _ _, Nat.le_add_right _ _⟩
      · cases e1
    · cases e1
  case multianewarray j dims =>
    obtain ⟨rfl, e1⟩ := aLn_some hf
    split at e1
    · split at e1
      · rename_i κ hv
        cases hb0 : Nat.beq κ 115 && Nat.beq dims 2 with
        | false => rw [hb0] at e1; cases e1
        | true =>
          rw [hb0, cond_true] at e1
          obtain ⟨-, e2⟩ := aSi_some (by simp) e1
          obtain ⟨-, e3⟩ := aSi_some (by simp) e2
          cases e3
          exact ⟨_, _, _, rfl, Nat.le_add_right _ _, Nat.le_add_right _ _⟩
      · cases e1
    · cases e1
  case checkcast j =>
    obtain ⟨rfl, e1⟩ := aLn_some hf
    split at e1
    · split at e1
      · split at e1
        · cases e1; exact ⟨_, _, _, rfl, Nat.le_refl _, Nat.le_refl _⟩
        · cases e1
      · cases e1
    · cases e1
  case instanceof j =>
    obtain ⟨rfl, e1⟩ := aLn_some hf
    split at e1
    · split at e1
      · split at e1
        · cases e1; exact ⟨_, _, _, rfl, Nat.le_refl _, Nat.le_refl _⟩
        · cases e1
      · cases e1
    · cases e1
  all_goals (obtain ⟨rfl, e1⟩ := aLn_some hf; exact aRest_cl e1)
theorem aGo_inr {pc' : Nat} {l1 s1 : List Value} {h1 : aH} {x : (Nat × List Value × Bool × List Value) ⊕ (Outcome × aH)} (q : aGo pc' l1 s1 h1 = some (.inr x)) : False := by cases q
set_option maxHeartbeats 1000000 in
theorem aFlow_cl {i : Instr} {n : Nat} {x : (Nat × List Value × Bool × List Value) ⊕ (Outcome × aH)} (hf : aFlow μ pc ls st h i n = some (.inr x)) : n = 1 ∧ aRet μ st h i = some (.inr x) := by
  cases i
  case iload_n j => obtain ⟨rfl, e1⟩ := aLn_some hf; unfold aLdI at e1; split at e1 <;> cases e1
  case iload j => obtain ⟨rfl, e1⟩ := aLn_some hf; unfold aLdI at e1; split at e1 <;> cases e1
  case lload_n j => obtain ⟨rfl, e1⟩ := aLn_some hf; unfold aLdL at e1; split at e1 <;> cases e1
  case lload j => obtain ⟨rfl, e1⟩ := aLn_some hf; unfold aLdL at e1; split at e1 <;> cases e1
  case aload_n j => obtain ⟨rfl, e1⟩ := aLn_some hf; unfold aLdA at e1; split at e1 <;> cases e1
  case aload j => obtain ⟨rfl, e1⟩ := aLn_some hf; unfold aLdA at e1; split at e1 <;> cases e1
  case istore_n j => obtain ⟨rfl, e1⟩ := aLn_some hf; unfold aStI at e1; split at e1 <;> (try split at e1) <;> cases e1
  case istore j => obtain ⟨rfl, e1⟩ := aLn_some hf; unfold aStI at e1; split at e1 <;> (try split at e1) <;> cases e1
  case astore_n j => obtain ⟨rfl, e1⟩ := aLn_some hf; unfold aStA at e1; split at e1 <;> (try split at e1) <;> cases e1
  case astore j => obtain ⟨rfl, e1⟩ := aLn_some hf; unfold aStA at e1; split at e1 <;> (try split at e1) <;> cases e1
  case lstore j => obtain ⟨rfl, e1⟩ := aLn_some hf; split at e1 <;> (try split at e1) <;> cases e1
  case iinc j v => obtain ⟨rfl, e1⟩ := aLn_some hf; split at e1 <;> (try split at e1) <;> cases e1
  case goto off =>
    obtain ⟨rfl, e1⟩ := aLn_some hf
    obtain ⟨t, ht, e1⟩ := aJk_some e1
    cases e1
  case ifCond cnd off =>
    obtain ⟨rfl, e1⟩ := aLn_some hf
    unfold aIf1 at e1
    split at e1
    · obtain ⟨t, ht, e1⟩ := aJk_some e1
      cases cnd <;> dsimp only at e1 <;> split at e1 <;> cases e1
    · cases e1
  case if_icmp cnd off =>
    obtain ⟨rfl, e1⟩ := aLn_some hf
    unfold aIf2 at e1
    split at e1
    · obtain ⟨t, ht, e1⟩ := aJk_some e1
      cases cnd <;> dsimp only at e1 <;> split at e1 <;> cases e1
    · cases e1
  case if_acmp cnd off =>
    obtain ⟨rfl, e1⟩ := aLn_some hf
    split at e1
    · obtain ⟨t, ht, e1⟩ := aJk_some e1
      cases cnd <;> dsimp only at e1 <;> split at e1 <;> (try split at e1) <;> cases e1
    · cases e1
  case ifnonnull off =>
    obtain ⟨rfl, e1⟩ := aLn_some hf
    split at e1
    · cases e1
    · split at e1
      · obtain ⟨t, ht, e1⟩ := aJk_some e1
        cases e1
      · cases e1
    · cases e1
  case tableswitch df lo up offs =>
    dsimp only [aFlow] at hf
    split at hf
    · split at hf
      · obtain ⟨t, ht, e1⟩ := aJk_some hf
        cases e1
      · split at hf
        · obtain ⟨t, ht, e1⟩ := aJk_some hf
          cases e1
        · cases hf
    · cases hf
  all_goals exact aLn_some hf
theorem aRet_cl {i : Instr} {x : (Nat × List Value × Bool × List Value) ⊕ (Outcome × aH)} (hf : aRet μ st h i = some (.inr x)) : ∃ o, x = .inr (o, h) := by
  unfold aRet at hf
  cases i <;> dsimp only at hf
  case ireturn =>
    split at hf
    · split at hf
      · cases hf; exact ⟨_, rfl⟩
      · split at hf
        · cases hf; exact ⟨_, rfl⟩
        · cases hf
      · split at hf
        · cases hf; exact ⟨_, rfl⟩
        · cases hf
      · split at hf
        · cases hf; exact ⟨_, rfl⟩
        · cases hf
      · cases hf
    · cases hf
  case lreturn =>
    split at hf
    · cases hb : Nat.beq (aRc μ) 4 <;> rw [hb] at hf <;> cases hf; exact ⟨_, rfl⟩
    · cases hf
  case areturn =>
    split at hf
    · cases hb : Nat.beq (aRc μ) 5 <;> rw [hb] at hf <;> cases hf; exact ⟨_, rfl⟩
    · cases hb : Nat.beq (aRc μ) 5 <;> rw [hb] at hf <;> cases hf; exact ⟨_, rfl⟩
    · cases hf
  case return_ =>
    split at hf
    · cases hb : Nat.beq (aRc μ) 0 <;> rw [hb] at hf <;> cases hf; exact ⟨_, rfl⟩
    · cases hf
  case athrow =>
    split at hf
    · rename_i q0 r
      cases hb : (aHd μ).isEmpty && Nat.ble 64 q0 with
      | false => rw [hb] at hf; cases hf
      | true =>
        rw [hb, cond_true] at hf
        split at hf
        · cases hf; exact ⟨_, rfl⟩
        · cases hf
    · cases hf
  all_goals cases hf
theorem aPop_spec : ∀ {n : Nat} {acc st as rest : List Value}, aPop n acc st = some (as, rest) → as.reverse ++ rest = acc.reverse ++ st ∧ as.length = n + acc.length
  | 0, acc, st, as, rest, hp => by cases hp; exact ⟨rfl, by simp⟩
  | n + 1, acc, v :: st, as, rest, hp => by
    obtain ⟨h1, h2⟩ := aPop_spec (n := n) (acc := v :: acc) (st := st) hp
    refine ⟨by rw [h1]; simp, by rw [h2]; simp; omega⟩
  | _ + 1, acc, [], as, rest, hp => by cases hp
theorem aWd_sum (hR : aRel D b E s h H) : ∀ (r : List Value), ((r.map (aPhi b E)).map fun v => v.category).sum = aWd r
  | [] => rfl
  | v :: r => by
    rw [List.map_cons, List.map_cons, List.sum_cons, aWd_sum hR r, aPhi_cat hR]; rfl
theorem aCl_some {ν : Nat} {as rest : List Value} {thr : Bool} {t : aTt} (hc : aCl ν as thr rest = some t) : aWd rest ≤ 8 ∧ t = .inr (.inl (ν, as, thr, rest)) := by
  unfold aCl at hc
  cases hb : Nat.ble (aWd rest) 8 with
  | false => rw [hb] at hc; cases hc
  | true => rw [hb] at hc; cases hc; exact ⟨Nat.le_of_ble_eq_true hb, rfl⟩
end SIM8
