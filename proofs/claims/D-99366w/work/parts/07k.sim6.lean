set_option maxRecDepth 100000
/-! SIMULATION 7: arraycopy; a callee's locals; contracts -/
section SIM6
variable {p : Program} {l : Launch} {e : Env} {R : Room} {s : State} {m : MethodId} {args : Array Value} {below : List Frame} {meth : Method} {c : Code} {H : Heap} {locs : List Loc} {cells slots : Nat} {Q : State → Prop}
variable {D : va_G} {b : Nat} {E : Nat → Value} {μ pc : Nat} {JL : Array Slot} {ls st : List Value} {h : aH}
theorem nn_clamp {z : Int32} (hz : ¬ z < 0) : z.toInt = (z.toNatClampNeg : Int) := by
  have hz0 : (0 : Int) ≤ z.toInt := by
    have := Int32.not_lt.mp hz
    simpa using Int32.le_iff_toInt_le.mp this
  show z.toInt = ((z.toInt.toNat : Nat) : Int)
  omega
set_option maxHeartbeats 2000000 in
theorem aCpy_sim (C : aCx p s m args meth c μ) (hR : aRel D b E s h H) (hJL : JL.size = aML μ) {j : Nat} {t : (Nat × List Value × List Value × aH) ⊕ ((Nat × List Value × Bool × List Value) ⊕ (Outcome × aH))} (hl : ∀ q ∈ locs, b ≤ q.base) (hd : decode (aCode μ) pc = .ok (.invokestatic j, 3)) (hlink : Cond.methodLink (aNm (aCo μ)) j arraycopyName ∈ lw_all)
    (hfr : 1 ≤ R.frames) (hlo : 64 ≤ R.locals) (hf : aCpy pc ls st h = some t) : aM1 p l e R s m args below meth c H locs cells slots Q D b E JL h pc ls st t := by
  obtain ⟨hx, hb, hml, hret, hlk, hown, hts, hin, htab, hμ⟩ := C
  unfold aCpy at hf
  split at hf
  · rename_i n dp d sp sr r
    split at hf
    · rename_i hc
      cases hf
      obtain ⟨h64, hne, hkk, hkd, hn0, hdp0, hsp0, hls, hld, hrl⟩ := hc
      have hκd : 100 ≤ (hk_ h d).1 ∧ (hk_ h d).1 < 102 := by rcases hkd with q | ⟨q, -⟩ <;> omega
      obtain ⟨hdlt, xd, cd, ed1, ed2, hOd⟩ := hR.get (a := d) (by omega) (by omega)
      obtain ⟨hslt, xs, cs, es1, es2, hOs⟩ := hR.get (a := sr) (by omega) (by omega)
      obtain ⟨od1, od2, od3, od4, od5⟩ := id hOd
      obtain ⟨os1, os2, os3, os4, os5⟩ := id hOs
      obtain ⟨rd1, rd2, rd3, rd4, rd5⟩ := od5 (by omega)
      obtain ⟨rs1, rs2, rs3, rs4, rs5⟩ := os5 (by omega)
      have hfit : ∀ i, i < n.toNatClampNeg → cs.slots.getD (sp.toNatClampNeg + i) .null = .int (hi_ h sr (sp.toNatClampNeg + i)) ∧ fits (aFt (hk_ h d).1) (.int (hi_ h sr (sp.toNatClampNeg + i))) = true := by
        intro i hi
        constructor
        · rw [Array.getD_eq_getD_getElem?, rs4 _ (by omega)]
          show aPhi b E (aEl h sr (hk_ h sr).1 (sp.toNatClampNeg + i)) = _
          unfold aEl
          rw [if_neg (by omega), if_neg (by omega)]; rfl
        · rcases hkd with q | ⟨q, q2⟩
          · rw [q]; rfl
          · rw [q, ← q2 i hi]; exact pk_fb _
      rw [aPhi_own h64] at ed1
      cases ed1
      obtain ⟨ns, ks, hks, scomp, hsk⟩ := rs1
      obtain ⟨nd, kd, hkdc, dcomp, hdk⟩ := rd1
      rw [hkk] at hsk
      have hz : hz_ (cp_ h sr sp.toNatClampNeg d dp.toNatClampNeg n.toNatClampNeg) = hz_ h := rfl
      refine aM1.same rfl hz rfl (fun kk => ?_)
      intro T hT X
      have hmap : (Value.int n :: Value.int dp :: Value.ref d :: Value.int sp :: Value.ref sr :: r).map (aPhi b E) = Value.int n :: Value.int dp :: Value.ref (b + (d - 64)) :: Value.int sp :: Value.ref xs :: r.map (aPhi b E) := by
        rw [List.map_cons, List.map_cons, List.map_cons, List.map_cons, List.map_cons, aPhi_own h64, es1]; rfl
      rw [hmap]
      have hsum : ((r.map (aPhi b E)).map fun v => v.category).sum ≤ 4 := by
        rw [List.map_map]
        have hcat : ∀ v ∈ r, ((fun v : Value => v.category) ∘ aPhi b E) v ≤ 2 := by
          intro v _
          show (aPhi b E v).category ≤ 2
          rcases lv_cat (aPhi b E v) with q | q <;> omega
        match r, hrl, hcat with
        | [], _, _ => simp
        | [x], _, hc => have := hc x (by simp); simpa using (by omega : ((fun v : Value => v.category) ∘ aPhi b E) x ≤ 4)
        | [x, y], _, hc =>
          have h1 := hc x (by simp)
          have h2 := hc y (by simp)
          simpa using (by omega : ((fun v : Value => v.category) ∘ aPhi b E) x + ((fun v : Value => v.category) ∘ aPhi b E) y ≤ 4)
        | _ :: _ :: _ :: _, h3, _ => exact absurd h3 (by simp)
      obtain ⟨vm', X', step⟩ := X.arraycopy hx hown (hts _ hlink) (hts _ q874) (hts _ q873) (hts _ q161) (src := xs) (dst := b + (d - 64)) (cs := cs) (cd := cd) (srcPos := sp) (destPos := dp) (n := n) (by rw [hT]; exact es2) (by rw [hT]; exact ed2)
        ns nd os1 od1 hks hkdc hsk hdk (by rcases hkd with q | ⟨q, -⟩ <;> rw [q] <;> rfl) hsp0 hdp0 hn0
        (by rw [nn_clamp hsp0, nn_clamp hn0, rs3]; omega) (by rw [nn_clamp hdp0, nn_clamp hn0, rd3]; omega)
        (fun vm₁ _ i hi => by
          obtain ⟨g1, g2⟩ := hfit i hi
          rw [g1]
          exact ⟨g2, trivial⟩)
        (g := F0 m pc JL _) rfl (by show JL.size = _; rw [hJL, hml]) (rest := r.map (aPhi b E)) rfl (by rw [hb]; exact hd) hfr
        (by show 2 * 0 + _ + (nativeFrameWords "java/lang/System" "arraycopy" 5 + 11) ≤ _
            have : nativeFrameWords "java/lang/System" "arraycopy" 5 = 7 := by decide
            rw [this]; omega)
      have hstr : cs.stretch sp.toNatClampNeg n.toNatClampNeg = (List.range n.toNatClampNeg).map (fun i => .int (hi_ h sr (sp.toNatClampNeg + i))) := by
        unfold Cell.stretch
        apply List.map_congr_left
        intro i hi
        exact (hfit i (List.mem_range.mp hi)).1
      have hlen : (cs.stretch sp.toNatClampNeg n.toNatClampNeg).length = n.toNatClampNeg := by rw [hstr]; simp
      obtain ⟨c1, c2, c3, -, -⟩ := cd.storeRun_facts dp.toNatClampNeg (cs.stretch sp.toNatClampNeg n.toNatClampNeg)
      have hcd : b + (d - 64) < H.size := (Array.getElem?_eq_some_iff.mp ed2).1
      have hheap : ((T.setVm vm').setCell (b + (d - 64)) (copied cs cd sp dp n)).heap = H.setIfInBounds (b + (d - 64)) (copied cs cd sp dp n) := by rw [← hT]; rfl
      have oq : ∀ q : Nat, q ≠ b + (d - 64) → (H.setIfInBounds (b + (d - 64)) (copied cs cd sp dp n))[q]? = H[q]? := fun q hq => by simp [Array.getElem?_setIfInBounds, Ne.symm hq]
      have hnew : aOb D (aPhi b E) s (cp_ h sr sp.toNatClampNeg d dp.toNatClampNeg n.toNatClampNeg) d (copied cs cd sp dp n) := by
        refine ⟨by rw [c2]; exact od1, by rw [c2]; exact od2, fun _ => by rw [c2]; exact od3 h64, fun hc => absurd (show (hk_ h d).1 < 98 from hc) (by omega), fun _ => ⟨⟨by rw [c2]; exact nd, kd, by rw [c1]; exact hkdc, dcomp, hdk⟩, fun hc => absurd (show 110 ≤ (hk_ h d).1 from hc) (by omega), by rw [c3]; exact rd3, fun i hi => ?_, rd5⟩⟩
        show (cd.storePairs dp.toNatClampNeg ((cs.stretch sp.toNatClampNeg n.toNatClampNeg).zipIdx 0)).slots[i]? = _
        have hi' : i < (hk_ h d).2 := hi
        rw [Cell.storePairs_get _ _ _ _ _ (by rw [hlen, rd3]; omega), hlen]
        have hel : aEl (cp_ h sr sp.toNatClampNeg d dp.toNatClampNeg n.toNatClampNeg) d (hk_ h d).1 i = .int (if d = d ∧ dp.toNatClampNeg ≤ i ∧ i < dp.toNatClampNeg + n.toNatClampNeg then hi_ h sr (sp.toNatClampNeg + (i - dp.toNatClampNeg)) else hi_ h d i) := by
          unfold aEl
          rw [if_neg (by omega), if_neg (by omega)]; rfl
        show _ = some (aPhi b E (aEl (cp_ h sr sp.toNatClampNeg d dp.toNatClampNeg n.toNatClampNeg) d (hk_ h d).1 i))
        rw [hel]
        by_cases hin2 : dp.toNatClampNeg ≤ i ∧ i < dp.toNatClampNeg + n.toNatClampNeg
        · rw [if_pos ⟨by omega, by omega⟩, if_pos ⟨rfl, hin2⟩, hstr, List.getElem?_map, List.getElem?_range (by omega)]
          show some (Value.int (hi_ h sr (sp.toNatClampNeg + (i - (dp.toNatClampNeg + 0))))) = _
          rw [Nat.add_zero]; rfl
        · rw [if_neg (fun q => hin2 ⟨by omega, by omega⟩), if_neg (fun q => hin2 q.2), rd4 i hi']
          show some (aPhi b E (aEl h d (hk_ h d).1 i)) = _
          unfold aEl
          rw [if_neg (by omega), if_neg (by omega)]
      have hrel : aRel D b E s (cp_ h sr sp.toNatClampNeg d dp.toNatClampNeg n.toNatClampNeg) (H.setIfInBounds (b + (d - 64)) (copied cs cd sp dp n)) :=
        hR.put h64 hdlt rfl (fun _ => rfl) (fun x hx f => ⟨rfl, if_neg (fun q => hx q.1), rfl⟩) (by simp [Array.getElem?_setIfInBounds, hcd]) (by simp) oq hnew
      obtain ⟨t, a1, b1⟩ := kk _ _ hrel (fun q hq => by
        rcases List.mem_append.mp hq with g | g
        · exact hl q g
        · obtain ⟨z, -, hz⟩ := List.mem_map.mp g
          rw [← hz]
          exact Nat.le_add_right _ _) _ hheap X'
      exact ⟨t, step t a1, b1⟩
    · cases hf
  · cases hf
end SIM6
