set_option maxRecDepth 100000
/-! lemmas under the equations of single instructions -/
def shl_ (x y : Int32) : Int32 := x <<< (y &&& 31)
def shr_ (x y : Int32) : Int32 := x >>> (y &&& 31)
def ush_ (x y : Int32) : Int32 := (x.toUInt32 >>> (y.toUInt32 &&& Int32.toUInt32 31)).toInt32
section EB
variable {d μ pc : Nat} {ls st : List Value} {h : aH}
theorem aDo_if {c : Prop} {i : Decidable c} {x y : aT} : aDo d μ pc ls h (@ite _ c i x y) = @ite _ c i (aDo d μ pc ls h x) (aDo d μ pc ls h y) := by
  split <;> rfl
theorem e_idiv {x y : Int32} (hy : ¬ y = 0) : aDo d μ pc ls h (aAct μ pc ls (.int y :: .int x :: st) h .idiv 1) = run d μ (pc + 1) ls (.int (x / y) :: st) h := by
  have : aPure μ .idiv 1 (.int y :: .int x :: st) = some (.int (x / y) :: st) := if_neg hy
  unfold aAct; rw [this]; rfl
theorem e_irem {x y : Int32} (hy : ¬ y = 0) : aDo d μ pc ls h (aAct μ pc ls (.int y :: .int x :: st) h .irem 1) = run d μ (pc + 1) ls (.int (x - x / y * y) :: st) h := by
  have : aPure μ .irem 1 (.int y :: .int x :: st) = some (.int (x - x / y * y) :: st) := if_neg hy
  unfold aAct; rw [this]; rfl
theorem aAct_flow {i : Instr} {n : Nat} {t : aT} (h1 : aPure μ i n st = none) (h2 : aFlow μ pc ls st h i n = t) (h3 : t.isSome = true) : aAct μ pc ls st h i n = t := by
  unfold aAct
  rw [h1, h2]
  cases t with
  | none => cases h3
  | some r => rfl
theorem aAct_mem {i : Instr} {n : Nat} {t : aT} (h1 : aPure μ i n st = none) (h2 : aFlow μ pc ls st h i n = none) (h4 : aMem μ pc ls st h i n = t) (h3 : t.isSome = true) : aAct μ pc ls st h i n = t := by
  unfold aAct
  rw [h1, h2, h4]
  cases t with
  | none => cases h3
  | some r => rfl
theorem e_flow {i : Instr} {n t : Nat} {ls' st' : List Value} {h' : aH} (h1 : aPure μ i n st = none) (h2 : aFlow μ pc ls st h i n = aGo t ls' st' h') : aDo d μ pc ls h (aAct μ pc ls st h i n) = run d μ t ls' st' h' := by
  rw [aAct_flow h1 h2 rfl]; rfl
theorem e_mem {i : Instr} {n t : Nat} {ls' st' : List Value} {h' : aH} (h1 : aPure μ i n st = none) (h2 : aFlow μ pc ls st h i n = none) (h3 : aMem μ pc ls st h i n = aGo t ls' st' h') : aDo d μ pc ls h (aAct μ pc ls st h i n) = run d μ t ls' st' h' := by
  rw [aAct_mem h1 h2 h3 rfl]; rfl
theorem aDo_calls {i : Instr} {n : Nat} {t : aT} (h1 : aPure μ i n st = none) (h2 : aFlow μ pc ls st h i n = none) (h4 : aMem μ pc ls st h i n = none) (h5 : aCalls μ pc ls st h i n = t) : aDo d μ pc ls h (aAct μ pc ls st h i n) = aDo d μ pc ls h t := by
  unfold aAct
  rw [h1, h2, h4, h5]
theorem aAct_calls {i : Instr} {n : Nat} (h1 : aPure μ i n st = none) (h2 : aFlow μ pc ls st h i n = none) (h4 : aMem μ pc ls st h i n = none) : aAct μ pc ls st h i n = aCalls μ pc ls st h i n := by
  unfold aAct
  rw [h1, h2, h4]
theorem aJp_eq {off : Int} {t : Nat} (ht : (pc : Int) + off = Int.ofNat t) : aJp pc off ls st h = aGo t ls st h := by
  unfold aJp aJk
  rw [ht]
theorem aJk_eq {off : Int} {t : Nat} {f : Nat → aT} (ht : (pc : Int) + off = Int.ofNat t) : aJk pc off f = f t := by
  unfold aJk
  rw [ht]
theorem e_if_icmp_eq {x y : Int32} {off : Int} {t : Nat} (ht : (pc : Int) + off = Int.ofNat t) : aDo d μ pc ls h (aAct μ pc ls (.int y :: .int x :: st) h (.if_icmp .eq off) 3) = if x = y then run d μ t ls st h else run d μ (pc + 3) ls st h := by
  by_cases hc : x = y
  · rw [if_pos hc]; exact e_flow rfl ((aJk_eq ht).trans (if_pos hc))
  · rw [if_neg hc]; exact e_flow rfl ((aJk_eq ht).trans (if_neg hc))
theorem e_if_icmp_ne {x y : Int32} {off : Int} {t : Nat} (ht : (pc : Int) + off = Int.ofNat t) : aDo d μ pc ls h (aAct μ pc ls (.int y :: .int x :: st) h (.if_icmp .ne off) 3) = if x = y then run d μ (pc + 3) ls st h else run d μ t ls st h := by
  by_cases hc : x = y
  · rw [if_pos hc]; exact e_flow rfl ((aJk_eq ht).trans (if_pos hc))
  · rw [if_neg hc]; exact e_flow rfl ((aJk_eq ht).trans (if_neg hc))
theorem e_if_icmp_lt {x y : Int32} {off : Int} {t : Nat} (ht : (pc : Int) + off = Int.ofNat t) : aDo d μ pc ls h (aAct μ pc ls (.int y :: .int x :: st) h (.if_icmp .lt off) 3) = if x < y then run d μ t ls st h else run d μ (pc + 3) ls st h := by
  by_cases hc : x < y
  · rw [if_pos hc]; exact e_flow rfl ((aJk_eq ht).trans (if_pos hc))
  · rw [if_neg hc]; exact e_flow rfl ((aJk_eq ht).trans (if_neg hc))
theorem e_if_icmp_ge {x y : Int32} {off : Int} {t : Nat} (ht : (pc : Int) + off = Int.ofNat t) : aDo d μ pc ls h (aAct μ pc ls (.int y :: .int x :: st) h (.if_icmp .ge off) 3) = if y ≤ x then run d μ t ls st h else run d μ (pc + 3) ls st h := by
  by_cases hc : y ≤ x
  · rw [if_pos hc]; exact e_flow rfl ((aJk_eq ht).trans (if_pos hc))
  · rw [if_neg hc]; exact e_flow rfl ((aJk_eq ht).trans (if_neg hc))
theorem e_if_icmp_gt {x y : Int32} {off : Int} {t : Nat} (ht : (pc : Int) + off = Int.ofNat t) : aDo d μ pc ls h (aAct μ pc ls (.int y :: .int x :: st) h (.if_icmp .gt off) 3) = if y < x then run d μ t ls st h else run d μ (pc + 3) ls st h := by
  by_cases hc : y < x
  · rw [if_pos hc]; exact e_flow rfl ((aJk_eq ht).trans (if_pos hc))
  · rw [if_neg hc]; exact e_flow rfl ((aJk_eq ht).trans (if_neg hc))
theorem e_if_icmp_le {x y : Int32} {off : Int} {t : Nat} (ht : (pc : Int) + off = Int.ofNat t) : aDo d μ pc ls h (aAct μ pc ls (.int y :: .int x :: st) h (.if_icmp .le off) 3) = if x ≤ y then run d μ t ls st h else run d μ (pc + 3) ls st h := by
  by_cases hc : x ≤ y
  · rw [if_pos hc]; exact e_flow rfl ((aJk_eq ht).trans (if_pos hc))
  · rw [if_neg hc]; exact e_flow rfl ((aJk_eq ht).trans (if_neg hc))
theorem e_ifCond_eq {x : Int32} {off : Int} {t : Nat} (ht : (pc : Int) + off = Int.ofNat t) : aDo d μ pc ls h (aAct μ pc ls (.int x :: st) h (.ifCond .eq off) 3) = if x = 0 then run d μ t ls st h else run d μ (pc + 3) ls st h := by
  by_cases hc : x = 0
  · rw [if_pos hc]; exact e_flow rfl ((aJk_eq ht).trans (if_pos hc))
  · rw [if_neg hc]; exact e_flow rfl ((aJk_eq ht).trans (if_neg hc))
theorem e_ifCond_ne {x : Int32} {off : Int} {t : Nat} (ht : (pc : Int) + off = Int.ofNat t) : aDo d μ pc ls h (aAct μ pc ls (.int x :: st) h (.ifCond .ne off) 3) = if x = 0 then run d μ (pc + 3) ls st h else run d μ t ls st h := by
  by_cases hc : x = 0
  · rw [if_pos hc]; exact e_flow rfl ((aJk_eq ht).trans (if_pos hc))
  · rw [if_neg hc]; exact e_flow rfl ((aJk_eq ht).trans (if_neg hc))
theorem e_ifCond_lt {x : Int32} {off : Int} {t : Nat} (ht : (pc : Int) + off = Int.ofNat t) : aDo d μ pc ls h (aAct μ pc ls (.int x :: st) h (.ifCond .lt off) 3) = if x < 0 then run d μ t ls st h else run d μ (pc + 3) ls st h := by
  by_cases hc : x < 0
  · rw [if_pos hc]; exact e_flow rfl ((aJk_eq ht).trans (if_pos hc))
  · rw [if_neg hc]; exact e_flow rfl ((aJk_eq ht).trans (if_neg hc))
theorem e_ifCond_ge {x : Int32} {off : Int} {t : Nat} (ht : (pc : Int) + off = Int.ofNat t) : aDo d μ pc ls h (aAct μ pc ls (.int x :: st) h (.ifCond .ge off) 3) = if 0 ≤ x then run d μ t ls st h else run d μ (pc + 3) ls st h := by
  by_cases hc : 0 ≤ x
  · rw [if_pos hc]; exact e_flow rfl ((aJk_eq ht).trans (if_pos hc))
  · rw [if_neg hc]; exact e_flow rfl ((aJk_eq ht).trans (if_neg hc))
theorem e_ifCond_gt {x : Int32} {off : Int} {t : Nat} (ht : (pc : Int) + off = Int.ofNat t) : aDo d μ pc ls h (aAct μ pc ls (.int x :: st) h (.ifCond .gt off) 3) = if 0 < x then run d μ t ls st h else run d μ (pc + 3) ls st h := by
  by_cases hc : 0 < x
  · rw [if_pos hc]; exact e_flow rfl ((aJk_eq ht).trans (if_pos hc))
  · rw [if_neg hc]; exact e_flow rfl ((aJk_eq ht).trans (if_neg hc))
theorem e_ifCond_le {x : Int32} {off : Int} {t : Nat} (ht : (pc : Int) + off = Int.ofNat t) : aDo d μ pc ls h (aAct μ pc ls (.int x :: st) h (.ifCond .le off) 3) = if x ≤ 0 then run d μ t ls st h else run d μ (pc + 3) ls st h := by
  by_cases hc : x ≤ 0
  · rw [if_pos hc]; exact e_flow rfl ((aJk_eq ht).trans (if_pos hc))
  · rw [if_neg hc]; exact e_flow rfl ((aJk_eq ht).trans (if_neg hc))
theorem e_acmpSe {x : Nat} {off : Int} {t : Nat} (ht : (pc : Int) + off = Int.ofNat t) : aDo d μ pc ls h (aAct μ pc ls (.ref x :: .ref x :: st) h (.if_acmp .eq off) 3) = run d μ t ls st h :=
  e_flow rfl ((aJk_eq ht).trans (if_pos rfl))
theorem e_acmpSn {x : Nat} {off : Int} {t : Nat} (ht : (pc : Int) + off = Int.ofNat t) : aDo d μ pc ls h (aAct μ pc ls (.ref x :: .ref x :: st) h (.if_acmp .ne off) 3) = run d μ (pc + 3) ls st h :=
  e_flow rfl ((aJk_eq ht).trans (if_pos rfl))
theorem e_acmpDe {x y : Nat} {off : Int} {t : Nat} (ht : (pc : Int) + off = Int.ofNat t) (hn : ¬ x = y) (h6 : 64 ≤ x ∨ 64 ≤ y) : aDo d μ pc ls h (aAct μ pc ls (.ref y :: .ref x :: st) h (.if_acmp .eq off) 3) = run d μ (pc + 3) ls st h :=
  e_flow rfl ((aJk_eq ht).trans ((if_neg hn).trans (if_pos h6)))
theorem e_acmpDn {x y : Nat} {off : Int} {t : Nat} (ht : (pc : Int) + off = Int.ofNat t) (hn : ¬ x = y) (h6 : 64 ≤ x ∨ 64 ≤ y) : aDo d μ pc ls h (aAct μ pc ls (.ref y :: .ref x :: st) h (.if_acmp .ne off) 3) = run d μ t ls st h :=
  e_flow rfl ((aJk_eq ht).trans ((if_neg hn).trans (if_pos h6)))
theorem e_nonnull {x : Nat} {off : Int} {t : Nat} (ht : (pc : Int) + off = Int.ofNat t) (h6 : 64 ≤ x) : aDo d μ pc ls h (aAct μ pc ls (.ref x :: st) h (.ifnonnull off) 3) = run d μ t ls st h :=
  e_flow rfl ((if_pos h6).trans (aJp_eq ht))
theorem e_tsw {df lo up : Int} {offs : Array Int} {n : Nat} {x : Int32} {off : Int} {t : Nat} (hx : ¬ (x.toInt < lo ∨ up < x.toInt)) (ho : offs[(x.toInt - lo).toNat]? = some off) (ht : (pc : Int) + off = Int.ofNat t) :
    aDo d μ pc ls h (aAct μ pc ls (.int x :: st) h (.tableswitch df lo up offs) n) = run d μ t ls st h :=
  e_flow rfl ((if_neg hx).trans (by rw [ho]; exact aJp_eq ht))
theorem e_tswD {df lo up : Int} {offs : Array Int} {n : Nat} {x : Int32} {t : Nat} (hx : x.toInt < lo ∨ up < x.toInt) (ht : (pc : Int) + df = Int.ofNat t) :
    aDo d μ pc ls h (aAct μ pc ls (.int x :: st) h (.tableswitch df lo up offs) n) = run d μ t ls st h :=
  e_flow rfl ((if_pos hx).trans (aJp_eq ht))
theorem e_zret {x : Int32} (hr : aRc μ = 2) (hx : x = 0 ∨ x = 1) : aDo d μ pc ls h (aAct μ pc ls [.int x] h .ireturn 1) = some (.returned (some (.int x)), h) := by
  have : aFlow μ pc ls [.int x] h .ireturn 1 = aDn (.returned (some (.int x))) h := by
    show (match aRc μ with
      | 1 => aDn (.returned (some (.int x))) h
      | 2 => if x = 0 ∨ x = 1 then aDn (.returned (some (.int x))) h else none
      | 3 => if x.toInt8.toInt32 = x then aDn (.returned (some (.int x))) h else none
      | 7 => if (x.toUInt32 % 65536).toInt32 = x then aDn (.returned (some (.int x))) h else none
      | _ => none) = _
    rw [hr]; exact if_pos hx
  rw [aAct_flow rfl this rfl]; rfl
theorem e_bret {x : Int32} (hr : aRc μ = 3) (hx : x.toInt8.toInt32 = x) : aDo d μ pc ls h (aAct μ pc ls [.int x] h .ireturn 1) = some (.returned (some (.int x)), h) := by
  have : aFlow μ pc ls [.int x] h .ireturn 1 = aDn (.returned (some (.int x))) h := by
    show (match aRc μ with
      | 1 => aDn (.returned (some (.int x))) h
      | 2 => if x = 0 ∨ x = 1 then aDn (.returned (some (.int x))) h else none
      | 3 => if x.toInt8.toInt32 = x then aDn (.returned (some (.int x))) h else none
      | 7 => if (x.toUInt32 % 65536).toInt32 = x then aDn (.returned (some (.int x))) h else none
      | _ => none) = _
    rw [hr]; exact if_pos hx
  rw [aAct_flow rfl this rfl]; rfl
theorem e_cret {x : Int32} (hr : aRc μ = 7) (hx : (x.toUInt32 % 65536).toInt32 = x) : aDo d μ pc ls h (aAct μ pc ls [.int x] h .ireturn 1) = some (.returned (some (.int x)), h) := by
  have : aFlow μ pc ls [.int x] h .ireturn 1 = aDn (.returned (some (.int x))) h := by
    show (match aRc μ with
      | 1 => aDn (.returned (some (.int x))) h
      | 2 => if x = 0 ∨ x = 1 then aDn (.returned (some (.int x))) h else none
      | 3 => if x.toInt8.toInt32 = x then aDn (.returned (some (.int x))) h else none
      | 7 => if (x.toUInt32 % 65536).toInt32 = x then aDn (.returned (some (.int x))) h else none
      | _ => none) = _
    rw [hr]; exact if_pos hx
  rw [aAct_flow rfl this rfl]; rfl
theorem e_throw {q : Nat} (hh : aHd μ = []) (h6 : 64 ≤ q) (hκ : (hk_ h q).1 = 1) : aDo d μ pc ls h (aAct μ pc ls (.ref q :: st) h .athrow 1) = some (.threw q, h) := by
  have : aFlow μ pc ls (.ref q :: st) h .athrow 1 = aDn (.threw q) h := by
    show (bif (aHd μ).isEmpty && Nat.ble 64 q then (if (hk_ h q).1 = 1 then aDn (.threw q) h else none) else none) = _
    rw [hh, Nat.ble_eq_true_of_le h6]; exact if_pos hκ
  rw [aAct_flow rfl this rfl]; rfl
theorem e_get {a j : Nat} {g ty fin : Nat} (hf : aFld (aCo μ) j = some (g, ty, fin)) (hκ : aHas (hk_ h a).1 g = true) : aDo d μ pc ls h (aAct μ pc ls (.ref a :: st) h (.getfield j) 3) = run d μ (pc + 3) ls (aVl h a g ty :: st) h := by
  have : aMem μ pc ls (.ref a :: st) h (.getfield j) 3 = aGo (pc + 3) ls (aVl h a g ty :: st) h := by
    show (match aGf h a (aFld (aCo μ) j) with
      | some v => aGo (pc + 3) ls (v :: st) h
      | none => none) = _
    rw [hf]
    show (match (if aHas (hk_ h a).1 g = true then some (aVl h a g ty) else none) with
      | some v => aGo (pc + 3) ls (v :: st) h
      | none => none) = _
    rw [if_pos hκ]
  rw [aAct_mem rfl rfl this rfl]; rfl
theorem e_put {a j : Nat} {g ty fin : Nat} {v : Value} {h' : aH} (hf : aFld (aCo μ) j = some (g, ty, fin)) (hfin : (Nat.beq fin 0 || (Nat.beq fin 1 && aIn μ)) = true) (hκ : aHas (hk_ h a).1 g = true) (h6 : 64 ≤ a) (hv : aPt h a g ty v = some h') :
    aDo d μ pc ls h (aAct μ pc ls (v :: .ref a :: st) h (.putfield j) 3) = run d μ (pc + 3) ls st h' := by
  have : aMem μ pc ls (v :: .ref a :: st) h (.putfield j) 3 = aGo (pc + 3) ls st h' := by
    show (match aPf μ h a v (aFld (aCo μ) j) with
      | some h' => aGo (pc + 3) ls st h'
      | none => none) = _
    rw [hf]
    show (match (bif Nat.beq fin 0 || (Nat.beq fin 1 && aIn μ) then (if aHas (hk_ h a).1 g = true ∧ 64 ≤ a then aPt h a g ty v else none) else none) with
      | some h' => aGo (pc + 3) ls st h'
      | none => none) = _
    rw [hfin, cond_true, if_pos ⟨hκ, h6⟩, hv]
  rw [aAct_mem rfl rfl this rfl]; rfl
theorem e_alen {a : Nat} (hκ : 100 ≤ (hk_ h a).1) : aDo d μ pc ls h (aAct μ pc ls (.ref a :: st) h .arraylength 1) = run d μ (pc + 1) ls (.int (nI (hk_ h a).2) :: st) h := by
  exact e_mem rfl rfl (if_pos hκ)
theorem e_iald {a : Nat} {j : Int32} (hj : aPl h a 100 j) : aDo d μ pc ls h (aAct μ pc ls (.int j :: .ref a :: st) h .iaload 1) = run d μ (pc + 1) ls (.int (hi_ h a j.toNatClampNeg) :: st) h := by
  have hv : aAld h a j .iaload = some (.int (hi_ h a j.toNatClampNeg)) := @if_pos _ (aPlD ..) hj _ _ _
  rw [aAct_mem rfl rfl (t := aGo (pc + 1) ls (.int (hi_ h a j.toNatClampNeg) :: st) h) (by
    show (match aAld h a j .iaload with
      | some v => aGo (pc + 1) ls (v :: st) h
      | none => none) = _
    rw [hv]) rfl]; rfl
theorem e_sald {a : Nat} {j : Int32} (hj : aPl h a 102 j) : aDo d μ pc ls h (aAct μ pc ls (.int j :: .ref a :: st) h .saload 1) = run d μ (pc + 1) ls (.int (hi_ h a j.toNatClampNeg) :: st) h := by
  have hv : aAld h a j .saload = some (.int (hi_ h a j.toNatClampNeg)) := @if_pos _ (aPlD ..) hj _ _ _
  rw [aAct_mem rfl rfl (t := aGo (pc + 1) ls (.int (hi_ h a j.toNatClampNeg) :: st) h) (by
    show (match aAld h a j .saload with
      | some v => aGo (pc + 1) ls (v :: st) h
      | none => none) = _
    rw [hv]) rfl]; rfl
theorem e_lald {a : Nat} {j : Int32} (hj : aPl h a 104 j) : aDo d μ pc ls h (aAct μ pc ls (.int j :: .ref a :: st) h .laload 1) = run d μ (pc + 1) ls (.long (hl_ h a j.toNatClampNeg) :: st) h := by
  have hv : aAld h a j .laload = some (.long (hl_ h a j.toNatClampNeg)) := @if_pos _ (aPlD ..) hj _ _ _
  rw [aAct_mem rfl rfl (t := aGo (pc + 1) ls (.long (hl_ h a j.toNatClampNeg) :: st) h) (by
    show (match aAld h a j .laload with
      | some v => aGo (pc + 1) ls (v :: st) h
      | none => none) = _
    rw [hv]) rfl]; rfl
theorem aPl_ne {a κ κ' : Nat} {j : Int32} (h1 : aPl h a κ j) (hn : κ ≠ κ') : ¬ aPl h a κ' j := fun h2 => hn (h1.1.symm.trans h2.1)
theorem e_bald {a : Nat} {j : Int32} (hj : aPl h a 101 j ∨ aPl h a 103 j) : aDo d μ pc ls h (aAct μ pc ls (.int j :: .ref a :: st) h .baload 1) = run d μ (pc + 1) ls (.int (hi_ h a j.toNatClampNeg) :: st) h := by
  have hv : aAld h a j .baload = some (.int (hi_ h a j.toNatClampNeg)) := by
    rcases hj with hj | hj
    · exact @if_pos _ (aPlD ..) hj _ _ _
    · exact (@if_neg _ (aPlD ..) (aPl_ne hj (by decide)) _ _ _).trans (@if_pos _ (aPlD ..) hj _ _ _)
  rw [aAct_mem rfl rfl (t := aGo (pc + 1) ls (.int (hi_ h a j.toNatClampNeg) :: st) h) (by
    show (match aAld h a j .baload with
      | some v => aGo (pc + 1) ls (v :: st) h
      | none => none) = _
    rw [hv]) rfl]; rfl
theorem e_aald {a : Nat} {j : Int32} (hκ : 110 ≤ (hk_ h a).1) (hj : aPl h a (hk_ h a).1 j) : aDo d μ pc ls h (aAct μ pc ls (.int j :: .ref a :: st) h .aaload 1) = run d μ (pc + 1) ls (va_rf (hp_ h a j.toNatClampNeg) :: st) h := by
  have hv : aAld h a j .aaload = some (va_rf (hp_ h a j.toNatClampNeg)) := (if_pos hκ).trans (@if_pos _ (aPlD ..) hj _ _ _)
  rw [aAct_mem rfl rfl (t := aGo (pc + 1) ls (va_rf (hp_ h a j.toNatClampNeg) :: st) h) (by
    show (match aAld h a j .aaload with
      | some v => aGo (pc + 1) ls (v :: st) h
      | none => none) = _
    rw [hv]) rfl]; rfl
theorem e_ast {a : Nat} {j : Int32} {v : Value} {i : Instr} {h' : aH} (h1 : aPure μ i 1 (v :: .int j :: .ref a :: st) = none) (h2 : aFlow μ pc ls (v :: .int j :: .ref a :: st) h i 1 = none)
    (hm : aMem μ pc ls (v :: .int j :: .ref a :: st) h i 1 = (match aAst h a j v i with
      | some h' => aGo (pc + 1) ls st h'
      | none => none)) (hv : aAst h a j v i = some h') : aDo d μ pc ls h (aAct μ pc ls (v :: .int j :: .ref a :: st) h i 1) = run d μ (pc + 1) ls st h' := by
  rw [aAct_mem h1 h2 (t := aGo (pc + 1) ls st h') (by rw [hm, hv]) rfl]; rfl
theorem e_iastore {a : Nat} {j v : Int32} (h6 : 64 ≤ a) (hj : aPl h a 100 j) : aDo d μ pc ls h (aAct μ pc ls (.int v :: .int j :: .ref a :: st) h .iastore 1) = run d μ (pc + 1) ls st (si_ h a j.toNatClampNeg v) :=
  e_ast rfl rfl rfl ((if_pos h6).trans (@if_pos _ (aPlD ..) hj _ _ _))
theorem e_sastore {a : Nat} {j v : Int32} (h6 : 64 ≤ a) (hj : aPl h a 102 j) : aDo d μ pc ls h (aAct μ pc ls (.int v :: .int j :: .ref a :: st) h .sastore 1) = run d μ (pc + 1) ls st (si_ h a j.toNatClampNeg v.toInt16.toInt32) :=
  e_ast rfl rfl rfl ((if_pos h6).trans (@if_pos _ (aPlD ..) hj _ _ _))
theorem e_lastore {a : Nat} {j : Int32} {v : Int64} (h6 : 64 ≤ a) (hj : aPl h a 104 j) : aDo d μ pc ls h (aAct μ pc ls (.long v :: .int j :: .ref a :: st) h .lastore 1) = run d μ (pc + 1) ls st (sl_ h a j.toNatClampNeg v) :=
  e_ast rfl rfl rfl ((if_pos h6).trans (@if_pos _ (aPlD ..) hj _ _ _))
theorem e_bastore {a : Nat} {j v : Int32} (h6 : 64 ≤ a) (hj : aPl h a 101 j) : aDo d μ pc ls h (aAct μ pc ls (.int v :: .int j :: .ref a :: st) h .bastore 1) = run d μ (pc + 1) ls st (si_ h a j.toNatClampNeg v.toInt8.toInt32) :=
  e_ast rfl rfl rfl ((if_pos h6).trans (@if_pos _ (aPlD ..) hj _ _ _))
theorem e_zastore {a : Nat} {j v : Int32} (h6 : 64 ≤ a) (hj : aPl h a 103 j) (hv : v = 0 ∨ v = 1) : aDo d μ pc ls h (aAct μ pc ls (.int v :: .int j :: .ref a :: st) h .bastore 1) = run d μ (pc + 1) ls st (si_ h a j.toNatClampNeg v) :=
  e_ast rfl rfl rfl ((if_pos h6).trans ((@if_neg _ (aPlD ..) (aPl_ne hj (by decide)) _ _ _).trans ((@if_pos _ (aPlD ..) hj _ _ _).trans (if_pos hv))))
theorem e_aastore {a b : Nat} {j : Int32} (h6 : 64 ≤ a) (hκ : aSto (hk_ h a).1 (hk_ h b).1 = true) (hj : aPl h a (hk_ h a).1 j) : aDo d μ pc ls h (aAct μ pc ls (.ref b :: .int j :: .ref a :: st) h .aastore 1) = run d μ (pc + 1) ls st (sp_ h a j.toNatClampNeg (some b)) :=
  e_ast rfl rfl rfl ((if_pos h6).trans ((if_pos hκ).trans (@if_pos _ (aPlD ..) hj _ _ _)))
theorem e_newa {t : ArrayType} {κ : Nat} {m : Int32} (hk : aAk t = some κ) (hm : aSz m) : aDo d μ pc ls h (aAct μ pc ls (.int m :: st) h (.newarray t) 2) = run d μ (pc + 2) ls (.ref (hz_ h) :: st) (nw_ h κ m.toNatClampNeg m.toNatClampNeg) := by
  rw [aAct_mem rfl rfl (t := aGo (pc + 2) ls (.ref (hz_ h) :: st) (nw_ h κ m.toNatClampNeg m.toNatClampNeg)) (by
    show (match aAk t with
      | some κ => aSi m (aGo (pc + 2) ls (.ref (hz_ h) :: st) (nw_ h κ m.toNatClampNeg m.toNatClampNeg)) none
      | none => none) = _
    rw [hk]; exact @if_pos _ (aSzD m) hm _ _ _) rfl]; rfl
theorem e_anew {j : Nat} {κ : Nat} {m : Int32} (hk : aArr (aCo μ) j = some κ) (hn : Nat.beq κ 115 = false) (hm : aSz m) : aDo d μ pc ls h (aAct μ pc ls (.int m :: st) h (.anewarray j) 3) = run d μ (pc + 3) ls (.ref (hz_ h) :: st) (nw_ h κ m.toNatClampNeg m.toNatClampNeg) := by
  rw [aAct_mem rfl rfl (t := aGo (pc + 3) ls (.ref (hz_ h) :: st) (nw_ h κ m.toNatClampNeg m.toNatClampNeg)) (by
    show (match aArr (aCo μ) j with
      | some κ => bif Nat.beq κ 115 then none else aSi m (aGo (pc + 3) ls (.ref (hz_ h) :: st) (nw_ h κ m.toNatClampNeg m.toNatClampNeg)) none
      | none => none) = _
    rw [hk]
    dsimp only
    rw [hn]; exact @if_pos _ (aSzD m) hm _ _ _) rfl]; rfl
theorem e_multi {j : Nat} {k m : Int32} (hk : aArr (aCo μ) j = some 115) (hm : aSz m) (hk2 : aSz k) : aDo d μ pc ls h (aAct μ pc ls (.int k :: .int m :: st) h (.multianewarray j 2) 4) = run d μ (pc + 4) ls (.ref (hz_ h) :: st) (mw_ h m.toNatClampNeg k.toNatClampNeg) := by
  rw [aAct_mem rfl rfl (t := aGo (pc + 4) ls (.ref (hz_ h) :: st) (mw_ h m.toNatClampNeg k.toNatClampNeg)) (by
    show (match aArr (aCo μ) j with
      | some κ => bif Nat.beq κ 115 && Nat.beq 2 2 then aSi m (aSi k (aGo (pc + 4) ls (.ref (hz_ h) :: st) (mw_ h m.toNatClampNeg k.toNatClampNeg)) none) none else none
      | none => none) = _
    rw [hk]; exact (@if_pos _ (aSzD m) hm _ _ _).trans (@if_pos _ (aSzD k) hk2 _ _ _)) rfl]; rfl
theorem e_cast {a j : Nat} {l : List Nat} (hc : aCas (aCo μ) j = some l) (hκ : (hk_ h a).1 ∈ l) : aDo d μ pc ls h (aAct μ pc ls (.ref a :: st) h (.checkcast j) 3) = run d μ (pc + 3) ls (.ref a :: st) h := by
  rw [aAct_mem rfl rfl (t := aGo (pc + 3) ls (.ref a :: st) h) (by
    show (match aCas (aCo μ) j with
      | some l => if (hk_ h a).1 ∈ l then aGo (pc + 3) ls (.ref a :: st) h else none
      | none => none) = _
    rw [hc]; exact if_pos hκ) rfl]; rfl
theorem e_inst {a j : Nat} {l : List Nat} (hc : aCas (aCo μ) j = some l) (hκ : (hk_ h a).1 ∈ l) : aDo d μ pc ls h (aAct μ pc ls (.ref a :: st) h (.instanceof j) 3) = run d μ (pc + 3) ls (.int 1 :: st) h := by
  rw [aAct_mem rfl rfl (t := aGo (pc + 3) ls (.int 1 :: st) h) (by
    show (match aCas (aCo μ) j with
      | some l => if (hk_ h a).1 ∈ l then aGo (pc + 3) ls (.int 1 :: st) h else none
      | none => none) = _
    rw [hc]; exact if_pos hκ) rfl]; rfl
theorem e_copy {j n : Nat} {m dp sp : Int32} {q s : Nat} (hi : aInv (aCo μ) j = some (6, n, [])) (hc : 64 ≤ q ∧ s ≠ q ∧ (hk_ h s).1 = (hk_ h q).1 ∧ ((hk_ h q).1 = 100 ∨ ((hk_ h q).1 = 101 ∧ ∀ i, i < m.toNatClampNeg → (hi_ h s (sp.toNatClampNeg + i)).toInt8.toInt32 = hi_ h s (sp.toNatClampNeg + i))) ∧ ¬ m < 0 ∧ ¬ dp < 0 ∧ ¬ sp < 0 ∧ sp.toNatClampNeg + m.toNatClampNeg ≤ (hk_ h s).2 ∧ dp.toNatClampNeg + m.toNatClampNeg ≤ (hk_ h q).2 ∧ st.length ≤ 2) :
    aDo d μ pc ls h (aAct μ pc ls (.int m :: .int dp :: .ref q :: .int sp :: .ref s :: st) h (.invokestatic j) 3) = run d μ (pc + 3) ls st (cp_ h s sp.toNatClampNeg q dp.toNatClampNeg m.toNatClampNeg) := by
  have : aCalls μ pc ls (.int m :: .int dp :: .ref q :: .int sp :: .ref s :: st) h (.invokestatic j) 3 = aGo (pc + 3) ls st (cp_ h s sp.toNatClampNeg q dp.toNatClampNeg m.toNatClampNeg) := by
    show (match aInv (aCo μ) j with
      | some e => aStat pc ls (.int m :: .int dp :: .ref q :: .int sp :: .ref s :: st) h e
      | none => none) = _
    rw [hi]; exact if_pos hc
  exact (aDo_calls rfl rfl rfl this).trans rfl
theorem e_max {j n : Nat} {x y : Int32} (hi : aInv (aCo μ) j = some (10, n, [])) (hl : Nat.ble (aWd st) 8 = true) : aDo d μ pc ls h (aAct μ pc ls (.int y :: .int x :: st) h (.invokestatic j) 3) = run d μ (pc + 3) ls (.int (max_ x y) :: st) h := by
  have : aCalls μ pc ls (.int y :: .int x :: st) h (.invokestatic j) 3 = aGo (pc + 3) ls (.int (max_ x y) :: st) h := by
    show (match aInv (aCo μ) j with
      | some e => aStat pc ls (.int y :: .int x :: st) h e
      | none => none) = _
    rw [hi]
    show (bif Nat.ble (aWd st) 8 then aGo (pc + 3) ls (.int (max_ x y) :: st) h else none) = _
    rw [hl]; rfl
  exact (aDo_calls rfl rfl rfl this).trans rfl
theorem e_min {j n : Nat} {x y : Int32} (hi : aInv (aCo μ) j = some (11, n, [])) (hl : Nat.ble (aWd st) 8 = true) : aDo d μ pc ls h (aAct μ pc ls (.int y :: .int x :: st) h (.invokestatic j) 3) = run d μ (pc + 3) ls (.int (min_ x y) :: st) h := by
  have : aCalls μ pc ls (.int y :: .int x :: st) h (.invokestatic j) 3 = aGo (pc + 3) ls (.int (min_ x y) :: st) h := by
    show (match aInv (aCo μ) j with
      | some e => aStat pc ls (.int y :: .int x :: st) h e
      | none => none) = _
    rw [hi]
    show (bif Nat.ble (aWd st) 8 then aGo (pc + 3) ls (.int (min_ x y) :: st) h else none) = _
    rw [hl]; rfl
  exact (aDo_calls rfl rfl rfl this).trans rfl
theorem e_obj {j n a : Nat} (hi : aInv (aCo μ) j = some (9, n, [])) (hκ : (hk_ h a).1 < 98) (hl : Nat.ble (aWd st) 8 = true) : aDo d μ pc ls h (aAct μ pc ls (.ref a :: st) h (.invokespecial j) 3) = run d μ (pc + 3) ls st h := by
  have : aCalls μ pc ls (.ref a :: st) h (.invokespecial j) 3 = aGo (pc + 3) ls st h := by
    show (match aInv (aCo μ) j with
      | some e => aSpec pc ls (.ref a :: st) h e
      | none => none) = _
    rw [hi]
    show (if (hk_ h a).1 < 98 then (bif Nat.ble (aWd st) 8 then aGo (pc + 3) ls st h else none) else none) = _
    rw [if_pos hκ, hl]; rfl
  exact (aDo_calls rfl rfl rfl this).trans rfl
theorem e_stat {j m md κ ν : Nat} {as rest : List Value} (hi : aInv (aCo μ) j = some (md, m, [(κ, ν)])) (hmd : (Nat.beq md 0 || Nat.beq md 3) = true) (hp : aPop m [] st = some (as, rest)) (hl : Nat.ble (aWd rest) 8 = true) (he : aEn ν as = true) :
    aDo (d + 1) μ pc ls h (aAct μ pc ls st h (.invokestatic j) 3) = aBk (d + 1) μ pc ls rest false (run d ν 0 (aEnt ν as) [] h) := by
  have : aCalls μ pc ls st h (.invokestatic j) 3 = some (.inr (.inl (ν, as, false, rest))) := by
    show (match aInv (aCo μ) j with
      | some e => aStat pc ls st h e
      | none => none) = _
    rw [hi]
    show (bif Nat.beq md 0 || Nat.beq md 3 then (match aPop m [] st with
      | some (as, rest) => aCl ν as false rest
      | none => none) else none) = _
    rw [hmd, hp]
    show (bif Nat.ble (aWd rest) 8 then (some (.inr (.inl (ν, as, false, rest))) : aT) else none) = _
    rw [hl]; rfl
  refine (aDo_calls rfl rfl rfl this).trans ?_
  show (bif aEn ν as then aBk (d + 1) μ pc ls rest false (run d ν 0 (aEnt ν as) [] h) else none) = _
  rw [he]; rfl
theorem e_spec {j m md κ ν a : Nat} {as rest : List Value} (hi : aInv (aCo μ) j = some (md, m, [(κ, ν)])) (hmd : (Nat.beq md 1 || Nat.beq md 2) = true) (hp : aPop m [] st = some (as, .ref a :: rest)) (hκ : (hk_ h a).1 < 98) (hl : Nat.ble (aWd rest) 8 = true) (he : aEn ν (.ref a :: as) = true) :
    aDo (d + 1) μ pc ls h (aAct μ pc ls st h (.invokespecial j) 3) = aBk (d + 1) μ pc ls rest false (run d ν 0 (aEnt ν (.ref a :: as)) [] h) := by
  have : aCalls μ pc ls st h (.invokespecial j) 3 = some (.inr (.inl (ν, .ref a :: as, false, rest))) := by
    show (match aInv (aCo μ) j with
      | some e => aSpec pc ls st h e
      | none => none) = _
    rw [hi]
    show (match aPop m [] st with
      | some (as, .ref a :: rest) => bif Nat.beq md 1 || Nat.beq md 2 then (if (hk_ h a).1 < 98 then aCl ν (.ref a :: as) false rest else none) else (bif Nat.beq md 7 then (if (hk_ h a).1 = κ then aCl ν (.ref a :: as) false rest else none) else none)
      | _ => none) = _
    rw [hp]
    dsimp only
    rw [hmd, cond_true, if_pos hκ]
    show (bif Nat.ble (aWd rest) 8 then (some (.inr (.inl (ν, .ref a :: as, false, rest))) : aT) else none) = _
    rw [hl]; rfl
  refine (aDo_calls rfl rfl rfl this).trans ?_
  show (bif aEn ν (.ref a :: as) then aBk (d + 1) μ pc ls rest false (run d ν 0 (aEnt ν (.ref a :: as)) [] h) else none) = _
  rw [he]; rfl
theorem e_super {j m κ ν a : Nat} {as rest : List Value} (hi : aInv (aCo μ) j = some (7, m, [(κ, ν)])) (hp : aPop m [] st = some (as, .ref a :: rest)) (hκ : (hk_ h a).1 = κ) (hl : Nat.ble (aWd rest) 8 = true) (he : aEn ν (.ref a :: as) = true) :
    aDo (d + 1) μ pc ls h (aAct μ pc ls st h (.invokespecial j) 3) = aBk (d + 1) μ pc ls rest false (run d ν 0 (aEnt ν (.ref a :: as)) [] h) := by
  have : aCalls μ pc ls st h (.invokespecial j) 3 = some (.inr (.inl (ν, .ref a :: as, false, rest))) := by
    show (match aInv (aCo μ) j with
      | some e => aSpec pc ls st h e
      | none => none) = _
    rw [hi]
    show (match aPop m [] st with
      | some (as, .ref a :: rest) => bif Nat.beq 7 1 || Nat.beq 7 2 then (if (hk_ h a).1 < 98 then aCl ν (.ref a :: as) false rest else none) else (bif Nat.beq 7 7 then (if (hk_ h a).1 = κ then aCl ν (.ref a :: as) false rest else none) else none)
      | _ => none) = _
    rw [hp]
    show (if (hk_ h a).1 = κ then aCl ν (.ref a :: as) false rest else none) = _
    rw [if_pos hκ]
    show (bif Nat.ble (aWd rest) 8 then (some (.inr (.inl (ν, .ref a :: as, false, rest))) : aT) else none) = _
    rw [hl]; rfl
  refine (aDo_calls rfl rfl rfl this).trans ?_
  show (bif aEn ν (.ref a :: as) then aBk (d + 1) μ pc ls rest false (run d ν 0 (aEnt ν (.ref a :: as)) [] h) else none) = _
  rw [he]; rfl
theorem e_virt {j m md κ ν a : Nat} {tg : List (Nat × Nat)} {as rest : List Value} {thr : Bool} (hi : aInv (aCo μ) j = some (md, m, tg)) (hp : aPop m [] st = some (as, .ref a :: rest)) (hκ : (hk_ h a).1 = κ) (ht : aLk κ tg = some ν)
    (hmd : (Nat.beq md 4 = true ∧ thr = !Nat.beq ν 4) ∨ ((Nat.beq md 4 = false ∧ (Nat.beq md 5 || Nat.beq md 8) = true) ∧ thr = false)) (hl : Nat.ble (aWd rest) 8 = true) (he : aEn ν (.ref a :: as) = true) :
    aDo (d + 1) μ pc ls h (aAct μ pc ls st h (.invokevirtual j) 3) = aBk (d + 1) μ pc ls rest thr (run d ν 0 (aEnt ν (.ref a :: as)) [] h) := by
  have : aCalls μ pc ls st h (.invokevirtual j) 3 = some (.inr (.inl (ν, .ref a :: as, thr, rest))) := by
    show (match aInv (aCo μ) j with
      | some e => aVirt st h e
      | none => none) = _
    rw [hi]
    show (match aPop m [] st with
      | some (as, .ref a :: rest) => (match aLk (hk_ h a).1 tg with
        | some ν => bif Nat.beq md 4 then aCl ν (.ref a :: as) (!Nat.beq ν 4) rest else (bif Nat.beq md 5 || Nat.beq md 8 then aCl ν (.ref a :: as) false rest else none)
        | none => none)
      | _ => none) = _
    rw [hp]
    dsimp only
    rw [hκ, ht]
    dsimp only
    rcases hmd with ⟨h1, h2⟩ | ⟨⟨h1, h2⟩, h3⟩
    · rw [h1, h2, cond_true]
      show (bif Nat.ble (aWd rest) 8 then (some (.inr (.inl (ν, .ref a :: as, !Nat.beq ν 4, rest))) : aT) else none) = _
      rw [hl]; rfl
    · rw [h1, h2, h3, cond_false, cond_true]
      show (bif Nat.ble (aWd rest) 8 then (some (.inr (.inl (ν, .ref a :: as, false, rest))) : aT) else none) = _
      rw [hl]; rfl
  refine (aDo_calls rfl rfl rfl this).trans ?_
  show (bif aEn ν (.ref a :: as) then aBk (d + 1) μ pc ls rest thr (run d ν 0 (aEnt ν (.ref a :: as)) [] h) else none) = _
  rw [he]; rfl
/-- what comes back -/
theorem aBk_1 {rest : List Value} {thr : Bool} {v : Value} : aBk d μ pc ls rest thr (some (.returned (some v), h)) = run d μ (pc + 3) ls (v :: rest) h := rfl
theorem aBk_0 {rest : List Value} {thr : Bool} : aBk d μ pc ls rest thr (some (.returned none, h)) = run d μ (pc + 3) ls rest h := rfl
theorem aBk_x {rest : List Value} {q : Nat} (hc : aCatch μ pc = none) : aBk d μ pc ls rest true (some (.threw q, h)) = some (.threw q, h) := by
  show (bif true then (match aCatch μ pc with
    | some t => run d μ t ls [.ref q] h
    | none => some (.threw q, h)) else none) = _
  rw [hc]; rfl
end EB
