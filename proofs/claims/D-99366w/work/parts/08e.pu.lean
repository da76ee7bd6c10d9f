set_option maxRecDepth 100000
/-! WHAT IS TOLD, AND WHAT FOLLOWS FROM IT: plain functions -/
abbrev cdT : Type := List (Nat × Nat)
abbrev aLw : Type := List (cdT × cdT × cdT) × cdT
abbrev aTx : Type := (Nat × Nat) × ((Nat → Int32) × (Nat → Int32) × (Nat → Int32) × (Nat → Int32)) × ((Nat → Int32) × (Nat → Int32)) × (Int32 × Int32) × (Nat → Option aLw)
def ns_ (T : aTx) : Nat := T.1.1
def ng_ (T : aTx) : Nat := T.1.2
/-- of guests: hour, hours, fee, foes -/
def hr_ (T : aTx) (g : Nat) : Int32 := T.2.1.1 g
def hs_ (T : aTx) (g : Nat) : Int32 := T.2.1.2.1 g
def fe_ (T : aTx) (g : Nat) : Int32 := T.2.1.2.2.1 g
def fo_ (T : aTx) (g : Nat) : Int32 := T.2.1.2.2.2 g
/-- of sundays: hours, worth -/
def lo_ (T : aTx) (s : Nat) : Int32 := T.2.2.1.1 s
def wo_ (T : aTx) (s : Nat) : Int32 := T.2.2.1.2 s
def de_ (T : aTx) : Int32 := T.2.2.2.1.1
def se_ (T : aTx) : Int32 := T.2.2.2.1.2
def la_ (T : aTx) (k : Nat) : Option aLw := T.2.2.2.2 k
/-! bits -/
theorem nI_or (a b : Nat) : nI a ||| nI b = nI (a ||| b) := by
  apply Int32.toBitVec_inj.mp
  show BitVec.ofNat 32 a ||| BitVec.ofNat 32 b = BitVec.ofNat 32 (a ||| b)
  exact (BitVec.ofNat_or).symm
theorem nI_and (a b : Nat) : nI a &&& nI b = nI (a &&& b) := by
  apply Int32.toBitVec_inj.mp
  show BitVec.ofNat 32 a &&& BitVec.ofNat 32 b = BitVec.ofNat 32 (a &&& b)
  exact (BitVec.ofNat_and).symm
theorem nI_xor (a b : Nat) : nI a ^^^ nI b = nI (a ^^^ b) := by
  apply Int32.toBitVec_inj.mp
  show BitVec.ofNat 32 a ^^^ BitVec.ofNat 32 b = BitVec.ofNat 32 (a ^^^ b)
  exact (BitVec.ofNat_xor).symm
theorem sh31 : ∀ g, g < 32 → nI g &&& 31 = nI g := by decide
theorem shl_1 : ∀ g, g < 32 → shl_ (nI 1) (nI g) = nI (2 ^ g) := by decide
/-- a without b -/
def dif (a b : Nat) : Nat := a ^^^ (a &&& b)
theorem dif_bit (a b i : Nat) : (dif a b).testBit i = (a.testBit i && !b.testBit i) := by
  unfold dif
  rw [Nat.testBit_xor, Nat.testBit_and]
  cases a.testBit i <;> cases b.testBit i <;> rfl
theorem m1_ : (-1 : Int32) = nI 4294967295 := by decide
theorem nI_dif {a b : Nat} (hb : b < 2 ^ 31) (ha : a < 2 ^ 31) : nI a &&& (nI b ^^^ (-1)) = nI (dif a b) := by
  rw [m1_, nI_xor, nI_and]
  congr 1
  apply Nat.eq_of_testBit_eq
  intro i
  rw [dif_bit, Nat.testBit_and, Nat.testBit_xor]
  by_cases hi : i < 32
  · rw [show Nat.testBit 4294967295 i = true from by rw [show 4294967295 = 2 ^ 32 - 1 from rfl, Nat.testBit_two_pow_sub_one]; simp [hi]]
    cases a.testBit i <;> cases b.testBit i <;> rfl
  · rw [Nat.testBit_lt_two_pow (Nat.lt_of_lt_of_le ha (Nat.pow_le_pow_right (by decide) (by omega)))]
    rfl
theorem dif_lt {a b n : Nat} (ha : a < 2 ^ n) : dif a b < 2 ^ n := by
  apply Nat.lt_pow_two_of_testBit
  intro i hi
  rw [dif_bit, Nat.testBit_lt_two_pow (Nat.lt_of_lt_of_le ha (Nat.pow_le_pow_right (by decide) hi))]
  rfl
theorem nI_shr {a g : Nat} (ha : a < 2 ^ 31) (hg : g < 32) : shr_ (nI a) (nI g) = nI (a >>> g) := by
  unfold shr_
  rw [sh31 g hg]
  apply Int32.toInt_inj.mp
  have h1 : a >>> g < 2 ^ 31 := Nat.lt_of_le_of_lt (Nat.shiftRight_le a g) ha
  rw [nI_toInt h1]
  have h2 : (nI a >>> nI g).toBitVec = (nI a).toBitVec.sshiftRight' ((nI g).toBitVec.smod 32) := Int32.toBitVec_shiftRight _ _
  show (nI a >>> nI g).toBitVec.toInt = _
  rw [h2]
  have h3 : (nI g).toBitVec.smod 32 = BitVec.ofNat 32 g := by
    have : ∀ g, g < 32 → (BitVec.ofNat 32 g).smod 32 = BitVec.ofNat 32 g := by decide
    exact this g hg
  rw [h3]
  show ((nI a).toBitVec.sshiftRight (BitVec.ofNat 32 g).toNat).toInt = _
  rw [BitVec.toInt_sshiftRight]
  have h4 : (nI a).toBitVec.toInt = (a : Int) := nI_toInt ha
  have h5 : (BitVec.ofNat 32 g).toNat = g := by rw [BitVec.toNat_ofNat]; omega
  rw [h4, h5]
  rfl
theorem bit_and1 (a g : Nat) : (nI (a >>> g) &&& nI 1 = nI 1) = (a.testBit g = true) := by
  rw [nI_and]
  apply propext
  have h : a >>> g &&& 1 = 0 ∨ a >>> g &&& 1 = 1 := by
    rw [Nat.and_one_is_mod]; omega
  unfold Nat.testBit
  rw [Nat.and_comm 1]
  rcases h with h | h <;> rw [h] <;> decide
theorem bit_and0 (a g : Nat) : (nI (a >>> g) &&& nI 1 = 0) = (a.testBit g = false) := by
  rw [nI_and]
  apply propext
  have h : a >>> g &&& 1 = 0 ∨ a >>> g &&& 1 = 1 := by
    rw [Nat.and_one_is_mod]; omega
  unfold Nat.testBit
  rw [Nat.and_comm 1]
  rcases h with h | h <;> rw [h] <;> decide
/-- of 0 .. n - 1 those with p, as bits -/
def orN (n : Nat) (p : Nat → Bool) : Nat := itn n (fun g a => bif p g then a ||| 2 ^ g else a) 0
theorem orN_lt (n : Nat) (p : Nat → Bool) : orN n p < 2 ^ n := by
  induction n with
  | zero => exact Nat.one_pos
  | succ n ih =>
    show (bif p n then orN n p ||| 2 ^ n else orN n p) < _
    have h2 : 2 ^ n < 2 ^ (n + 1) := Nat.pow_lt_pow_right (by decide) (by omega)
    cases p n with
    | true => exact Nat.or_lt_two_pow (by omega) h2
    | false => exact Nat.lt_trans ih h2
theorem orN_bit (n : Nat) (p : Nat → Bool) (i : Nat) : (orN n p).testBit i = (decide (i < n) && p i) := by
  induction n with
  | zero => simp [orN, itn]
  | succ n ih =>
    show (bif p n then orN n p ||| 2 ^ n else orN n p).testBit i = _
    by_cases hi : i = n
    · subst hi
      cases hp : p i with
      | true => simp [Nat.testBit_or, ih, Nat.testBit_two_pow_self]
      | false => simp [ih]
    · have e : decide (i < n + 1) = decide (i < n) := by
        by_cases h : i < n
        · simp [h]; omega
        · simp [h]; omega
      rw [e, ← ih]
      cases p n with
      | true => simp [Nat.testBit_or, Nat.testBit_two_pow_of_ne (Ne.symm hi)]
      | false => rfl
theorem orN_congr {n : Nat} {p q : Nat → Bool} (h : ∀ g, g < n → p g = q g) : orN n p = orN n q := itn_congr (fun g a hg => by rw [h g hg])
/-- bits counted -/
def bc_ (x : Int32) : Int32 := itn 24 (fun k a => a + (shr_ x (nI k) &&& nI 1)) (nI 0)
/-! what is asked of a number -/
def in_ (v a b : Int32) : Bool := decide (a ≤ v) && decide (v ≤ b)
def wi_ (v a b : Int32) : Int32 := if v < a then a else if b < v then b else v
def isS (T : aTx) (s : Int32) : Bool := in_ s (nI 0) (nI (ns_ T) - nI 1)
def isG (T : aTx) (g : Int32) : Bool := in_ g (nI 0) (nI (ng_ T) - nI 1)
/-! hours, who clashes, who fits -/
def ti_ (T : aTx) (g : Nat) : Int32 := hr_ T g + hs_ T g
def th_ (T : aTx) (g : Nat) (h : Int32) : Bool := decide (hr_ T g ≤ h) && decide (h < ti_ T g)
def cl_ (T : aTx) (g o : Nat) : Bool := !(Nat.beq g o) && (decide (shr_ (fo_ T g) (nI o) &&& nI 1 = nI 1) || (decide (hr_ T g < ti_ T o) && decide (hr_ T o < ti_ T g)))
def cB_ (T : aTx) (g : Nat) : Nat := orN (ng_ T) (cl_ T g)
def fit_ (T : aTx) (r : Nat → Int32) (g s : Nat) : Bool := decide (r (25 + s) = 0) && decide (ti_ T g ≤ lo_ T s)
def gB_ (T : aTx) (r : Nat → Int32) (s : Int32) : Nat := orN (ng_ T) (fun g => decide (r g = s))
def lB_ (T : aTx) (r : Nat → Int32) : Nat := orN (ng_ T) (fun g => decide (r (14 + g) = 0))
def who_ (T : aTx) (r : Nat → Int32) (s h : Int32) : Int32 := match fnd (fun g => decide (r g = s) && th_ T g h) (ng_ T) 0 with
  | some g => nI g
  | none => -2
def hT_ (T : aTx) (r : Nat → Int32) (s : Int32) : Int32 := itn (ng_ T) (fun g a => if r g = s then a + hs_ T g else a) (nI 0)
/-! laws -/
def op_ (k : Nat) (a b : Int32) : Int32 := if k = 2 then a + b else if k = 3 then a - b else if k = 4 then a * b else a / b
/-- postfix: 0 a number, 1 a variable, 2 + 3 - 4 * 5 / ; none: something was divided by nought (or no such code) -/
def evc (v : Nat → Int32) : cdT → List Int32 → Option (List Int32)
  | [], st => some st
  | (k, x) :: c, st => if k = 0 then evc v c (nI x :: st) else if k = 1 then evc v c (v x :: st) else match st with
    | b :: a :: st => if k = 5 ∧ b = 0 then none else evc v c (op_ k a b :: st)
    | _ => none
def ev1 (v : Nat → Int32) (c : cdT) : Option Int32 := match evc v c [] with
  | some (x :: _) => some x
  | _ => none
/-- how deep the pile is behind it -/
def dep_ : cdT → Nat → Option Nat
  | [], n => some n
  | (k, _) :: c, n => if k < 2 then dep_ c (n + 1) else if n < 2 then none else dep_ c (n - 1)
def cwf (c : cdT) : Prop := dep_ c 0 = some 1 ∧ ∀ q ∈ c, q.1 ≤ 5 ∧ (q.1 = 1 → q.2 < 9) ∧ q.2 < 2147483648
def tlO (v : Nat → Int32) : List (cdT × cdT × cdT) → cdT → Option Int32
  | [], e => ev1 v e
  | (a, b, t) :: l, e => match ev1 v a, ev1 v b with
    | some x, some y => if y ≤ x then tlO v l e else ev1 v t
    | _, _ => none
def tl_ (L : aLw) (v : Nat → Int32) : Int32 := match tlO v L.1 L.2 with
  | some w => wi_ w (nI 0) (nI 99)
  | none => nI 0
/-- what a law tells; p: where there is none -/
def te_ (T : aTx) (k : Nat) (v : Nat → Int32) (p : Int32) : Int32 := match la_ T k with
  | some L => tl_ L v
  | none => p
/-- the nine numbers: of a guest in a sunday; of a sunday -/
def vg_ (T : aTx) (r : Nat → Int32) (g s : Nat) (o : Int32) (k : Nat) : Int32 := ([fe_ T g, hs_ T g, hr_ T g, r (7 + g), r (21 + s), wo_ T s, r 29, nI g, o] : List Int32).getD k 0
def vs_ (T : aTx) (r : Nat → Int32) (s : Nat) (k : Nat) : Int32 := ([nI 0, hT_ T r (nI s), nI 0, nI 0, r (21 + s), wo_ T s, r 29, nI s, bc_ (nI (gB_ T r (nI s)))] : List Int32).getD k 0
def pA_ (T : aTx) (r : Nat → Int32) (g s : Nat) (o : Int32) : Int32 := te_ T 0 (vg_ T r g s o) (fe_ T g)
def rA_ (T : aTx) (r : Nat → Int32) (g s : Nat) (o : Int32) : Int32 := te_ T 1 (vg_ T r g s o) (hs_ T g)
def wO_ (T : aTx) (r : Nat → Int32) (s : Nat) : Int32 := if gB_ T r (nI s) = 0 then nI 0 else te_ T 2 (vs_ T r s) (nI 1)
def sO_ (T : aTx) (r : Nat → Int32) (s : Nat) : Int32 := te_ T 3 (vs_ T r s) (wo_ T s)
def ot_ (T : aTx) (r : Nat → Int32) (g : Nat) : Int32 := bc_ (nI (gB_ T r (r g))) - nI 1
def pO_ (T : aTx) (r : Nat → Int32) (g : Nat) : Int32 := if r g < 0 then nI 0 else pA_ T r g (r g).toNatClampNeg (ot_ T r g)
def rO_ (T : aTx) (r : Nat → Int32) (g : Nat) : Int32 := if r g < 0 then nI 0 else rA_ T r g (r g).toNatClampNeg (ot_ T r g)
def due_ (T : aTx) (r : Nat → Int32) : Int32 := itn (ng_ T) (fun g a => a + pO_ T r g) (nI 0)
/-! a week -/
def mix_ (h v : Int32) : Int32 := ((h ^^^ v) * nI 1103515245 + nI 12345) ^^^ ush_ ((h ^^^ v) * nI 1103515245 + nI 12345) (nI 15)
def rem_ (x y : Int32) : Int32 := x - x / y * y
def lot_ (seed w : Int32) : Int32 := rem_ (ush_ (mix_ (mix_ seed (nI 165)) w) (nI 1)) (nI 100)
def rs_ (T : aTx) (r : Nat → Int32) (g : Nat) : Int32 := if 0 ≤ r g then wi_ (r (7 + g) + rO_ T r g) (nI 0) (nI 999) else if r (14 + g) = 0 then wi_ (r (7 + g) - nI 1) (nI 0) (nI 999) else r (7 + g)
def dies_ (T : aTx) (r : Nat → Int32) (seed : Int32) (g : Nat) : Bool := decide (0 ≤ r g) && decide (de_ T ≤ rs_ T r g) && decide (lot_ seed (nI 8 * r 29 + nI g) < rs_ T r g - de_ T + nI 10)
/-- still: nobody dies -/
def wk_ (T : aTx) (still : Bool) (seed : Int32) (r : Nat → Int32) (k : Nat) : Int32 :=
  if k < 7 then (if k < ng_ T ∧ still = false ∧ dies_ T r seed k = true then -2 else r k)
  else if k < 14 then (if k - 7 < ng_ T then rs_ T r (k - 7) else r k)
  else if k < 21 then (if k - 14 < ng_ T ∧ still = false ∧ dies_ T r seed (k - 14) = true then nI 1 else r k)
  else if k < 25 then (if k - 21 < ns_ T then wi_ (r k + wO_ T r (k - 21)) (nI 0) (nI 99) else r k)
  else if k = 29 then r 29 + nI 1
  else if k = 30 then r 30 + due_ T r
  else r k
def wks_ (T : aTx) (still : Bool) (seed : Int32) (n : Nat) (r : Nat → Int32) : Nat → Int32 := itn n (fun _ r => wk_ T still seed r) r
