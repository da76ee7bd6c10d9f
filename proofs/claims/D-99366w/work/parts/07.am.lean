set_option maxRecDepth 100000
/-! THE ABSTRACT MACHINE: a heap of functions, one act an instruction, runs by fuel, and their limit -/
/-- size and slots used; kind and length by address; references, ints, longs by address and field (or place) -/
abbrev aH : Type := (Nat × Nat) × (Nat → Nat × Nat) × (Nat → Nat → Option Nat) × (Nat → Nat → Int32) × (Nat → Nat → Int64)
def hz_ (h : aH) : Nat := h.1.1
def hu_ (h : aH) : Nat := h.1.2
def hk_ (h : aH) (a : Nat) : Nat × Nat := h.2.1 a
def hp_ (h : aH) (a f : Nat) : Option Nat := h.2.2.1 a f
def hi_ (h : aH) (a f : Nat) : Int32 := h.2.2.2.1 a f
def hl_ (h : aH) (a f : Nat) : Int64 := h.2.2.2.2 a f
def up2_ {α : Type} (m : Nat → Nat → α) (a f : Nat) (v : α) : Nat → Nat → α := fun x y => if x = a ∧ y = f then v else m x y
def si_ (h : aH) (a f : Nat) (v : Int32) : aH := (h.1, h.2.1, h.2.2.1, up2_ h.2.2.2.1 a f v, h.2.2.2.2)
def sp_ (h : aH) (a f : Nat) (v : Option Nat) : aH := (h.1, h.2.1, up2_ h.2.2.1 a f v, h.2.2.2)
def sl_ (h : aH) (a f : Nat) (v : Int64) : aH := (h.1, h.2.1, h.2.2.1, h.2.2.2.1, up2_ h.2.2.2.2 a f v)
/-- a new cell of kind κ, length n, of s slots -/
def nw_ (h : aH) (κ n s : Nat) : aH := ((hz_ h + 1, hu_ h + s), (fun a => if a = hz_ h then (κ, n) else hk_ h a), h.2.2)
/-- n ints copied -/
def cp_ (h : aH) (s sp d dp n : Nat) : aH := (h.1, h.2.1, h.2.2.1, (fun a f => if a = d ∧ dp ≤ f ∧ f < dp + n then hi_ h s (sp + (f - dp)) else hi_ h a f), h.2.2.2.2)
/-- an array of n arrays of k ints -/
def mw_ (h : aH) (n k : Nat) : aH := ((hz_ h + (1 + n), hu_ h + (n + n * k)), (fun a => if a = hz_ h then (115, n) else if hz_ h < a ∧ a ≤ hz_ h + n then (100, k) else hk_ h a),
  (fun a f => if a = hz_ h ∧ f < n then some (hz_ h + 1 + f) else hp_ h a f), h.2.2.2)
abbrev aU : Value := .retAddr 0
/-- what an instruction does: go on; call; end -/
abbrev aT : Type := Option ((Nat × List Value × List Value × aH) ⊕ ((Nat × List Value × Bool × List Value) ⊕ (Outcome × aH)))
abbrev aR : Type := Option (Outcome × aH)
def aGo (pc : Nat) (ls st : List Value) (h : aH) : aT := some (.inl (pc, ls, st, h))
def aJk (pc : Nat) (off : Int) (f : Nat → aT) : aT := match (pc : Int) + off with
  | .ofNat t => f t
  | .negSucc _ => none
def aJp (pc : Nat) (off : Int) (ls st : List Value) (h : aH) : aT := aJk pc off (fun t => aGo t ls st h)
def aWd : List Value → Nat
  | [] => 0
  | v :: l => v.category + aWd l
def aCl (μ : Nat) (as : List Value) (thr : Bool) (rest : List Value) : aT := bif Nat.ble (aWd rest) 8 then some (.inr (.inl (μ, as, thr, rest))) else none
def aDn (o : Outcome) (h : aH) : aT := some (.inr (.inr (o, h)))
def aVl (h : aH) (a g ty : Nat) : Value := match ty with
  | 1 => .long (hl_ h a g)
  | 2 => va_rf (hp_ h a g)
  | _ => .int (hi_ h a g)
def aPt (h : aH) (a g ty : Nat) (v : Value) : Option aH := match ty, v with
  | 0, .int x => some (si_ h a g x)
  | 1, .long x => some (sl_ h a g x)
  | 2, .ref b => some (sp_ h a g (some b))
  | 2, .null => some (sp_ h a g none)
  | 3, .int x => if x = 0 ∨ x = 1 then some (si_ h a g x) else none
  | 4, .int x => if x.toInt8.toInt32 = x then some (si_ h a g x) else none
  | _, _ => none
/-- a store of one slot, of a long -/
def aS1 (μ : Nat) (ls : List Value) (i : Nat) (v : Value) : Option (List Value) := bif Nat.blt i ls.length && !((aLg μ).any (fun j => Nat.beq j i)) then some (ls.set i v) else none
def aS2 (μ : Nat) (ls : List Value) (i : Nat) (v : Value) : Option (List Value) := bif Nat.blt (i + 1) ls.length && !((aLg μ).any (fun j => Nat.beq j i)) && (aLg μ).any (fun j => Nat.beq j (i + 1)) then some (ls.set i v) else none
def aPop : Nat → List Value → List Value → Option (List Value × List Value)
  | 0, as, st => some (as, st)
  | n + 1, as, v :: st => aPop n (v :: as) st
  | _ + 1, _, [] => none
def aAk : ArrayType → Option Nat
  | .int => some 100
  | .byte => some 101
  | .short => some 102
  | .boolean => some 103
  | .long => some 104
  | _ => none
/-- an instruction of length k -/
def aLn {α : Type} (n k : Nat) (x : Option α) : Option α := bif Nat.beq n k then x else none
def aI2 (f : Int32 → Int32 → Int32) (st : List Value) : Option (List Value) := match st with
  | .int y :: .int x :: r => some (.int (f x y) :: r)
  | _ => none
def aI1 (f : Int32 → Int32) (st : List Value) : Option (List Value) := match st with
  | .int x :: r => some (.int (f x) :: r)
  | _ => none
/-- acts on the operand stack alone -/
def aPure (μ : Nat) (i : Instr) (n : Nat) (st : List Value) : Option (List Value) :=
  match i with
  | .iconst c => aLn n 1 (some (.int (Int32.ofInt c) :: st))
  | .bipush c => aLn n 2 (some (.int (Int8.ofInt c).toInt32 :: st))
  | .sipush c => aLn n 3 (some (.int (Int16.ofInt c).toInt32 :: st))
  | .lconst c => aLn n 1 (some (.long (Int64.ofNat (c : Nat)) :: st))
  | .aconst_null => aLn n 1 (some (.null :: st))
  | .ldc j => aLn n 2 (match aCst (aCo μ) j with
    | some (.int x) => some (.int x :: st)
    | some (.ref a) => some (.ref a :: st)
    | _ => none)
  | .ldc2_w j => aLn n 3 (match aCst (aCo μ) j with
    | some (.long x) => some (.long x :: st)
    | _ => none)
  | .ldc_w j => aLn n 3 (match aCst (aCo μ) j with
    | some (.int x) => some (.int x :: st)
    | _ => none)
  | .getstatic j => aLn n 3 (match aSta (aCo μ) j with
    | some v => some (v :: st)
    | none => none)
  | .iadd => aLn n 1 (aI2 (fun x y => x + y) st)
  | .isub => aLn n 1 (aI2 (fun x y => x - y) st)
  | .imul => aLn n 1 (aI2 (fun x y => x * y) st)
  | .iand => aLn n 1 (aI2 (fun x y => x &&& y) st)
  | .ior => aLn n 1 (aI2 (fun x y => x ||| y) st)
  | .ixor => aLn n 1 (aI2 (fun x y => x ^^^ y) st)
  | .ishl => aLn n 1 (aI2 (fun x y => x <<< (y &&& 31)) st)
  | .ishr => aLn n 1 (aI2 (fun x y => x >>> (y &&& 31)) st)
  | .iushr => aLn n 1 (aI2 (fun x y => (x.toUInt32 >>> (y.toUInt32 &&& Int32.toUInt32 31)).toInt32) st)
  | .i2b => aLn n 1 (aI1 (fun x => x.toInt8.toInt32) st)
  | .i2s => aLn n 1 (aI1 (fun x => x.toInt16.toInt32) st)
  | .i2c => aLn n 1 (aI1 (fun x => (x.toUInt32 % 65536).toInt32) st)
  | .ineg => aLn n 1 (aI1 (fun x => -x) st)
  | .idiv => aLn n 1 (match st with
    | .int y :: .int x :: r => if y = 0 then none else some (.int (x / y) :: r)
    | _ => none)
  | .irem => aLn n 1 (match st with
    | .int y :: .int x :: r => if y = 0 then none else some (.int (x - x / y * y) :: r)
    | _ => none)
  | .ladd => aLn n 1 (match st with
    | .long y :: .long x :: r => some (.long (x + y) :: r)
    | _ => none)
  | .lmul => aLn n 1 (match st with
    | .long y :: .long x :: r => some (.long (x * y) :: r)
    | _ => none)
  | .lcmp => aLn n 1 (match st with
    | .long y :: .long x :: r => some (.int (lg_cmp x y) :: r)
    | _ => none)
  | .i2l => aLn n 1 (match st with
    | .int x :: r => some (.long x.toInt64 :: r)
    | _ => none)
  | .pop => aLn n 1 (match st with
    | .int _ :: r => some r
    | .ref _ :: r => some r
    | _ => none)
  | .dup => aLn n 1 (match st with
    | .int x :: r => some (.int x :: .int x :: r)
    | .ref x :: r => some (.ref x :: .ref x :: r)
    | _ => none)
  | .dup_x1 => aLn n 1 (match st with
    | .int x :: .ref y :: r => some (.int x :: .ref y :: .int x :: r)
    | .ref x :: .ref y :: r => some (.ref x :: .ref y :: .ref x :: r)
    | _ => none)
  | .dup2 => aLn n 1 (match st with
    | .int x :: .ref y :: r => some (.int x :: .ref y :: .int x :: .ref y :: r)
    | _ => none)
  | _ => none
def aLdI (pc : Nat) (ls st : List Value) (h : aH) (j : Nat) : aT := match ls[j]? with
  | some (.int x) => aGo pc ls (.int x :: st) h
  | _ => none
def aLdL (pc : Nat) (ls st : List Value) (h : aH) (j : Nat) : aT := match ls[j]? with
  | some (.long x) => aGo pc ls (.long x :: st) h
  | _ => none
def aLdA (pc : Nat) (ls st : List Value) (h : aH) (j : Nat) : aT := match ls[j]? with
  | some (.ref x) => aGo pc ls (.ref x :: st) h
  | some .null => aGo pc ls (.null :: st) h
  | _ => none
def aStI (μ pc : Nat) (ls st : List Value) (h : aH) (j : Nat) : aT := match st with
  | .int x :: r => (match aS1 μ ls j (.int x) with
    | some ls' => aGo pc ls' r h
    | none => none)
  | _ => none
def aStA (μ pc : Nat) (ls st : List Value) (h : aH) (j : Nat) : aT := match st with
  | .ref x :: r => (match aS1 μ ls j (.ref x) with
    | some ls' => aGo pc ls' r h
    | none => none)
  | _ => none
def aIf1 (c : Jvm.ClassFile.Cond) (pc : Nat) (off : Int) (ls st : List Value) (h : aH) : aT := match st with
  | .int x :: r => aJk pc off (fun t => match c with
    | .eq => if x = 0 then aGo t ls r h else aGo (pc + 3) ls r h
    | .ne => if x = 0 then aGo (pc + 3) ls r h else aGo t ls r h
    | .lt => if x < 0 then aGo t ls r h else aGo (pc + 3) ls r h
    | .ge => if 0 ≤ x then aGo t ls r h else aGo (pc + 3) ls r h
    | .gt => if 0 < x then aGo t ls r h else aGo (pc + 3) ls r h
    | .le => if x ≤ 0 then aGo t ls r h else aGo (pc + 3) ls r h)
  | _ => none
def aIf2 (c : Jvm.ClassFile.Cond) (pc : Nat) (off : Int) (ls st : List Value) (h : aH) : aT := match st with
  | .int y :: .int x :: r => aJk pc off (fun t => match c with
    | .eq => if x = y then aGo t ls r h else aGo (pc + 3) ls r h
    | .ne => if x = y then aGo (pc + 3) ls r h else aGo t ls r h
    | .lt => if x < y then aGo t ls r h else aGo (pc + 3) ls r h
    | .ge => if y ≤ x then aGo t ls r h else aGo (pc + 3) ls r h
    | .gt => if y < x then aGo t ls r h else aGo (pc + 3) ls r h
    | .le => if x ≤ y then aGo t ls r h else aGo (pc + 3) ls r h)
  | _ => none
def aRet (μ : Nat) (st : List Value) (h : aH) (i : Instr) : aT := match i with
  | .ireturn => (match st with
    | [.int x] => (match aRc μ with
      | 1 => aDn (.returned (some (.int x))) h
      | 2 => if x = 0 ∨ x = 1 then aDn (.returned (some (.int x))) h else none
      | 3 => if x.toInt8.toInt32 = x then aDn (.returned (some (.int x))) h else none
      | 7 => if (x.toUInt32 % 65536).toInt32 = x then aDn (.returned (some (.int x))) h else none
      | _ => none)
    | _ => none)
  | .lreturn => (match st with
    | [.long x] => bif Nat.beq (aRc μ) 4 then aDn (.returned (some (.long x))) h else none
    | _ => none)
  | .areturn => (match st with
    | [.ref x] => bif Nat.beq (aRc μ) 5 then aDn (.returned (some (.ref x))) h else none
    | [.null] => bif Nat.beq (aRc μ) 5 then aDn (.returned (some .null)) h else none
    | _ => none)
  | .return_ => (match st with
    | [] => bif Nat.beq (aRc μ) 0 then aDn (.returned none) h else none
    | _ => none)
  | .athrow => (match st with
    | .ref q :: _ => bif (aHd μ).isEmpty && Nat.ble 64 q then (if (hk_ h q).1 = 1 then aDn (.threw q) h else none) else none
    | _ => none)
  | _ => none
/-- acts of loads, stores, jumps, ends -/
def aFlow (μ pc : Nat) (ls st : List Value) (h : aH) (i : Instr) (n : Nat) : aT :=
  match i with
  | .iload_n j => aLn n 1 (aLdI (pc + 1) ls st h j)
  | .iload j => aLn n 2 (aLdI (pc + 2) ls st h j)
  | .lload_n j => aLn n 1 (aLdL (pc + 1) ls st h j)
  | .lload j => aLn n 2 (aLdL (pc + 2) ls st h j)
  | .aload_n j => aLn n 1 (aLdA (pc + 1) ls st h j)
  | .aload j => aLn n 2 (aLdA (pc + 2) ls st h j)
  | .istore_n j => aLn n 1 (aStI μ (pc + 1) ls st h j)
  | .istore j => aLn n 2 (aStI μ (pc + 2) ls st h j)
  | .astore_n j => aLn n 1 (aStA μ (pc + 1) ls st h j)
  | .astore j => aLn n 2 (aStA μ (pc + 2) ls st h j)
  | .lstore j => aLn n 2 (match st with
    | .long x :: r => (match aS2 μ ls j (.long x) with
      | some ls' => aGo (pc + 2) ls' r h
      | none => none)
    | _ => none)
  | .iinc j c => aLn n 3 (match ls[j]? with
    | some (.int x) => (match aS1 μ ls j (.int (x + Int32.ofInt c)) with
      | some ls' => aGo (pc + 3) ls' st h
      | none => none)
    | _ => none)
  | .goto off => aLn n 3 (aJp pc off ls st h)
  | .ifCond c off => aLn n 3 (aIf1 c pc off ls st h)
  | .if_icmp c off => aLn n 3 (aIf2 c pc off ls st h)
  | .if_acmp c off => aLn n 3 (match st with
    | .ref y :: .ref x :: r => aJk pc off (fun t => match c with
      | .eq => if x = y then aGo t ls r h else if 64 ≤ x ∨ 64 ≤ y then aGo (pc + 3) ls r h else none
      | .ne => if x = y then aGo (pc + 3) ls r h else if 64 ≤ x ∨ 64 ≤ y then aGo t ls r h else none)
    | _ => none)
  | .ifnonnull off => aLn n 3 (match st with
    | .null :: r => aGo (pc + 3) ls r h
    | .ref a :: r => if 64 ≤ a then aJp pc off ls r h else none
    | _ => none)
  | .tableswitch df lo up offs => (match st with
    | .int x :: r => if x.toInt < lo ∨ up < x.toInt then aJp pc df ls r h else (match offs[(x.toInt - lo).toNat]? with
      | some off => aJp pc off ls r h
      | none => none)
    | _ => none)
  | i => aLn n 1 (aRet μ st h i)
def aGf (h : aH) (a : Nat) (e : Option (Nat × Nat × Nat)) : Option Value := match e with
  | some (g, ty, _) => if aHas (hk_ h a).1 g = true then some (aVl h a g ty) else none
  | none => none
def aPf (μ : Nat) (h : aH) (a : Nat) (v : Value) (e : Option (Nat × Nat × Nat)) : Option aH := match e with
  | some (g, ty, fin) => bif Nat.beq fin 0 || (Nat.beq fin 1 && aIn μ) then (if aHas (hk_ h a).1 g = true ∧ 64 ≤ a then aPt h a g ty v else none) else none
  | none => none
/-- a place of an array of a kind -/
def aPl (h : aH) (a : Nat) (κ : Nat) (j : Int32) : Prop := (hk_ h a).1 = κ ∧ ¬ (j < 0 ∨ (hk_ h a).2 ≤ j.toNatClampNeg)
def aPlD (h : aH) (a : Nat) (κ : Nat) (j : Int32) : Decidable (aPl h a κ j) := inferInstanceAs (Decidable ((hk_ h a).1 = κ ∧ ¬ (j < 0 ∨ (hk_ h a).2 ≤ j.toNatClampNeg)))
def aPi {α : Type} (h : aH) (a : Nat) (κ : Nat) (j : Int32) (x y : α) : α := @ite α (aPl h a κ j) (aPlD h a κ j) x y
/-- what an array load answers -/
def aAld (h : aH) (a : Nat) (j : Int32) (i : Instr) : Option Value := match i with
  | .iaload => aPi h a 100 j (some (.int (hi_ h a j.toNatClampNeg))) none
  | .baload => aPi h a 101 j (some (.int (hi_ h a j.toNatClampNeg))) (aPi h a 103 j (some (.int (hi_ h a j.toNatClampNeg))) none)
  | .saload => aPi h a 102 j (some (.int (hi_ h a j.toNatClampNeg))) none
  | .laload => aPi h a 104 j (some (.long (hl_ h a j.toNatClampNeg))) none
  | .aaload => if 110 ≤ (hk_ h a).1 then aPi h a (hk_ h a).1 j (some (va_rf (hp_ h a j.toNatClampNeg))) none else none
  | _ => none
/-- what an array store leaves -/
def aAst (h : aH) (a : Nat) (j : Int32) (v : Value) (i : Instr) : Option aH := if 64 ≤ a then (match i, v with
  | .iastore, .int x => aPi h a 100 j (some (si_ h a j.toNatClampNeg x)) none
  | .bastore, .int x => aPi h a 101 j (some (si_ h a j.toNatClampNeg x.toInt8.toInt32)) (aPi h a 103 j (if x = 0 ∨ x = 1 then some (si_ h a j.toNatClampNeg x) else none) none)
  | .sastore, .int x => aPi h a 102 j (some (si_ h a j.toNatClampNeg x.toInt16.toInt32)) none
  | .lastore, .long x => aPi h a 104 j (some (sl_ h a j.toNatClampNeg x)) none
  | .aastore, .ref b => if aSto (hk_ h a).1 (hk_ h b).1 = true then aPi h a (hk_ h a).1 j (some (sp_ h a j.toNatClampNeg (some b))) none else none
  | _, _ => none) else none
def aSz (m : Int32) : Prop := ¬ m < 0 ∧ m.toNatClampNeg ≤ 1000000
def aSzD (m : Int32) : Decidable (aSz m) := inferInstanceAs (Decidable (¬ m < 0 ∧ m.toNatClampNeg ≤ 1000000))
def aSi {α : Type} (m : Int32) (x y : α) : α := @ite α (aSz m) (aSzD m) x y
/-- loads and stores of arrays -/
def aRst (pc : Nat) (ls st : List Value) (h : aH) (i : Instr) : aT := match st with
  | .int j :: .ref a :: r => (match aAld h a j i with
    | some v => aGo (pc + 1) ls (v :: r) h
    | none => none)
  | v :: .int j :: .ref a :: r => (match aAst h a j v i with
    | some h' => aGo (pc + 1) ls r h'
    | none => none)
  | _ => none
/-- acts on the heap -/
def aMem (μ pc : Nat) (ls st : List Value) (h : aH) (i : Instr) (n : Nat) : aT :=
  match i with
  | .getfield j => aLn n 3 (match st with
    | .ref a :: r => (match aGf h a (aFld (aCo μ) j) with
      | some v => aGo (pc + 3) ls (v :: r) h
      | none => none)
    | _ => none)
  | .putfield j => aLn n 3 (match st with
    | v :: .ref a :: r => (match aPf μ h a v (aFld (aCo μ) j) with
      | some h' => aGo (pc + 3) ls r h'
      | none => none)
    | _ => none)
  | .arraylength => aLn n 1 (match st with
    | .ref a :: r => if 100 ≤ (hk_ h a).1 then aGo (pc + 1) ls (.int (nI (hk_ h a).2) :: r) h else none
    | _ => none)
  | .new j => aLn n 3 (match aNew (aCo μ) j with
    | some κ => aGo (pc + 3) ls (.ref (hz_ h) :: st) (nw_ h κ 0 (aSlL.getD κ 0))
    | none => none)
  | .newarray t => aLn n 2 (match st with
    | .int m :: r => (match aAk t with
      | some κ => aSi m (aGo (pc + 2) ls (.ref (hz_ h) :: r) (nw_ h κ m.toNatClampNeg m.toNatClampNeg)) none
      | none => none)
    | _ => none)
  | .anewarray j => aLn n 3 (match st with
    | .int m :: r => (match aArr (aCo μ) j with
      | some κ => bif Nat.beq κ 115 then none else aSi m (aGo (pc + 3) ls (.ref (hz_ h) :: r) (nw_ h κ m.toNatClampNeg m.toNatClampNeg)) none
      | none => none)
    | _ => none)
  | .multianewarray j dims => aLn n 4 (match st with
    | .int k :: .int m :: r => (match aArr (aCo μ) j with
      | some κ => bif Nat.beq κ 115 && Nat.beq dims 2 then aSi m (aSi k (aGo (pc + 4) ls (.ref (hz_ h) :: r) (mw_ h m.toNatClampNeg k.toNatClampNeg)) none) none else none
      | none => none)
    | _ => none)
  | .checkcast j => aLn n 3 (match st with
    | .ref a :: r => (match aCas (aCo μ) j with
      | some l => if (hk_ h a).1 ∈ l then aGo (pc + 3) ls (.ref a :: r) h else none
      | none => none)
    | _ => none)
  | .instanceof j => aLn n 3 (match st with
    | .ref a :: r => (match aCas (aCo μ) j with
      | some l => if (hk_ h a).1 ∈ l then aGo (pc + 3) ls (.int 1 :: r) h else none
      | none => none)
    | _ => none)
  | i => aLn n 1 (aRst pc ls st h i)
/-- arguments on the stack -/
def aCpy (pc : Nat) (ls st : List Value) (h : aH) : aT := match st with
  | .int m :: .int dp :: .ref d :: .int sp :: .ref s :: r =>
    if 64 ≤ d ∧ s ≠ d ∧ (hk_ h s).1 = (hk_ h d).1 ∧ ((hk_ h d).1 = 100 ∨ ((hk_ h d).1 = 101 ∧ ∀ i, i < m.toNatClampNeg → (hi_ h s (sp.toNatClampNeg + i)).toInt8.toInt32 = hi_ h s (sp.toNatClampNeg + i))) ∧ ¬ m < 0 ∧ ¬ dp < 0 ∧ ¬ sp < 0 ∧ sp.toNatClampNeg + m.toNatClampNeg ≤ (hk_ h s).2 ∧ dp.toNatClampNeg + m.toNatClampNeg ≤ (hk_ h d).2 ∧ r.length ≤ 2
      then aGo (pc + 3) ls r (cp_ h s sp.toNatClampNeg d dp.toNatClampNeg m.toNatClampNeg) else none
  | _ => none
def aMx (pc : Nat) (ls st : List Value) (h : aH) (f : Int32 → Int32 → Int32) : aT := match st with
  | .int y :: .int x :: r => bif Nat.ble (aWd r) 8 then aGo (pc + 3) ls (.int (f x y) :: r) h else none
  | _ => none
def aOi (pc : Nat) (ls st : List Value) (h : aH) : aT := match st with
  | .ref a :: r => if (hk_ h a).1 < 98 then (bif Nat.ble (aWd r) 8 then aGo (pc + 3) ls r h else none) else none
  | _ => none
def max_ (x y : Int32) : Int32 := if x < y then y else x
def min_ (x y : Int32) : Int32 := if y < x then y else x
def aStat (pc : Nat) (ls st : List Value) (h : aH) (e : Nat × Nat × List (Nat × Nat)) : aT := match e with
  | (md, m, [(_, ν)]) => bif Nat.beq md 0 || Nat.beq md 3 then (match aPop m [] st with
    | some (as, rest) => aCl ν as false rest
    | none => none) else none
  | (md, _, []) => bif Nat.beq md 6 then aCpy pc ls st h else (bif Nat.beq md 10 then aMx pc ls st h max_ else (bif Nat.beq md 11 then aMx pc ls st h min_ else none))
  | _ => none
def aSpec (pc : Nat) (ls st : List Value) (h : aH) (e : Nat × Nat × List (Nat × Nat)) : aT := match e with
  | (md, _, []) => bif Nat.beq md 9 then aOi pc ls st h else none
  | (md, m, [(κ, ν)]) => (match aPop m [] st with
    | some (as, .ref a :: rest) => bif Nat.beq md 1 || Nat.beq md 2 then (if (hk_ h a).1 < 98 then aCl ν (.ref a :: as) false rest else none) else (bif Nat.beq md 7 then (if (hk_ h a).1 = κ then aCl ν (.ref a :: as) false rest else none) else none)
    | _ => none)
  | _ => none
def aVirt (st : List Value) (h : aH) (e : Nat × Nat × List (Nat × Nat)) : aT := match e with
  | (md, m, tg) => (match aPop m [] st with
    | some (as, .ref a :: rest) => (match aLk (hk_ h a).1 tg with
      | some ν => bif Nat.beq md 4 then aCl ν (.ref a :: as) (!Nat.beq ν 4) rest else (bif Nat.beq md 5 || Nat.beq md 8 then aCl ν (.ref a :: as) false rest else none)
      | none => none)
    | _ => none)
/-- calls -/
def aCalls (μ pc : Nat) (ls st : List Value) (h : aH) (i : Instr) (n : Nat) : aT :=
  match i with
  | .invokestatic j => aLn n 3 (match aInv (aCo μ) j with
    | some e => aStat pc ls st h e
    | none => none)
  | .invokespecial j => aLn n 3 (match aInv (aCo μ) j with
    | some e => aSpec pc ls st h e
    | none => none)
  | .invokevirtual j => aLn n 3 (match aInv (aCo μ) j with
    | some e => aVirt st h e
    | none => none)
  | _ => none
def aAct (μ pc : Nat) (ls st : List Value) (h : aH) (i : Instr) (n : Nat) : aT :=
  match aPure μ i n st with
  | some st' => aGo (pc + n) ls st' h
  | none => match aFlow μ pc ls st h i n with
    | some r => some r
    | none => match aMem μ pc ls st h i n with
      | some r => some r
      | none => aCalls μ pc ls st h i n
/-- a callee's locals: a value a slot, a long two -/
def aSl : List Value → List Value
  | [] => []
  | .long x :: l => .long x :: aU :: aSl l
  | v :: l => v :: aSl l
def aEnt (μ : Nat) (as : List Value) : List Value := aSl as ++ List.replicate (aML μ - (aSl as).length) aU
/-- longs lie where the method has its longs -/
def aEk (g : List Nat) : Nat → List Value → Bool
  | _, [] => true
  | i, v :: l => (match v with
    | .long _ => g.any (fun j => Nat.beq j (i + 1))
    | .double _ => false
    | _ => true) && (match v with
    | .retAddr _ => true
    | _ => !(g.any (fun j => Nat.beq j i))) && aEk g (i + 1) l
/-- methods that the machine runs by itself -/
def aPn (ν : Nat) : Bool := Nat.beq ν 341 || Nat.beq ν 328 || Nat.beq ν 329
def aEn (ν : Nat) (as : List Value) : Bool := Nat.ble (aSl as).length (aML ν) && aEk (aLg ν) 0 (aEnt ν as) && Nat.blt ν 343 && !(aPn ν)
/-- where a thing thrown over pc is caught -/
def aCatch (μ pc : Nat) : Option Nat := match (aHd μ).find? (fun x => Nat.ble x.1 pc && Nat.blt pc x.2.1) with
  | some x => some x.2.2.1
  | none => none
/-- a run by fuel; d: how many frames more -/
def aEx : Nat → Nat → Nat → Nat → List Value → List Value → aH → aR
  | 0, _, _, _, _, _, _ => none
  | f + 1, d, μ, pc, ls, st, h => match decode (aCode μ) pc with
    | .error _ => none
    | .ok (i, n) => match aAct μ pc ls st h i n with
      | none => none
      | some (.inl (pc', ls', st', h')) => aEx f d μ pc' ls' st' h'
      | some (.inr (.inr r)) => some r
      | some (.inr (.inl (ν, as, thr, rest))) => match d with
        | 0 => none
        | d' + 1 => bif aEn ν as then (match aEx f d' ν 0 (aEnt ν as) [] h with
          | none => none
          | some (.returned v, h') => aEx f (d' + 1) μ (pc + 3) ls (v.toList ++ rest) h'
          | some (.threw q, h') => bif thr then (match aCatch μ pc with
            | some t => aEx f (d' + 1) μ t ls [.ref q] h'
            | none => some (.threw q, h')) else none) else none
theorem aEx_mono : ∀ (f d μ pc : Nat) (ls st : List Value) (h : aH) (r : Outcome × aH), aEx f d μ pc ls st h = some r → aEx (f + 1) d μ pc ls st h = some r := by
  intro f
  induction f with
  | zero => intro d μ pc ls st h r hr; simp [aEx] at hr
  | succ f ih =>
    intro d μ pc ls st h r hr
    rw [aEx] at hr ⊢
    cases hd : decode (aCode μ) pc with
    | error e => rw [hd] at hr; simp at hr
    | ok v =>
      obtain ⟨i, n⟩ := v
      rw [hd] at hr
      dsimp only at hr ⊢
      cases ha : aAct μ pc ls st h i n with
      | none => rw [ha] at hr; simp at hr
      | some t =>
        rw [ha] at hr
        match t, hr with
        | .inl (pc', ls', st', h'), hr => exact ih _ _ _ _ _ _ _ hr
        | .inr (.inr r'), hr => exact hr
        | .inr (.inl (ν, as, thr, rest)), hr =>
          dsimp only at hr ⊢
          cases d with
          | zero => simp at hr
          | succ d' =>
            dsimp only at hr ⊢
            cases hb : aEn ν as with
            | false => rw [hb] at hr; simp at hr
            | true =>
              rw [hb] at hr
              simp only [cond_true] at hr ⊢
              cases hc : aEx f d' ν 0 (aEnt ν as) [] h with
              | none => rw [hc] at hr; simp at hr
              | some rc =>
                rw [hc] at hr
                rw [ih _ _ _ _ _ _ _ hc]
                obtain ⟨o, h'⟩ := rc
                cases o with
                | returned v => exact ih _ _ _ _ _ _ _ hr
                | threw q =>
                  dsimp only at hr ⊢
                  cases thr with
                  | false => exact hr
                  | true =>
                    simp only [cond_true] at hr ⊢
                    cases hcc : aCatch μ pc with
                    | none => rw [hcc] at hr; exact hr
                    | some t => rw [hcc] at hr; exact ih _ _ _ _ _ _ _ hr
theorem aEx_le {f f' d μ pc : Nat} {ls st : List Value} {h : aH} {r : Outcome × aH} (hf : f ≤ f') (hr : aEx f d μ pc ls st h = some r) : aEx f' d μ pc ls st h = some r := by
  induction hf with
  | refl => exact hr
  | step _ ih => exact aEx_mono _ _ _ _ _ _ _ _ ih
/-- the limit of the runs -/
noncomputable def run (d μ pc : Nat) (ls st : List Value) (h : aH) : aR := @dite _ (∃ f r, aEx f d μ pc ls st h = some r) (Classical.propDecidable _) (fun e => aEx e.choose d μ pc ls st h) (fun _ => none)
theorem run_iff {d μ pc : Nat} {ls st : List Value} {h : aH} {r : Outcome × aH} : run d μ pc ls st h = some r ↔ ∃ f, aEx f d μ pc ls st h = some r := by
  unfold run
  split
  · rename_i e
    obtain ⟨r', hr'⟩ := e.choose_spec
    constructor
    · intro hr; exact ⟨_, hr⟩
    · rintro ⟨f, hf⟩
      have h1 := aEx_le (Nat.le_max_left e.choose f) hr'
      have h2 := aEx_le (Nat.le_max_right e.choose f) hf
      rw [hr']
      exact h1.symm.trans h2
  · rename_i e
    constructor
    · intro hr; cases hr
    · rintro ⟨f, hf⟩; exact absurd ⟨f, r, hf⟩ e
/-- what comes back from a callee -/
noncomputable def aBk (d μ pc : Nat) (ls rest : List Value) (thr : Bool) (x : aR) : aR := match x with
  | none => none
  | some (.returned v, h') => run d μ (pc + 3) ls (v.toList ++ rest) h'
  | some (.threw q, h') => bif thr then (match aCatch μ pc with
    | some t => run d μ t ls [.ref q] h'
    | none => some (.threw q, h')) else none
/-- an act's run -/
noncomputable def aDo (d μ pc : Nat) (ls : List Value) (h : aH) (t : aT) : aR := match t with
  | none => none
  | some (.inl (pc', ls', st', h')) => run d μ pc' ls' st' h'
  | some (.inr (.inr r)) => some r
  | some (.inr (.inl (ν, as, thr, rest))) => match d with
    | 0 => none
    | d' + 1 => bif aEn ν as then aBk (d' + 1) μ pc ls rest thr (run d' ν 0 (aEnt ν as) [] h) else none
theorem opt_ext {α : Type} {x y : Option α} (h : ∀ r, x = some r ↔ y = some r) : x = y := by
  cases x with
  | none => cases y with
    | none => rfl
    | some b => exact absurd ((h b).mpr rfl) (by simp)
  | some a => exact ((h a).mp rfl).symm
theorem run_act {d μ pc : Nat} {ls st : List Value} {h : aH} {i : Instr} {n : Nat} (hd : decode (aCode μ) pc = .ok (i, n)) : run d μ pc ls st h = aDo d μ pc ls h (aAct μ pc ls st h i n) := by
  apply opt_ext
  intro r
  rw [run_iff]
  constructor
  · rintro ⟨f, hf⟩
    cases f with
    | zero => simp [aEx] at hf
    | succ f =>
      rw [aEx, hd] at hf
      dsimp only at hf
      unfold aDo
      cases ha : aAct μ pc ls st h i n with
      | none => rw [ha] at hf; simp at hf
      | some t =>
        rw [ha] at hf
        match t, hf with
        | .inl (pc', ls', st', h'), hf => exact run_iff.mpr ⟨f, hf⟩
        | .inr (.inr r'), hf => exact hf
        | .inr (.inl (ν, as, thr, rest)), hf =>
          dsimp only at hf ⊢
          cases d with
          | zero => simp at hf
          | succ d' =>
            dsimp only at hf ⊢
            cases hb : aEn ν as with
            | false => rw [hb] at hf; simp at hf
            | true =>
              rw [hb] at hf
              simp only [cond_true] at hf ⊢
              cases hc : aEx f d' ν 0 (aEnt ν as) [] h with
              | none => rw [hc] at hf; simp at hf
              | some rc =>
                rw [hc] at hf
                rw [run_iff.mpr ⟨f, hc⟩]
                obtain ⟨o, h'⟩ := rc
                unfold aBk
                cases o with
                | returned v => exact run_iff.mpr ⟨f, hf⟩
                | threw q =>
                  dsimp only at hf ⊢
                  cases thr with
                  | false => exact hf
                  | true =>
                    simp only [cond_true] at hf ⊢
                    cases hcc : aCatch μ pc with
                    | none => rw [hcc] at hf; exact hf
                    | some t => rw [hcc] at hf; exact run_iff.mpr ⟨f, hf⟩
  · intro hr
    unfold aDo at hr
    cases ha : aAct μ pc ls st h i n with
    | none => rw [ha] at hr; simp at hr
    | some t =>
      rw [ha] at hr
      match t, hr, ha with
      | .inl (pc', ls', st', h'), hr, ha =>
        obtain ⟨f, hf⟩ := run_iff.mp hr
        exact ⟨f + 1, by rw [aEx, hd]; dsimp only; rw [ha]; exact hf⟩
      | .inr (.inr r'), hr, ha => exact ⟨1, by rw [aEx, hd]; dsimp only; rw [ha]; exact hr⟩
      | .inr (.inl (ν, as, thr, rest)), hr, ha =>
        dsimp only at hr
        cases d with
        | zero => simp at hr
        | succ d' =>
          dsimp only at hr
          cases hb : aEn ν as with
          | false => rw [hb] at hr; simp at hr
          | true =>
            rw [hb] at hr
            simp only [cond_true] at hr
            cases hc : run d' ν 0 (aEnt ν as) [] h with
            | none => rw [hc] at hr; simp [aBk] at hr
            | some rc =>
              rw [hc] at hr
              obtain ⟨f1, hf1⟩ := run_iff.mp hc
              obtain ⟨o, h'⟩ := rc
              unfold aBk at hr
              cases o with
              | returned v =>
                obtain ⟨f2, hf2⟩ := run_iff.mp hr
                refine ⟨max f1 f2 + 1, ?_⟩
                rw [aEx, hd]
                dsimp only
                rw [ha]
                dsimp only
                rw [hb, aEx_le (Nat.le_max_left f1 f2) hf1]
                exact aEx_le (Nat.le_max_right f1 f2) hf2
              | threw q =>
                dsimp only at hr
                cases thr with
                | false => simp at hr
                | true =>
                  simp only [cond_true] at hr
                  cases hcc : aCatch μ pc with
                  | none =>
                    rw [hcc] at hr
                    refine ⟨f1 + 1, ?_⟩
                    rw [aEx, hd]
                    dsimp only
                    rw [ha]
                    dsimp only
                    rw [hb, hf1]
                    simp only [cond_true]
                    rw [hcc]
                    exact hr
                  | some t =>
                    rw [hcc] at hr
                    obtain ⟨f2, hf2⟩ := run_iff.mp hr
                    refine ⟨max f1 f2 + 1, ?_⟩
                    rw [aEx, hd]
                    dsimp only
                    rw [ha]
                    dsimp only
                    rw [hb, aEx_le (Nat.le_max_left f1 f2) hf1]
                    simp only [cond_true]
                    rw [hcc]
                    exact aEx_le (Nat.le_max_right f1 f2) hf2
