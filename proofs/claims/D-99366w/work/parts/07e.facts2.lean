set_option maxRecDepth 100000
/-! words that ride beside the list, and facts of calls, classes, constants (by program) -/
def aNst : List (String × Nat × MethodName × String) := [("LentSundays", 23, ⟨"LentSundays$Tokens", "<init>", "()V"⟩, "LentSundays"), ("LentSundays", 39, ⟨"LentSundays$Text", "<init>", "()V"⟩, "LentSundays"), ("LentSundays", 50, ⟨"LentSundays$House", "<init>", "()V"⟩, "LentSundays"), ("LentSundays$House", 29, ⟨"LentSundays$Asked", "<init>", "()V"⟩, "LentSundays"), ("LentSundays", 67, ⟨"LentSundays$Drawn", "<init>", "()V"⟩, "LentSundays"), ("LentSundays$Drawn", 1, ⟨"LentSundays$Fate", "<init>", "()V"⟩, "LentSundays"), ("LentSundays", 74, ⟨"LentSundays$Spared", "<init>", "()V"⟩, "LentSundays"), ("LentSundays$Spared", 1, ⟨"LentSundays$Fate", "<init>", "()V"⟩, "LentSundays"), ("LentSundays$Parser", 98, ⟨"LentSundays$Text", "<init>", "()V"⟩, "LentSundays"), ("LentSundays$Parser", 186, ⟨"LentSundays$Law", "<init>", "()V"⟩, "LentSundays"), ("LentSundays$Number", 1, ⟨"LentSundays$Sum", "<init>", "()V"⟩, "LentSundays"), ("LentSundays$Var", 1, ⟨"LentSundays$Sum", "<init>", "()V"⟩, "LentSundays"), ("LentSundays$Joined", 1, ⟨"LentSundays$Sum", "<init>", "()V"⟩, "LentSundays"), ("LentSundays$Drawn", 16, ⟨"LentSundays", "lot", "(III)I"⟩, "LentSundays")]
def aCsl : List (String × String) := [("LentSundays$Guest", "LentSundays$Named"), ("LentSundays$Sunday", "LentSundays$Named"), ("LentSundays$Number", "LentSundays$Sum"), ("LentSundays$Var", "LentSundays$Sum"), ("LentSundays$Joined", "LentSundays$Sum"), ("LentSundays$Sunday", "java/lang/Object"), ("LentSundays$Guest", "java/lang/Object"), ("LentSundays$Fault", "LentSundays$Fault")]
def aDcl : List MethodName := [⟨"LentSundays$Sum", "of", "(LLentSundays$Asked;)I"⟩, ⟨"LentSundays$Fate", "dies", "(LLentSundays$House;LLentSundays$Text;I)Z"⟩]
def aAol : List FieldType := [.object "java/lang/String", .object "LentSundays$Sum", .object "LentSundays$Law", .object "LentSundays$House", .object "java/lang/Object", .array .int]
def aPvl : List MethodName := [⟨"java/lang/AbstractStringBuilder", "ensureCapacityInternal", "(I)V"⟩, ⟨"java/lang/AbstractStringBuilder", "newCapacity", "(I)I"⟩, ⟨"java/lang/AbstractStringBuilder", "inflate", "()V"⟩]
theorem arrayOver_moved {ty : FieldType} {u U : State} (hvm : u.vm.Alike U.vm) (h : (Cond.arrayOver ty).before #[] u = true) : (Cond.arrayOver ty).before #[] U = true := by
  have h1 : (Cond.arrayOver ty).before #[] (u.setVm U.vm) = true := by rw [Cond.arrayOver_setVmC hvm]; exact h
  exact h1
/-- a private method of a superclass is selected -/
theorem selects_priv {C : String} {x0 y : MethodName} {s : State} {args : Array Value} (h0 : (Cond.selects C x0 x0).before args s = true) (hc : x0.cls = y.cls) (hy : y.cls ≠ "java/lang/invoke/MethodHandle" ∧ y.cls ≠ "java/lang/invoke/VarHandle")
    (hpriv : (Cond.privateMethod y).before args s = true) (hinst : (Cond.instanceMethod y).before args s = true) : (Cond.selects C y y).before args s = true := by
  obtain ⟨mk, methM, hnamed, hmethM, -, -⟩ := Cond.instanceMethod_spec hinst
  have hfound : s.methodFound? y.cls y.name y.desc = some mk := State.methodFound?_of_named hnamed hy
  simp only [Cond.before, Cond.holds, Cond.value] at h0
  cases h1 : s.vm.findClass C with
  | none => rw [h1] at h0; simp at h0
  | some c =>
    have hsel : selectMethod {} s.vm c mk = .method mk := selectMethod_private hmethM (Cond.privateMethod_at hpriv mk methM hnamed hmethM)
    have hif : ((s.vm.classes[mk.cls]?).any (!·.isInterface)) = true := by
      rw [h1] at h0
      cases h2 : s.methodFound? x0.cls x0.name x0.desc with
      | none => rw [h2] at h0; simp at h0
      | some r =>
        cases h3 : s.methodNamed? x0 with
        | none => rw [h2, h3] at h0; simp at h0
        | some m0 =>
          rw [h2, h3] at h0
          dsimp only at h0
          have hcls : m0.cls = mk.cls := Option.some.inj ((findClass_of_methodNamed h3).symm.trans ((congrArg s.vm.findClass hc).trans (findClass_of_methodNamed hnamed)))
          rw [← hcls]
          cases h4 : selectMethod {} s.vm c r with
          | method m' => rw [h4] at h0; simp at h0; simpa using h0.2
          | _ => rw [h4] at h0; simp at h0
    simp only [Cond.before, Cond.holds, Cond.value, h1, hfound, hnamed, hsel]
    simpa using hif
/-- the words that ride beside -/
def aAX (s : State) : Prop := (∀ q ∈ aNst, va_Nw (.methodLinkNest q.1 q.2.1 q.2.2.1 q.2.2.2) s) ∧ (∀ q ∈ aCsl, va_Nw (.castable q.1 q.2) s) ∧ (∀ y ∈ aDcl, va_Nw (.declares y) s) ∧ (∀ t ∈ aAol, (Cond.arrayOver t).before #[] s = true) ∧ (∀ y ∈ aPvl, va_Nw (.selects "java/lang/StringBuilder" y y) s)
theorem aAX.warm {s U : State} (hW : s.WarmedH U.vm) (h : aAX s) : aAX U := by
  obtain ⟨h1, h2, h3, h4, h5⟩ := h
  refine ⟨fun q hq => va_Nw.warmM hW (h1 q hq), fun q hq => va_Nw.warmC hW (h2 q hq), fun y hy => va_Nw.warmD hW (h3 y hy), fun t ht => arrayOver_moved hW.alike (h4 t ht), fun y hy => ?_⟩
  exact word_at hW (Or.inl rfl) (h5 y hy)
theorem aAX_start {s : State} {args : Array Value} (ht : ∀ w ∈ lw_tbl, w.before args s = true) : aAX s := by
  have ha : ∀ w ∈ lw_all, w.before args s = true := fun w h => ht w (lw_all_tbl h)
  refine ⟨List.forall_mem_cons.mpr ⟨va_Nw.of rfl (ht _ q249), List.forall_mem_cons.mpr ⟨va_Nw.of rfl (ht _ q337), List.forall_mem_cons.mpr ⟨va_Nw.of rfl (ht _ q404), List.forall_mem_cons.mpr ⟨va_Nw.of rfl (ht _ q410), List.forall_mem_cons.mpr ⟨va_Nw.of rfl (ht _ q473), List.forall_mem_cons.mpr ⟨va_Nw.of rfl (ht _ q476), List.forall_mem_cons.mpr ⟨va_Nw.of rfl (ht _ q483), List.forall_mem_cons.mpr ⟨va_Nw.of rfl (ht _ q486), List.forall_mem_cons.mpr ⟨va_Nw.of rfl (ht _ q656), List.forall_mem_cons.mpr ⟨va_Nw.of rfl (ht _ q687), List.forall_mem_cons.mpr ⟨va_Nw.of rfl (ht _ q747), List.forall_mem_cons.mpr ⟨va_Nw.of rfl (ht _ q760), List.forall_mem_cons.mpr ⟨va_Nw.of rfl (ht _ q770), List.forall_mem_cons.mpr ⟨va_Nw.of rfl (ht _ q1328), fun _ h => nomatch h⟩⟩⟩⟩⟩⟩⟩⟩⟩⟩⟩⟩⟩⟩, ?_⟩
  refine ⟨List.forall_mem_cons.mpr ⟨va_Nw.of rfl (ht _ q2227), List.forall_mem_cons.mpr ⟨va_Nw.of rfl (ht _ q2228), List.forall_mem_cons.mpr ⟨va_Nw.of rfl (ht _ q2250), List.forall_mem_cons.mpr ⟨va_Nw.of rfl (ht _ q2251), List.forall_mem_cons.mpr ⟨va_Nw.of rfl (ht _ q2252), List.forall_mem_cons.mpr ⟨va_Nw.of rfl (ht _ q2246), List.forall_mem_cons.mpr ⟨va_Nw.of rfl (ht _ q2248), List.forall_mem_cons.mpr ⟨va_Nw.of rfl (ht _ q175), fun _ h => nomatch h⟩⟩⟩⟩⟩⟩⟩⟩, ?_⟩
  refine ⟨List.forall_mem_cons.mpr ⟨va_Nw.of rfl (ht _ q1174), List.forall_mem_cons.mpr ⟨va_Nw.of rfl (ht _ q1323), fun _ h => nomatch h⟩⟩, ?_⟩
  refine ⟨List.forall_mem_cons.mpr ⟨ht _ q254, List.forall_mem_cons.mpr ⟨ht _ q692, List.forall_mem_cons.mpr ⟨ht _ q368, List.forall_mem_cons.mpr ⟨ht _ q470, List.forall_mem_cons.mpr ⟨ht _ q1071, List.forall_mem_cons.mpr ⟨ht _ q489, fun _ h => nomatch h⟩⟩⟩⟩⟩⟩, ?_⟩
  exact List.forall_mem_cons.mpr ⟨va_Nw.of rfl (selects_priv (ha _ q878) rfl ⟨by decide, by decide⟩ (ht _ q841) (ha _ q842)), List.forall_mem_cons.mpr ⟨va_Nw.of rfl (selects_priv (ha _ q878) rfl ⟨by decide, by decide⟩ (ht _ q845) (ha _ q846)), List.forall_mem_cons.mpr ⟨va_Nw.of rfl (selects_priv (ha _ q878) rfl ⟨by decide, by decide⟩ (ht _ q884) (ha _ q885)), fun _ h => nomatch h⟩⟩⟩
/-- a method's own facts -/
def aMok (ν n : Nat) : Prop := Cond.code (aY ν) (aCode ν) (aML ν) (aRt ν) ∈ lw_all ∧ aHd ν = [] ∧ Cond.initialized (aY ν).cls ∈ lw_all ∧ ((aY ν).cls ≠ "java/lang/invoke/MethodHandle" ∧ (aY ν).cls ≠ "java/lang/invoke/VarHandle" ∧ (parseMethodDescriptor (aY ν).desc).map (fun d => d.parameters.length) = some n)
def aKn (κ : Nat) : String := (aKl.getD κ ("", fun _ => ("", "", "", false), 0)).1
/-- what a call's words are, by its mode -/
def aIok (c j md n κ ν : Nat) : Prop := match md with
  | 0 => aMok ν n ∧ Cond.methodLink (aNm c) j (aY ν) ∈ lw_all ∧ Cond.static (aY ν) ∈ lw_all
  | 1 => aMok ν n ∧ Cond.methodLink (aNm c) j (aY ν) ∈ lw_all ∧ Cond.instanceMethod (aY ν) ∈ lw_all ∧ (aY ν).name = "<init>" ∧ aRt ν = none
  | 2 => aMok ν n ∧ (∃ host : String, (aNm c, j, aY ν, host) ∈ aNst) ∧ Cond.instanceMethod (aY ν) ∈ lw_all ∧ (aY ν).name = "<init>" ∧ aRt ν = none
  | 3 => aMok ν n ∧ (∃ host : String, (aNm c, j, aY ν, host) ∈ aNst) ∧ Cond.static (aY ν) ∈ lw_all
  | 4 => κ < 19 ∧ (ν = 4 ∨ aMok ν n) ∧ Cond.methodLink (aNm c) j (aY ν) ∈ lw_all ∧ Cond.instanceMethod (aY ν) ∈ lw_all ∧ Cond.selects (aKn κ) (aY ν) (aY ν) ∈ lw_all ∧ (ν = 4 → n = 0 ∧ κ = 0)
  | 5 => κ < 19 ∧ aMok ν n ∧ ∃ (x : MethodName) (owner : String), (Cond.methodLink (aNm c) j x ∈ lw_all ∧ Cond.sameMethod x.cls owner x.name x.desc ∈ lw_all ∧ Cond.selects (aKn κ) x (aY ν) ∈ lw_all ∧ Cond.instanceMethod (aY ν) ∈ lw_all) ∧
      (owner ≠ "java/lang/invoke/MethodHandle" ∧ owner ≠ "java/lang/invoke/VarHandle" ∧ (parseMethodDescriptor x.desc).map (fun d => d.parameters.length) = some n) ∧
      (aY ν = ⟨owner, x.name, x.desc⟩ ∨ (Cond.instanceMethod ⟨owner, x.name, x.desc⟩ ∈ lw_all ∧ ∃ (b0 : ByteArray) (m0 : Nat) (r0 : Option FieldType), Cond.code ⟨owner, x.name, x.desc⟩ b0 m0 r0 ∈ lw_all) ∨ (⟨owner, x.name, x.desc⟩ : MethodName) ∈ aDcl)
  | 7 => κ < 19 ∧ aMok ν n ∧ Cond.methodLink (aNm c) j (aY ν) ∈ lw_all ∧ Cond.sameMethod (aY ν).cls (aY ν).cls (aY ν).name (aY ν).desc ∈ lw_all ∧ Cond.superclass (aNm c) (aY ν).cls ∈ lw_all ∧ Cond.instanceMethod (aY ν) ∈ lw_all ∧ (aY ν).name ≠ "<init>"
  | 8 => κ = 17 ∧ aMok ν n ∧ Cond.methodLink (aNm c) j (aY ν) ∈ lw_all ∧ Cond.instanceMethod (aY ν) ∈ lw_all ∧ aY ν ∈ aPvl
  | _ => False
theorem mok0 : aMok 0 0 := ⟨q169, rfl, q128, by decide, by decide, by decide +kernel⟩
theorem mok1 : aMok 1 5 := ⟨q562, rfl, q128, by decide, by decide, by decide +kernel⟩
theorem mok2 : aMok 2 1 := ⟨q566, rfl, q128, by decide, by decide, by decide +kernel⟩
theorem mok3 : aMok 3 1 := ⟨q570, rfl, q128, by decide, by decide, by decide +kernel⟩
theorem mok5 : aMok 5 0 := ⟨q1119, rfl, q128, by decide, by decide, by decide +kernel⟩
theorem mok6 : aMok 6 2 := ⟨q1123, rfl, q128, by decide, by decide, by decide +kernel⟩
theorem mok7 : aMok 7 1 := ⟨q1127, rfl, q128, by decide, by decide, by decide +kernel⟩
theorem mok8 : aMok 8 0 := ⟨q1131, rfl, q128, by decide, by decide, by decide +kernel⟩
theorem mok9 : aMok 9 3 := ⟨q1135, rfl, q128, by decide, by decide, by decide +kernel⟩
theorem mok10 : aMok 10 2 := ⟨q1195, rfl, q128, by decide, by decide, by decide +kernel⟩
theorem mok11 : aMok 11 1 := ⟨q1199, rfl, q128, by decide, by decide, by decide +kernel⟩
theorem mok12 : aMok 12 0 := ⟨q1203, rfl, q128, by decide, by decide, by decide +kernel⟩
theorem mok13 : aMok 13 2 := ⟨q1232, rfl, q128, by decide, by decide, by decide +kernel⟩
theorem mok14 : aMok 14 2 := ⟨q1236, rfl, q128, by decide, by decide, by decide +kernel⟩
theorem mok15 : aMok 15 2 := ⟨q1244, rfl, q128, by decide, by decide, by decide +kernel⟩
theorem mok16 : aMok 16 0 := ⟨q1272, rfl, q128, by decide, by decide, by decide +kernel⟩
theorem mok17 : aMok 17 1 := ⟨q1285, rfl, q128, by decide, by decide, by decide +kernel⟩
theorem mok18 : aMok 18 1 := ⟨q1289, rfl, q128, by decide, by decide, by decide +kernel⟩
theorem mok19 : aMok 19 1 := ⟨q1293, rfl, q128, by decide, by decide, by decide +kernel⟩
theorem mok20 : aMok 20 1 := ⟨q1297, rfl, q128, by decide, by decide, by decide +kernel⟩
theorem mok21 : aMok 21 1 := ⟨q1302, rfl, q128, by decide, by decide, by decide +kernel⟩
theorem mok22 : aMok 22 1 := ⟨q1305, rfl, q128, by decide, by decide, by decide +kernel⟩
theorem mok23 : aMok 23 3 := ⟨q1309, rfl, q128, by decide, by decide, by decide +kernel⟩
theorem mok24 : aMok 24 3 := ⟨q1330, rfl, q128, by decide, by decide, by decide +kernel⟩
theorem mok25 : aMok 25 2 := ⟨q1333, rfl, q128, by decide, by decide, by decide +kernel⟩
theorem mok26 : aMok 26 0 := ⟨q1341, rfl, q128, by decide, by decide, by decide +kernel⟩
theorem mok27 : aMok 27 2 := ⟨q1345, rfl, q128, by decide, by decide, by decide +kernel⟩
theorem mok28 : aMok 28 0 := ⟨q1349, rfl, q128, by decide, by decide, by decide +kernel⟩
theorem mok29 : aMok 29 0 := ⟨q1353, rfl, q128, by decide, by decide, by decide +kernel⟩
theorem mok30 : aMok 30 2 := ⟨q1357, rfl, q128, by decide, by decide, by decide +kernel⟩
theorem mok31 : aMok 31 1 := ⟨q1361, rfl, q128, by decide, by decide, by decide +kernel⟩
theorem mok32 : aMok 32 1 := ⟨q1368, rfl, q128, by decide, by decide, by decide +kernel⟩
theorem mok33 : aMok 33 0 := ⟨q1372, rfl, q128, by decide, by decide, by decide +kernel⟩
theorem mok34 : aMok 34 2 := ⟨q1376, rfl, q128, by decide, by decide, by decide +kernel⟩
theorem mok35 : aMok 35 1 := ⟨q1380, rfl, q128, by decide, by decide, by decide +kernel⟩
theorem mok36 : aMok 36 1 := ⟨q1385, rfl, q128, by decide, by decide, by decide +kernel⟩
theorem mok37 : aMok 37 2 := ⟨q1389, rfl, q128, by decide, by decide, by decide +kernel⟩
theorem mok38 : aMok 38 0 := ⟨q1393, rfl, q128, by decide, by decide, by decide +kernel⟩
theorem mok39 : aMok 39 1 := ⟨q1398, rfl, q128, by decide, by decide, by decide +kernel⟩
theorem mok40 : aMok 40 1 := ⟨q1402, rfl, q128, by decide, by decide, by decide +kernel⟩
theorem mok41 : aMok 41 1 := ⟨q1406, rfl, q128, by decide, by decide, by decide +kernel⟩
theorem mok42 : aMok 42 2 := ⟨q1410, rfl, q128, by decide, by decide, by decide +kernel⟩
theorem mok43 : aMok 43 2 := ⟨q1414, rfl, q128, by decide, by decide, by decide +kernel⟩
theorem mok44 : aMok 44 1 := ⟨q1418, rfl, q128, by decide, by decide, by decide +kernel⟩
theorem mok45 : aMok 45 0 := ⟨q1422, rfl, q128, by decide, by decide, by decide +kernel⟩
theorem mok46 : aMok 46 2 := ⟨q1427, rfl, q128, by decide, by decide, by decide +kernel⟩
theorem mok47 : aMok 47 1 := ⟨q1431, rfl, q128, by decide, by decide, by decide +kernel⟩
theorem mok48 : aMok 48 1 := ⟨q1435, rfl, q128, by decide, by decide, by decide +kernel⟩
theorem mok49 : aMok 49 2 := ⟨q1439, rfl, q128, by decide, by decide, by decide +kernel⟩
theorem mok50 : aMok 50 3 := ⟨q1443, rfl, q128, by decide, by decide, by decide +kernel⟩
theorem mok51 : aMok 51 1 := ⟨q1447, rfl, q128, by decide, by decide, by decide +kernel⟩
theorem mok52 : aMok 52 2 := ⟨q1451, rfl, q128, by decide, by decide, by decide +kernel⟩
theorem mok53 : aMok 53 1 := ⟨q1455, rfl, q128, by decide, by decide, by decide +kernel⟩
theorem mok54 : aMok 54 1 := ⟨q1460, rfl, q128, by decide, by decide, by decide +kernel⟩
theorem mok55 : aMok 55 3 := ⟨q1464, rfl, q128, by decide, by decide, by decide +kernel⟩
theorem mok56 : aMok 56 2 := ⟨q1468, rfl, q128, by decide, by decide, by decide +kernel⟩
theorem mok57 : aMok 57 3 := ⟨q1472, rfl, q128, by decide, by decide, by decide +kernel⟩
theorem mok58 : aMok 58 2 := ⟨q1476, rfl, q128, by decide, by decide, by decide +kernel⟩
theorem mok59 : aMok 59 0 := ⟨q1480, rfl, q128, by decide, by decide, by decide +kernel⟩
theorem mok60 : aMok 60 2 := ⟨q1484, rfl, q128, by decide, by decide, by decide +kernel⟩
theorem mok61 : aMok 61 1 := ⟨q1488, rfl, q128, by decide, by decide, by decide +kernel⟩
theorem mok62 : aMok 62 1 := ⟨q1492, rfl, q128, by decide, by decide, by decide +kernel⟩
theorem mok63 : aMok 63 1 := ⟨q1496, rfl, q128, by decide, by decide, by decide +kernel⟩
theorem mok64 : aMok 64 1 := ⟨q1500, rfl, q128, by decide, by decide, by decide +kernel⟩
theorem mok65 : aMok 65 1 := ⟨q1504, rfl, q128, by decide, by decide, by decide +kernel⟩
theorem mok66 : aMok 66 1 := ⟨q1508, rfl, q128, by decide, by decide, by decide +kernel⟩
theorem mok68 : aMok 68 4 := ⟨q224, rfl, q129, by decide, by decide, by decide +kernel⟩
theorem mok69 : aMok 69 4 := ⟨q221, rfl, q130, by decide, by decide, by decide +kernel⟩
theorem mok70 : aMok 70 4 := ⟨q218, rfl, q131, by decide, by decide, by decide +kernel⟩
theorem mok71 : aMok 71 0 := ⟨q214, rfl, q132, by decide, by decide, by decide +kernel⟩
theorem mok72 : aMok 72 2 := ⟨q672, rfl, q132, by decide, by decide, by decide +kernel⟩
theorem mok73 : aMok 73 0 := ⟨q251, rfl, q133, by decide, by decide, by decide +kernel⟩
theorem mok74 : aMok 74 0 := ⟨q582, rfl, q133, by decide, by decide, by decide +kernel⟩
theorem mok75 : aMok 75 1 := ⟨q586, rfl, q133, by decide, by decide, by decide +kernel⟩
theorem mok76 : aMok 76 1 := ⟨q590, rfl, q133, by decide, by decide, by decide +kernel⟩
theorem mok77 : aMok 77 2 := ⟨q594, rfl, q133, by decide, by decide, by decide +kernel⟩
theorem mok78 : aMok 78 1 := ⟨q646, rfl, q133, by decide, by decide, by decide +kernel⟩
theorem mok79 : aMok 79 1 := ⟨q650, rfl, q133, by decide, by decide, by decide +kernel⟩
theorem mok80 : aMok 80 4 := ⟨q654, rfl, q133, by decide, by decide, by decide +kernel⟩
theorem mok81 : aMok 81 1 := ⟨q743, rfl, q133, by decide, by decide, by decide +kernel⟩
theorem mok82 : aMok 82 1 := ⟨q802, rfl, q133, by decide, by decide, by decide +kernel⟩
theorem mok83 : aMok 83 2 := ⟨q311, rfl, q134, by decide, by decide, by decide +kernel⟩
theorem mok84 : aMok 84 0 := ⟨q578, rfl, q134, by decide, by decide, by decide +kernel⟩
theorem mok85 : aMok 85 0 := ⟨q660, rfl, q134, by decide, by decide, by decide +kernel⟩
theorem mok86 : aMok 86 1 := ⟨q664, rfl, q134, by decide, by decide, by decide +kernel⟩
theorem mok87 : aMok 87 2 := ⟨q668, rfl, q134, by decide, by decide, by decide +kernel⟩
theorem mok88 : aMok 88 0 := ⟨q676, rfl, q134, by decide, by decide, by decide +kernel⟩
theorem mok89 : aMok 89 0 := ⟨q680, rfl, q134, by decide, by decide, by decide +kernel⟩
theorem mok90 : aMok 90 0 := ⟨q684, rfl, q134, by decide, by decide, by decide +kernel⟩
theorem mok91 : aMok 91 1 := ⟨q713, rfl, q134, by decide, by decide, by decide +kernel⟩
theorem mok92 : aMok 92 1 := ⟨q717, rfl, q134, by decide, by decide, by decide +kernel⟩
theorem mok93 : aMok 93 1 := ⟨q721, rfl, q134, by decide, by decide, by decide +kernel⟩
theorem mok94 : aMok 94 2 := ⟨q725, rfl, q134, by decide, by decide, by decide +kernel⟩
theorem mok95 : aMok 95 0 := ⟨q729, rfl, q134, by decide, by decide, by decide +kernel⟩
theorem mok96 : aMok 96 0 := ⟨q733, rfl, q134, by decide, by decide, by decide +kernel⟩
theorem mok97 : aMok 97 0 := ⟨q737, rfl, q134, by decide, by decide, by decide +kernel⟩
theorem mok98 : aMok 98 1 := ⟨q784, rfl, q134, by decide, by decide, by decide +kernel⟩
theorem mok99 : aMok 99 0 := ⟨q794, rfl, q134, by decide, by decide, by decide +kernel⟩
theorem mok100 : aMok 100 1 := ⟨q798, rfl, q134, by decide, by decide, by decide +kernel⟩
theorem mok101 : aMok 101 2 := ⟨q997, rfl, q134, by decide, by decide, by decide +kernel⟩
theorem mok102 : aMok 102 2 := ⟨q1023, rfl, q134, by decide, by decide, by decide +kernel⟩
theorem mok103 : aMok 103 0 := ⟨q1109, rfl, q134, by decide, by decide, by decide +kernel⟩
theorem mok104 : aMok 104 1 := ⟨q1113, rfl, q134, by decide, by decide, by decide +kernel⟩
theorem mok105 : aMok 105 0 := ⟨q339, rfl, q135, by decide, by decide, by decide +kernel⟩
theorem mok106 : aMok 106 1 := ⟨q968, rfl, q135, by decide, by decide, by decide +kernel⟩
theorem mok107 : aMok 107 2 := ⟨q971, rfl, q135, by decide, by decide, by decide +kernel⟩
theorem mok108 : aMok 108 2 := ⟨q1254, rfl, q135, by decide, by decide, by decide +kernel⟩
theorem mok109 : aMok 109 1 := ⟨q1260, rfl, q135, by decide, by decide, by decide +kernel⟩
theorem mok110 : aMok 110 2 := ⟨q1264, rfl, q135, by decide, by decide, by decide +kernel⟩
theorem mok111 : aMok 111 0 := ⟨q351, rfl, q136, by decide, by decide, by decide +kernel⟩
theorem mok112 : aMok 112 0 := ⟨q348, rfl, q137, by decide, by decide, by decide +kernel⟩
theorem mok113 : aMok 113 0 := ⟨q345, rfl, q138, by decide, by decide, by decide +kernel⟩
theorem mok114 : aMok 114 0 := ⟨q788, rfl, q138, by decide, by decide, by decide +kernel⟩
theorem mok115 : aMok 115 1 := ⟨q976, rfl, q138, by decide, by decide, by decide +kernel⟩
theorem mok116 : aMok 116 1 := ⟨q984, rfl, q138, by decide, by decide, by decide +kernel⟩
theorem mok117 : aMok 117 1 := ⟨q1027, rfl, q138, by decide, by decide, by decide +kernel⟩
theorem mok118 : aMok 118 3 := ⟨q1031, rfl, q138, by decide, by decide, by decide +kernel⟩
theorem mok119 : aMok 119 0 := ⟨q1035, rfl, q138, by decide, by decide, by decide +kernel⟩
theorem mok120 : aMok 120 1 := ⟨q1039, rfl, q138, by decide, by decide, by decide +kernel⟩
theorem mok121 : aMok 121 0 := ⟨q406, rfl, q139, by decide, by decide, by decide +kernel⟩
theorem mok122 : aMok 122 1 := ⟨q493, rfl, q139, by decide, by decide, by decide +kernel⟩
theorem mok123 : aMok 123 1 := ⟨q1141, rfl, q139, by decide, by decide, by decide +kernel⟩
theorem mok124 : aMok 124 1 := ⟨q1145, rfl, q139, by decide, by decide, by decide +kernel⟩
theorem mok125 : aMok 125 2 := ⟨q1149, rfl, q139, by decide, by decide, by decide +kernel⟩
theorem mok126 : aMok 126 3 := ⟨q1154, rfl, q139, by decide, by decide, by decide +kernel⟩
theorem mok127 : aMok 127 2 := ⟨q1158, rfl, q139, by decide, by decide, by decide +kernel⟩
theorem mok128 : aMok 128 2 := ⟨q1191, rfl, q139, by decide, by decide, by decide +kernel⟩
theorem mok129 : aMok 129 1 := ⟨q1208, rfl, q139, by decide, by decide, by decide +kernel⟩
theorem mok130 : aMok 130 2 := ⟨q1212, rfl, q139, by decide, by decide, by decide +kernel⟩
theorem mok131 : aMok 131 1 := ⟨q1216, rfl, q139, by decide, by decide, by decide +kernel⟩
theorem mok132 : aMok 132 4 := ⟨q1220, rfl, q139, by decide, by decide, by decide +kernel⟩
theorem mok133 : aMok 133 5 := ⟨q1224, rfl, q139, by decide, by decide, by decide +kernel⟩
theorem mok134 : aMok 134 2 := ⟨q1228, rfl, q139, by decide, by decide, by decide +kernel⟩
theorem mok135 : aMok 135 2 := ⟨q1248, rfl, q139, by decide, by decide, by decide +kernel⟩
theorem mok136 : aMok 136 1 := ⟨q1276, rfl, q139, by decide, by decide, by decide +kernel⟩
theorem mok137 : aMok 137 2 := ⟨q1279, rfl, q139, by decide, by decide, by decide +kernel⟩
theorem mok138 : aMok 138 2 := ⟨q1313, rfl, q139, by decide, by decide, by decide +kernel⟩
theorem mok139 : aMok 139 1 := ⟨q1317, rfl, q139, by decide, by decide, by decide +kernel⟩
theorem mok140 : aMok 140 0 := ⟨q412, rfl, q140, by decide, by decide, by decide +kernel⟩
theorem mok141 : aMok 141 0 := ⟨q478, rfl, q141, by decide, by decide, by decide +kernel⟩
theorem mok142 : aMok 142 0 := ⟨q475, rfl, q142, by decide, by decide, by decide +kernel⟩
theorem mok143 : aMok 143 3 := ⟨q1327, rfl, q142, by decide, by decide, by decide +kernel⟩
theorem mok144 : aMok 144 0 := ⟨q485, rfl, q143, by decide, by decide, by decide +kernel⟩
theorem mok145 : aMok 145 3 := ⟨q1337, rfl, q143, by decide, by decide, by decide +kernel⟩
theorem mok146 : aMok 146 0 := ⟨q1514, rfl, q144, by decide, by decide, by decide +kernel⟩
theorem mok147 : aMok 147 1 := ⟨q1519, rfl, q144, by decide, by decide, by decide +kernel⟩
theorem mok148 : aMok 148 7 := ⟨q1522, rfl, q144, by decide, by decide, by decide +kernel⟩
theorem mok149 : aMok 149 2 := ⟨q1525, rfl, q144, by decide, by decide, by decide +kernel⟩
theorem mok150 : aMok 150 0 := ⟨q1530, rfl, q144, by decide, by decide, by decide +kernel⟩
theorem mok151 : aMok 151 0 := ⟨q1534, rfl, q144, by decide, by decide, by decide +kernel⟩
theorem mok152 : aMok 152 5 := ⟨q1740, rfl, q144, by decide, by decide, by decide +kernel⟩
theorem mok153 : aMok 153 1 := ⟨q1744, rfl, q144, by decide, by decide, by decide +kernel⟩
theorem mok154 : aMok 154 1 := ⟨q1748, rfl, q144, by decide, by decide, by decide +kernel⟩
theorem mok155 : aMok 155 0 := ⟨q1752, rfl, q144, by decide, by decide, by decide +kernel⟩
theorem mok156 : aMok 156 0 := ⟨q1756, rfl, q144, by decide, by decide, by decide +kernel⟩
theorem mok157 : aMok 157 1 := ⟨q1760, rfl, q144, by decide, by decide, by decide +kernel⟩
theorem mok158 : aMok 158 4 := ⟨q1764, rfl, q144, by decide, by decide, by decide +kernel⟩
theorem mok159 : aMok 159 1 := ⟨q1767, rfl, q144, by decide, by decide, by decide +kernel⟩
theorem mok160 : aMok 160 1 := ⟨q1770, rfl, q144, by decide, by decide, by decide +kernel⟩
theorem mok161 : aMok 161 3 := ⟨q1774, rfl, q144, by decide, by decide, by decide +kernel⟩
theorem mok162 : aMok 162 1 := ⟨q1778, rfl, q144, by decide, by decide, by decide +kernel⟩
theorem mok163 : aMok 163 0 := ⟨q1782, rfl, q144, by decide, by decide, by decide +kernel⟩
theorem mok164 : aMok 164 2 := ⟨q1786, rfl, q144, by decide, by decide, by decide +kernel⟩
theorem mok165 : aMok 165 1 := ⟨q1790, rfl, q144, by decide, by decide, by decide +kernel⟩
theorem mok166 : aMok 166 0 := ⟨q1794, rfl, q144, by decide, by decide, by decide +kernel⟩
theorem mok167 : aMok 167 0 := ⟨q1798, rfl, q144, by decide, by decide, by decide +kernel⟩
theorem mok168 : aMok 168 1 := ⟨q1802, rfl, q144, by decide, by decide, by decide +kernel⟩
theorem mok169 : aMok 169 2 := ⟨q1806, rfl, q144, by decide, by decide, by decide +kernel⟩
theorem mok170 : aMok 170 2 := ⟨q1810, rfl, q144, by decide, by decide, by decide +kernel⟩
theorem mok171 : aMok 171 2 := ⟨q1814, rfl, q144, by decide, by decide, by decide +kernel⟩
theorem mok172 : aMok 172 0 := ⟨q1818, rfl, q144, by decide, by decide, by decide +kernel⟩
theorem mok173 : aMok 173 0 := ⟨q1822, rfl, q144, by decide, by decide, by decide +kernel⟩
theorem mok174 : aMok 174 2 := ⟨q1826, rfl, q144, by decide, by decide, by decide +kernel⟩
theorem mok175 : aMok 175 1 := ⟨q1830, rfl, q144, by decide, by decide, by decide +kernel⟩
theorem mok176 : aMok 176 0 := ⟨q1834, rfl, q144, by decide, by decide, by decide +kernel⟩
theorem mok177 : aMok 177 0 := ⟨q1838, rfl, q144, by decide, by decide, by decide +kernel⟩
theorem mok178 : aMok 178 2 := ⟨q1842, rfl, q144, by decide, by decide, by decide +kernel⟩
theorem mok179 : aMok 179 1 := ⟨q1846, rfl, q144, by decide, by decide, by decide +kernel⟩
theorem mok180 : aMok 180 0 := ⟨q1850, rfl, q144, by decide, by decide, by decide +kernel⟩
theorem mok181 : aMok 181 0 := ⟨q1854, rfl, q144, by decide, by decide, by decide +kernel⟩
theorem mok182 : aMok 182 2 := ⟨q1858, rfl, q144, by decide, by decide, by decide +kernel⟩
theorem mok183 : aMok 183 1 := ⟨q1862, rfl, q144, by decide, by decide, by decide +kernel⟩
theorem mok184 : aMok 184 3 := ⟨q1865, rfl, q144, by decide, by decide, by decide +kernel⟩
theorem mok185 : aMok 185 0 := ⟨q1869, rfl, q144, by decide, by decide, by decide +kernel⟩
theorem mok186 : aMok 186 1 := ⟨q1873, rfl, q144, by decide, by decide, by decide +kernel⟩
theorem mok187 : aMok 187 1 := ⟨q1877, rfl, q144, by decide, by decide, by decide +kernel⟩
theorem mok188 : aMok 188 1 := ⟨q1881, rfl, q144, by decide, by decide, by decide +kernel⟩
theorem mok189 : aMok 189 1 := ⟨q1885, rfl, q144, by decide, by decide, by decide +kernel⟩
theorem mok190 : aMok 190 1 := ⟨q1889, rfl, q144, by decide, by decide, by decide +kernel⟩
theorem mok191 : aMok 191 1 := ⟨q1892, rfl, q144, by decide, by decide, by decide +kernel⟩
theorem mok192 : aMok 192 2 := ⟨q1896, rfl, q144, by decide, by decide, by decide +kernel⟩
theorem mok193 : aMok 193 3 := ⟨q1899, rfl, q144, by decide, by decide, by decide +kernel⟩
theorem mok194 : aMok 194 2 := ⟨q1903, rfl, q144, by decide, by decide, by decide +kernel⟩
theorem mok195 : aMok 195 1 := ⟨q1907, rfl, q144, by decide, by decide, by decide +kernel⟩
theorem mok196 : aMok 196 2 := ⟨q1911, rfl, q144, by decide, by decide, by decide +kernel⟩
theorem mok197 : aMok 197 1 := ⟨q1915, rfl, q144, by decide, by decide, by decide +kernel⟩
theorem mok198 : aMok 198 1 := ⟨q1919, rfl, q144, by decide, by decide, by decide +kernel⟩
theorem mok199 : aMok 199 1 := ⟨q1923, rfl, q144, by decide, by decide, by decide +kernel⟩
theorem mok200 : aMok 200 1 := ⟨q1927, rfl, q144, by decide, by decide, by decide +kernel⟩
theorem mok201 : aMok 201 3 := ⟨q1931, rfl, q144, by decide, by decide, by decide +kernel⟩
theorem mok202 : aMok 202 3 := ⟨q1935, rfl, q144, by decide, by decide, by decide +kernel⟩
theorem mok203 : aMok 203 1 := ⟨q1939, rfl, q144, by decide, by decide, by decide +kernel⟩
theorem mok204 : aMok 204 3 := ⟨q1943, rfl, q144, by decide, by decide, by decide +kernel⟩
theorem mok205 : aMok 205 2 := ⟨q1947, rfl, q144, by decide, by decide, by decide +kernel⟩
theorem mok206 : aMok 206 2 := ⟨q1951, rfl, q144, by decide, by decide, by decide +kernel⟩
theorem mok207 : aMok 207 1 := ⟨q1955, rfl, q144, by decide, by decide, by decide +kernel⟩
theorem mok208 : aMok 208 2 := ⟨q1959, rfl, q144, by decide, by decide, by decide +kernel⟩
theorem mok209 : aMok 209 2 := ⟨q1963, rfl, q144, by decide, by decide, by decide +kernel⟩
theorem mok210 : aMok 210 2 := ⟨q1967, rfl, q144, by decide, by decide, by decide +kernel⟩
theorem mok211 : aMok 211 1 := ⟨q1971, rfl, q144, by decide, by decide, by decide +kernel⟩
theorem mok212 : aMok 212 2 := ⟨q1975, rfl, q144, by decide, by decide, by decide +kernel⟩
theorem mok213 : aMok 213 0 := ⟨q1979, rfl, q144, by decide, by decide, by decide +kernel⟩
theorem mok214 : aMok 214 1 := ⟨q1983, rfl, q144, by decide, by decide, by decide +kernel⟩
theorem mok215 : aMok 215 1 := ⟨q1987, rfl, q144, by decide, by decide, by decide +kernel⟩
theorem mok216 : aMok 216 1 := ⟨q1991, rfl, q144, by decide, by decide, by decide +kernel⟩
theorem mok217 : aMok 217 1 := ⟨q1995, rfl, q144, by decide, by decide, by decide +kernel⟩
theorem mok218 : aMok 218 1 := ⟨q1998, rfl, q144, by decide, by decide, by decide +kernel⟩
theorem mok219 : aMok 219 1 := ⟨q2002, rfl, q144, by decide, by decide, by decide +kernel⟩
theorem mok220 : aMok 220 0 := ⟨q2006, rfl, q144, by decide, by decide, by decide +kernel⟩
theorem mok221 : aMok 221 0 := ⟨q2010, rfl, q144, by decide, by decide, by decide +kernel⟩
theorem mok222 : aMok 222 1 := ⟨q2014, rfl, q144, by decide, by decide, by decide +kernel⟩
theorem mok223 : aMok 223 1 := ⟨q2018, rfl, q144, by decide, by decide, by decide +kernel⟩
theorem mok224 : aMok 224 1 := ⟨q2022, rfl, q144, by decide, by decide, by decide +kernel⟩
theorem mok225 : aMok 225 2 := ⟨q2025, rfl, q144, by decide, by decide, by decide +kernel⟩
theorem mok226 : aMok 226 0 := ⟨q2030, rfl, q144, by decide, by decide, by decide +kernel⟩
theorem mok227 : aMok 227 2 := ⟨q2034, rfl, q144, by decide, by decide, by decide +kernel⟩
theorem mok228 : aMok 228 0 := ⟨q2038, rfl, q144, by decide, by decide, by decide +kernel⟩
theorem mok229 : aMok 229 2 := ⟨q2042, rfl, q144, by decide, by decide, by decide +kernel⟩
theorem mok230 : aMok 230 1 := ⟨q2045, rfl, q144, by decide, by decide, by decide +kernel⟩
theorem mok231 : aMok 231 1 := ⟨q2049, rfl, q144, by decide, by decide, by decide +kernel⟩
theorem mok232 : aMok 232 0 := ⟨q2053, rfl, q144, by decide, by decide, by decide +kernel⟩
theorem mok233 : aMok 233 3 := ⟨q2057, rfl, q144, by decide, by decide, by decide +kernel⟩
theorem mok234 : aMok 234 2 := ⟨q2060, rfl, q144, by decide, by decide, by decide +kernel⟩
theorem mok235 : aMok 235 3 := ⟨q2064, rfl, q144, by decide, by decide, by decide +kernel⟩
theorem mok236 : aMok 236 0 := ⟨q2068, rfl, q144, by decide, by decide, by decide +kernel⟩
theorem mok237 : aMok 237 2 := ⟨q2072, rfl, q144, by decide, by decide, by decide +kernel⟩
theorem mok238 : aMok 238 1 := ⟨q2076, rfl, q144, by decide, by decide, by decide +kernel⟩
theorem mok239 : aMok 239 2 := ⟨q2080, rfl, q144, by decide, by decide, by decide +kernel⟩
theorem mok240 : aMok 240 0 := ⟨q2084, rfl, q144, by decide, by decide, by decide +kernel⟩
theorem mok241 : aMok 241 1 := ⟨q2088, rfl, q144, by decide, by decide, by decide +kernel⟩
theorem mok242 : aMok 242 1 := ⟨q2092, rfl, q144, by decide, by decide, by decide +kernel⟩
theorem mok243 : aMok 243 1 := ⟨q2096, rfl, q144, by decide, by decide, by decide +kernel⟩
theorem mok244 : aMok 244 1 := ⟨q2100, rfl, q144, by decide, by decide, by decide +kernel⟩
theorem mok245 : aMok 245 1 := ⟨q2104, rfl, q144, by decide, by decide, by decide +kernel⟩
theorem mok246 : aMok 246 1 := ⟨q2108, rfl, q144, by decide, by decide, by decide +kernel⟩
theorem mok247 : aMok 247 2 := ⟨q2112, rfl, q144, by decide, by decide, by decide +kernel⟩
theorem mok248 : aMok 248 2 := ⟨q2116, rfl, q144, by decide, by decide, by decide +kernel⟩
theorem mok249 : aMok 249 1 := ⟨q2120, rfl, q144, by decide, by decide, by decide +kernel⟩
theorem mok250 : aMok 250 1 := ⟨q2124, rfl, q144, by decide, by decide, by decide +kernel⟩
theorem mok251 : aMok 251 0 := ⟨q2128, rfl, q144, by decide, by decide, by decide +kernel⟩
theorem mok252 : aMok 252 2 := ⟨q2132, rfl, q144, by decide, by decide, by decide +kernel⟩
theorem mok253 : aMok 253 2 := ⟨q2136, rfl, q144, by decide, by decide, by decide +kernel⟩
theorem mok254 : aMok 254 0 := ⟨q2140, rfl, q144, by decide, by decide, by decide +kernel⟩
theorem mok255 : aMok 255 1 := ⟨q2144, rfl, q144, by decide, by decide, by decide +kernel⟩
theorem mok256 : aMok 256 1 := ⟨q2148, rfl, q144, by decide, by decide, by decide +kernel⟩
theorem mok257 : aMok 257 1 := ⟨q2152, rfl, q144, by decide, by decide, by decide +kernel⟩
theorem mok258 : aMok 258 2 := ⟨q2156, rfl, q144, by decide, by decide, by decide +kernel⟩
theorem mok259 : aMok 259 1 := ⟨q2160, rfl, q144, by decide, by decide, by decide +kernel⟩
theorem mok260 : aMok 260 3 := ⟨q2164, rfl, q144, by decide, by decide, by decide +kernel⟩
theorem mok261 : aMok 261 1 := ⟨q2168, rfl, q144, by decide, by decide, by decide +kernel⟩
theorem mok262 : aMok 262 3 := ⟨q2172, rfl, q144, by decide, by decide, by decide +kernel⟩
theorem mok263 : aMok 263 2 := ⟨q2176, rfl, q144, by decide, by decide, by decide +kernel⟩
theorem mok264 : aMok 264 3 := ⟨q2180, rfl, q144, by decide, by decide, by decide +kernel⟩
theorem mok265 : aMok 265 2 := ⟨q2184, rfl, q144, by decide, by decide, by decide +kernel⟩
theorem mok266 : aMok 266 0 := ⟨q2188, rfl, q144, by decide, by decide, by decide +kernel⟩
theorem mok267 : aMok 267 2 := ⟨q2192, rfl, q144, by decide, by decide, by decide +kernel⟩
theorem mok268 : aMok 268 1 := ⟨q2196, rfl, q144, by decide, by decide, by decide +kernel⟩
theorem mok269 : aMok 269 2 := ⟨q2200, rfl, q144, by decide, by decide, by decide +kernel⟩
theorem mok270 : aMok 270 1 := ⟨q2204, rfl, q144, by decide, by decide, by decide +kernel⟩
theorem mok271 : aMok 271 1 := ⟨q2208, rfl, q144, by decide, by decide, by decide +kernel⟩
theorem mok272 : aMok 272 1 := ⟨q2212, rfl, q144, by decide, by decide, by decide +kernel⟩
theorem mok273 : aMok 273 1 := ⟨q2216, rfl, q144, by decide, by decide, by decide +kernel⟩
theorem mok274 : aMok 274 2 := ⟨q2220, rfl, q144, by decide, by decide, by decide +kernel⟩
theorem mok275 : aMok 275 0 := ⟨q598, rfl, q145, by decide, by decide, by decide +kernel⟩
theorem mok276 : aMok 276 0 := ⟨q602, rfl, q145, by decide, by decide, by decide +kernel⟩
theorem mok277 : aMok 277 1 := ⟨q608, rfl, q145, by decide, by decide, by decide +kernel⟩
theorem mok278 : aMok 278 0 := ⟨q612, rfl, q145, by decide, by decide, by decide +kernel⟩
theorem mok279 : aMok 279 2 := ⟨q618, rfl, q145, by decide, by decide, by decide +kernel⟩
theorem mok280 : aMok 280 3 := ⟨q898, rfl, q145, by decide, by decide, by decide +kernel⟩
theorem mok281 : aMok 281 1 := ⟨q916, rfl, q145, by decide, by decide, by decide +kernel⟩
theorem mok282 : aMok 282 2 := ⟨q919, rfl, q145, by decide, by decide, by decide +kernel⟩
theorem mok283 : aMok 283 1 := ⟨q989, rfl, q145, by decide, by decide, by decide +kernel⟩
theorem mok284 : aMok 284 2 := ⟨q615, rfl, q146, by decide, by decide, by decide +kernel⟩
theorem mok285 : aMok 285 1 := ⟨q882, rfl, q146, by decide, by decide, by decide +kernel⟩
theorem mok286 : aMok 286 5 := ⟨q889, rfl, q146, by decide, by decide, by decide +kernel⟩
theorem mok287 : aMok 287 2 := ⟨q993, rfl, q146, by decide, by decide, by decide +kernel⟩
theorem mok288 : aMok 288 3 := ⟨q623, rfl, q147, by decide, by decide, by decide +kernel⟩
theorem mok289 : aMok 289 4 := ⟨q901, rfl, q147, by decide, by decide, by decide +kernel⟩
theorem mok290 : aMok 290 2 := ⟨q626, rfl, q148, by decide, by decide, by decide +kernel⟩
theorem mok291 : aMok 291 2 := ⟨q629, rfl, q148, by decide, by decide, by decide +kernel⟩
theorem mok292 : aMok 292 1 := ⟨q632, rfl, q148, by decide, by decide, by decide +kernel⟩
theorem mok293 : aMok 293 2 := ⟨q636, rfl, q148, by decide, by decide, by decide +kernel⟩
theorem mok294 : aMok 294 1 := ⟨q815, rfl, q148, by decide, by decide, by decide +kernel⟩
theorem mok295 : aMok 295 1 := ⟨q818, rfl, q148, by decide, by decide, by decide +kernel⟩
theorem mok296 : aMok 296 5 := ⟨q892, rfl, q148, by decide, by decide, by decide +kernel⟩
theorem mok297 : aMok 297 3 := ⟨q895, rfl, q148, by decide, by decide, by decide +kernel⟩
theorem mok298 : aMok 298 3 := ⟨q904, rfl, q148, by decide, by decide, by decide +kernel⟩
theorem mok299 : aMok 299 3 := ⟨q907, rfl, q148, by decide, by decide, by decide +kernel⟩
theorem mok300 : aMok 300 3 := ⟨q946, rfl, q148, by decide, by decide, by decide +kernel⟩
theorem mok301 : aMok 301 5 := ⟨q949, rfl, q148, by decide, by decide, by decide +kernel⟩
theorem mok302 : aMok 302 2 := ⟨q953, rfl, q148, by decide, by decide, by decide +kernel⟩
theorem mok303 : aMok 303 0 := ⟨q689, rfl, q149, by decide, by decide, by decide +kernel⟩
theorem mok304 : aMok 304 1 := ⟨q1172, rfl, q149, by decide, by decide, by decide +kernel⟩
theorem mok305 : aMok 305 0 := ⟨q749, rfl, q150, by decide, by decide, by decide +kernel⟩
theorem mok306 : aMok 306 1 := ⟨q746, rfl, q151, by decide, by decide, by decide +kernel⟩
theorem mok307 : aMok 307 1 := ⟨q1181, rfl, q151, by decide, by decide, by decide +kernel⟩
theorem mok308 : aMok 308 1 := ⟨q759, rfl, q152, by decide, by decide, by decide +kernel⟩
theorem mok309 : aMok 309 1 := ⟨q1183, rfl, q152, by decide, by decide, by decide +kernel⟩
theorem mok310 : aMok 310 3 := ⟨q769, rfl, q153, by decide, by decide, by decide +kernel⟩
theorem mok311 : aMok 311 1 := ⟨q1178, rfl, q153, by decide, by decide, by decide +kernel⟩
theorem mok312 : aMok 312 1 := ⟨q1003, rfl, q154, by decide, by decide, by decide +kernel⟩
theorem mok313 : aMok 313 1 := ⟨q1000, rfl, q155, by decide, by decide, by decide +kernel⟩
theorem mok314 : aMok 314 1 := ⟨q810, rfl, q156, by decide, by decide, by decide +kernel⟩
theorem mok315 : aMok 315 1 := ⟨q839, rfl, q156, by decide, by decide, by decide +kernel⟩
theorem mok316 : aMok 316 1 := ⟨q843, rfl, q156, by decide, by decide, by decide +kernel⟩
theorem mok317 : aMok 317 1 := ⟨q847, rfl, q156, by decide, by decide, by decide +kernel⟩
theorem mok318 : aMok 318 0 := ⟨q879, rfl, q156, by decide, by decide, by decide +kernel⟩
theorem mok319 : aMok 319 0 := ⟨q886, rfl, q156, by decide, by decide, by decide +kernel⟩
theorem mok320 : aMok 320 0 := ⟨q925, rfl, q156, by decide, by decide, by decide +kernel⟩
theorem mok321 : aMok 321 0 := ⟨q933, rfl, q156, by decide, by decide, by decide +kernel⟩
theorem mok322 : aMok 322 0 := ⟨q807, rfl, q157, by decide, by decide, by decide +kernel⟩
theorem mok323 : aMok 323 1 := ⟨q836, rfl, q157, by decide, by decide, by decide +kernel⟩
theorem mok324 : aMok 324 0 := ⟨q911, rfl, q157, by decide, by decide, by decide +kernel⟩
theorem mok325 : aMok 325 0 := ⟨q931, rfl, q157, by decide, by decide, by decide +kernel⟩
theorem mok326 : aMok 326 3 := ⟨q850, rfl, q158, by decide, by decide, by decide +kernel⟩
theorem mok327 : aMok 327 2 := ⟨q857, rfl, q158, by decide, by decide, by decide +kernel⟩
theorem mok330 : aMok 330 2 := ⟨q861, rfl, q160, by decide, by decide, by decide +kernel⟩
theorem mok331 : aMok 331 3 := ⟨q937, rfl, q160, by decide, by decide, by decide +kernel⟩
theorem mok332 : aMok 332 3 := ⟨q940, rfl, q160, by decide, by decide, by decide +kernel⟩
theorem mok333 : aMok 333 2 := ⟨q943, rfl, q160, by decide, by decide, by decide +kernel⟩
theorem mok334 : aMok 334 2 := ⟨q1043, rfl, q160, by decide, by decide, by decide +kernel⟩
theorem mok335 : aMok 335 3 := ⟨q1069, rfl, q160, by decide, by decide, by decide +kernel⟩
theorem mok336 : aMok 336 2 := ⟨q979, rfl, q162, by decide, by decide, by decide +kernel⟩
theorem mok337 : aMok 337 1 := ⟨q1079, rfl, q163, by decide, by decide, by decide +kernel⟩
theorem mok338 : aMok 338 1 := ⟨q1240, rfl, q163, by decide, by decide, by decide +kernel⟩
theorem mok339 : aMok 339 1 := ⟨q1268, rfl, q163, by decide, by decide, by decide +kernel⟩
theorem mok340 : aMok 340 1 := ⟨q1165, rfl, q164, by decide, by decide, by decide +kernel⟩
def aIoks (c : Nat) (e : Nat × Nat × Nat × List (Nat × Nat)) : Prop := (e.2.1 = 6 ∧ Cond.methodLink (aNm c) e.1 arraycopyName ∈ lw_all) ∨ (e.2.1 = 9 ∧ Cond.methodLink (aNm c) e.1 Lib.objectInit ∈ lw_all) ∨ (e.2.1 = 10 ∧ Cond.methodLink (aNm c) e.1 Lib.Math.max.name ∈ lw_all) ∨ (e.2.1 = 11 ∧ Cond.methodLink (aNm c) e.1 Lib.Math.min.name ∈ lw_all) ∨ (e.2.2.2 ≠ [] ∧ ∀ z ∈ e.2.2.2, aIok c e.1 e.2.1 e.2.2.1 z.1 z.2)
theorem iok0 : ∀ e ∈ aInvL.getD 0 [], aIoks 0 e := List.forall_mem_cons.mpr ⟨Or.inr (Or.inr (Or.inr (Or.inr ⟨List.cons_ne_nil _ _, List.forall_mem_cons.mpr ⟨⟨mok25, q1331, q1332⟩, fun _ h => nomatch h⟩⟩))), List.forall_mem_cons.mpr ⟨Or.inr (Or.inl ⟨rfl, q170⟩), List.forall_mem_cons.mpr ⟨Or.inr (Or.inr (Or.inr (Or.inr ⟨List.cons_ne_nil _ _, List.forall_mem_cons.mpr ⟨⟨mok71, q212, q213, rfl, rfl⟩, fun _ h => nomatch h⟩⟩))), List.forall_mem_cons.mpr ⟨Or.inr (Or.inr (Or.inr (Or.inr ⟨List.cons_ne_nil _ _, List.forall_mem_cons.mpr ⟨⟨mok73, ⟨"LentSundays", List.mem_of_getElem? (i := 0) rfl⟩, q250, rfl, rfl⟩, fun _ h => nomatch h⟩⟩))), List.forall_mem_cons.mpr ⟨Or.inr (Or.inr (Or.inr (Or.inr ⟨List.cons_ne_nil _ _, List.forall_mem_cons.mpr ⟨⟨mok83, q309, q310, rfl, rfl⟩, fun _ h => nomatch h⟩⟩))), List.forall_mem_cons.mpr ⟨Or.inr (Or.inr (Or.inr (Or.inr ⟨List.cons_ne_nil _ _, List.forall_mem_cons.mpr ⟨⟨mok105, ⟨"LentSundays", List.mem_of_getElem? (i := 1) rfl⟩, q338, rfl, rfl⟩, fun _ h => nomatch h⟩⟩))), List.forall_mem_cons.mpr ⟨Or.inr (Or.inr (Or.inr (Or.inr ⟨List.cons_ne_nil _ _, List.forall_mem_cons.mpr ⟨⟨mok121, ⟨"LentSundays", List.mem_of_getElem? (i := 2) rfl⟩, q405, rfl, rfl⟩, fun _ h => nomatch h⟩⟩))), List.forall_mem_cons.mpr ⟨Or.inr (Or.inr (Or.inr (Or.inr ⟨List.cons_ne_nil _ _, List.forall_mem_cons.mpr ⟨⟨mok142, ⟨"LentSundays", List.mem_of_getElem? (i := 4) rfl⟩, q474, rfl, rfl⟩, fun _ h => nomatch h⟩⟩))), List.forall_mem_cons.mpr ⟨Or.inr (Or.inr (Or.inr (Or.inr ⟨List.cons_ne_nil _ _, List.forall_mem_cons.mpr ⟨⟨mok144, ⟨"LentSundays", List.mem_of_getElem? (i := 6) rfl⟩, q484, rfl, rfl⟩, fun _ h => nomatch h⟩⟩))), List.forall_mem_cons.mpr ⟨Or.inr (Or.inr (Or.inr (Or.inr ⟨List.cons_ne_nil _ _, List.forall_mem_cons.mpr ⟨⟨by decide, Or.inr mok122, q490, q491, q492, fun h => absurd h (by decide)⟩, fun _ h => nomatch h⟩⟩))), List.forall_mem_cons.mpr ⟨Or.inr (Or.inr (Or.inr (Or.inr ⟨List.cons_ne_nil _ _, List.forall_mem_cons.mpr ⟨⟨by decide, Or.inr mok2, q563, q565, qs1, fun h => absurd h (by decide)⟩, fun _ h => nomatch h⟩⟩))), List.forall_mem_cons.mpr ⟨Or.inr (Or.inr (Or.inr (Or.inr ⟨List.cons_ne_nil _ _, List.forall_mem_cons.mpr ⟨⟨by decide, Or.inr mok84, q575, q576, q577, fun h => absurd h (by decide)⟩, fun _ h => nomatch h⟩⟩))), List.forall_mem_cons.mpr ⟨Or.inr (Or.inr (Or.inr (Or.inr ⟨List.cons_ne_nil _ _, List.forall_mem_cons.mpr ⟨⟨by decide, Or.inr mok114, q1132, q786, q787, fun h => absurd h (by decide)⟩, fun _ h => nomatch h⟩⟩))), List.forall_mem_cons.mpr ⟨Or.inr (Or.inr (Or.inr (Or.inr ⟨List.cons_ne_nil _ _, List.forall_mem_cons.mpr ⟨⟨by decide, Or.inr mok8, q1128, q1130, qs32, fun h => absurd h (by decide)⟩, fun _ h => nomatch h⟩⟩))), List.forall_mem_cons.mpr ⟨Or.inr (Or.inr (Or.inr (Or.inr ⟨List.cons_ne_nil _ _, List.forall_mem_cons.mpr ⟨⟨mok9, q1133, q1134⟩, fun _ h => nomatch h⟩⟩))), List.forall_mem_cons.mpr ⟨Or.inr (Or.inr (Or.inr (Or.inr ⟨List.cons_ne_nil _ _, List.forall_mem_cons.mpr ⟨⟨by decide, Or.inr mok12, q1200, q1202, qs35, fun h => absurd h (by decide)⟩, fun _ h => nomatch h⟩⟩))), List.forall_mem_cons.mpr ⟨Or.inr (Or.inr (Or.inr (Or.inr ⟨List.cons_ne_nil _ _, List.forall_mem_cons.mpr ⟨⟨by decide, Or.inr mok7, q1124, q1126, qs31, fun h => absurd h (by decide)⟩, fun _ h => nomatch h⟩⟩))), List.forall_mem_cons.mpr ⟨Or.inr (Or.inr (Or.inr (Or.inr ⟨List.cons_ne_nil _ _, List.forall_mem_cons.mpr ⟨⟨by decide, Or.inr mok123, q1138, q1139, q1140, fun h => absurd h (by decide)⟩, fun _ h => nomatch h⟩⟩))), List.forall_mem_cons.mpr ⟨Or.inr (Or.inr (Or.inr (Or.inr ⟨List.cons_ne_nil _ _, List.forall_mem_cons.mpr ⟨⟨by decide, Or.inr mok115, q1136, q974, q975, fun h => absurd h (by decide)⟩, fun _ h => nomatch h⟩⟩))), List.forall_mem_cons.mpr ⟨Or.inr (Or.inr (Or.inr (Or.inr ⟨List.cons_ne_nil _ _, List.forall_mem_cons.mpr ⟨⟨by decide, Or.inr mok124, q1142, q1143, q1144, fun h => absurd h (by decide)⟩, fun _ h => nomatch h⟩⟩))), List.forall_mem_cons.mpr ⟨Or.inr (Or.inr (Or.inr (Or.inr ⟨List.cons_ne_nil _ _, List.forall_mem_cons.mpr ⟨⟨by decide, Or.inr mok125, q1146, q1147, q1148, fun h => absurd h (by decide)⟩, fun _ h => nomatch h⟩⟩))), List.forall_mem_cons.mpr ⟨Or.inr (Or.inr (Or.inr (Or.inr ⟨List.cons_ne_nil _ _, List.forall_mem_cons.mpr ⟨⟨by decide, Or.inr mok128, q1188, q1189, q1190, fun h => absurd h (by decide)⟩, fun _ h => nomatch h⟩⟩))), List.forall_mem_cons.mpr ⟨Or.inr (Or.inr (Or.inr (Or.inr ⟨List.cons_ne_nil _ _, List.forall_mem_cons.mpr ⟨⟨by decide, Or.inr mok11, q1196, q1198, qs34, fun h => absurd h (by decide)⟩, fun _ h => nomatch h⟩⟩))), List.forall_mem_cons.mpr ⟨Or.inr (Or.inr (Or.inr (Or.inr ⟨List.cons_ne_nil _ _, List.forall_mem_cons.mpr ⟨⟨by decide, Or.inr mok129, q1205, q1206, q1207, fun h => absurd h (by decide)⟩, fun _ h => nomatch h⟩⟩))), List.forall_mem_cons.mpr ⟨Or.inr (Or.inr (Or.inr (Or.inr ⟨List.cons_ne_nil _ _, List.forall_mem_cons.mpr ⟨⟨by decide, Or.inr mok130, q1209, q1210, q1211, fun h => absurd h (by decide)⟩, fun _ h => nomatch h⟩⟩))), List.forall_mem_cons.mpr ⟨Or.inr (Or.inr (Or.inr (Or.inr ⟨List.cons_ne_nil _ _, List.forall_mem_cons.mpr ⟨⟨by decide, Or.inr mok134, q1225, q1226, q1227, fun h => absurd h (by decide)⟩, fun _ h => nomatch h⟩⟩))), List.forall_mem_cons.mpr ⟨Or.inr (Or.inr (Or.inr (Or.inr ⟨List.cons_ne_nil _ _, List.forall_mem_cons.mpr ⟨⟨by decide, Or.inr mok338, q1237, q1238, q1239, fun h => absurd h (by decide)⟩, fun _ h => nomatch h⟩⟩))), List.forall_mem_cons.mpr ⟨Or.inr (Or.inr (Or.inr (Or.inr ⟨List.cons_ne_nil _ _, List.forall_mem_cons.mpr ⟨⟨by decide, Or.inr mok14, q1233, q1235, qs38, fun h => absurd h (by decide)⟩, fun _ h => nomatch h⟩⟩))), List.forall_mem_cons.mpr ⟨Or.inr (Or.inr (Or.inr (Or.inr ⟨List.cons_ne_nil _ _, List.forall_mem_cons.mpr ⟨⟨by decide, Or.inr mok136, q1273, q1274, q1275, fun h => absurd h (by decide)⟩, fun _ h => nomatch h⟩⟩))), List.forall_mem_cons.mpr ⟨Or.inr (Or.inr (Or.inr (Or.inl ⟨rfl, q1281⟩))), List.forall_mem_cons.mpr ⟨Or.inr (Or.inr (Or.inr (Or.inr ⟨List.cons_ne_nil _ _, List.forall_mem_cons.mpr ⟨⟨by decide, Or.inr mok135, q1245, q1246, q1247, fun h => absurd h (by decide)⟩, fun _ h => nomatch h⟩⟩))), List.forall_mem_cons.mpr ⟨Or.inr (Or.inr (Or.inr (Or.inr ⟨List.cons_ne_nil _ _, List.forall_mem_cons.mpr ⟨⟨by decide, Or.inr mok16, q1269, q1271, qs39, fun h => absurd h (by decide)⟩, fun _ h => nomatch h⟩⟩))), List.forall_mem_cons.mpr ⟨Or.inr (Or.inr (Or.inr (Or.inr ⟨List.cons_ne_nil _ _, List.forall_mem_cons.mpr ⟨⟨by decide, Or.inr mok19, q1290, q1292, qs40, fun h => absurd h (by decide)⟩, fun _ h => nomatch h⟩⟩))), List.forall_mem_cons.mpr ⟨Or.inr (Or.inr (Or.inl ⟨rfl, q1298⟩)), List.forall_mem_cons.mpr ⟨Or.inr (Or.inr (Or.inr (Or.inr ⟨List.cons_ne_nil _ _, List.forall_mem_cons.mpr ⟨⟨by decide, Or.inr mok138, q1310, q1311, q1312, fun h => absurd h (by decide)⟩, fun _ h => nomatch h⟩⟩))), List.forall_mem_cons.mpr ⟨Or.inr (Or.inr (Or.inr (Or.inr ⟨List.cons_ne_nil _ _, List.forall_mem_cons.mpr ⟨⟨mok22, q1303, q1304⟩, fun _ h => nomatch h⟩⟩))), List.forall_mem_cons.mpr ⟨Or.inr (Or.inr (Or.inr (Or.inr ⟨List.cons_ne_nil _ _, List.forall_mem_cons.mpr ⟨⟨by decide, Or.inr mok23, q1306, q1308, qs41, fun h => absurd h (by decide)⟩, fun _ h => nomatch h⟩⟩))), List.forall_mem_cons.mpr ⟨Or.inr (Or.inr (Or.inr (Or.inr ⟨List.cons_ne_nil _ _, List.forall_mem_cons.mpr ⟨⟨by decide, Or.inr mok109, q1362, q1258, q1259, fun h => absurd h (by decide)⟩, fun _ h => nomatch h⟩⟩))), List.forall_mem_cons.mpr ⟨Or.inr (Or.inr (Or.inr (Or.inr ⟨List.cons_ne_nil _ _, List.forall_mem_cons.mpr ⟨⟨by decide, Or.inr mok31, q1358, q1360, qs45, fun h => absurd h (by decide)⟩, fun _ h => nomatch h⟩⟩))), List.forall_mem_cons.mpr ⟨Or.inr (Or.inr (Or.inr (Or.inr ⟨List.cons_ne_nil _ _, List.forall_mem_cons.mpr ⟨⟨by decide, Or.inr mok108, q1363, q1252, q1253, fun h => absurd h (by decide)⟩, fun _ h => nomatch h⟩⟩))), List.forall_mem_cons.mpr ⟨Or.inr (Or.inr (Or.inr (Or.inr ⟨List.cons_ne_nil _ _, List.forall_mem_cons.mpr ⟨⟨by decide, Or.inr mok132, q1364, q1218, q1219, fun h => absurd h (by decide)⟩, fun _ h => nomatch h⟩⟩))), List.forall_mem_cons.mpr ⟨Or.inr (Or.inr (Or.inr (Or.inr ⟨List.cons_ne_nil _ _, List.forall_mem_cons.mpr ⟨⟨by decide, Or.inr mok29, q1350, q1352, qs43, fun h => absurd h (by decide)⟩, fun _ h => nomatch h⟩⟩))), List.forall_mem_cons.mpr ⟨Or.inr (Or.inr (Or.inr (Or.inr ⟨List.cons_ne_nil _ _, List.forall_mem_cons.mpr ⟨⟨by decide, Or.inr mok30, q1354, q1356, qs44, fun h => absurd h (by decide)⟩, fun _ h => nomatch h⟩⟩))), List.forall_mem_cons.mpr ⟨Or.inr (Or.inr (Or.inr (Or.inr ⟨List.cons_ne_nil _ _, List.forall_mem_cons.mpr ⟨⟨by decide, Or.inr mok28, q1346, q1348, qs42, fun h => absurd h (by decide)⟩, fun _ h => nomatch h⟩⟩))), List.forall_mem_cons.mpr ⟨Or.inr (Or.inr (Or.inr (Or.inr ⟨List.cons_ne_nil _ _, List.forall_mem_cons.mpr ⟨⟨by decide, Or.inr mok33, q1369, q1371, qs46, fun h => absurd h (by decide)⟩, fun _ h => nomatch h⟩⟩))), List.forall_mem_cons.mpr ⟨Or.inr (Or.inr (Or.inr (Or.inr ⟨List.cons_ne_nil _ _, List.forall_mem_cons.mpr ⟨⟨by decide, Or.inr mok34, q1373, q1375, qs47, fun h => absurd h (by decide)⟩, fun _ h => nomatch h⟩⟩))), List.forall_mem_cons.mpr ⟨Or.inr (Or.inr (Or.inr (Or.inr ⟨List.cons_ne_nil _ _, List.forall_mem_cons.mpr ⟨⟨by decide, Or.inr mok37, q1386, q1388, qs49, fun h => absurd h (by decide)⟩, fun _ h => nomatch h⟩⟩))), List.forall_mem_cons.mpr ⟨Or.inr (Or.inr (Or.inr (Or.inr ⟨List.cons_ne_nil _ _, List.forall_mem_cons.mpr ⟨⟨mok340, q1381, q1164⟩, fun _ h => nomatch h⟩⟩))), List.forall_mem_cons.mpr ⟨Or.inr (Or.inr (Or.inr (Or.inr ⟨List.cons_ne_nil _ _, List.forall_mem_cons.mpr ⟨⟨by decide, Or.inr mok36, q1382, q1384, qs48, fun h => absurd h (by decide)⟩, fun _ h => nomatch h⟩⟩))), List.forall_mem_cons.mpr ⟨Or.inr (Or.inr (Or.inr (Or.inr ⟨List.cons_ne_nil _ _, List.forall_mem_cons.mpr ⟨⟨by decide, Or.inr mok40, q1399, q1401, qs50, fun h => absurd h (by decide)⟩, fun _ h => nomatch h⟩⟩))), List.forall_mem_cons.mpr ⟨Or.inr (Or.inr (Or.inr (Or.inr ⟨List.cons_ne_nil _ _, List.forall_mem_cons.mpr ⟨⟨by decide, Or.inr mok127, q1423, q1156, q1157, fun h => absurd h (by decide)⟩, fun _ h => nomatch h⟩⟩))), List.forall_mem_cons.mpr ⟨Or.inr (Or.inr (Or.inr (Or.inr ⟨List.cons_ne_nil _ _, List.forall_mem_cons.mpr ⟨⟨by decide, Or.inr mok51, q1456, q1445, q1446, fun h => absurd h (by decide)⟩, fun _ h => nomatch h⟩⟩))), List.forall_mem_cons.mpr ⟨Or.inr (Or.inr (Or.inr (Or.inr ⟨List.cons_ne_nil _ _, List.forall_mem_cons.mpr ⟨⟨by decide, Or.inr mok61, q1485, q1487, qs51, fun h => absurd h (by decide)⟩, fun _ h => nomatch h⟩⟩))), List.forall_mem_cons.mpr ⟨Or.inr (Or.inr (Or.inr (Or.inr ⟨List.cons_ne_nil _ _, List.forall_mem_cons.mpr ⟨⟨by decide, Or.inr mok139, q1505, q1315, q1316, fun h => absurd h (by decide)⟩, fun _ h => nomatch h⟩⟩))), List.forall_mem_cons.mpr ⟨Or.inr (Or.inr (Or.inr (Or.inr ⟨List.cons_ne_nil _ _, List.forall_mem_cons.mpr ⟨⟨mok66, q1506, q1507⟩, fun _ h => nomatch h⟩⟩))), List.forall_mem_cons.mpr ⟨Or.inr (Or.inr (Or.inr (Or.inr ⟨List.cons_ne_nil _ _, List.forall_mem_cons.mpr ⟨⟨by decide, Or.inr mok41, q1509, q1404, q1405, fun h => absurd h (by decide)⟩, fun _ h => nomatch h⟩⟩))), fun _ h => nomatch h⟩⟩⟩⟩⟩⟩⟩⟩⟩⟩⟩⟩⟩⟩⟩⟩⟩⟩⟩⟩⟩⟩⟩⟩⟩⟩⟩⟩⟩⟩⟩⟩⟩⟩⟩⟩⟩⟩⟩⟩⟩⟩⟩⟩⟩⟩⟩⟩⟩⟩⟩⟩⟩⟩⟩⟩
theorem iok1 : ∀ e ∈ aInvL.getD 1 [], aIoks 1 e := List.forall_mem_cons.mpr ⟨Or.inr (Or.inl ⟨rfl, q198⟩), fun _ h => nomatch h⟩
theorem iok2 : ∀ e ∈ aInvL.getD 2 [], aIoks 2 e := List.forall_mem_cons.mpr ⟨Or.inr (Or.inr (Or.inr (Or.inr ⟨List.cons_ne_nil _ _, List.forall_mem_cons.mpr ⟨⟨mok68, q222, q223, rfl, rfl⟩, fun _ h => nomatch h⟩⟩))), fun _ h => nomatch h⟩
theorem iok3 : ∀ e ∈ aInvL.getD 3 [], aIoks 3 e := List.forall_mem_cons.mpr ⟨Or.inr (Or.inr (Or.inr (Or.inr ⟨List.cons_ne_nil _ _, List.forall_mem_cons.mpr ⟨⟨mok69, q219, q220, rfl, rfl⟩, fun _ h => nomatch h⟩⟩))), fun _ h => nomatch h⟩
theorem iok4 : ∀ e ∈ aInvL.getD 4 [], aIoks 4 e := List.forall_mem_cons.mpr ⟨Or.inr (Or.inr (Or.inr (Or.inr ⟨List.cons_ne_nil _ _, List.forall_mem_cons.mpr ⟨⟨mok70, q216, q217, rfl, rfl⟩, fun _ h => nomatch h⟩⟩))), fun _ h => nomatch h⟩
theorem iok5 : ∀ e ∈ aInvL.getD 5 [], aIoks 5 e := List.forall_mem_cons.mpr ⟨Or.inr (Or.inl ⟨rfl, q252⟩), List.forall_mem_cons.mpr ⟨Or.inr (Or.inr (Or.inr (Or.inr ⟨List.cons_ne_nil _ _, List.forall_mem_cons.mpr ⟨⟨by decide, Or.inr mok76, q587, q589, qs3, fun h => absurd h (by decide)⟩, fun _ h => nomatch h⟩⟩))), List.forall_mem_cons.mpr ⟨Or.inr (Or.inr (Or.inr (Or.inr ⟨List.cons_ne_nil _ _, List.forall_mem_cons.mpr ⟨⟨by decide, Or.inr mok275, q595, q596, q597, fun h => absurd h (by decide)⟩, fun _ h => nomatch h⟩⟩))), List.forall_mem_cons.mpr ⟨Or.inr (Or.inr (Or.inr (Or.inr ⟨List.cons_ne_nil _ _, List.forall_mem_cons.mpr ⟨⟨by decide, Or.inr mok277, q605, q606, q607, fun h => absurd h (by decide)⟩, fun _ h => nomatch h⟩⟩))), List.forall_mem_cons.mpr ⟨Or.inr (Or.inr (Or.inr (Or.inr ⟨List.cons_ne_nil _ _, List.forall_mem_cons.mpr ⟨⟨by decide, Or.inr mok75, q583, q585, qs2, fun h => absurd h (by decide)⟩, fun _ h => nomatch h⟩⟩))), List.forall_mem_cons.mpr ⟨Or.inr (Or.inr (Or.inr (Or.inr ⟨List.cons_ne_nil _ _, List.forall_mem_cons.mpr ⟨⟨by decide, Or.inr mok77, q591, q593, qs4, fun h => absurd h (by decide)⟩, fun _ h => nomatch h⟩⟩))), List.forall_mem_cons.mpr ⟨Or.inr (Or.inr (Or.inr (Or.inr ⟨List.cons_ne_nil _ _, List.forall_mem_cons.mpr ⟨⟨by decide, Or.inr mok78, q643, q645, qs5, fun h => absurd h (by decide)⟩, fun _ h => nomatch h⟩⟩))), List.forall_mem_cons.mpr ⟨Or.inr (Or.inr (Or.inr (Or.inr ⟨List.cons_ne_nil _ _, List.forall_mem_cons.mpr ⟨⟨by decide, Or.inr mok79, q647, q649, qs6, fun h => absurd h (by decide)⟩, fun _ h => nomatch h⟩⟩))), List.forall_mem_cons.mpr ⟨Or.inr (Or.inr (Or.inr (Or.inr ⟨List.cons_ne_nil _ _, List.forall_mem_cons.mpr ⟨⟨by decide, Or.inr mok80, q651, q653, qs7, fun h => absurd h (by decide)⟩, fun _ h => nomatch h⟩⟩))), List.forall_mem_cons.mpr ⟨Or.inr (Or.inr (Or.inr (Or.inr ⟨List.cons_ne_nil _ _, List.forall_mem_cons.mpr ⟨⟨mok322, q805, q806, rfl, rfl⟩, fun _ h => nomatch h⟩⟩))), List.forall_mem_cons.mpr ⟨Or.inr (Or.inr (Or.inr (Or.inr ⟨List.cons_ne_nil _ _, List.forall_mem_cons.mpr ⟨⟨by decide, Or.inr mok323, q833, q834, q835, fun h => absurd h (by decide)⟩, fun _ h => nomatch h⟩⟩))), List.forall_mem_cons.mpr ⟨Or.inr (Or.inr (Or.inr (Or.inr ⟨List.cons_ne_nil _ _, List.forall_mem_cons.mpr ⟨⟨by decide, Or.inr mok324, q908, q909, q910, fun h => absurd h (by decide)⟩, fun _ h => nomatch h⟩⟩))), fun _ h => nomatch h⟩⟩⟩⟩⟩⟩⟩⟩⟩⟩⟩⟩
theorem iok6 : ∀ e ∈ aInvL.getD 6 [], aIoks 6 e := List.forall_mem_cons.mpr ⟨Or.inr (Or.inl ⟨rfl, q312⟩), List.forall_mem_cons.mpr ⟨Or.inr (Or.inr (Or.inr (Or.inr ⟨List.cons_ne_nil _ _, List.forall_mem_cons.mpr ⟨⟨by decide, Or.inr mok72, q669, q670, q671, fun h => absurd h (by decide)⟩, fun _ h => nomatch h⟩⟩))), List.forall_mem_cons.mpr ⟨Or.inr (Or.inr (Or.inr (Or.inr ⟨List.cons_ne_nil _ _, List.forall_mem_cons.mpr ⟨⟨by decide, Or.inr mok87, q665, q667, qs10, fun h => absurd h (by decide)⟩, fun _ h => nomatch h⟩⟩))), List.forall_mem_cons.mpr ⟨Or.inr (Or.inr (Or.inr (Or.inr ⟨List.cons_ne_nil _ _, List.forall_mem_cons.mpr ⟨⟨by decide, Or.inr mok86, q661, q663, qs9, fun h => absurd h (by decide)⟩, fun _ h => nomatch h⟩⟩))), List.forall_mem_cons.mpr ⟨Or.inr (Or.inr (Or.inr (Or.inr ⟨List.cons_ne_nil _ _, List.forall_mem_cons.mpr ⟨⟨by decide, Or.inr mok92, q714, q716, qs15, fun h => absurd h (by decide)⟩, fun _ h => nomatch h⟩⟩))), List.forall_mem_cons.mpr ⟨Or.inr (Or.inr (Or.inr (Or.inr ⟨List.cons_ne_nil _ _, List.forall_mem_cons.mpr ⟨⟨by decide, Or.inr mok89, q677, q679, qs12, fun h => absurd h (by decide)⟩, fun _ h => nomatch h⟩⟩))), List.forall_mem_cons.mpr ⟨Or.inr (Or.inr (Or.inr (Or.inr ⟨List.cons_ne_nil _ _, List.forall_mem_cons.mpr ⟨⟨by decide, Or.inr mok93, q718, q720, qs16, fun h => absurd h (by decide)⟩, fun _ h => nomatch h⟩⟩))), List.forall_mem_cons.mpr ⟨Or.inr (Or.inr (Or.inr (Or.inr ⟨List.cons_ne_nil _ _, List.forall_mem_cons.mpr ⟨⟨by decide, Or.inr mok85, q657, q659, qs8, fun h => absurd h (by decide)⟩, fun _ h => nomatch h⟩⟩))), List.forall_mem_cons.mpr ⟨Or.inr (Or.inr (Or.inr (Or.inr ⟨List.cons_ne_nil _ _, List.forall_mem_cons.mpr ⟨⟨by decide, Or.inr mok100, q795, q797, qs23, fun h => absurd h (by decide)⟩, fun _ h => nomatch h⟩⟩))), List.forall_mem_cons.mpr ⟨Or.inr (Or.inr (Or.inr (Or.inr ⟨List.cons_ne_nil _ _, List.forall_mem_cons.mpr ⟨⟨by decide, Or.inr mok81, q740, q741, q742, fun h => absurd h (by decide)⟩, fun _ h => nomatch h⟩⟩))), List.forall_mem_cons.mpr ⟨Or.inr (Or.inr (Or.inr (Or.inr ⟨List.cons_ne_nil _ _, List.forall_mem_cons.mpr ⟨⟨by decide, Or.inr mok101, q994, q996, qs24, fun h => absurd h (by decide)⟩, fun _ h => nomatch h⟩⟩))), List.forall_mem_cons.mpr ⟨Or.inr (Or.inr (Or.inr (Or.inr ⟨List.cons_ne_nil _ _, List.forall_mem_cons.mpr ⟨⟨by decide, Or.inr mok82, q799, q800, q801, fun h => absurd h (by decide)⟩, fun _ h => nomatch h⟩⟩))), List.forall_mem_cons.mpr ⟨Or.inr (Or.inr (Or.inr (Or.inr ⟨List.cons_ne_nil _ _, List.forall_mem_cons.mpr ⟨⟨by decide, Or.inr mok106, q965, q966, q967, fun h => absurd h (by decide)⟩, fun _ h => nomatch h⟩⟩))), List.forall_mem_cons.mpr ⟨Or.inr (Or.inr (Or.inr (Or.inr ⟨List.cons_ne_nil _ _, List.forall_mem_cons.mpr ⟨⟨mok107, q1114, q970⟩, fun _ h => nomatch h⟩⟩))), List.forall_mem_cons.mpr ⟨Or.inr (Or.inr (Or.inr (Or.inr ⟨List.cons_ne_nil _ _, List.forall_mem_cons.mpr ⟨⟨by decide, Or.inr mok74, q579, q580, q581, fun h => absurd h (by decide)⟩, fun _ h => nomatch h⟩⟩))), List.forall_mem_cons.mpr ⟨Or.inr (Or.inr (Or.inr (Or.inr ⟨List.cons_ne_nil _ _, List.forall_mem_cons.mpr ⟨⟨mok105, ⟨"LentSundays", List.mem_of_getElem? (i := 8) rfl⟩, q338, rfl, rfl⟩, fun _ h => nomatch h⟩⟩))), List.forall_mem_cons.mpr ⟨Or.inr (Or.inr (Or.inr (Or.inr ⟨List.cons_ne_nil _ _, List.forall_mem_cons.mpr ⟨⟨by decide, Or.inr mok88, q673, q675, qs11, fun h => absurd h (by decide)⟩, fun _ h => nomatch h⟩⟩))), List.forall_mem_cons.mpr ⟨Or.inr (Or.inr (Or.inr (Or.inr ⟨List.cons_ne_nil _ _, List.forall_mem_cons.mpr ⟨⟨by decide, Or.inr mok91, q710, q712, qs14, fun h => absurd h (by decide)⟩, fun _ h => nomatch h⟩⟩))), List.forall_mem_cons.mpr ⟨Or.inr (Or.inr (Or.inr (Or.inr ⟨List.cons_ne_nil _ _, List.forall_mem_cons.mpr ⟨⟨by decide, Or.inr mok90, q681, q683, qs13, fun h => absurd h (by decide)⟩, fun _ h => nomatch h⟩⟩))), List.forall_mem_cons.mpr ⟨Or.inr (Or.inr (Or.inr (Or.inr ⟨List.cons_ne_nil _ _, List.forall_mem_cons.mpr ⟨⟨by decide, Or.inr mok114, q785, q786, q787, fun h => absurd h (by decide)⟩, fun _ h => nomatch h⟩⟩))), List.forall_mem_cons.mpr ⟨Or.inr (Or.inr (Or.inr (Or.inr ⟨List.cons_ne_nil _ _, List.forall_mem_cons.mpr ⟨⟨by decide, Or.inr mok94, q722, q724, qs17, fun h => absurd h (by decide)⟩, fun _ h => nomatch h⟩⟩))), List.forall_mem_cons.mpr ⟨Or.inr (Or.inr (Or.inr (Or.inr ⟨List.cons_ne_nil _ _, List.forall_mem_cons.mpr ⟨⟨by decide, Or.inr mok99, q791, q793, qs22, fun h => absurd h (by decide)⟩, fun _ h => nomatch h⟩⟩))), List.forall_mem_cons.mpr ⟨Or.inr (Or.inr (Or.inr (Or.inr ⟨List.cons_ne_nil _ _, List.forall_mem_cons.mpr ⟨⟨mok313, q998, q999, rfl, rfl⟩, fun _ h => nomatch h⟩⟩))), List.forall_mem_cons.mpr ⟨Or.inr (Or.inr (Or.inr (Or.inr ⟨List.cons_ne_nil _ _, List.forall_mem_cons.mpr ⟨⟨by decide, Or.inr mok102, q1020, q1022, qs25, fun h => absurd h (by decide)⟩, fun _ h => nomatch h⟩⟩))), List.forall_mem_cons.mpr ⟨Or.inr (Or.inr (Or.inr (Or.inr ⟨List.cons_ne_nil _ _, List.forall_mem_cons.mpr ⟨⟨by decide, Or.inr mok117, q1024, q1025, q1026, fun h => absurd h (by decide)⟩, fun _ h => nomatch h⟩⟩))), List.forall_mem_cons.mpr ⟨Or.inr (Or.inr (Or.inr (Or.inr ⟨List.cons_ne_nil _ _, List.forall_mem_cons.mpr ⟨⟨mok337, q1077, q1078, rfl, rfl⟩, fun _ h => nomatch h⟩⟩))), List.forall_mem_cons.mpr ⟨Or.inr (Or.inr (Or.inr (Or.inr ⟨List.cons_ne_nil _ _, List.forall_mem_cons.mpr ⟨⟨by decide, Or.inr mok103, q1106, q1108, qs29, fun h => absurd h (by decide)⟩, fun _ h => nomatch h⟩⟩))), List.forall_mem_cons.mpr ⟨Or.inr (Or.inr (Or.inr (Or.inr ⟨List.cons_ne_nil _ _, List.forall_mem_cons.mpr ⟨⟨by decide, Or.inr mok104, q1110, q1112, qs30, fun h => absurd h (by decide)⟩, fun _ h => nomatch h⟩⟩))), List.forall_mem_cons.mpr ⟨Or.inr (Or.inr (Or.inr (Or.inr ⟨List.cons_ne_nil _ _, List.forall_mem_cons.mpr ⟨⟨by decide, Or.inr mok115, q1115, q974, q975, fun h => absurd h (by decide)⟩, fun _ h => nomatch h⟩⟩))), List.forall_mem_cons.mpr ⟨Or.inr (Or.inr (Or.inr (Or.inr ⟨List.cons_ne_nil _ _, List.forall_mem_cons.mpr ⟨⟨mok303, ⟨"LentSundays", List.mem_of_getElem? (i := 9) rfl⟩, q688, rfl, rfl⟩, fun _ h => nomatch h⟩⟩))), List.forall_mem_cons.mpr ⟨Or.inr (Or.inr (Or.inr (Or.inr ⟨List.cons_ne_nil _ _, List.forall_mem_cons.mpr ⟨⟨by decide, Or.inr mok95, q726, q728, qs18, fun h => absurd h (by decide)⟩, fun _ h => nomatch h⟩⟩))), List.forall_mem_cons.mpr ⟨Or.inr (Or.inr (Or.inr (Or.inr ⟨List.cons_ne_nil _ _, List.forall_mem_cons.mpr ⟨⟨by decide, Or.inr mok98, q781, q783, qs21, fun h => absurd h (by decide)⟩, fun _ h => nomatch h⟩⟩))), List.forall_mem_cons.mpr ⟨Or.inr (Or.inr (Or.inr (Or.inr ⟨List.cons_ne_nil _ _, List.forall_mem_cons.mpr ⟨⟨by decide, Or.inr mok96, q730, q732, qs19, fun h => absurd h (by decide)⟩, fun _ h => nomatch h⟩⟩))), List.forall_mem_cons.mpr ⟨Or.inr (Or.inr (Or.inr (Or.inr ⟨List.cons_ne_nil _ _, List.forall_mem_cons.mpr ⟨⟨mok310, q767, q768, rfl, rfl⟩, fun _ h => nomatch h⟩⟩))), List.forall_mem_cons.mpr ⟨Or.inr (Or.inr (Or.inr (Or.inr ⟨List.cons_ne_nil _ _, List.forall_mem_cons.mpr ⟨⟨by decide, Or.inr mok97, q734, q736, qs20, fun h => absurd h (by decide)⟩, fun _ h => nomatch h⟩⟩))), List.forall_mem_cons.mpr ⟨Or.inr (Or.inr (Or.inr (Or.inr ⟨List.cons_ne_nil _ _, List.forall_mem_cons.mpr ⟨⟨mok306, q744, q745, rfl, rfl⟩, fun _ h => nomatch h⟩⟩))), List.forall_mem_cons.mpr ⟨Or.inr (Or.inr (Or.inr (Or.inr ⟨List.cons_ne_nil _ _, List.forall_mem_cons.mpr ⟨⟨mok308, q757, q758, rfl, rfl⟩, fun _ h => nomatch h⟩⟩))), fun _ h => nomatch h⟩⟩⟩⟩⟩⟩⟩⟩⟩⟩⟩⟩⟩⟩⟩⟩⟩⟩⟩⟩⟩⟩⟩⟩⟩⟩⟩⟩⟩⟩⟩⟩⟩⟩⟩⟩⟩
theorem iok7 : ∀ e ∈ aInvL.getD 7 [], aIoks 7 e := List.forall_mem_cons.mpr ⟨Or.inr (Or.inl ⟨rfl, q340⟩), List.forall_mem_cons.mpr ⟨Or.inr (Or.inr (Or.inr (Or.inr ⟨List.cons_ne_nil _ _, List.forall_mem_cons.mpr ⟨⟨mok113, q343, q344, rfl, rfl⟩, fun _ h => nomatch h⟩⟩))), List.forall_mem_cons.mpr ⟨Or.inr (Or.inr (Or.inr (Or.inr ⟨List.cons_ne_nil _ _, List.forall_mem_cons.mpr ⟨⟨by decide, Or.inr mok114, q972, q786, q787, fun h => absurd h (by decide)⟩, fun _ h => nomatch h⟩⟩))), List.forall_mem_cons.mpr ⟨Or.inr (Or.inr (Or.inr (Or.inr ⟨List.cons_ne_nil _ _, List.forall_mem_cons.mpr ⟨⟨by decide, Or.inr mok115, q973, q974, q975, fun h => absurd h (by decide)⟩, fun _ h => nomatch h⟩⟩))), List.forall_mem_cons.mpr ⟨Or.inr (Or.inr (Or.inr (Or.inr ⟨List.cons_ne_nil _ _, List.forall_mem_cons.mpr ⟨⟨by decide, Or.inr mok283, q986, q987, q988, fun h => absurd h (by decide)⟩, fun _ h => nomatch h⟩⟩))), List.forall_mem_cons.mpr ⟨Or.inr (Or.inr (Or.inr (Or.inr ⟨List.cons_ne_nil _ _, List.forall_mem_cons.mpr ⟨⟨mok107, q969, q970⟩, fun _ h => nomatch h⟩⟩))), List.forall_mem_cons.mpr ⟨Or.inr (Or.inr (Or.inr (Or.inr ⟨List.cons_ne_nil _ _, List.forall_mem_cons.mpr ⟨⟨by decide, Or.inr mok339, q1265, q1266, q1267, fun h => absurd h (by decide)⟩, fun _ h => nomatch h⟩⟩))), List.forall_mem_cons.mpr ⟨Or.inr (Or.inr (Or.inr (Or.inr ⟨List.cons_ne_nil _ _, List.forall_mem_cons.mpr ⟨⟨by decide, Or.inr mok110, q1261, q1262, q1263, fun h => absurd h (by decide)⟩, fun _ h => nomatch h⟩⟩))), fun _ h => nomatch h⟩⟩⟩⟩⟩⟩⟩⟩
theorem iok8 : ∀ e ∈ aInvL.getD 8 [], aIoks 8 e := List.forall_mem_cons.mpr ⟨Or.inr (Or.inl ⟨rfl, q352⟩), fun _ h => nomatch h⟩
theorem iok9 : ∀ e ∈ aInvL.getD 9 [], aIoks 9 e := List.forall_mem_cons.mpr ⟨Or.inr (Or.inr (Or.inr (Or.inr ⟨List.cons_ne_nil _ _, List.forall_mem_cons.mpr ⟨⟨mok111, q349, q350, rfl, rfl⟩, fun _ h => nomatch h⟩⟩))), fun _ h => nomatch h⟩
theorem iok10 : ∀ e ∈ aInvL.getD 10 [], aIoks 10 e := List.forall_mem_cons.mpr ⟨Or.inr (Or.inr (Or.inr (Or.inr ⟨List.cons_ne_nil _ _, List.forall_mem_cons.mpr ⟨⟨mok112, q346, q347, rfl, rfl⟩, fun _ h => nomatch h⟩⟩))), List.forall_mem_cons.mpr ⟨Or.inr (Or.inr (Or.inr (Or.inr ⟨List.cons_ne_nil _ _, List.forall_mem_cons.mpr ⟨⟨mok334, q1041, q1042⟩, fun _ h => nomatch h⟩⟩))), List.forall_mem_cons.mpr ⟨Or.inr (Or.inr (Or.inr (Or.inr ⟨List.cons_ne_nil _ _, List.forall_mem_cons.mpr ⟨⟨by decide, Or.inr mok120, q1036, q1038, qs28, fun h => absurd h (by decide)⟩, fun _ h => nomatch h⟩⟩))), List.forall_mem_cons.mpr ⟨Or.inr (Or.inr (Or.inr (Or.inr ⟨List.cons_ne_nil _ _, List.forall_mem_cons.mpr ⟨⟨mok326, q1040, q849⟩, fun _ h => nomatch h⟩⟩))), List.forall_mem_cons.mpr ⟨Or.inr (Or.inr (Or.inl ⟨rfl, q1073⟩)), List.forall_mem_cons.mpr ⟨Or.inr (Or.inr (Or.inr (Or.inr ⟨List.cons_ne_nil _ _, List.forall_mem_cons.mpr ⟨⟨mok336, q977, q978⟩, fun _ h => nomatch h⟩⟩))), List.forall_mem_cons.mpr ⟨Or.inr (Or.inr (Or.inr (Or.inr ⟨List.cons_ne_nil _ _, List.forall_mem_cons.mpr ⟨⟨by decide, Or.inr mok116, q981, q982, q983, fun h => absurd h (by decide)⟩, fun _ h => nomatch h⟩⟩))), List.forall_mem_cons.mpr ⟨Or.inr (Or.inr (Or.inr (Or.inr ⟨List.cons_ne_nil _ _, List.forall_mem_cons.mpr ⟨⟨by decide, Or.inr mok119, q1032, q1034, qs27, fun h => absurd h (by decide)⟩, fun _ h => nomatch h⟩⟩))), List.forall_mem_cons.mpr ⟨Or.inr (Or.inr (Or.inr (Or.inr ⟨List.cons_ne_nil _ _, List.forall_mem_cons.mpr ⟨⟨by decide, Or.inr mok118, q1028, q1030, qs26, fun h => absurd h (by decide)⟩, fun _ h => nomatch h⟩⟩))), fun _ h => nomatch h⟩⟩⟩⟩⟩⟩⟩⟩⟩
theorem iok11 : ∀ e ∈ aInvL.getD 11 [], aIoks 11 e := List.forall_mem_cons.mpr ⟨Or.inr (Or.inl ⟨rfl, q407⟩), List.forall_mem_cons.mpr ⟨Or.inr (Or.inr (Or.inr (Or.inr ⟨List.cons_ne_nil _ _, List.forall_mem_cons.mpr ⟨⟨mok140, ⟨"LentSundays", List.mem_of_getElem? (i := 3) rfl⟩, q411, rfl, rfl⟩, fun _ h => nomatch h⟩⟩))), List.forall_mem_cons.mpr ⟨Or.inl ⟨rfl, q1280⟩, List.forall_mem_cons.mpr ⟨Or.inr (Or.inr (Or.inr (Or.inr ⟨List.cons_ne_nil _ _, List.forall_mem_cons.mpr ⟨⟨mok137, q1277, q1278⟩, fun _ h => nomatch h⟩⟩))), List.forall_mem_cons.mpr ⟨Or.inr (Or.inr (Or.inr (Or.inr ⟨List.cons_ne_nil _ _, List.forall_mem_cons.mpr ⟨⟨by decide, Or.inr mok114, q1159, q786, q787, fun h => absurd h (by decide)⟩, fun _ h => nomatch h⟩⟩))), List.forall_mem_cons.mpr ⟨Or.inr (Or.inr (Or.inr (Or.inr ⟨List.cons_ne_nil _ _, List.forall_mem_cons.mpr ⟨⟨by decide, Or.inr mok115, q1160, q974, q975, fun h => absurd h (by decide)⟩, fun _ h => nomatch h⟩⟩))), List.forall_mem_cons.mpr ⟨Or.inr (Or.inr (Or.inr (Or.inr ⟨List.cons_ne_nil _ _, List.forall_mem_cons.mpr ⟨⟨by decide, Or.inr mok304, q1169, q1170, q1171, fun h => absurd h (by decide)⟩, fun _ h => nomatch h⟩⟩))), List.forall_mem_cons.mpr ⟨Or.inr (Or.inr (Or.inr (Or.inl ⟨rfl, q1187⟩))), List.forall_mem_cons.mpr ⟨Or.inr (Or.inr (Or.inr (Or.inr ⟨List.cons_ne_nil _ _, List.forall_mem_cons.mpr ⟨⟨by decide, Or.inr mok124, q1150, q1143, q1144, fun h => absurd h (by decide)⟩, fun _ h => nomatch h⟩⟩))), List.forall_mem_cons.mpr ⟨Or.inr (Or.inr (Or.inr (Or.inr ⟨List.cons_ne_nil _ _, List.forall_mem_cons.mpr ⟨⟨mok340, q1163, q1164⟩, fun _ h => nomatch h⟩⟩))), List.forall_mem_cons.mpr ⟨Or.inr (Or.inr (Or.inr (Or.inr ⟨List.cons_ne_nil _ _, List.forall_mem_cons.mpr ⟨⟨by decide, Or.inr mok133, q1221, q1223, qs37, fun h => absurd h (by decide)⟩, fun _ h => nomatch h⟩⟩))), List.forall_mem_cons.mpr ⟨Or.inr (Or.inr (Or.inr (Or.inr ⟨List.cons_ne_nil _ _, List.forall_mem_cons.mpr ⟨⟨by decide, Or.inr mok131, q1213, q1215, qs36, fun h => absurd h (by decide)⟩, fun _ h => nomatch h⟩⟩))), List.forall_mem_cons.mpr ⟨Or.inr (Or.inr (Or.inr (Or.inr ⟨List.cons_ne_nil _ _, List.forall_mem_cons.mpr ⟨⟨by decide, Or.inr mok132, q1217, q1218, q1219, fun h => absurd h (by decide)⟩, fun _ h => nomatch h⟩⟩))), List.forall_mem_cons.mpr ⟨Or.inr (Or.inr (Or.inr (Or.inr ⟨List.cons_ne_nil _ _, List.forall_mem_cons.mpr ⟨⟨by decide, Or.inr mok127, q1155, q1156, q1157, fun h => absurd h (by decide)⟩, fun _ h => nomatch h⟩⟩))), List.forall_mem_cons.mpr ⟨Or.inr (Or.inr (Or.inr (Or.inr ⟨List.cons_ne_nil _ _, List.forall_mem_cons.mpr ⟨⟨by decide, Or.inr mok126, q1151, q1153, qs33, fun h => absurd h (by decide)⟩, fun _ h => nomatch h⟩⟩))), List.forall_mem_cons.mpr ⟨Or.inr (Or.inr (Or.inr (Or.inr ⟨List.cons_ne_nil _ _, List.forall_mem_cons.mpr ⟨⟨by decide, Or.inr mok130, q1318, q1210, q1211, fun h => absurd h (by decide)⟩, fun _ h => nomatch h⟩⟩))), List.forall_mem_cons.mpr ⟨Or.inr (Or.inr (Or.inr (Or.inr ⟨List.cons_ne_nil _ _, List.forall_mem_cons.mpr ⟨⟨by decide, Or.inr mok139, q1314, q1315, q1316, fun h => absurd h (by decide)⟩, fun _ h => nomatch h⟩⟩))), List.forall_mem_cons.mpr ⟨Or.inr (Or.inr (Or.inr (Or.inr ⟨List.cons_ne_nil _ _, List.forall_mem_cons.mpr ⟨⟨by decide, Or.inr mok134, q1319, q1226, q1227, fun h => absurd h (by decide)⟩, fun _ h => nomatch h⟩⟩))), List.forall_mem_cons.mpr ⟨Or.inr (Or.inr (Or.inr (Or.inr ⟨List.cons_ne_nil _ _, List.forall_mem_cons.mpr ⟨⟨by decide, Or.inr mok125, q1320, q1147, q1148, fun h => absurd h (by decide)⟩, fun _ h => nomatch h⟩⟩))), List.forall_mem_cons.mpr ⟨Or.inr (Or.inr (Or.inr (Or.inr ⟨List.cons_ne_nil _ _, List.forall_mem_cons.mpr ⟨⟨by decide, Or.inr mok129, q1249, q1206, q1207, fun h => absurd h (by decide)⟩, fun _ h => nomatch h⟩⟩))), List.forall_mem_cons.mpr ⟨Or.inr (Or.inr (Or.inl ⟨rfl, q1321⟩)), List.forall_mem_cons.mpr ⟨Or.inr (Or.inr (Or.inr (Or.inr ⟨List.cons_ne_nil _ _, List.forall_mem_cons.mpr ⟨⟨by decide, mok143, ⟨"LentSundays$Fate", "dies", "(LLentSundays$House;LLentSundays$Text;I)Z"⟩, "LentSundays$Fate", ⟨q1322, q1324, q1325, q1326⟩, ⟨by decide, by decide, by decide +kernel⟩, Or.inr (Or.inr (List.mem_of_getElem? (i := 1) rfl))⟩, List.forall_mem_cons.mpr ⟨⟨by decide, mok145, ⟨"LentSundays$Fate", "dies", "(LLentSundays$House;LLentSundays$Text;I)Z"⟩, "LentSundays$Fate", ⟨q1322, q1324, q1335, q1336⟩, ⟨by decide, by decide, by decide +kernel⟩, Or.inr (Or.inr (List.mem_of_getElem? (i := 1) rfl))⟩, fun _ h => nomatch h⟩⟩⟩))), List.forall_mem_cons.mpr ⟨Or.inr (Or.inr (Or.inr (Or.inr ⟨List.cons_ne_nil _ _, List.forall_mem_cons.mpr ⟨⟨by decide, Or.inr mok123, q1250, q1139, q1140, fun h => absurd h (by decide)⟩, fun _ h => nomatch h⟩⟩))), List.forall_mem_cons.mpr ⟨Or.inr (Or.inr (Or.inr (Or.inr ⟨List.cons_ne_nil _ _, List.forall_mem_cons.mpr ⟨⟨by decide, Or.inr mok108, q1251, q1252, q1253, fun h => absurd h (by decide)⟩, fun _ h => nomatch h⟩⟩))), List.forall_mem_cons.mpr ⟨Or.inr (Or.inr (Or.inr (Or.inr ⟨List.cons_ne_nil _ _, List.forall_mem_cons.mpr ⟨⟨by decide, Or.inr mok109, q1257, q1258, q1259, fun h => absurd h (by decide)⟩, fun _ h => nomatch h⟩⟩))), fun _ h => nomatch h⟩⟩⟩⟩⟩⟩⟩⟩⟩⟩⟩⟩⟩⟩⟩⟩⟩⟩⟩⟩⟩⟩⟩⟩⟩
theorem iok12 : ∀ e ∈ aInvL.getD 12 [], aIoks 12 e := List.forall_mem_cons.mpr ⟨Or.inr (Or.inl ⟨rfl, q413⟩), fun _ h => nomatch h⟩
theorem iok13 : ∀ e ∈ aInvL.getD 13 [], aIoks 13 e := List.forall_mem_cons.mpr ⟨Or.inr (Or.inl ⟨rfl, q479⟩), fun _ h => nomatch h⟩
theorem iok14 : ∀ e ∈ aInvL.getD 14 [], aIoks 14 e := List.forall_mem_cons.mpr ⟨Or.inr (Or.inr (Or.inr (Or.inr ⟨List.cons_ne_nil _ _, List.forall_mem_cons.mpr ⟨⟨mok141, ⟨"LentSundays", List.mem_of_getElem? (i := 5) rfl⟩, q477, rfl, rfl⟩, fun _ h => nomatch h⟩⟩))), List.forall_mem_cons.mpr ⟨Or.inr (Or.inr (Or.inr (Or.inr ⟨List.cons_ne_nil _ _, List.forall_mem_cons.mpr ⟨⟨mok24, ⟨"LentSundays", List.mem_of_getElem? (i := 13) rfl⟩, q1329⟩, fun _ h => nomatch h⟩⟩))), fun _ h => nomatch h⟩⟩
theorem iok15 : ∀ e ∈ aInvL.getD 15 [], aIoks 15 e := List.forall_mem_cons.mpr ⟨Or.inr (Or.inr (Or.inr (Or.inr ⟨List.cons_ne_nil _ _, List.forall_mem_cons.mpr ⟨⟨mok141, ⟨"LentSundays", List.mem_of_getElem? (i := 7) rfl⟩, q477, rfl, rfl⟩, fun _ h => nomatch h⟩⟩))), fun _ h => nomatch h⟩
theorem iok16 : ∀ e ∈ aInvL.getD 16 [], aIoks 16 e := List.forall_mem_cons.mpr ⟨Or.inr (Or.inl ⟨rfl, q1515⟩), List.forall_mem_cons.mpr ⟨Or.inr (Or.inr (Or.inr (Or.inr ⟨List.cons_ne_nil _ _, List.forall_mem_cons.mpr ⟨⟨by decide, Or.inr mok147, q1516, q1518, qs52, fun h => absurd h (by decide)⟩, fun _ h => nomatch h⟩⟩))), List.forall_mem_cons.mpr ⟨Or.inr (Or.inr (Or.inr (Or.inr ⟨List.cons_ne_nil _ _, List.forall_mem_cons.mpr ⟨⟨mok148, q1520, q1521⟩, fun _ h => nomatch h⟩⟩))), List.forall_mem_cons.mpr ⟨Or.inr (Or.inr (Or.inr (Or.inr ⟨List.cons_ne_nil _ _, List.forall_mem_cons.mpr ⟨⟨by decide, Or.inr mok150, q1527, q1529, qs53, fun h => absurd h (by decide)⟩, fun _ h => nomatch h⟩⟩))), List.forall_mem_cons.mpr ⟨Or.inr (Or.inr (Or.inr (Or.inr ⟨List.cons_ne_nil _ _, List.forall_mem_cons.mpr ⟨⟨by decide, Or.inr mok151, q1531, q1533, qs54, fun h => absurd h (by decide)⟩, fun _ h => nomatch h⟩⟩))), List.forall_mem_cons.mpr ⟨Or.inr (Or.inr (Or.inr (Or.inr ⟨List.cons_ne_nil _ _, List.forall_mem_cons.mpr ⟨⟨by decide, Or.inr mok153, q1741, q1743, qs55, fun h => absurd h (by decide)⟩, fun _ h => nomatch h⟩⟩))), List.forall_mem_cons.mpr ⟨Or.inr (Or.inr (Or.inr (Or.inr ⟨List.cons_ne_nil _ _, List.forall_mem_cons.mpr ⟨⟨mok149, q1523, q1524⟩, fun _ h => nomatch h⟩⟩))), List.forall_mem_cons.mpr ⟨Or.inr (Or.inr (Or.inr (Or.inr ⟨List.cons_ne_nil _ _, List.forall_mem_cons.mpr ⟨⟨by decide, Or.inr mok157, q1757, q1759, qs57, fun h => absurd h (by decide)⟩, fun _ h => nomatch h⟩⟩))), List.forall_mem_cons.mpr ⟨Or.inr (Or.inr (Or.inr (Or.inr ⟨List.cons_ne_nil _ _, List.forall_mem_cons.mpr ⟨⟨by decide, Or.inr mok158, q1761, q1763, qs58, fun h => absurd h (by decide)⟩, fun _ h => nomatch h⟩⟩))), List.forall_mem_cons.mpr ⟨Or.inr (Or.inr (Or.inr (Or.inr ⟨List.cons_ne_nil _ _, List.forall_mem_cons.mpr ⟨⟨mok159, q1765, q1766⟩, fun _ h => nomatch h⟩⟩))), List.forall_mem_cons.mpr ⟨Or.inr (Or.inr (Or.inr (Or.inr ⟨List.cons_ne_nil _ _, List.forall_mem_cons.mpr ⟨⟨mok160, q1768, q1769⟩, fun _ h => nomatch h⟩⟩))), List.forall_mem_cons.mpr ⟨Or.inr (Or.inr (Or.inr (Or.inr ⟨List.cons_ne_nil _ _, List.forall_mem_cons.mpr ⟨⟨by decide, Or.inr mok161, q1771, q1773, qs59, fun h => absurd h (by decide)⟩, fun _ h => nomatch h⟩⟩))), List.forall_mem_cons.mpr ⟨Or.inr (Or.inr (Or.inr (Or.inr ⟨List.cons_ne_nil _ _, List.forall_mem_cons.mpr ⟨⟨by decide, Or.inr mok165, q1787, q1789, qs63, fun h => absurd h (by decide)⟩, fun _ h => nomatch h⟩⟩))), List.forall_mem_cons.mpr ⟨Or.inr (Or.inr (Or.inr (Or.inr ⟨List.cons_ne_nil _ _, List.forall_mem_cons.mpr ⟨⟨by decide, Or.inr mok162, q1775, q1777, qs60, fun h => absurd h (by decide)⟩, fun _ h => nomatch h⟩⟩))), List.forall_mem_cons.mpr ⟨Or.inr (Or.inr (Or.inr (Or.inr ⟨List.cons_ne_nil _ _, List.forall_mem_cons.mpr ⟨⟨by decide, Or.inr mok166, q1791, q1793, qs64, fun h => absurd h (by decide)⟩, fun _ h => nomatch h⟩⟩))), List.forall_mem_cons.mpr ⟨Or.inr (Or.inr (Or.inr (Or.inr ⟨List.cons_ne_nil _ _, List.forall_mem_cons.mpr ⟨⟨by decide, Or.inr mok156, q1753, q1755, qs56, fun h => absurd h (by decide)⟩, fun _ h => nomatch h⟩⟩))), List.forall_mem_cons.mpr ⟨Or.inr (Or.inr (Or.inr (Or.inr ⟨List.cons_ne_nil _ _, List.forall_mem_cons.mpr ⟨⟨by decide, Or.inr mok163, q1779, q1781, qs61, fun h => absurd h (by decide)⟩, fun _ h => nomatch h⟩⟩))), List.forall_mem_cons.mpr ⟨Or.inr (Or.inr (Or.inr (Or.inr ⟨List.cons_ne_nil _ _, List.forall_mem_cons.mpr ⟨⟨by decide, Or.inr mok170, q1807, q1809, qs68, fun h => absurd h (by decide)⟩, fun _ h => nomatch h⟩⟩))), List.forall_mem_cons.mpr ⟨Or.inr (Or.inr (Or.inr (Or.inr ⟨List.cons_ne_nil _ _, List.forall_mem_cons.mpr ⟨⟨by decide, Or.inr mok168, q1799, q1801, qs66, fun h => absurd h (by decide)⟩, fun _ h => nomatch h⟩⟩))), List.forall_mem_cons.mpr ⟨Or.inr (Or.inr (Or.inr (Or.inr ⟨List.cons_ne_nil _ _, List.forall_mem_cons.mpr ⟨⟨by decide, Or.inr mok164, q1783, q1785, qs62, fun h => absurd h (by decide)⟩, fun _ h => nomatch h⟩⟩))), List.forall_mem_cons.mpr ⟨Or.inr (Or.inr (Or.inr (Or.inr ⟨List.cons_ne_nil _ _, List.forall_mem_cons.mpr ⟨⟨by decide, Or.inr mok167, q1795, q1797, qs65, fun h => absurd h (by decide)⟩, fun _ h => nomatch h⟩⟩))), List.forall_mem_cons.mpr ⟨Or.inr (Or.inr (Or.inr (Or.inr ⟨List.cons_ne_nil _ _, List.forall_mem_cons.mpr ⟨⟨by decide, Or.inr mok171, q1811, q1813, qs69, fun h => absurd h (by decide)⟩, fun _ h => nomatch h⟩⟩))), List.forall_mem_cons.mpr ⟨Or.inr (Or.inr (Or.inr (Or.inr ⟨List.cons_ne_nil _ _, List.forall_mem_cons.mpr ⟨⟨by decide, Or.inr mok172, q1815, q1817, qs70, fun h => absurd h (by decide)⟩, fun _ h => nomatch h⟩⟩))), List.forall_mem_cons.mpr ⟨Or.inr (Or.inr (Or.inr (Or.inr ⟨List.cons_ne_nil _ _, List.forall_mem_cons.mpr ⟨⟨by decide, Or.inr mok174, q1823, q1825, qs72, fun h => absurd h (by decide)⟩, fun _ h => nomatch h⟩⟩))), List.forall_mem_cons.mpr ⟨Or.inr (Or.inr (Or.inr (Or.inr ⟨List.cons_ne_nil _ _, List.forall_mem_cons.mpr ⟨⟨by decide, Or.inr mok175, q1827, q1829, qs73, fun h => absurd h (by decide)⟩, fun _ h => nomatch h⟩⟩))), List.forall_mem_cons.mpr ⟨Or.inr (Or.inr (Or.inr (Or.inr ⟨List.cons_ne_nil _ _, List.forall_mem_cons.mpr ⟨⟨by decide, Or.inr mok169, q1803, q1805, qs67, fun h => absurd h (by decide)⟩, fun _ h => nomatch h⟩⟩))), List.forall_mem_cons.mpr ⟨Or.inr (Or.inr (Or.inr (Or.inr ⟨List.cons_ne_nil _ _, List.forall_mem_cons.mpr ⟨⟨by decide, Or.inr mok173, q1819, q1821, qs71, fun h => absurd h (by decide)⟩, fun _ h => nomatch h⟩⟩))), List.forall_mem_cons.mpr ⟨Or.inr (Or.inr (Or.inr (Or.inr ⟨List.cons_ne_nil _ _, List.forall_mem_cons.mpr ⟨⟨by decide, Or.inr mok176, q1831, q1833, qs74, fun h => absurd h (by decide)⟩, fun _ h => nomatch h⟩⟩))), List.forall_mem_cons.mpr ⟨Or.inr (Or.inr (Or.inr (Or.inr ⟨List.cons_ne_nil _ _, List.forall_mem_cons.mpr ⟨⟨by decide, Or.inr mok180, q1847, q1849, qs78, fun h => absurd h (by decide)⟩, fun _ h => nomatch h⟩⟩))), List.forall_mem_cons.mpr ⟨Or.inr (Or.inr (Or.inr (Or.inr ⟨List.cons_ne_nil _ _, List.forall_mem_cons.mpr ⟨⟨by decide, Or.inr mok178, q1839, q1841, qs76, fun h => absurd h (by decide)⟩, fun _ h => nomatch h⟩⟩))), List.forall_mem_cons.mpr ⟨Or.inr (Or.inr (Or.inr (Or.inr ⟨List.cons_ne_nil _ _, List.forall_mem_cons.mpr ⟨⟨by decide, Or.inr mok177, q1835, q1837, qs75, fun h => absurd h (by decide)⟩, fun _ h => nomatch h⟩⟩))), List.forall_mem_cons.mpr ⟨Or.inr (Or.inr (Or.inr (Or.inr ⟨List.cons_ne_nil _ _, List.forall_mem_cons.mpr ⟨⟨by decide, Or.inr mok179, q1843, q1845, qs77, fun h => absurd h (by decide)⟩, fun _ h => nomatch h⟩⟩))), List.forall_mem_cons.mpr ⟨Or.inr (Or.inr (Or.inr (Or.inr ⟨List.cons_ne_nil _ _, List.forall_mem_cons.mpr ⟨⟨mok184, q1863, q1864⟩, fun _ h => nomatch h⟩⟩))), List.forall_mem_cons.mpr ⟨Or.inr (Or.inr (Or.inr (Or.inr ⟨List.cons_ne_nil _ _, List.forall_mem_cons.mpr ⟨⟨by decide, Or.inr mok185, q1866, q1868, qs80, fun h => absurd h (by decide)⟩, fun _ h => nomatch h⟩⟩))), List.forall_mem_cons.mpr ⟨Or.inr (Or.inr (Or.inr (Or.inr ⟨List.cons_ne_nil _ _, List.forall_mem_cons.mpr ⟨⟨mok225, q2023, q2024⟩, fun _ h => nomatch h⟩⟩))), List.forall_mem_cons.mpr ⟨Or.inr (Or.inr (Or.inr (Or.inr ⟨List.cons_ne_nil _ _, List.forall_mem_cons.mpr ⟨⟨by decide, Or.inr mok198, q1916, q1918, qs90, fun h => absurd h (by decide)⟩, fun _ h => nomatch h⟩⟩))), List.forall_mem_cons.mpr ⟨Or.inr (Or.inr (Or.inr (Or.inr ⟨List.cons_ne_nil _ _, List.forall_mem_cons.mpr ⟨⟨by decide, Or.inr mok207, q1952, q1954, qs98, fun h => absurd h (by decide)⟩, fun _ h => nomatch h⟩⟩))), List.forall_mem_cons.mpr ⟨Or.inr (Or.inr (Or.inr (Or.inr ⟨List.cons_ne_nil _ _, List.forall_mem_cons.mpr ⟨⟨by decide, Or.inr mok212, q1972, q1974, qs102, fun h => absurd h (by decide)⟩, fun _ h => nomatch h⟩⟩))), List.forall_mem_cons.mpr ⟨Or.inr (Or.inr (Or.inr (Or.inr ⟨List.cons_ne_nil _ _, List.forall_mem_cons.mpr ⟨⟨mok193, q1897, q1898⟩, fun _ h => nomatch h⟩⟩))), List.forall_mem_cons.mpr ⟨Or.inr (Or.inr (Or.inr (Or.inr ⟨List.cons_ne_nil _ _, List.forall_mem_cons.mpr ⟨⟨by decide, Or.inr mok194, q1900, q1902, qs87, fun h => absurd h (by decide)⟩, fun _ h => nomatch h⟩⟩))), List.forall_mem_cons.mpr ⟨Or.inr (Or.inr (Or.inr (Or.inr ⟨List.cons_ne_nil _ _, List.forall_mem_cons.mpr ⟨⟨by decide, Or.inr mok189, q1882, q1884, qs84, fun h => absurd h (by decide)⟩, fun _ h => nomatch h⟩⟩))), List.forall_mem_cons.mpr ⟨Or.inr (Or.inr (Or.inr (Or.inr ⟨List.cons_ne_nil _ _, List.forall_mem_cons.mpr ⟨⟨by decide, Or.inr mok202, q1932, q1934, qs94, fun h => absurd h (by decide)⟩, fun _ h => nomatch h⟩⟩))), List.forall_mem_cons.mpr ⟨Or.inr (Or.inr (Or.inr (Or.inr ⟨List.cons_ne_nil _ _, List.forall_mem_cons.mpr ⟨⟨by decide, Or.inr mok192, q1893, q1895, qs86, fun h => absurd h (by decide)⟩, fun _ h => nomatch h⟩⟩))), List.forall_mem_cons.mpr ⟨Or.inr (Or.inr (Or.inr (Or.inr ⟨List.cons_ne_nil _ _, List.forall_mem_cons.mpr ⟨⟨by decide, Or.inr mok190, q1886, q1888, qs85, fun h => absurd h (by decide)⟩, fun _ h => nomatch h⟩⟩))), List.forall_mem_cons.mpr ⟨Or.inr (Or.inr (Or.inr (Or.inr ⟨List.cons_ne_nil _ _, List.forall_mem_cons.mpr ⟨⟨by decide, Or.inr mok186, q1870, q1872, qs81, fun h => absurd h (by decide)⟩, fun _ h => nomatch h⟩⟩))), List.forall_mem_cons.mpr ⟨Or.inr (Or.inr (Or.inr (Or.inr ⟨List.cons_ne_nil _ _, List.forall_mem_cons.mpr ⟨⟨mok191, q1890, q1891⟩, fun _ h => nomatch h⟩⟩))), List.forall_mem_cons.mpr ⟨Or.inr (Or.inr (Or.inr (Or.inr ⟨List.cons_ne_nil _ _, List.forall_mem_cons.mpr ⟨⟨by decide, Or.inr mok188, q1878, q1880, qs83, fun h => absurd h (by decide)⟩, fun _ h => nomatch h⟩⟩))), List.forall_mem_cons.mpr ⟨Or.inr (Or.inr (Or.inr (Or.inr ⟨List.cons_ne_nil _ _, List.forall_mem_cons.mpr ⟨⟨by decide, Or.inr mok200, q1924, q1926, qs92, fun h => absurd h (by decide)⟩, fun _ h => nomatch h⟩⟩))), List.forall_mem_cons.mpr ⟨Or.inr (Or.inr (Or.inr (Or.inr ⟨List.cons_ne_nil _ _, List.forall_mem_cons.mpr ⟨⟨by decide, Or.inr mok201, q1928, q1930, qs93, fun h => absurd h (by decide)⟩, fun _ h => nomatch h⟩⟩))), List.forall_mem_cons.mpr ⟨Or.inr (Or.inr (Or.inr (Or.inr ⟨List.cons_ne_nil _ _, List.forall_mem_cons.mpr ⟨⟨by decide, Or.inr mok204, q1940, q1942, qs96, fun h => absurd h (by decide)⟩, fun _ h => nomatch h⟩⟩))), List.forall_mem_cons.mpr ⟨Or.inr (Or.inr (Or.inr (Or.inr ⟨List.cons_ne_nil _ _, List.forall_mem_cons.mpr ⟨⟨by decide, Or.inr mok199, q1920, q1922, qs91, fun h => absurd h (by decide)⟩, fun _ h => nomatch h⟩⟩))), List.forall_mem_cons.mpr ⟨Or.inr (Or.inr (Or.inr (Or.inr ⟨List.cons_ne_nil _ _, List.forall_mem_cons.mpr ⟨⟨by decide, Or.inr mok224, q2019, q2021, qs109, fun h => absurd h (by decide)⟩, fun _ h => nomatch h⟩⟩))), List.forall_mem_cons.mpr ⟨Or.inr (Or.inr (Or.inr (Or.inr ⟨List.cons_ne_nil _ _, List.forall_mem_cons.mpr ⟨⟨by decide, Or.inr mok221, q2007, q2009, qs106, fun h => absurd h (by decide)⟩, fun _ h => nomatch h⟩⟩))), List.forall_mem_cons.mpr ⟨Or.inr (Or.inr (Or.inr (Or.inr ⟨List.cons_ne_nil _ _, List.forall_mem_cons.mpr ⟨⟨by decide, Or.inr mok203, q1936, q1938, qs95, fun h => absurd h (by decide)⟩, fun _ h => nomatch h⟩⟩))), List.forall_mem_cons.mpr ⟨Or.inr (Or.inr (Or.inr (Or.inr ⟨List.cons_ne_nil _ _, List.forall_mem_cons.mpr ⟨⟨by decide, Or.inr mok187, q1874, q1876, qs82, fun h => absurd h (by decide)⟩, fun _ h => nomatch h⟩⟩))), List.forall_mem_cons.mpr ⟨Or.inr (Or.inr (Or.inr (Or.inr ⟨List.cons_ne_nil _ _, List.forall_mem_cons.mpr ⟨⟨by decide, Or.inr mok222, q2011, q2013, qs107, fun h => absurd h (by decide)⟩, fun _ h => nomatch h⟩⟩))), List.forall_mem_cons.mpr ⟨Or.inr (Or.inr (Or.inr (Or.inr ⟨List.cons_ne_nil _ _, List.forall_mem_cons.mpr ⟨⟨by decide, Or.inr mok223, q2015, q2017, qs108, fun h => absurd h (by decide)⟩, fun _ h => nomatch h⟩⟩))), List.forall_mem_cons.mpr ⟨Or.inr (Or.inr (Or.inr (Or.inr ⟨List.cons_ne_nil _ _, List.forall_mem_cons.mpr ⟨⟨by decide, Or.inr mok220, q2003, q2005, qs105, fun h => absurd h (by decide)⟩, fun _ h => nomatch h⟩⟩))), List.forall_mem_cons.mpr ⟨Or.inr (Or.inr (Or.inr (Or.inr ⟨List.cons_ne_nil _ _, List.forall_mem_cons.mpr ⟨⟨by decide, Or.inr mok183, q1859, q1861, qs79, fun h => absurd h (by decide)⟩, fun _ h => nomatch h⟩⟩))), List.forall_mem_cons.mpr ⟨Or.inr (Or.inr (Or.inr (Or.inr ⟨List.cons_ne_nil _ _, List.forall_mem_cons.mpr ⟨⟨by decide, Or.inr mok195, q1904, q1906, qs88, fun h => absurd h (by decide)⟩, fun _ h => nomatch h⟩⟩))), List.forall_mem_cons.mpr ⟨Or.inr (Or.inr (Or.inr (Or.inr ⟨List.cons_ne_nil _ _, List.forall_mem_cons.mpr ⟨⟨by decide, Or.inr mok197, q1912, q1914, qs89, fun h => absurd h (by decide)⟩, fun _ h => nomatch h⟩⟩))), List.forall_mem_cons.mpr ⟨Or.inr (Or.inr (Or.inr (Or.inr ⟨List.cons_ne_nil _ _, List.forall_mem_cons.mpr ⟨⟨by decide, Or.inr mok206, q1948, q1950, qs97, fun h => absurd h (by decide)⟩, fun _ h => nomatch h⟩⟩))), List.forall_mem_cons.mpr ⟨Or.inr (Or.inr (Or.inr (Or.inr ⟨List.cons_ne_nil _ _, List.forall_mem_cons.mpr ⟨⟨by decide, Or.inr mok210, q1964, q1966, qs100, fun h => absurd h (by decide)⟩, fun _ h => nomatch h⟩⟩))), List.forall_mem_cons.mpr ⟨Or.inr (Or.inr (Or.inr (Or.inr ⟨List.cons_ne_nil _ _, List.forall_mem_cons.mpr ⟨⟨by decide, Or.inr mok211, q1968, q1970, qs101, fun h => absurd h (by decide)⟩, fun _ h => nomatch h⟩⟩))), List.forall_mem_cons.mpr ⟨Or.inr (Or.inr (Or.inr (Or.inr ⟨List.cons_ne_nil _ _, List.forall_mem_cons.mpr ⟨⟨by decide, Or.inr mok209, q1960, q1962, qs99, fun h => absurd h (by decide)⟩, fun _ h => nomatch h⟩⟩))), List.forall_mem_cons.mpr ⟨Or.inr (Or.inr (Or.inr (Or.inr ⟨List.cons_ne_nil _ _, List.forall_mem_cons.mpr ⟨⟨by decide, Or.inr mok213, q1976, q1978, qs103, fun h => absurd h (by decide)⟩, fun _ h => nomatch h⟩⟩))), List.forall_mem_cons.mpr ⟨Or.inr (Or.inr (Or.inr (Or.inr ⟨List.cons_ne_nil _ _, List.forall_mem_cons.mpr ⟨⟨mok218, q1996, q1997⟩, fun _ h => nomatch h⟩⟩))), List.forall_mem_cons.mpr ⟨Or.inr (Or.inr (Or.inr (Or.inr ⟨List.cons_ne_nil _ _, List.forall_mem_cons.mpr ⟨⟨by decide, Or.inr mok219, q1999, q2001, qs104, fun h => absurd h (by decide)⟩, fun _ h => nomatch h⟩⟩))), List.forall_mem_cons.mpr ⟨Or.inr (Or.inr (Or.inr (Or.inr ⟨List.cons_ne_nil _ _, List.forall_mem_cons.mpr ⟨⟨mok230, q2043, q2044⟩, fun _ h => nomatch h⟩⟩))), List.forall_mem_cons.mpr ⟨Or.inr (Or.inr (Or.inr (Or.inr ⟨List.cons_ne_nil _ _, List.forall_mem_cons.mpr ⟨⟨by decide, Or.inr mok229, q2039, q2041, qs111, fun h => absurd h (by decide)⟩, fun _ h => nomatch h⟩⟩))), List.forall_mem_cons.mpr ⟨Or.inr (Or.inr (Or.inr (Or.inr ⟨List.cons_ne_nil _ _, List.forall_mem_cons.mpr ⟨⟨by decide, Or.inr mok228, q2035, q2037, qs110, fun h => absurd h (by decide)⟩, fun _ h => nomatch h⟩⟩))), List.forall_mem_cons.mpr ⟨Or.inr (Or.inr (Or.inr (Or.inr ⟨List.cons_ne_nil _ _, List.forall_mem_cons.mpr ⟨⟨mok234, q2058, q2059⟩, fun _ h => nomatch h⟩⟩))), List.forall_mem_cons.mpr ⟨Or.inr (Or.inr (Or.inr (Or.inr ⟨List.cons_ne_nil _ _, List.forall_mem_cons.mpr ⟨⟨by decide, Or.inr mok233, q2054, q2056, qs113, fun h => absurd h (by decide)⟩, fun _ h => nomatch h⟩⟩))), List.forall_mem_cons.mpr ⟨Or.inr (Or.inr (Or.inr (Or.inr ⟨List.cons_ne_nil _ _, List.forall_mem_cons.mpr ⟨⟨by decide, Or.inr mok235, q2061, q2063, qs114, fun h => absurd h (by decide)⟩, fun _ h => nomatch h⟩⟩))), List.forall_mem_cons.mpr ⟨Or.inr (Or.inr (Or.inr (Or.inr ⟨List.cons_ne_nil _ _, List.forall_mem_cons.mpr ⟨⟨by decide, Or.inr mok232, q2050, q2052, qs112, fun h => absurd h (by decide)⟩, fun _ h => nomatch h⟩⟩))), List.forall_mem_cons.mpr ⟨Or.inr (Or.inr (Or.inr (Or.inr ⟨List.cons_ne_nil _ _, List.forall_mem_cons.mpr ⟨⟨by decide, Or.inr mok236, q2065, q2067, qs115, fun h => absurd h (by decide)⟩, fun _ h => nomatch h⟩⟩))), List.forall_mem_cons.mpr ⟨Or.inr (Or.inr (Or.inr (Or.inr ⟨List.cons_ne_nil _ _, List.forall_mem_cons.mpr ⟨⟨by decide, Or.inr mok237, q2069, q2071, qs116, fun h => absurd h (by decide)⟩, fun _ h => nomatch h⟩⟩))), List.forall_mem_cons.mpr ⟨Or.inr (Or.inr (Or.inr (Or.inr ⟨List.cons_ne_nil _ _, List.forall_mem_cons.mpr ⟨⟨by decide, Or.inr mok239, q2077, q2079, qs117, fun h => absurd h (by decide)⟩, fun _ h => nomatch h⟩⟩))), List.forall_mem_cons.mpr ⟨Or.inr (Or.inr (Or.inr (Or.inr ⟨List.cons_ne_nil _ _, List.forall_mem_cons.mpr ⟨⟨by decide, Or.inr mok241, q2085, q2087, qs118, fun h => absurd h (by decide)⟩, fun _ h => nomatch h⟩⟩))), List.forall_mem_cons.mpr ⟨Or.inr (Or.inr (Or.inr (Or.inr ⟨List.cons_ne_nil _ _, List.forall_mem_cons.mpr ⟨⟨by decide, Or.inr mok243, q2093, q2095, qs119, fun h => absurd h (by decide)⟩, fun _ h => nomatch h⟩⟩))), List.forall_mem_cons.mpr ⟨Or.inr (Or.inr (Or.inr (Or.inr ⟨List.cons_ne_nil _ _, List.forall_mem_cons.mpr ⟨⟨by decide, Or.inr mok246, q2105, q2107, qs120, fun h => absurd h (by decide)⟩, fun _ h => nomatch h⟩⟩))), List.forall_mem_cons.mpr ⟨Or.inr (Or.inr (Or.inr (Or.inr ⟨List.cons_ne_nil _ _, List.forall_mem_cons.mpr ⟨⟨by decide, Or.inr mok254, q2137, q2139, qs121, fun h => absurd h (by decide)⟩, fun _ h => nomatch h⟩⟩))), List.forall_mem_cons.mpr ⟨Or.inr (Or.inr (Or.inr (Or.inr ⟨List.cons_ne_nil _ _, List.forall_mem_cons.mpr ⟨⟨by decide, Or.inr mok256, q2145, q2147, qs122, fun h => absurd h (by decide)⟩, fun _ h => nomatch h⟩⟩))), List.forall_mem_cons.mpr ⟨Or.inr (Or.inr (Or.inr (Or.inr ⟨List.cons_ne_nil _ _, List.forall_mem_cons.mpr ⟨⟨by decide, Or.inr mok259, q2157, q2159, qs123, fun h => absurd h (by decide)⟩, fun _ h => nomatch h⟩⟩))), List.forall_mem_cons.mpr ⟨Or.inr (Or.inr (Or.inr (Or.inr ⟨List.cons_ne_nil _ _, List.forall_mem_cons.mpr ⟨⟨by decide, Or.inr mok269, q2197, q2199, qs125, fun h => absurd h (by decide)⟩, fun _ h => nomatch h⟩⟩))), List.forall_mem_cons.mpr ⟨Or.inr (Or.inr (Or.inr (Or.inr ⟨List.cons_ne_nil _ _, List.forall_mem_cons.mpr ⟨⟨by decide, Or.inr mok268, q2193, q2195, qs124, fun h => absurd h (by decide)⟩, fun _ h => nomatch h⟩⟩))), List.forall_mem_cons.mpr ⟨Or.inr (Or.inr (Or.inr (Or.inr ⟨List.cons_ne_nil _ _, List.forall_mem_cons.mpr ⟨⟨by decide, Or.inr mok274, q2217, q2219, qs126, fun h => absurd h (by decide)⟩, fun _ h => nomatch h⟩⟩))), fun _ h => nomatch h⟩⟩⟩⟩⟩⟩⟩⟩⟩⟩⟩⟩⟩⟩⟩⟩⟩⟩⟩⟩⟩⟩⟩⟩⟩⟩⟩⟩⟩⟩⟩⟩⟩⟩⟩⟩⟩⟩⟩⟩⟩⟩⟩⟩⟩⟩⟩⟩⟩⟩⟩⟩⟩⟩⟩⟩⟩⟩⟩⟩⟩⟩⟩⟩⟩⟩⟩⟩⟩⟩⟩⟩⟩⟩⟩⟩⟩⟩⟩⟩⟩⟩⟩⟩⟩⟩⟩
theorem iok17 : ∀ e ∈ aInvL.getD 17 [], aIoks 17 e := List.forall_mem_cons.mpr ⟨Or.inr (Or.inl ⟨rfl, q920⟩), List.forall_mem_cons.mpr ⟨Or.inr (Or.inr (Or.inr (Or.inr ⟨List.cons_ne_nil _ _, List.forall_mem_cons.mpr ⟨⟨mok302, q951, q952⟩, fun _ h => nomatch h⟩⟩))), List.forall_mem_cons.mpr ⟨Or.inr (Or.inr (Or.inr (Or.inr ⟨List.cons_ne_nil _ _, List.forall_mem_cons.mpr ⟨⟨mok331, q935, q936⟩, fun _ h => nomatch h⟩⟩))), List.forall_mem_cons.mpr ⟨Or.inr (Or.inr (Or.inr (Or.inr ⟨List.cons_ne_nil _ _, List.forall_mem_cons.mpr ⟨⟨by decide, Or.inr mok276, q599, q600, q601, fun h => absurd h (by decide)⟩, fun _ h => nomatch h⟩⟩))), List.forall_mem_cons.mpr ⟨Or.inr (Or.inr (Or.inr (Or.inr ⟨List.cons_ne_nil _ _, List.forall_mem_cons.mpr ⟨⟨mok282, q917, q918, rfl, rfl⟩, fun _ h => nomatch h⟩⟩))), List.forall_mem_cons.mpr ⟨Or.inr (Or.inr (Or.inr (Or.inr ⟨List.cons_ne_nil _ _, List.forall_mem_cons.mpr ⟨⟨by decide, Or.inr mok278, q609, q610, q611, fun h => absurd h (by decide)⟩, fun _ h => nomatch h⟩⟩))), List.forall_mem_cons.mpr ⟨Or.inr (Or.inr (Or.inr (Or.inr ⟨List.cons_ne_nil _ _, List.forall_mem_cons.mpr ⟨⟨mok284, q613, q614⟩, fun _ h => nomatch h⟩⟩))), List.forall_mem_cons.mpr ⟨Or.inr (Or.inr (Or.inr (Or.inr ⟨List.cons_ne_nil _ _, List.forall_mem_cons.mpr ⟨⟨mok290, q624, q625⟩, fun _ h => nomatch h⟩⟩))), List.forall_mem_cons.mpr ⟨Or.inr (Or.inr (Or.inr (Or.inr ⟨List.cons_ne_nil _ _, List.forall_mem_cons.mpr ⟨⟨mok287, q991, q992⟩, fun _ h => nomatch h⟩⟩))), List.forall_mem_cons.mpr ⟨Or.inr (Or.inr (Or.inr (Or.inr ⟨List.cons_ne_nil _ _, List.forall_mem_cons.mpr ⟨⟨by decide, mok325, ⟨"java/lang/AbstractStringBuilder", "length", "()I"⟩, "java/lang/AbstractStringBuilder", ⟨q926, q928, q929, q930⟩, ⟨by decide, by decide, by decide +kernel⟩, Or.inr (Or.inl ⟨q927, _, _, _, q933⟩)⟩, fun _ h => nomatch h⟩⟩))), List.forall_mem_cons.mpr ⟨Or.inr (Or.inr (Or.inr (Or.inr ⟨List.cons_ne_nil _ _, List.forall_mem_cons.mpr ⟨⟨by decide, mok320, ⟨"java/lang/AbstractStringBuilder", "getValue", "()[B"⟩, "java/lang/AbstractStringBuilder", ⟨q921, q923, q924, q922⟩, ⟨by decide, by decide, by decide +kernel⟩, Or.inl rfl⟩, fun _ h => nomatch h⟩⟩))), List.forall_mem_cons.mpr ⟨Or.inr (Or.inr (Or.inr (Or.inr ⟨List.cons_ne_nil _ _, List.forall_mem_cons.mpr ⟨⟨by decide, mok318, ⟨"java/lang/AbstractStringBuilder", "isLatin1", "()Z"⟩, "java/lang/AbstractStringBuilder", ⟨q934, q877, q878, q876⟩, ⟨by decide, by decide, by decide +kernel⟩, Or.inl rfl⟩, fun _ h => nomatch h⟩⟩))), List.forall_mem_cons.mpr ⟨Or.inr (Or.inr (Or.inr (Or.inr ⟨List.cons_ne_nil _ _, List.forall_mem_cons.mpr ⟨⟨mok300, q944, q945⟩, fun _ h => nomatch h⟩⟩))), List.forall_mem_cons.mpr ⟨Or.inr (Or.inr (Or.inr (Or.inr ⟨List.cons_ne_nil _ _, List.forall_mem_cons.mpr ⟨⟨mok288, q621, q622⟩, fun _ h => nomatch h⟩⟩))), List.forall_mem_cons.mpr ⟨Or.inr (Or.inr (Or.inr (Or.inr ⟨List.cons_ne_nil _ _, List.forall_mem_cons.mpr ⟨⟨mok289, q899, q900⟩, fun _ h => nomatch h⟩⟩))), fun _ h => nomatch h⟩⟩⟩⟩⟩⟩⟩⟩⟩⟩⟩⟩⟩⟩⟩
theorem iok18 : ∀ e ∈ aInvL.getD 18 [], aIoks 18 e := List.forall_mem_cons.mpr ⟨Or.inr (Or.inr (Or.inr (Or.inr ⟨List.cons_ne_nil _ _, List.forall_mem_cons.mpr ⟨⟨mok279, q616, q617⟩, fun _ h => nomatch h⟩⟩))), List.forall_mem_cons.mpr ⟨Or.inr (Or.inr (Or.inr (Or.inr ⟨List.cons_ne_nil _ _, List.forall_mem_cons.mpr ⟨⟨mok296, q890, q891⟩, fun _ h => nomatch h⟩⟩))), fun _ h => nomatch h⟩⟩
theorem iok20 : ∀ e ∈ aInvL.getD 20 [], aIoks 20 e := List.forall_mem_cons.mpr ⟨Or.inr (Or.inr (Or.inr (Or.inr ⟨List.cons_ne_nil _ _, List.forall_mem_cons.mpr ⟨⟨mok295, q816, q817⟩, fun _ h => nomatch h⟩⟩))), List.forall_mem_cons.mpr ⟨Or.inr (Or.inr (Or.inr (Or.inr ⟨List.cons_ne_nil _ _, List.forall_mem_cons.mpr ⟨⟨mok292, q630, q631⟩, fun _ h => nomatch h⟩⟩))), List.forall_mem_cons.mpr ⟨Or.inr (Or.inr (Or.inr (Or.inr ⟨List.cons_ne_nil _ _, List.forall_mem_cons.mpr ⟨⟨mok291, q627, q628⟩, fun _ h => nomatch h⟩⟩))), List.forall_mem_cons.mpr ⟨Or.inr (Or.inr (Or.inr (Or.inr ⟨List.cons_ne_nil _ _, List.forall_mem_cons.mpr ⟨⟨mok293, q634, q635⟩, fun _ h => nomatch h⟩⟩))), List.forall_mem_cons.mpr ⟨Or.inr (Or.inr (Or.inr (Or.inr ⟨List.cons_ne_nil _ _, List.forall_mem_cons.mpr ⟨⟨mok298, q902, q903⟩, fun _ h => nomatch h⟩⟩))), List.forall_mem_cons.mpr ⟨Or.inr (Or.inr (Or.inr (Or.inr ⟨List.cons_ne_nil _ _, List.forall_mem_cons.mpr ⟨⟨mok301, q947, q948⟩, fun _ h => nomatch h⟩⟩))), List.forall_mem_cons.mpr ⟨Or.inr (Or.inr (Or.inr (Or.inr ⟨List.cons_ne_nil _ _, List.forall_mem_cons.mpr ⟨⟨mok331, q950, q936⟩, fun _ h => nomatch h⟩⟩))), List.forall_mem_cons.mpr ⟨Or.inr (Or.inr (Or.inr (Or.inr ⟨List.cons_ne_nil _ _, List.forall_mem_cons.mpr ⟨⟨mok297, q893, q894⟩, fun _ h => nomatch h⟩⟩))), List.forall_mem_cons.mpr ⟨Or.inr (Or.inr (Or.inr (Or.inr ⟨List.cons_ne_nil _ _, List.forall_mem_cons.mpr ⟨⟨mok279, q633, q617⟩, fun _ h => nomatch h⟩⟩))), List.forall_mem_cons.mpr ⟨Or.inr (Or.inr (Or.inr (Or.inr ⟨List.cons_ne_nil _ _, List.forall_mem_cons.mpr ⟨⟨mok280, q896, q897⟩, fun _ h => nomatch h⟩⟩))), fun _ h => nomatch h⟩⟩⟩⟩⟩⟩⟩⟩⟩⟩
theorem iok21 : ∀ e ∈ aInvL.getD 21 [], aIoks 21 e := List.forall_mem_cons.mpr ⟨Or.inr (Or.inl ⟨rfl, q690⟩), List.forall_mem_cons.mpr ⟨Or.inr (Or.inr (Or.inr (Or.inr ⟨List.cons_ne_nil _ _, List.forall_mem_cons.mpr ⟨⟨by decide, mok311, ⟨"LentSundays$Sum", "of", "(LLentSundays$Asked;)I"⟩, "LentSundays$Sum", ⟨q1173, q1175, q1176, q1177⟩, ⟨by decide, by decide, by decide +kernel⟩, Or.inr (Or.inr (List.mem_of_getElem? (i := 0) rfl))⟩, List.forall_mem_cons.mpr ⟨⟨by decide, mok307, ⟨"LentSundays$Sum", "of", "(LLentSundays$Asked;)I"⟩, "LentSundays$Sum", ⟨q1173, q1175, q1184, q1180⟩, ⟨by decide, by decide, by decide +kernel⟩, Or.inr (Or.inr (List.mem_of_getElem? (i := 0) rfl))⟩, List.forall_mem_cons.mpr ⟨⟨by decide, mok309, ⟨"LentSundays$Sum", "of", "(LLentSundays$Asked;)I"⟩, "LentSundays$Sum", ⟨q1173, q1175, q1185, q1182⟩, ⟨by decide, by decide, by decide +kernel⟩, Or.inr (Or.inr (List.mem_of_getElem? (i := 0) rfl))⟩, fun _ h => nomatch h⟩⟩⟩⟩))), List.forall_mem_cons.mpr ⟨Or.inr (Or.inr (Or.inl ⟨rfl, q1186⟩)), fun _ h => nomatch h⟩⟩⟩
theorem iok22 : ∀ e ∈ aInvL.getD 22 [], aIoks 22 e := List.forall_mem_cons.mpr ⟨Or.inr (Or.inl ⟨rfl, q750⟩), fun _ h => nomatch h⟩
theorem iok23 : ∀ e ∈ aInvL.getD 23 [], aIoks 23 e := List.forall_mem_cons.mpr ⟨Or.inr (Or.inr (Or.inr (Or.inr ⟨List.cons_ne_nil _ _, List.forall_mem_cons.mpr ⟨⟨mok305, ⟨"LentSundays", List.mem_of_getElem? (i := 10) rfl⟩, q748, rfl, rfl⟩, fun _ h => nomatch h⟩⟩))), fun _ h => nomatch h⟩
theorem iok24 : ∀ e ∈ aInvL.getD 24 [], aIoks 24 e := List.forall_mem_cons.mpr ⟨Or.inr (Or.inr (Or.inr (Or.inr ⟨List.cons_ne_nil _ _, List.forall_mem_cons.mpr ⟨⟨mok305, ⟨"LentSundays", List.mem_of_getElem? (i := 11) rfl⟩, q748, rfl, rfl⟩, fun _ h => nomatch h⟩⟩))), fun _ h => nomatch h⟩
theorem iok25 : ∀ e ∈ aInvL.getD 25 [], aIoks 25 e := List.forall_mem_cons.mpr ⟨Or.inr (Or.inr (Or.inr (Or.inr ⟨List.cons_ne_nil _ _, List.forall_mem_cons.mpr ⟨⟨mok305, ⟨"LentSundays", List.mem_of_getElem? (i := 12) rfl⟩, q748, rfl, rfl⟩, fun _ h => nomatch h⟩⟩))), List.forall_mem_cons.mpr ⟨Or.inr (Or.inr (Or.inr (Or.inr ⟨List.cons_ne_nil _ _, List.forall_mem_cons.mpr ⟨⟨by decide, mok311, ⟨"LentSundays$Sum", "of", "(LLentSundays$Asked;)I"⟩, "LentSundays$Sum", ⟨q1179, q1175, q1176, q1177⟩, ⟨by decide, by decide, by decide +kernel⟩, Or.inr (Or.inr (List.mem_of_getElem? (i := 0) rfl))⟩, List.forall_mem_cons.mpr ⟨⟨by decide, mok307, ⟨"LentSundays$Sum", "of", "(LLentSundays$Asked;)I"⟩, "LentSundays$Sum", ⟨q1179, q1175, q1184, q1180⟩, ⟨by decide, by decide, by decide +kernel⟩, Or.inr (Or.inr (List.mem_of_getElem? (i := 0) rfl))⟩, List.forall_mem_cons.mpr ⟨⟨by decide, mok309, ⟨"LentSundays$Sum", "of", "(LLentSundays$Asked;)I"⟩, "LentSundays$Sum", ⟨q1179, q1175, q1185, q1182⟩, ⟨by decide, by decide, by decide +kernel⟩, Or.inr (Or.inr (List.mem_of_getElem? (i := 0) rfl))⟩, fun _ h => nomatch h⟩⟩⟩⟩))), fun _ h => nomatch h⟩⟩
theorem iok26 : ∀ e ∈ aInvL.getD 26 [], aIoks 26 e := List.forall_mem_cons.mpr ⟨Or.inr (Or.inl ⟨rfl, q1004⟩), fun _ h => nomatch h⟩
theorem iok27 : ∀ e ∈ aInvL.getD 27 [], aIoks 27 e := List.forall_mem_cons.mpr ⟨Or.inr (Or.inr (Or.inr (Or.inr ⟨List.cons_ne_nil _ _, List.forall_mem_cons.mpr ⟨⟨mok312, q1001, q1002, rfl, rfl⟩, fun _ h => nomatch h⟩⟩))), fun _ h => nomatch h⟩
theorem iok28 : ∀ e ∈ aInvL.getD 28 [], aIoks 28 e := List.forall_mem_cons.mpr ⟨Or.inr (Or.inl ⟨rfl, q811⟩), List.forall_mem_cons.mpr ⟨Or.inr (Or.inr (Or.inr (Or.inr ⟨List.cons_ne_nil _ _, List.forall_mem_cons.mpr ⟨⟨mok294, q813, q814⟩, fun _ h => nomatch h⟩⟩))), List.forall_mem_cons.mpr ⟨Or.inr (Or.inr (Or.inr (Or.inr ⟨List.cons_ne_nil _ _, List.forall_mem_cons.mpr ⟨⟨by decide, mok318, ⟨"java/lang/AbstractStringBuilder", "isLatin1", "()Z"⟩, "java/lang/AbstractStringBuilder", ⟨q875, q877, q878, q876⟩, ⟨by decide, by decide, by decide +kernel⟩, Or.inl rfl⟩, fun _ h => nomatch h⟩⟩))), List.forall_mem_cons.mpr ⟨Or.inr (Or.inr (Or.inr (Or.inr ⟨List.cons_ne_nil _ _, List.forall_mem_cons.mpr ⟨⟨rfl, mok316, q840, q842, List.mem_of_getElem? (i := 0) rfl⟩, fun _ h => nomatch h⟩⟩))), List.forall_mem_cons.mpr ⟨Or.inr (Or.inr (Or.inr (Or.inr ⟨List.cons_ne_nil _ _, List.forall_mem_cons.mpr ⟨⟨rfl, mok317, q844, q846, List.mem_of_getElem? (i := 1) rfl⟩, fun _ h => nomatch h⟩⟩))), List.forall_mem_cons.mpr ⟨Or.inr (Or.inr (Or.inr (Or.inr ⟨List.cons_ne_nil _ _, List.forall_mem_cons.mpr ⟨⟨mok330, q859, q860⟩, fun _ h => nomatch h⟩⟩))), List.forall_mem_cons.mpr ⟨Or.inr (Or.inr (Or.inr (Or.inr ⟨List.cons_ne_nil _ _, List.forall_mem_cons.mpr ⟨⟨mok326, q848, q849⟩, fun _ h => nomatch h⟩⟩))), List.forall_mem_cons.mpr ⟨Or.inr (Or.inr (Or.inr (Or.inr ⟨List.cons_ne_nil _ _, List.forall_mem_cons.mpr ⟨⟨mok286, q887, q888⟩, fun _ h => nomatch h⟩⟩))), List.forall_mem_cons.mpr ⟨Or.inr (Or.inr (Or.inr (Or.inr ⟨List.cons_ne_nil _ _, List.forall_mem_cons.mpr ⟨⟨mok285, q880, q881⟩, fun _ h => nomatch h⟩⟩))), List.forall_mem_cons.mpr ⟨Or.inr (Or.inr (Or.inr (Or.inr ⟨List.cons_ne_nil _ _, List.forall_mem_cons.mpr ⟨⟨rfl, mok319, q883, q885, List.mem_of_getElem? (i := 2) rfl⟩, fun _ h => nomatch h⟩⟩))), List.forall_mem_cons.mpr ⟨Or.inr (Or.inr (Or.inr (Or.inr ⟨List.cons_ne_nil _ _, List.forall_mem_cons.mpr ⟨⟨mok299, q905, q906⟩, fun _ h => nomatch h⟩⟩))), fun _ h => nomatch h⟩⟩⟩⟩⟩⟩⟩⟩⟩⟩⟩
theorem iok29 : ∀ e ∈ aInvL.getD 29 [], aIoks 29 e := List.forall_mem_cons.mpr ⟨Or.inr (Or.inr (Or.inr (Or.inr ⟨List.cons_ne_nil _ _, List.forall_mem_cons.mpr ⟨⟨mok314, q808, q809, rfl, rfl⟩, fun _ h => nomatch h⟩⟩))), List.forall_mem_cons.mpr ⟨Or.inr (Or.inr (Or.inr (Or.inr ⟨List.cons_ne_nil _ _, List.forall_mem_cons.mpr ⟨⟨by decide, mok315, q837, q2222, q832, q838, by decide⟩, fun _ h => nomatch h⟩⟩))), List.forall_mem_cons.mpr ⟨Or.inr (Or.inr (Or.inr (Or.inr ⟨List.cons_ne_nil _ _, List.forall_mem_cons.mpr ⟨⟨mok281, q914, q915, rfl, rfl⟩, fun _ h => nomatch h⟩⟩))), List.forall_mem_cons.mpr ⟨Or.inr (Or.inr (Or.inr (Or.inr ⟨List.cons_ne_nil _ _, List.forall_mem_cons.mpr ⟨⟨by decide, mok321, q932, q928, q832, q927, by decide⟩, fun _ h => nomatch h⟩⟩))), fun _ h => nomatch h⟩⟩⟩⟩
theorem iok30 : ∀ e ∈ aInvL.getD 30 [], aIoks 30 e := List.forall_mem_cons.mpr ⟨Or.inr (Or.inr (Or.inl ⟨rfl, q851⟩)), List.forall_mem_cons.mpr ⟨Or.inr (Or.inr (Or.inr (Or.inr ⟨List.cons_ne_nil _ _, List.forall_mem_cons.mpr ⟨⟨mok327, q855, q856⟩, fun _ h => nomatch h⟩⟩))), fun _ h => nomatch h⟩⟩
theorem iok32 : ∀ e ∈ aInvL.getD 32 [], aIoks 32 e := List.forall_mem_cons.mpr ⟨Or.inl ⟨rfl, q872⟩, List.forall_mem_cons.mpr ⟨Or.inr (Or.inr (Or.inr (Or.inr ⟨List.cons_ne_nil _ _, List.forall_mem_cons.mpr ⟨⟨mok335, q1067, q1068⟩, fun _ h => nomatch h⟩⟩))), List.forall_mem_cons.mpr ⟨Or.inr (Or.inr (Or.inr (Or.inl ⟨rfl, q869⟩))), List.forall_mem_cons.mpr ⟨Or.inr (Or.inr (Or.inr (Or.inr ⟨List.cons_ne_nil _ _, List.forall_mem_cons.mpr ⟨⟨mok332, q938, q939⟩, fun _ h => nomatch h⟩⟩))), List.forall_mem_cons.mpr ⟨Or.inr (Or.inr (Or.inr (Or.inr ⟨List.cons_ne_nil _ _, List.forall_mem_cons.mpr ⟨⟨mok333, q941, q942⟩, fun _ h => nomatch h⟩⟩))), fun _ h => nomatch h⟩⟩⟩⟩⟩
theorem iok33 : ∀ e ∈ aInvL.getD 33 [], aIoks 33 e := List.forall_mem_cons.mpr ⟨Or.inr (Or.inr (Or.inr (Or.inr ⟨List.cons_ne_nil _ _, List.forall_mem_cons.mpr ⟨⟨mok288, q980, q622⟩, fun _ h => nomatch h⟩⟩))), fun _ h => nomatch h⟩
theorem iok34 : ∀ e ∈ aInvL.getD 34 [], aIoks 34 e := List.forall_mem_cons.mpr ⟨Or.inr (Or.inr (Or.inr (Or.inr ⟨List.cons_ne_nil _ _, List.forall_mem_cons.mpr ⟨⟨mok312, q1080, q1002, rfl, rfl⟩, fun _ h => nomatch h⟩⟩))), fun _ h => nomatch h⟩
theorem iok37 : ∀ e ∈ aInvL.getD 37 [], aIoks 37 e := List.forall_mem_cons.mpr ⟨Or.inr (Or.inr (Or.inr (Or.inr ⟨List.cons_ne_nil _ _, List.forall_mem_cons.mpr ⟨⟨mok0, q167, q168, rfl, rfl⟩, fun _ h => nomatch h⟩⟩))), List.forall_mem_cons.mpr ⟨Or.inr (Or.inr (Or.inr (Or.inr ⟨List.cons_ne_nil _ _, List.forall_mem_cons.mpr ⟨⟨mok146, q1512, q1513, rfl, rfl⟩, fun _ h => nomatch h⟩⟩))), List.forall_mem_cons.mpr ⟨Or.inr (Or.inr (Or.inr (Or.inr ⟨List.cons_ne_nil _ _, List.forall_mem_cons.mpr ⟨⟨by decide, Or.inr mok1, q559, q560, q561, fun h => absurd h (by decide)⟩, fun _ h => nomatch h⟩⟩))), List.forall_mem_cons.mpr ⟨Or.inr (Or.inr (Or.inr (Or.inr ⟨List.cons_ne_nil _ _, List.forall_mem_cons.mpr ⟨⟨by decide, Or.inr mok152, q1737, q1738, q1739, fun h => absurd h (by decide)⟩, fun _ h => nomatch h⟩⟩))), List.forall_mem_cons.mpr ⟨Or.inr (Or.inr (Or.inr (Or.inr ⟨List.cons_ne_nil _ _, List.forall_mem_cons.mpr ⟨⟨by decide, Or.inr mok3, q567, q568, q569, fun h => absurd h (by decide)⟩, fun _ h => nomatch h⟩⟩))), List.forall_mem_cons.mpr ⟨Or.inr (Or.inr (Or.inr (Or.inr ⟨List.cons_ne_nil _ _, List.forall_mem_cons.mpr ⟨⟨by decide, Or.inr mok154, q1745, q1746, q1747, fun h => absurd h (by decide)⟩, fun _ h => nomatch h⟩⟩))), List.forall_mem_cons.mpr ⟨Or.inr (Or.inr (Or.inr (Or.inr ⟨List.cons_ne_nil _ _, List.forall_mem_cons.mpr ⟨⟨by decide, Or.inl rfl, q571, q572, q573, fun _ => ⟨rfl, rfl⟩⟩, fun _ h => nomatch h⟩⟩))), List.forall_mem_cons.mpr ⟨Or.inr (Or.inr (Or.inr (Or.inr ⟨List.cons_ne_nil _ _, List.forall_mem_cons.mpr ⟨⟨by decide, Or.inr mok155, q1749, q1750, q1751, fun h => absurd h (by decide)⟩, fun _ h => nomatch h⟩⟩))), List.forall_mem_cons.mpr ⟨Or.inr (Or.inr (Or.inr (Or.inr ⟨List.cons_ne_nil _ _, List.forall_mem_cons.mpr ⟨⟨by decide, Or.inr mok5, q1116, q1117, q1118, fun h => absurd h (by decide)⟩, fun _ h => nomatch h⟩⟩))), List.forall_mem_cons.mpr ⟨Or.inr (Or.inr (Or.inr (Or.inr ⟨List.cons_ne_nil _ _, List.forall_mem_cons.mpr ⟨⟨by decide, Or.inr mok181, q1851, q1852, q1853, fun h => absurd h (by decide)⟩, fun _ h => nomatch h⟩⟩))), List.forall_mem_cons.mpr ⟨Or.inr (Or.inr (Or.inr (Or.inr ⟨List.cons_ne_nil _ _, List.forall_mem_cons.mpr ⟨⟨by decide, Or.inr mok6, q1120, q1121, q1122, fun h => absurd h (by decide)⟩, fun _ h => nomatch h⟩⟩))), List.forall_mem_cons.mpr ⟨Or.inr (Or.inr (Or.inr (Or.inr ⟨List.cons_ne_nil _ _, List.forall_mem_cons.mpr ⟨⟨by decide, Or.inr mok182, q1855, q1856, q1857, fun h => absurd h (by decide)⟩, fun _ h => nomatch h⟩⟩))), List.forall_mem_cons.mpr ⟨Or.inr (Or.inr (Or.inr (Or.inr ⟨List.cons_ne_nil _ _, List.forall_mem_cons.mpr ⟨⟨by decide, Or.inr mok10, q1192, q1193, q1194, fun h => absurd h (by decide)⟩, fun _ h => nomatch h⟩⟩))), List.forall_mem_cons.mpr ⟨Or.inr (Or.inr (Or.inr (Or.inr ⟨List.cons_ne_nil _ _, List.forall_mem_cons.mpr ⟨⟨by decide, Or.inr mok196, q1908, q1909, q1910, fun h => absurd h (by decide)⟩, fun _ h => nomatch h⟩⟩))), List.forall_mem_cons.mpr ⟨Or.inr (Or.inr (Or.inr (Or.inr ⟨List.cons_ne_nil _ _, List.forall_mem_cons.mpr ⟨⟨by decide, Or.inr mok13, q1229, q1230, q1231, fun h => absurd h (by decide)⟩, fun _ h => nomatch h⟩⟩))), List.forall_mem_cons.mpr ⟨Or.inr (Or.inr (Or.inr (Or.inr ⟨List.cons_ne_nil _ _, List.forall_mem_cons.mpr ⟨⟨by decide, Or.inr mok205, q1944, q1945, q1946, fun h => absurd h (by decide)⟩, fun _ h => nomatch h⟩⟩))), List.forall_mem_cons.mpr ⟨Or.inr (Or.inr (Or.inr (Or.inr ⟨List.cons_ne_nil _ _, List.forall_mem_cons.mpr ⟨⟨by decide, Or.inr mok15, q1241, q1242, q1243, fun h => absurd h (by decide)⟩, fun _ h => nomatch h⟩⟩))), List.forall_mem_cons.mpr ⟨Or.inr (Or.inr (Or.inr (Or.inr ⟨List.cons_ne_nil _ _, List.forall_mem_cons.mpr ⟨⟨by decide, Or.inr mok208, q1956, q1957, q1958, fun h => absurd h (by decide)⟩, fun _ h => nomatch h⟩⟩))), List.forall_mem_cons.mpr ⟨Or.inr (Or.inr (Or.inr (Or.inr ⟨List.cons_ne_nil _ _, List.forall_mem_cons.mpr ⟨⟨by decide, Or.inr mok17, q1282, q1283, q1284, fun h => absurd h (by decide)⟩, fun _ h => nomatch h⟩⟩))), List.forall_mem_cons.mpr ⟨Or.inr (Or.inr (Or.inr (Or.inr ⟨List.cons_ne_nil _ _, List.forall_mem_cons.mpr ⟨⟨by decide, Or.inr mok214, q1980, q1981, q1982, fun h => absurd h (by decide)⟩, fun _ h => nomatch h⟩⟩))), List.forall_mem_cons.mpr ⟨Or.inr (Or.inr (Or.inr (Or.inr ⟨List.cons_ne_nil _ _, List.forall_mem_cons.mpr ⟨⟨by decide, Or.inr mok18, q1286, q1287, q1288, fun h => absurd h (by decide)⟩, fun _ h => nomatch h⟩⟩))), List.forall_mem_cons.mpr ⟨Or.inr (Or.inr (Or.inr (Or.inr ⟨List.cons_ne_nil _ _, List.forall_mem_cons.mpr ⟨⟨by decide, Or.inr mok215, q1984, q1985, q1986, fun h => absurd h (by decide)⟩, fun _ h => nomatch h⟩⟩))), List.forall_mem_cons.mpr ⟨Or.inr (Or.inr (Or.inr (Or.inr ⟨List.cons_ne_nil _ _, List.forall_mem_cons.mpr ⟨⟨by decide, Or.inr mok20, q1294, q1295, q1296, fun h => absurd h (by decide)⟩, fun _ h => nomatch h⟩⟩))), List.forall_mem_cons.mpr ⟨Or.inr (Or.inr (Or.inr (Or.inr ⟨List.cons_ne_nil _ _, List.forall_mem_cons.mpr ⟨⟨by decide, Or.inr mok216, q1988, q1989, q1990, fun h => absurd h (by decide)⟩, fun _ h => nomatch h⟩⟩))), List.forall_mem_cons.mpr ⟨Or.inr (Or.inr (Or.inr (Or.inr ⟨List.cons_ne_nil _ _, List.forall_mem_cons.mpr ⟨⟨by decide, Or.inr mok21, q1299, q1300, q1301, fun h => absurd h (by decide)⟩, fun _ h => nomatch h⟩⟩))), List.forall_mem_cons.mpr ⟨Or.inr (Or.inr (Or.inr (Or.inr ⟨List.cons_ne_nil _ _, List.forall_mem_cons.mpr ⟨⟨by decide, Or.inr mok217, q1992, q1993, q1994, fun h => absurd h (by decide)⟩, fun _ h => nomatch h⟩⟩))), List.forall_mem_cons.mpr ⟨Or.inr (Or.inr (Or.inr (Or.inr ⟨List.cons_ne_nil _ _, List.forall_mem_cons.mpr ⟨⟨by decide, Or.inr mok26, q1338, q1339, q1340, fun h => absurd h (by decide)⟩, fun _ h => nomatch h⟩⟩))), List.forall_mem_cons.mpr ⟨Or.inr (Or.inr (Or.inr (Or.inr ⟨List.cons_ne_nil _ _, List.forall_mem_cons.mpr ⟨⟨by decide, Or.inr mok226, q2027, q2028, q2029, fun h => absurd h (by decide)⟩, fun _ h => nomatch h⟩⟩))), List.forall_mem_cons.mpr ⟨Or.inr (Or.inr (Or.inr (Or.inr ⟨List.cons_ne_nil _ _, List.forall_mem_cons.mpr ⟨⟨by decide, Or.inr mok27, q1342, q1343, q1344, fun h => absurd h (by decide)⟩, fun _ h => nomatch h⟩⟩))), List.forall_mem_cons.mpr ⟨Or.inr (Or.inr (Or.inr (Or.inr ⟨List.cons_ne_nil _ _, List.forall_mem_cons.mpr ⟨⟨by decide, Or.inr mok227, q2031, q2032, q2033, fun h => absurd h (by decide)⟩, fun _ h => nomatch h⟩⟩))), List.forall_mem_cons.mpr ⟨Or.inr (Or.inr (Or.inr (Or.inr ⟨List.cons_ne_nil _ _, List.forall_mem_cons.mpr ⟨⟨by decide, Or.inr mok32, q1365, q1366, q1367, fun h => absurd h (by decide)⟩, fun _ h => nomatch h⟩⟩))), List.forall_mem_cons.mpr ⟨Or.inr (Or.inr (Or.inr (Or.inr ⟨List.cons_ne_nil _ _, List.forall_mem_cons.mpr ⟨⟨by decide, Or.inr mok231, q2046, q2047, q2048, fun h => absurd h (by decide)⟩, fun _ h => nomatch h⟩⟩))), List.forall_mem_cons.mpr ⟨Or.inr (Or.inr (Or.inr (Or.inr ⟨List.cons_ne_nil _ _, List.forall_mem_cons.mpr ⟨⟨by decide, Or.inr mok35, q1377, q1378, q1379, fun h => absurd h (by decide)⟩, fun _ h => nomatch h⟩⟩))), List.forall_mem_cons.mpr ⟨Or.inr (Or.inr (Or.inr (Or.inr ⟨List.cons_ne_nil _ _, List.forall_mem_cons.mpr ⟨⟨by decide, Or.inr mok238, q2073, q2074, q2075, fun h => absurd h (by decide)⟩, fun _ h => nomatch h⟩⟩))), List.forall_mem_cons.mpr ⟨Or.inr (Or.inr (Or.inr (Or.inr ⟨List.cons_ne_nil _ _, List.forall_mem_cons.mpr ⟨⟨by decide, Or.inr mok38, q1390, q1391, q1392, fun h => absurd h (by decide)⟩, fun _ h => nomatch h⟩⟩))), List.forall_mem_cons.mpr ⟨Or.inr (Or.inr (Or.inr (Or.inr ⟨List.cons_ne_nil _ _, List.forall_mem_cons.mpr ⟨⟨by decide, Or.inr mok240, q2081, q2082, q2083, fun h => absurd h (by decide)⟩, fun _ h => nomatch h⟩⟩))), List.forall_mem_cons.mpr ⟨Or.inr (Or.inr (Or.inr (Or.inr ⟨List.cons_ne_nil _ _, List.forall_mem_cons.mpr ⟨⟨by decide, Or.inr mok39, q1395, q1396, q1397, fun h => absurd h (by decide)⟩, fun _ h => nomatch h⟩⟩))), List.forall_mem_cons.mpr ⟨Or.inr (Or.inr (Or.inr (Or.inr ⟨List.cons_ne_nil _ _, List.forall_mem_cons.mpr ⟨⟨by decide, Or.inr mok242, q2089, q2090, q2091, fun h => absurd h (by decide)⟩, fun _ h => nomatch h⟩⟩))), List.forall_mem_cons.mpr ⟨Or.inr (Or.inr (Or.inr (Or.inr ⟨List.cons_ne_nil _ _, List.forall_mem_cons.mpr ⟨⟨by decide, Or.inr mok41, q1403, q1404, q1405, fun h => absurd h (by decide)⟩, fun _ h => nomatch h⟩⟩))), List.forall_mem_cons.mpr ⟨Or.inr (Or.inr (Or.inr (Or.inr ⟨List.cons_ne_nil _ _, List.forall_mem_cons.mpr ⟨⟨by decide, Or.inr mok245, q2101, q2102, q2103, fun h => absurd h (by decide)⟩, fun _ h => nomatch h⟩⟩))), List.forall_mem_cons.mpr ⟨Or.inr (Or.inr (Or.inr (Or.inr ⟨List.cons_ne_nil _ _, List.forall_mem_cons.mpr ⟨⟨by decide, Or.inr mok42, q1407, q1408, q1409, fun h => absurd h (by decide)⟩, fun _ h => nomatch h⟩⟩))), List.forall_mem_cons.mpr ⟨Or.inr (Or.inr (Or.inr (Or.inr ⟨List.cons_ne_nil _ _, List.forall_mem_cons.mpr ⟨⟨by decide, Or.inr mok247, q2109, q2110, q2111, fun h => absurd h (by decide)⟩, fun _ h => nomatch h⟩⟩))), List.forall_mem_cons.mpr ⟨Or.inr (Or.inr (Or.inr (Or.inr ⟨List.cons_ne_nil _ _, List.forall_mem_cons.mpr ⟨⟨by decide, Or.inr mok43, q1411, q1412, q1413, fun h => absurd h (by decide)⟩, fun _ h => nomatch h⟩⟩))), List.forall_mem_cons.mpr ⟨Or.inr (Or.inr (Or.inr (Or.inr ⟨List.cons_ne_nil _ _, List.forall_mem_cons.mpr ⟨⟨by decide, Or.inr mok248, q2113, q2114, q2115, fun h => absurd h (by decide)⟩, fun _ h => nomatch h⟩⟩))), List.forall_mem_cons.mpr ⟨Or.inr (Or.inr (Or.inr (Or.inr ⟨List.cons_ne_nil _ _, List.forall_mem_cons.mpr ⟨⟨by decide, Or.inr mok44, q1415, q1416, q1417, fun h => absurd h (by decide)⟩, fun _ h => nomatch h⟩⟩))), List.forall_mem_cons.mpr ⟨Or.inr (Or.inr (Or.inr (Or.inr ⟨List.cons_ne_nil _ _, List.forall_mem_cons.mpr ⟨⟨by decide, Or.inr mok250, q2121, q2122, q2123, fun h => absurd h (by decide)⟩, fun _ h => nomatch h⟩⟩))), List.forall_mem_cons.mpr ⟨Or.inr (Or.inr (Or.inr (Or.inr ⟨List.cons_ne_nil _ _, List.forall_mem_cons.mpr ⟨⟨by decide, Or.inr mok45, q1419, q1420, q1421, fun h => absurd h (by decide)⟩, fun _ h => nomatch h⟩⟩))), List.forall_mem_cons.mpr ⟨Or.inr (Or.inr (Or.inr (Or.inr ⟨List.cons_ne_nil _ _, List.forall_mem_cons.mpr ⟨⟨by decide, Or.inr mok251, q2125, q2126, q2127, fun h => absurd h (by decide)⟩, fun _ h => nomatch h⟩⟩))), List.forall_mem_cons.mpr ⟨Or.inr (Or.inr (Or.inr (Or.inr ⟨List.cons_ne_nil _ _, List.forall_mem_cons.mpr ⟨⟨by decide, Or.inr mok52, q1448, q1449, q1450, fun h => absurd h (by decide)⟩, fun _ h => nomatch h⟩⟩))), List.forall_mem_cons.mpr ⟨Or.inr (Or.inr (Or.inr (Or.inr ⟨List.cons_ne_nil _ _, List.forall_mem_cons.mpr ⟨⟨by decide, Or.inr mok253, q2133, q2134, q2135, fun h => absurd h (by decide)⟩, fun _ h => nomatch h⟩⟩))), List.forall_mem_cons.mpr ⟨Or.inr (Or.inr (Or.inr (Or.inr ⟨List.cons_ne_nil _ _, List.forall_mem_cons.mpr ⟨⟨by decide, Or.inr mok53, q1452, q1453, q1454, fun h => absurd h (by decide)⟩, fun _ h => nomatch h⟩⟩))), List.forall_mem_cons.mpr ⟨Or.inr (Or.inr (Or.inr (Or.inr ⟨List.cons_ne_nil _ _, List.forall_mem_cons.mpr ⟨⟨by decide, Or.inr mok255, q2141, q2142, q2143, fun h => absurd h (by decide)⟩, fun _ h => nomatch h⟩⟩))), List.forall_mem_cons.mpr ⟨Or.inr (Or.inr (Or.inr (Or.inr ⟨List.cons_ne_nil _ _, List.forall_mem_cons.mpr ⟨⟨by decide, Or.inr mok46, q1424, q1425, q1426, fun h => absurd h (by decide)⟩, fun _ h => nomatch h⟩⟩))), List.forall_mem_cons.mpr ⟨Or.inr (Or.inr (Or.inr (Or.inr ⟨List.cons_ne_nil _ _, List.forall_mem_cons.mpr ⟨⟨by decide, Or.inr mok252, q2129, q2130, q2131, fun h => absurd h (by decide)⟩, fun _ h => nomatch h⟩⟩))), List.forall_mem_cons.mpr ⟨Or.inr (Or.inr (Or.inr (Or.inr ⟨List.cons_ne_nil _ _, List.forall_mem_cons.mpr ⟨⟨by decide, Or.inr mok47, q1428, q1429, q1430, fun h => absurd h (by decide)⟩, fun _ h => nomatch h⟩⟩))), List.forall_mem_cons.mpr ⟨Or.inr (Or.inr (Or.inr (Or.inr ⟨List.cons_ne_nil _ _, List.forall_mem_cons.mpr ⟨⟨by decide, Or.inr mok249, q2117, q2118, q2119, fun h => absurd h (by decide)⟩, fun _ h => nomatch h⟩⟩))), List.forall_mem_cons.mpr ⟨Or.inr (Or.inr (Or.inr (Or.inr ⟨List.cons_ne_nil _ _, List.forall_mem_cons.mpr ⟨⟨by decide, Or.inr mok49, q1436, q1437, q1438, fun h => absurd h (by decide)⟩, fun _ h => nomatch h⟩⟩))), List.forall_mem_cons.mpr ⟨Or.inr (Or.inr (Or.inr (Or.inr ⟨List.cons_ne_nil _ _, List.forall_mem_cons.mpr ⟨⟨by decide, Or.inr mok258, q2153, q2154, q2155, fun h => absurd h (by decide)⟩, fun _ h => nomatch h⟩⟩))), List.forall_mem_cons.mpr ⟨Or.inr (Or.inr (Or.inr (Or.inr ⟨List.cons_ne_nil _ _, List.forall_mem_cons.mpr ⟨⟨by decide, Or.inr mok50, q1440, q1441, q1442, fun h => absurd h (by decide)⟩, fun _ h => nomatch h⟩⟩))), List.forall_mem_cons.mpr ⟨Or.inr (Or.inr (Or.inr (Or.inr ⟨List.cons_ne_nil _ _, List.forall_mem_cons.mpr ⟨⟨by decide, Or.inr mok260, q2161, q2162, q2163, fun h => absurd h (by decide)⟩, fun _ h => nomatch h⟩⟩))), List.forall_mem_cons.mpr ⟨Or.inr (Or.inr (Or.inr (Or.inr ⟨List.cons_ne_nil _ _, List.forall_mem_cons.mpr ⟨⟨by decide, Or.inr mok51, q1444, q1445, q1446, fun h => absurd h (by decide)⟩, fun _ h => nomatch h⟩⟩))), List.forall_mem_cons.mpr ⟨Or.inr (Or.inr (Or.inr (Or.inr ⟨List.cons_ne_nil _ _, List.forall_mem_cons.mpr ⟨⟨by decide, Or.inr mok257, q2149, q2150, q2151, fun h => absurd h (by decide)⟩, fun _ h => nomatch h⟩⟩))), List.forall_mem_cons.mpr ⟨Or.inr (Or.inr (Or.inr (Or.inr ⟨List.cons_ne_nil _ _, List.forall_mem_cons.mpr ⟨⟨by decide, Or.inr mok54, q1457, q1458, q1459, fun h => absurd h (by decide)⟩, fun _ h => nomatch h⟩⟩))), List.forall_mem_cons.mpr ⟨Or.inr (Or.inr (Or.inr (Or.inr ⟨List.cons_ne_nil _ _, List.forall_mem_cons.mpr ⟨⟨by decide, Or.inr mok261, q2165, q2166, q2167, fun h => absurd h (by decide)⟩, fun _ h => nomatch h⟩⟩))), List.forall_mem_cons.mpr ⟨Or.inr (Or.inr (Or.inr (Or.inr ⟨List.cons_ne_nil _ _, List.forall_mem_cons.mpr ⟨⟨by decide, Or.inr mok48, q1432, q1433, q1434, fun h => absurd h (by decide)⟩, fun _ h => nomatch h⟩⟩))), List.forall_mem_cons.mpr ⟨Or.inr (Or.inr (Or.inr (Or.inr ⟨List.cons_ne_nil _ _, List.forall_mem_cons.mpr ⟨⟨by decide, Or.inr mok244, q2097, q2098, q2099, fun h => absurd h (by decide)⟩, fun _ h => nomatch h⟩⟩))), List.forall_mem_cons.mpr ⟨Or.inr (Or.inr (Or.inr (Or.inr ⟨List.cons_ne_nil _ _, List.forall_mem_cons.mpr ⟨⟨by decide, Or.inr mok55, q1461, q1462, q1463, fun h => absurd h (by decide)⟩, fun _ h => nomatch h⟩⟩))), List.forall_mem_cons.mpr ⟨Or.inr (Or.inr (Or.inr (Or.inr ⟨List.cons_ne_nil _ _, List.forall_mem_cons.mpr ⟨⟨by decide, Or.inr mok262, q2169, q2170, q2171, fun h => absurd h (by decide)⟩, fun _ h => nomatch h⟩⟩))), List.forall_mem_cons.mpr ⟨Or.inr (Or.inr (Or.inr (Or.inr ⟨List.cons_ne_nil _ _, List.forall_mem_cons.mpr ⟨⟨by decide, Or.inr mok56, q1465, q1466, q1467, fun h => absurd h (by decide)⟩, fun _ h => nomatch h⟩⟩))), List.forall_mem_cons.mpr ⟨Or.inr (Or.inr (Or.inr (Or.inr ⟨List.cons_ne_nil _ _, List.forall_mem_cons.mpr ⟨⟨by decide, Or.inr mok263, q2173, q2174, q2175, fun h => absurd h (by decide)⟩, fun _ h => nomatch h⟩⟩))), List.forall_mem_cons.mpr ⟨Or.inr (Or.inr (Or.inr (Or.inr ⟨List.cons_ne_nil _ _, List.forall_mem_cons.mpr ⟨⟨by decide, Or.inr mok57, q1469, q1470, q1471, fun h => absurd h (by decide)⟩, fun _ h => nomatch h⟩⟩))), List.forall_mem_cons.mpr ⟨Or.inr (Or.inr (Or.inr (Or.inr ⟨List.cons_ne_nil _ _, List.forall_mem_cons.mpr ⟨⟨by decide, Or.inr mok264, q2177, q2178, q2179, fun h => absurd h (by decide)⟩, fun _ h => nomatch h⟩⟩))), List.forall_mem_cons.mpr ⟨Or.inr (Or.inr (Or.inr (Or.inr ⟨List.cons_ne_nil _ _, List.forall_mem_cons.mpr ⟨⟨by decide, Or.inr mok58, q1473, q1474, q1475, fun h => absurd h (by decide)⟩, fun _ h => nomatch h⟩⟩))), List.forall_mem_cons.mpr ⟨Or.inr (Or.inr (Or.inr (Or.inr ⟨List.cons_ne_nil _ _, List.forall_mem_cons.mpr ⟨⟨by decide, Or.inr mok265, q2181, q2182, q2183, fun h => absurd h (by decide)⟩, fun _ h => nomatch h⟩⟩))), List.forall_mem_cons.mpr ⟨Or.inr (Or.inr (Or.inr (Or.inr ⟨List.cons_ne_nil _ _, List.forall_mem_cons.mpr ⟨⟨by decide, Or.inr mok59, q1477, q1478, q1479, fun h => absurd h (by decide)⟩, fun _ h => nomatch h⟩⟩))), List.forall_mem_cons.mpr ⟨Or.inr (Or.inr (Or.inr (Or.inr ⟨List.cons_ne_nil _ _, List.forall_mem_cons.mpr ⟨⟨by decide, Or.inr mok266, q2185, q2186, q2187, fun h => absurd h (by decide)⟩, fun _ h => nomatch h⟩⟩))), List.forall_mem_cons.mpr ⟨Or.inr (Or.inr (Or.inr (Or.inr ⟨List.cons_ne_nil _ _, List.forall_mem_cons.mpr ⟨⟨by decide, Or.inr mok60, q1481, q1482, q1483, fun h => absurd h (by decide)⟩, fun _ h => nomatch h⟩⟩))), List.forall_mem_cons.mpr ⟨Or.inr (Or.inr (Or.inr (Or.inr ⟨List.cons_ne_nil _ _, List.forall_mem_cons.mpr ⟨⟨by decide, Or.inr mok267, q2189, q2190, q2191, fun h => absurd h (by decide)⟩, fun _ h => nomatch h⟩⟩))), List.forall_mem_cons.mpr ⟨Or.inr (Or.inr (Or.inr (Or.inr ⟨List.cons_ne_nil _ _, List.forall_mem_cons.mpr ⟨⟨by decide, Or.inr mok62, q1489, q1490, q1491, fun h => absurd h (by decide)⟩, fun _ h => nomatch h⟩⟩))), List.forall_mem_cons.mpr ⟨Or.inr (Or.inr (Or.inr (Or.inr ⟨List.cons_ne_nil _ _, List.forall_mem_cons.mpr ⟨⟨by decide, Or.inr mok270, q2201, q2202, q2203, fun h => absurd h (by decide)⟩, fun _ h => nomatch h⟩⟩))), List.forall_mem_cons.mpr ⟨Or.inr (Or.inr (Or.inr (Or.inr ⟨List.cons_ne_nil _ _, List.forall_mem_cons.mpr ⟨⟨by decide, Or.inr mok63, q1493, q1494, q1495, fun h => absurd h (by decide)⟩, fun _ h => nomatch h⟩⟩))), List.forall_mem_cons.mpr ⟨Or.inr (Or.inr (Or.inr (Or.inr ⟨List.cons_ne_nil _ _, List.forall_mem_cons.mpr ⟨⟨by decide, Or.inr mok271, q2205, q2206, q2207, fun h => absurd h (by decide)⟩, fun _ h => nomatch h⟩⟩))), List.forall_mem_cons.mpr ⟨Or.inr (Or.inr (Or.inr (Or.inr ⟨List.cons_ne_nil _ _, List.forall_mem_cons.mpr ⟨⟨by decide, Or.inr mok64, q1497, q1498, q1499, fun h => absurd h (by decide)⟩, fun _ h => nomatch h⟩⟩))), List.forall_mem_cons.mpr ⟨Or.inr (Or.inr (Or.inr (Or.inr ⟨List.cons_ne_nil _ _, List.forall_mem_cons.mpr ⟨⟨by decide, Or.inr mok272, q2209, q2210, q2211, fun h => absurd h (by decide)⟩, fun _ h => nomatch h⟩⟩))), List.forall_mem_cons.mpr ⟨Or.inr (Or.inr (Or.inr (Or.inr ⟨List.cons_ne_nil _ _, List.forall_mem_cons.mpr ⟨⟨by decide, Or.inr mok65, q1501, q1502, q1503, fun h => absurd h (by decide)⟩, fun _ h => nomatch h⟩⟩))), List.forall_mem_cons.mpr ⟨Or.inr (Or.inr (Or.inr (Or.inr ⟨List.cons_ne_nil _ _, List.forall_mem_cons.mpr ⟨⟨by decide, Or.inr mok273, q2213, q2214, q2215, fun h => absurd h (by decide)⟩, fun _ h => nomatch h⟩⟩))), fun _ h => nomatch h⟩⟩⟩⟩⟩⟩⟩⟩⟩⟩⟩⟩⟩⟩⟩⟩⟩⟩⟩⟩⟩⟩⟩⟩⟩⟩⟩⟩⟩⟩⟩⟩⟩⟩⟩⟩⟩⟩⟩⟩⟩⟩⟩⟩⟩⟩⟩⟩⟩⟩⟩⟩⟩⟩⟩⟩⟩⟩⟩⟩⟩⟩⟩⟩⟩⟩⟩⟩⟩⟩⟩⟩⟩⟩⟩⟩⟩⟩⟩⟩⟩⟩⟩⟩⟩⟩
theorem aInv_ok {c j : Nat} {e : Nat × Nat × List (Nat × Nat)} (h : aInv c j = some e) : aIoks c (j, e) := by
  have h1 := aLk_mem h
  match c, h1 with
  | 0, h1 => exact iok0 _ h1
  | 1, h1 => exact iok1 _ h1
  | 2, h1 => exact iok2 _ h1
  | 3, h1 => exact iok3 _ h1
  | 4, h1 => exact iok4 _ h1
  | 5, h1 => exact iok5 _ h1
  | 6, h1 => exact iok6 _ h1
  | 7, h1 => exact iok7 _ h1
  | 8, h1 => exact iok8 _ h1
  | 9, h1 => exact iok9 _ h1
  | 10, h1 => exact iok10 _ h1
  | 11, h1 => exact iok11 _ h1
  | 12, h1 => exact iok12 _ h1
  | 13, h1 => exact iok13 _ h1
  | 14, h1 => exact iok14 _ h1
  | 15, h1 => exact iok15 _ h1
  | 16, h1 => exact iok16 _ h1
  | 17, h1 => exact iok17 _ h1
  | 18, h1 => exact iok18 _ h1
  | 19, h1 => exact nomatch h1
  | 20, h1 => exact iok20 _ h1
  | 21, h1 => exact iok21 _ h1
  | 22, h1 => exact iok22 _ h1
  | 23, h1 => exact iok23 _ h1
  | 24, h1 => exact iok24 _ h1
  | 25, h1 => exact iok25 _ h1
  | 26, h1 => exact iok26 _ h1
  | 27, h1 => exact iok27 _ h1
  | 28, h1 => exact iok28 _ h1
  | 29, h1 => exact iok29 _ h1
  | 30, h1 => exact iok30 _ h1
  | 31, h1 => exact nomatch h1
  | 32, h1 => exact iok32 _ h1
  | 33, h1 => exact iok33 _ h1
  | 34, h1 => exact iok34 _ h1
  | 35, h1 => exact nomatch h1
  | 36, h1 => exact nomatch h1
  | 37, h1 => exact iok37 _ h1
  | c + 38, h1 => simp [aInvL] at h1
/-- classes by index -/
theorem nok0 : ∀ e ∈ aNewL.getD 0 [], e.2 < 19 ∧ Cond.classLink (aNm 0) e.1 (aKn e.2) ∈ lw_all := List.forall_mem_cons.mpr ⟨⟨by decide, q173⟩, List.forall_mem_cons.mpr ⟨⟨by decide, q247⟩, List.forall_mem_cons.mpr ⟨⟨by decide, q307⟩, List.forall_mem_cons.mpr ⟨⟨by decide, q335⟩, List.forall_mem_cons.mpr ⟨⟨by decide, q402⟩, List.forall_mem_cons.mpr ⟨⟨by decide, q471⟩, List.forall_mem_cons.mpr ⟨⟨by decide, q481⟩, fun _ h => nomatch h⟩⟩⟩⟩⟩⟩⟩
theorem nok5 : ∀ e ∈ aNewL.getD 5 [], e.2 < 19 ∧ Cond.classLink (aNm 5) e.1 (aKn e.2) ∈ lw_all := List.forall_mem_cons.mpr ⟨⟨by decide, q803⟩, fun _ h => nomatch h⟩
theorem nok6 : ∀ e ∈ aNewL.getD 6 [], e.2 < 19 ∧ Cond.classLink (aNm 6) e.1 (aKn e.2) ∈ lw_all := List.forall_mem_cons.mpr ⟨⟨by decide, q655⟩, List.forall_mem_cons.mpr ⟨⟨by decide, q789⟩, List.forall_mem_cons.mpr ⟨⟨by decide, q1075⟩, List.forall_mem_cons.mpr ⟨⟨by decide, q685⟩, List.forall_mem_cons.mpr ⟨⟨by decide, q765⟩, List.forall_mem_cons.mpr ⟨⟨by decide, q738⟩, List.forall_mem_cons.mpr ⟨⟨by decide, q755⟩, fun _ h => nomatch h⟩⟩⟩⟩⟩⟩⟩
theorem nok7 : ∀ e ∈ aNewL.getD 7 [], e.2 < 19 ∧ Cond.classLink (aNm 7) e.1 (aKn e.2) ∈ lw_all := List.forall_mem_cons.mpr ⟨⟨by decide, q341⟩, fun _ h => nomatch h⟩
theorem nok11 : ∀ e ∈ aNewL.getD 11 [], e.2 < 19 ∧ Cond.classLink (aNm 11) e.1 (aKn e.2) ∈ lw_all := List.forall_mem_cons.mpr ⟨⟨by decide, q408⟩, fun _ h => nomatch h⟩
theorem nok29 : ∀ e ∈ aNewL.getD 29 [], e.2 < 19 ∧ Cond.classLink (aNm 29) e.1 (aKn e.2) ∈ lw_all := List.forall_mem_cons.mpr ⟨⟨by decide, q912⟩, fun _ h => nomatch h⟩
theorem nok37 : ∀ e ∈ aNewL.getD 37 [], e.2 < 19 ∧ Cond.classLink (aNm 37) e.1 (aKn e.2) ∈ lw_all := List.forall_mem_cons.mpr ⟨⟨by decide, q165⟩, List.forall_mem_cons.mpr ⟨⟨by decide, q1510⟩, fun _ h => nomatch h⟩⟩
theorem aNew_ok {c j : Nat} {v : Nat} (h : aNew c j = some v) : v < 19 ∧ Cond.classLink (aNm c) j (aKn v) ∈ lw_all := by
  have h1 := aLk_mem h
  match c, h1 with
  | 0, h1 => exact nok0 _ h1
  | 1, h1 => exact nomatch h1
  | 2, h1 => exact nomatch h1
  | 3, h1 => exact nomatch h1
  | 4, h1 => exact nomatch h1
  | 5, h1 => exact nok5 _ h1
  | 6, h1 => exact nok6 _ h1
  | 7, h1 => exact nok7 _ h1
  | 8, h1 => exact nomatch h1
  | 9, h1 => exact nomatch h1
  | 10, h1 => exact nomatch h1
  | 11, h1 => exact nok11 _ h1
  | 12, h1 => exact nomatch h1
  | 13, h1 => exact nomatch h1
  | 14, h1 => exact nomatch h1
  | 15, h1 => exact nomatch h1
  | 16, h1 => exact nomatch h1
  | 17, h1 => exact nomatch h1
  | 18, h1 => exact nomatch h1
  | 19, h1 => exact nomatch h1
  | 20, h1 => exact nomatch h1
  | 21, h1 => exact nomatch h1
  | 22, h1 => exact nomatch h1
  | 23, h1 => exact nomatch h1
  | 24, h1 => exact nomatch h1
  | 25, h1 => exact nomatch h1
  | 26, h1 => exact nomatch h1
  | 27, h1 => exact nomatch h1
  | 28, h1 => exact nomatch h1
  | 29, h1 => exact nok29 _ h1
  | 30, h1 => exact nomatch h1
  | 31, h1 => exact nomatch h1
  | 32, h1 => exact nomatch h1
  | 33, h1 => exact nomatch h1
  | 34, h1 => exact nomatch h1
  | 35, h1 => exact nomatch h1
  | 36, h1 => exact nomatch h1
  | 37, h1 => exact nok37 _ h1
  | c + 38, h1 => simp [aNewL] at h1
theorem rok0 : ∀ e ∈ aArrL.getD 0 [], (e.2 ≠ 115 ∧ 110 ≤ e.2 ∧ e.2 < 115 ∧ (∃ C : String, aFt e.2 = .object C ∧ Cond.classLink (aNm 0) e.1 C ∈ lw_all) ∧ aFt e.2 ∈ aAol) ∨ (e.2 = 115 ∧ Cond.classLink (aNm 0) e.1 "[[I" ∈ lw_all) := List.forall_mem_cons.mpr ⟨Or.inl ⟨by decide, by decide, by decide, ⟨_, rfl, q402⟩, List.mem_of_getElem? (i := 3) rfl⟩, List.forall_mem_cons.mpr ⟨Or.inr ⟨rfl, q488⟩, fun _ h => nomatch h⟩⟩
theorem rok5 : ∀ e ∈ aArrL.getD 5 [], (e.2 ≠ 115 ∧ 110 ≤ e.2 ∧ e.2 < 115 ∧ (∃ C : String, aFt e.2 = .object C ∧ Cond.classLink (aNm 5) e.1 C ∈ lw_all) ∧ aFt e.2 ∈ aAol) ∨ (e.2 = 115 ∧ Cond.classLink (aNm 5) e.1 "[[I" ∈ lw_all) := List.forall_mem_cons.mpr ⟨Or.inl ⟨by decide, by decide, by decide, ⟨_, rfl, q253⟩, List.mem_of_getElem? (i := 0) rfl⟩, fun _ h => nomatch h⟩
theorem rok7 : ∀ e ∈ aArrL.getD 7 [], (e.2 ≠ 115 ∧ 110 ≤ e.2 ∧ e.2 < 115 ∧ (∃ C : String, aFt e.2 = .object C ∧ Cond.classLink (aNm 7) e.1 C ∈ lw_all) ∧ aFt e.2 ∈ aAol) ∨ (e.2 = 115 ∧ Cond.classLink (aNm 7) e.1 "[[I" ∈ lw_all) := List.forall_mem_cons.mpr ⟨Or.inl ⟨by decide, by decide, by decide, ⟨_, rfl, q367⟩, List.mem_of_getElem? (i := 2) rfl⟩, fun _ h => nomatch h⟩
theorem rok10 : ∀ e ∈ aArrL.getD 10 [], (e.2 ≠ 115 ∧ 110 ≤ e.2 ∧ e.2 < 115 ∧ (∃ C : String, aFt e.2 = .object C ∧ Cond.classLink (aNm 10) e.1 C ∈ lw_all) ∧ aFt e.2 ∈ aAol) ∨ (e.2 = 115 ∧ Cond.classLink (aNm 10) e.1 "[[I" ∈ lw_all) := List.forall_mem_cons.mpr ⟨Or.inl ⟨by decide, by decide, by decide, ⟨_, rfl, q1074⟩, List.mem_of_getElem? (i := 4) rfl⟩, fun _ h => nomatch h⟩
theorem rok21 : ∀ e ∈ aArrL.getD 21 [], (e.2 ≠ 115 ∧ 110 ≤ e.2 ∧ e.2 < 115 ∧ (∃ C : String, aFt e.2 = .object C ∧ Cond.classLink (aNm 21) e.1 C ∈ lw_all) ∧ aFt e.2 ∈ aAol) ∨ (e.2 = 115 ∧ Cond.classLink (aNm 21) e.1 "[[I" ∈ lw_all) := List.forall_mem_cons.mpr ⟨Or.inl ⟨by decide, by decide, by decide, ⟨_, rfl, q691⟩, List.mem_of_getElem? (i := 1) rfl⟩, fun _ h => nomatch h⟩
theorem rok32 : ∀ e ∈ aArrL.getD 32 [], (e.2 ≠ 115 ∧ 110 ≤ e.2 ∧ e.2 < 115 ∧ (∃ C : String, aFt e.2 = .object C ∧ Cond.classLink (aNm 32) e.1 C ∈ lw_all) ∧ aFt e.2 ∈ aAol) ∨ (e.2 = 115 ∧ Cond.classLink (aNm 32) e.1 "[[I" ∈ lw_all) := List.forall_mem_cons.mpr ⟨Or.inl ⟨by decide, by decide, by decide, ⟨_, rfl, q1072⟩, List.mem_of_getElem? (i := 4) rfl⟩, fun _ h => nomatch h⟩
theorem aArr_ok {c j : Nat} {v : Nat} (h : aArr c j = some v) : (v ≠ 115 ∧ 110 ≤ v ∧ v < 115 ∧ (∃ C : String, aFt v = .object C ∧ Cond.classLink (aNm c) j C ∈ lw_all) ∧ aFt v ∈ aAol) ∨ (v = 115 ∧ Cond.classLink (aNm c) j "[[I" ∈ lw_all) := by
  have h1 := aLk_mem h
  match c, h1 with
  | 0, h1 => exact rok0 _ h1
  | 1, h1 => exact nomatch h1
  | 2, h1 => exact nomatch h1
  | 3, h1 => exact nomatch h1
  | 4, h1 => exact nomatch h1
  | 5, h1 => exact rok5 _ h1
  | 6, h1 => exact nomatch h1
  | 7, h1 => exact rok7 _ h1
  | 8, h1 => exact nomatch h1
  | 9, h1 => exact nomatch h1
  | 10, h1 => exact rok10 _ h1
  | 11, h1 => exact nomatch h1
  | 12, h1 => exact nomatch h1
  | 13, h1 => exact nomatch h1
  | 14, h1 => exact nomatch h1
  | 15, h1 => exact nomatch h1
  | 16, h1 => exact nomatch h1
  | 17, h1 => exact nomatch h1
  | 18, h1 => exact nomatch h1
  | 19, h1 => exact nomatch h1
  | 20, h1 => exact nomatch h1
  | 21, h1 => exact rok21 _ h1
  | 22, h1 => exact nomatch h1
  | 23, h1 => exact nomatch h1
  | 24, h1 => exact nomatch h1
  | 25, h1 => exact nomatch h1
  | 26, h1 => exact nomatch h1
  | 27, h1 => exact nomatch h1
  | 28, h1 => exact nomatch h1
  | 29, h1 => exact nomatch h1
  | 30, h1 => exact nomatch h1
  | 31, h1 => exact nomatch h1
  | 32, h1 => exact rok32 _ h1
  | 33, h1 => exact nomatch h1
  | 34, h1 => exact nomatch h1
  | 35, h1 => exact nomatch h1
  | 36, h1 => exact nomatch h1
  | 37, h1 => exact nomatch h1
  | c + 38, h1 => simp [aArrL] at h1
theorem cok0 : ∀ e ∈ aCasL.getD 0 [], ∀ κ ∈ e.2, κ < 19 ∧ ∃ nm : String, Cond.classLink (aNm 0) e.1 nm ∈ lw_all ∧ (nm = aKn κ ∨ (aKn κ, nm) ∈ aCsl) := List.forall_mem_cons.mpr ⟨List.forall_mem_cons.mpr ⟨⟨by decide, "LentSundays$Sunday", q1137, Or.inl rfl⟩, fun _ h => nomatch h⟩, List.forall_mem_cons.mpr ⟨List.forall_mem_cons.mpr ⟨⟨by decide, "LentSundays$Guest", q1204, Or.inl rfl⟩, fun _ h => nomatch h⟩, fun _ h => nomatch h⟩⟩
theorem cok6 : ∀ e ∈ aCasL.getD 6 [], ∀ κ ∈ e.2, κ < 19 ∧ ∃ nm : String, Cond.classLink (aNm 6) e.1 nm ∈ lw_all ∧ (nm = aKn κ ∨ (aKn κ, nm) ∈ aCsl) := List.forall_mem_cons.mpr ⟨List.forall_mem_cons.mpr ⟨⟨by decide, "LentSundays$Guest", q1075, Or.inl rfl⟩, fun _ h => nomatch h⟩, fun _ h => nomatch h⟩
theorem cok7 : ∀ e ∈ aCasL.getD 7 [], ∀ κ ∈ e.2, κ < 19 ∧ ∃ nm : String, Cond.classLink (aNm 7) e.1 nm ∈ lw_all ∧ (nm = aKn κ ∨ (aKn κ, nm) ∈ aCsl) := List.forall_mem_cons.mpr ⟨List.forall_mem_cons.mpr ⟨⟨by decide, "LentSundays$Named", q985, Or.inr (List.mem_of_getElem? (i := 1) rfl)⟩, List.forall_mem_cons.mpr ⟨⟨by decide, "LentSundays$Named", q985, Or.inr (List.mem_of_getElem? (i := 0) rfl)⟩, fun _ h => nomatch h⟩⟩, List.forall_mem_cons.mpr ⟨List.forall_mem_cons.mpr ⟨⟨by decide, "LentSundays$Guest", q1255, Or.inl rfl⟩, fun _ h => nomatch h⟩, List.forall_mem_cons.mpr ⟨List.forall_mem_cons.mpr ⟨⟨by decide, "LentSundays$Sunday", q1256, Or.inl rfl⟩, fun _ h => nomatch h⟩, fun _ h => nomatch h⟩⟩⟩
theorem cok11 : ∀ e ∈ aCasL.getD 11 [], ∀ κ ∈ e.2, κ < 19 ∧ ∃ nm : String, Cond.classLink (aNm 11) e.1 nm ∈ lw_all ∧ (nm = aKn κ ∨ (aKn κ, nm) ∈ aCsl) := List.forall_mem_cons.mpr ⟨List.forall_mem_cons.mpr ⟨⟨by decide, "LentSundays$Guest", q1161, Or.inl rfl⟩, fun _ h => nomatch h⟩, List.forall_mem_cons.mpr ⟨List.forall_mem_cons.mpr ⟨⟨by decide, "LentSundays$Sunday", q1162, Or.inl rfl⟩, fun _ h => nomatch h⟩, fun _ h => nomatch h⟩⟩
theorem cok17 : ∀ e ∈ aCasL.getD 17 [], ∀ κ ∈ e.2, κ < 19 ∧ ∃ nm : String, Cond.classLink (aNm 17) e.1 nm ∈ lw_all ∧ (nm = aKn κ ∨ (aKn κ, nm) ∈ aCsl) := List.forall_mem_cons.mpr ⟨List.forall_mem_cons.mpr ⟨⟨by decide, "java/lang/String", q990, Or.inl rfl⟩, fun _ h => nomatch h⟩, fun _ h => nomatch h⟩
theorem aCas_ok {c j : Nat} {v : List Nat} (h : aCas c j = some v) : ∀ κ ∈ v, κ < 19 ∧ ∃ nm : String, Cond.classLink (aNm c) j nm ∈ lw_all ∧ (nm = aKn κ ∨ (aKn κ, nm) ∈ aCsl) := by
  have h1 := aLk_mem h
  match c, h1 with
  | 0, h1 => exact cok0 _ h1
  | 1, h1 => exact nomatch h1
  | 2, h1 => exact nomatch h1
  | 3, h1 => exact nomatch h1
  | 4, h1 => exact nomatch h1
  | 5, h1 => exact nomatch h1
  | 6, h1 => exact cok6 _ h1
  | 7, h1 => exact cok7 _ h1
  | 8, h1 => exact nomatch h1
  | 9, h1 => exact nomatch h1
  | 10, h1 => exact nomatch h1
  | 11, h1 => exact cok11 _ h1
  | 12, h1 => exact nomatch h1
  | 13, h1 => exact nomatch h1
  | 14, h1 => exact nomatch h1
  | 15, h1 => exact nomatch h1
  | 16, h1 => exact nomatch h1
  | 17, h1 => exact cok17 _ h1
  | 18, h1 => exact nomatch h1
  | 19, h1 => exact nomatch h1
  | 20, h1 => exact nomatch h1
  | 21, h1 => exact nomatch h1
  | 22, h1 => exact nomatch h1
  | 23, h1 => exact nomatch h1
  | 24, h1 => exact nomatch h1
  | 25, h1 => exact nomatch h1
  | 26, h1 => exact nomatch h1
  | 27, h1 => exact nomatch h1
  | 28, h1 => exact nomatch h1
  | 29, h1 => exact nomatch h1
  | 30, h1 => exact nomatch h1
  | 31, h1 => exact nomatch h1
  | 32, h1 => exact nomatch h1
  | 33, h1 => exact nomatch h1
  | 34, h1 => exact nomatch h1
  | 35, h1 => exact nomatch h1
  | 36, h1 => exact nomatch h1
  | 37, h1 => exact nomatch h1
  | c + 38, h1 => simp [aCasL] at h1
def aCok (c j : Nat) (v : Value) : Prop := match v with
  | .int x => Cond.constant (aNm c) j x ∈ lw_all
  | .long x => Cond.constantLong (aNm c) j x ∈ lw_all
  | .ref a => ∃ tx : String, (aNm c, j, tx, a) ∈ aStrL
  | _ => False
theorem kk0 : ∀ e ∈ aCstL.getD 0 [], aCok 0 e.1 e.2 := List.forall_mem_cons.mpr ⟨(q1334 : aCok 0 1 (.int (1103515245))), List.forall_mem_cons.mpr ⟨(q1394 : aCok 0 305 (.int (1000000))), fun _ h => nomatch h⟩⟩
theorem kk4 : ∀ e ∈ aCstL.getD 4 [], aCok 4 e.1 e.2 := List.forall_mem_cons.mpr ⟨⟨_, List.mem_of_getElem? (i := 0) rfl⟩, fun _ h => nomatch h⟩
theorem kk5 : ∀ e ∈ aCstL.getD 5 [], aCok 5 e.1 e.2 := List.forall_mem_cons.mpr ⟨⟨_, List.mem_of_getElem? (i := 1) rfl⟩, List.forall_mem_cons.mpr ⟨⟨_, List.mem_of_getElem? (i := 2) rfl⟩, List.forall_mem_cons.mpr ⟨⟨_, List.mem_of_getElem? (i := 3) rfl⟩, List.forall_mem_cons.mpr ⟨⟨_, List.mem_of_getElem? (i := 4) rfl⟩, List.forall_mem_cons.mpr ⟨⟨_, List.mem_of_getElem? (i := 5) rfl⟩, List.forall_mem_cons.mpr ⟨⟨_, List.mem_of_getElem? (i := 6) rfl⟩, List.forall_mem_cons.mpr ⟨⟨_, List.mem_of_getElem? (i := 7) rfl⟩, List.forall_mem_cons.mpr ⟨⟨_, List.mem_of_getElem? (i := 8) rfl⟩, List.forall_mem_cons.mpr ⟨⟨_, List.mem_of_getElem? (i := 9) rfl⟩, List.forall_mem_cons.mpr ⟨⟨_, List.mem_of_getElem? (i := 10) rfl⟩, List.forall_mem_cons.mpr ⟨⟨_, List.mem_of_getElem? (i := 11) rfl⟩, List.forall_mem_cons.mpr ⟨⟨_, List.mem_of_getElem? (i := 12) rfl⟩, List.forall_mem_cons.mpr ⟨⟨_, List.mem_of_getElem? (i := 13) rfl⟩, List.forall_mem_cons.mpr ⟨⟨_, List.mem_of_getElem? (i := 14) rfl⟩, List.forall_mem_cons.mpr ⟨⟨_, List.mem_of_getElem? (i := 15) rfl⟩, List.forall_mem_cons.mpr ⟨⟨_, List.mem_of_getElem? (i := 16) rfl⟩, List.forall_mem_cons.mpr ⟨⟨_, List.mem_of_getElem? (i := 17) rfl⟩, List.forall_mem_cons.mpr ⟨⟨_, List.mem_of_getElem? (i := 18) rfl⟩, List.forall_mem_cons.mpr ⟨⟨_, List.mem_of_getElem? (i := 19) rfl⟩, List.forall_mem_cons.mpr ⟨⟨_, List.mem_of_getElem? (i := 20) rfl⟩, List.forall_mem_cons.mpr ⟨⟨_, List.mem_of_getElem? (i := 21) rfl⟩, fun _ h => nomatch h⟩⟩⟩⟩⟩⟩⟩⟩⟩⟩⟩⟩⟩⟩⟩⟩⟩⟩⟩⟩⟩
theorem kk16 : ∀ e ∈ aCstL.getD 16 [], aCok 16 e.1 e.2 := List.forall_mem_cons.mpr ⟨(q1526 : aCok 16 178 (.long (27))), List.forall_mem_cons.mpr ⟨(q2026 : aCok 16 329 (.int (1103515245))), fun _ h => nomatch h⟩⟩
theorem kk20 : ∀ e ∈ aCstL.getD 20 [], aCok 20 e.1 e.2 := List.forall_mem_cons.mpr ⟨(q819 : aCok 20 20 (.int (1073741823))), fun _ h => nomatch h⟩
theorem kk28 : ∀ e ∈ aCstL.getD 28 [], aCok 28 e.1 e.2 := List.forall_mem_cons.mpr ⟨(q858 : aCok 28 39 (.int (2147483647))), fun _ h => nomatch h⟩
theorem kk30 : ∀ e ∈ aCstL.getD 30 [], aCok 30 e.1 e.2 := List.forall_mem_cons.mpr ⟨(q854 : aCok 30 200 (.int (2147483639))), fun _ h => nomatch h⟩
theorem kk35 : ∀ e ∈ aCstL.getD 35 [], aCok 35 e.1 e.2 := List.forall_mem_cons.mpr ⟨(q1166 : aCok 35 265 (.int (1431655765))), List.forall_mem_cons.mpr ⟨(q1167 : aCok 35 266 (.int (858993459))), List.forall_mem_cons.mpr ⟨(q1168 : aCok 35 267 (.int (252645135))), fun _ h => nomatch h⟩⟩⟩
theorem aCst_ok {c j : Nat} {v : Value} (h : aCst c j = some v) : aCok c j v := by
  have h1 := aLk_mem h
  match c, h1 with
  | 0, h1 => exact kk0 _ h1
  | 1, h1 => exact nomatch h1
  | 2, h1 => exact nomatch h1
  | 3, h1 => exact nomatch h1
  | 4, h1 => exact kk4 _ h1
  | 5, h1 => exact kk5 _ h1
  | 6, h1 => exact nomatch h1
  | 7, h1 => exact nomatch h1
  | 8, h1 => exact nomatch h1
  | 9, h1 => exact nomatch h1
  | 10, h1 => exact nomatch h1
  | 11, h1 => exact nomatch h1
  | 12, h1 => exact nomatch h1
  | 13, h1 => exact nomatch h1
  | 14, h1 => exact nomatch h1
  | 15, h1 => exact nomatch h1
  | 16, h1 => exact kk16 _ h1
  | 17, h1 => exact nomatch h1
  | 18, h1 => exact nomatch h1
  | 19, h1 => exact nomatch h1
  | 20, h1 => exact kk20 _ h1
  | 21, h1 => exact nomatch h1
  | 22, h1 => exact nomatch h1
  | 23, h1 => exact nomatch h1
  | 24, h1 => exact nomatch h1
  | 25, h1 => exact nomatch h1
  | 26, h1 => exact nomatch h1
  | 27, h1 => exact nomatch h1
  | 28, h1 => exact kk28 _ h1
  | 29, h1 => exact nomatch h1
  | 30, h1 => exact kk30 _ h1
  | 31, h1 => exact nomatch h1
  | 32, h1 => exact nomatch h1
  | 33, h1 => exact nomatch h1
  | 34, h1 => exact nomatch h1
  | 35, h1 => exact kk35 _ h1
  | 36, h1 => exact nomatch h1
  | 37, h1 => exact nomatch h1
  | c + 38, h1 => simp [aCstL] at h1
theorem ss1 : ∀ e ∈ aStaL.getD 1 [], ∃ (C n d : String), (C, n, d, e.2) ∈ aStl ∧ Cond.fieldLink (aNm 1) e.1 C n d ∈ lw_all := List.forall_mem_cons.mpr ⟨⟨_, _, _, List.mem_of_getElem? (i := 0) rfl, q199⟩, List.forall_mem_cons.mpr ⟨⟨_, _, _, List.mem_of_getElem? (i := 1) rfl, q201⟩, fun _ h => nomatch h⟩⟩
theorem ss10 : ∀ e ∈ aStaL.getD 10 [], ∃ (C n d : String), (C, n, d, e.2) ∈ aStl ∧ Cond.fieldLink (aNm 10) e.1 C n d ∈ lw_all := List.forall_mem_cons.mpr ⟨⟨_, _, _, List.mem_of_getElem? (i := 3) rfl, q353⟩, fun _ h => nomatch h⟩
theorem ss17 : ∀ e ∈ aStaL.getD 17 [], ∃ (C n d : String), (C, n, d, e.2) ∈ aStl ∧ Cond.fieldLink (aNm 17) e.1 C n d ∈ lw_all := List.forall_mem_cons.mpr ⟨⟨_, _, _, List.mem_of_getElem? (i := 4) rfl, q603⟩, List.forall_mem_cons.mpr ⟨⟨_, _, _, List.mem_of_getElem? (i := 2) rfl, q619⟩, fun _ h => nomatch h⟩⟩
theorem ss20 : ∀ e ∈ aStaL.getD 20 [], ∃ (C n d : String), (C, n, d, e.2) ∈ aStl ∧ Cond.fieldLink (aNm 20) e.1 C n d ∈ lw_all := List.forall_mem_cons.mpr ⟨⟨_, _, _, List.mem_of_getElem? (i := 5) rfl, q637⟩, List.forall_mem_cons.mpr ⟨⟨_, _, _, List.mem_of_getElem? (i := 6) rfl, q639⟩, List.forall_mem_cons.mpr ⟨⟨_, _, _, List.mem_of_getElem? (i := 7) rfl, q641⟩, fun _ h => nomatch h⟩⟩⟩
theorem ss28 : ∀ e ∈ aStaL.getD 28 [], ∃ (C n d : String), (C, n, d, e.2) ∈ aStl ∧ Cond.fieldLink (aNm 28) e.1 C n d ∈ lw_all := List.forall_mem_cons.mpr ⟨⟨_, _, _, List.mem_of_getElem? (i := 4) rfl, q812⟩, fun _ h => nomatch h⟩
theorem aSta_ok {c j : Nat} {v : Value} (h : aSta c j = some v) : ∃ (C n d : String), (C, n, d, v) ∈ aStl ∧ Cond.fieldLink (aNm c) j C n d ∈ lw_all := by
  have h1 := aLk_mem h
  match c, h1 with
  | 0, h1 => exact nomatch h1
  | 1, h1 => exact ss1 _ h1
  | 2, h1 => exact nomatch h1
  | 3, h1 => exact nomatch h1
  | 4, h1 => exact nomatch h1
  | 5, h1 => exact nomatch h1
  | 6, h1 => exact nomatch h1
  | 7, h1 => exact nomatch h1
  | 8, h1 => exact nomatch h1
  | 9, h1 => exact nomatch h1
  | 10, h1 => exact ss10 _ h1
  | 11, h1 => exact nomatch h1
  | 12, h1 => exact nomatch h1
  | 13, h1 => exact nomatch h1
  | 14, h1 => exact nomatch h1
  | 15, h1 => exact nomatch h1
  | 16, h1 => exact nomatch h1
  | 17, h1 => exact ss17 _ h1
  | 18, h1 => exact nomatch h1
  | 19, h1 => exact nomatch h1
  | 20, h1 => exact ss20 _ h1
  | 21, h1 => exact nomatch h1
  | 22, h1 => exact nomatch h1
  | 23, h1 => exact nomatch h1
  | 24, h1 => exact nomatch h1
  | 25, h1 => exact nomatch h1
  | 26, h1 => exact nomatch h1
  | 27, h1 => exact nomatch h1
  | 28, h1 => exact ss28 _ h1
  | 29, h1 => exact nomatch h1
  | 30, h1 => exact nomatch h1
  | 31, h1 => exact nomatch h1
  | 32, h1 => exact nomatch h1
  | 33, h1 => exact nomatch h1
  | 34, h1 => exact nomatch h1
  | 35, h1 => exact nomatch h1
  | 36, h1 => exact nomatch h1
  | 37, h1 => exact nomatch h1
  | c + 38, h1 => simp [aStaL] at h1
theorem aStaRef : ∀ q ∈ aStl, q.2.2.2 = .ref 45 ∨ q.2.2.2 = .ref 46 ∨ q.2.2.2 = .ref 47 ∨ q.2.2.2 = .ref 48 ∨ ∃ x, q.2.2.2 = .int x := by
  intro q hq
  simp only [aStl, List.mem_cons, List.not_mem_nil, or_false] at hq
  rcases hq with rfl | rfl | rfl | rfl | rfl | rfl | rfl | rfl <;> simp
