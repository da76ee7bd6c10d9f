set_option maxRecDepth 100000
/-! java/lang/Throwable.init: 67 -/
theorem c67 : aCode 67 = cJ0_init := rfl
theorem c67_0 : decode (aCode 67) 0 = .ok (.aload_n 0, 1) := (congrArg (fun c => decode c 0) c67).trans dJ0_init_0
theorem e67_0 {d : Nat} {x : Nat} {st : List Value} {h : aH} : run d 67 0 [.ref x] st h = run d 67 1 [.ref x] (.ref x :: st) h := (run_act (c67_0)).trans rfl
theorem c67_1 : decode (aCode 67) 1 = .ok (.invokespecial 1, 3) := (congrArg (fun c => decode c 1) c67).trans dJ0_init_1
theorem e67_1 {d : Nat} {a0 : Value} {o : Nat} {h : aH} (hκ : (hk_ h o).1 < 98) : run d 67 1 [a0] [.ref o] h = run d 67 4 [a0] [] h := (run_act (c67_1)).trans (e_obj rfl hκ rfl)
theorem c67_4 : decode (aCode 67) 4 = .ok (.aload_n 0, 1) := (congrArg (fun c => decode c 4) c67).trans dJ0_init_4
theorem e67_4 {d : Nat} {x : Nat} {st : List Value} {h : aH} : run d 67 4 [.ref x] st h = run d 67 5 [.ref x] (.ref x :: st) h := (run_act (c67_4)).trans rfl
theorem c67_5 : decode (aCode 67) 5 = .ok (.aload_n 0, 1) := (congrArg (fun c => decode c 5) c67).trans dJ0_init_5
theorem e67_5 {d : Nat} {x : Nat} {st : List Value} {h : aH} : run d 67 5 [.ref x] st h = run d 67 6 [.ref x] (.ref x :: st) h := (run_act (c67_5)).trans rfl
theorem c67_6 : decode (aCode 67) 6 = .ok (.putfield 7, 3) := (congrArg (fun c => decode c 6) c67).trans dJ0_init_6
theorem e67_6 {d : Nat} {a0 : Value} {x v : Nat} {st : List Value} {h : aH} (hκ : (hk_ h x).1 = 1) (h6 : 64 ≤ x) : run d 67 6 [a0] (.ref v :: .ref x :: st) h = run d 67 9 [a0] st (sp_ h x 21 (some v)) := (run_act (c67_6)).trans (e_put (g := 21) (ty := 2) (fin := 0) rfl rfl (by rw [hκ]; rfl) h6 rfl)
theorem e67_6n {d : Nat} {a0 : Value} {x : Nat} {st : List Value} {h : aH} (hκ : (hk_ h x).1 = 1) (h6 : 64 ≤ x) : run d 67 6 [a0] (.null :: .ref x :: st) h = run d 67 9 [a0] st (sp_ h x 21 none) := (run_act (c67_6)).trans (e_put (g := 21) (ty := 2) (fin := 0) rfl rfl (by rw [hκ]; rfl) h6 rfl)
theorem c67_9 : decode (aCode 67) 9 = .ok (.aload_n 0, 1) := (congrArg (fun c => decode c 9) c67).trans dJ0_init_9
theorem e67_9 {d : Nat} {x : Nat} {st : List Value} {h : aH} : run d 67 9 [.ref x] st h = run d 67 10 [.ref x] (.ref x :: st) h := (run_act (c67_9)).trans rfl
theorem c67_10 : decode (aCode 67) 10 = .ok (.getstatic 13, 3) := (congrArg (fun c => decode c 10) c67).trans dJ0_init_10
theorem e67_10 {d : Nat} {a0 : Value} {st : List Value} {h : aH} : run d 67 10 [a0] st h = run d 67 13 [a0] (.ref 46 :: st) h := (run_act (c67_10)).trans rfl
theorem c67_13 : decode (aCode 67) 13 = .ok (.putfield 17, 3) := (congrArg (fun c => decode c 13) c67).trans dJ0_init_13
theorem e67_13 {d : Nat} {a0 : Value} {x v : Nat} {st : List Value} {h : aH} (hκ : (hk_ h x).1 = 1) (h6 : 64 ≤ x) : run d 67 13 [a0] (.ref v :: .ref x :: st) h = run d 67 16 [a0] st (sp_ h x 22 (some v)) := (run_act (c67_13)).trans (e_put (g := 22) (ty := 2) (fin := 0) rfl rfl (by rw [hκ]; rfl) h6 rfl)
theorem e67_13n {d : Nat} {a0 : Value} {x : Nat} {st : List Value} {h : aH} (hκ : (hk_ h x).1 = 1) (h6 : 64 ≤ x) : run d 67 13 [a0] (.null :: .ref x :: st) h = run d 67 16 [a0] st (sp_ h x 22 none) := (run_act (c67_13)).trans (e_put (g := 22) (ty := 2) (fin := 0) rfl rfl (by rw [hκ]; rfl) h6 rfl)
theorem c67_16 : decode (aCode 67) 16 = .ok (.aload_n 0, 1) := (congrArg (fun c => decode c 16) c67).trans dJ0_init_16
theorem e67_16 {d : Nat} {x : Nat} {st : List Value} {h : aH} : run d 67 16 [.ref x] st h = run d 67 17 [.ref x] (.ref x :: st) h := (run_act (c67_16)).trans rfl
theorem c67_17 : decode (aCode 67) 17 = .ok (.getstatic 20, 3) := (congrArg (fun c => decode c 17) c67).trans dJ0_init_17
theorem e67_17 {d : Nat} {a0 : Value} {st : List Value} {h : aH} : run d 67 17 [a0] st h = run d 67 20 [a0] (.ref 47 :: st) h := (run_act (c67_17)).trans rfl
theorem c67_20 : decode (aCode 67) 20 = .ok (.putfield 24, 3) := (congrArg (fun c => decode c 20) c67).trans dJ0_init_20
theorem e67_20 {d : Nat} {a0 : Value} {x v : Nat} {st : List Value} {h : aH} (hκ : (hk_ h x).1 = 1) (h6 : 64 ≤ x) : run d 67 20 [a0] (.ref v :: .ref x :: st) h = run d 67 23 [a0] st (sp_ h x 23 (some v)) := (run_act (c67_20)).trans (e_put (g := 23) (ty := 2) (fin := 0) rfl rfl (by rw [hκ]; rfl) h6 rfl)
theorem e67_20n {d : Nat} {a0 : Value} {x : Nat} {st : List Value} {h : aH} (hκ : (hk_ h x).1 = 1) (h6 : 64 ≤ x) : run d 67 20 [a0] (.null :: .ref x :: st) h = run d 67 23 [a0] st (sp_ h x 23 none) := (run_act (c67_20)).trans (e_put (g := 23) (ty := 2) (fin := 0) rfl rfl (by rw [hκ]; rfl) h6 rfl)
theorem c67_23 : decode (aCode 67) 23 = .ok (.aload_n 0, 1) := (congrArg (fun c => decode c 23) c67).trans dJ0_init_23
theorem e67_23 {d : Nat} {x : Nat} {st : List Value} {h : aH} : run d 67 23 [.ref x] st h = run d 67 24 [.ref x] (.ref x :: st) h := (run_act (c67_23)).trans rfl
theorem c67_24 : decode (aCode 67) 24 = .ok (.invokevirtual 27, 3) := (congrArg (fun c => decode c 24) c67).trans dJ0_init_24
theorem c67_27 : decode (aCode 67) 27 = .ok (.pop, 1) := (congrArg (fun c => decode c 27) c67).trans dJ0_init_27
theorem e67_27 {d : Nat} {a0 : Value} {x : Nat} {st : List Value} {h : aH} : run d 67 27 [a0] (.ref x :: st) h = run d 67 28 [a0] st h := (run_act (c67_27)).trans rfl
theorem c67_28 : decode (aCode 67) 28 = .ok (.return_, 1) := (congrArg (fun c => decode c 28) c67).trans dJ0_init_28
theorem e67_28 {d : Nat} {a0 : Value} {h : aH} : run d 67 28 [a0] [] h = some (.returned none, h) := (run_act (c67_28)).trans rfl
/-! java/lang/Throwable.init_2: 68 -/
theorem c68 : aCode 68 = cJ0_init_2 := rfl
theorem c68_0 : decode (aCode 68) 0 = .ok (.aload_n 0, 1) := (congrArg (fun c => decode c 0) c68).trans dJ0_init_2_0
theorem e68_0 {d : Nat} {a1 a2 a3 a4 : Value} {x : Nat} {st : List Value} {h : aH} : run d 68 0 [.ref x, a1, a2, a3, a4] st h = run d 68 1 [.ref x, a1, a2, a3, a4] (.ref x :: st) h := (run_act (c68_0)).trans rfl
theorem c68_1 : decode (aCode 68) 1 = .ok (.invokespecial 1, 3) := (congrArg (fun c => decode c 1) c68).trans dJ0_init_2_1
theorem e68_1 {d : Nat} {a0 a1 a2 a3 a4 : Value} {o : Nat} {h : aH} (hκ : (hk_ h o).1 < 98) : run d 68 1 [a0, a1, a2, a3, a4] [.ref o] h = run d 68 4 [a0, a1, a2, a3, a4] [] h := (run_act (c68_1)).trans (e_obj rfl hκ rfl)
theorem c68_4 : decode (aCode 68) 4 = .ok (.aload_n 0, 1) := (congrArg (fun c => decode c 4) c68).trans dJ0_init_2_4
theorem e68_4 {d : Nat} {a1 a2 a3 a4 : Value} {x : Nat} {st : List Value} {h : aH} : run d 68 4 [.ref x, a1, a2, a3, a4] st h = run d 68 5 [.ref x, a1, a2, a3, a4] (.ref x :: st) h := (run_act (c68_4)).trans rfl
theorem c68_5 : decode (aCode 68) 5 = .ok (.aload_n 0, 1) := (congrArg (fun c => decode c 5) c68).trans dJ0_init_2_5
theorem e68_5 {d : Nat} {a1 a2 a3 a4 : Value} {x : Nat} {st : List Value} {h : aH} : run d 68 5 [.ref x, a1, a2, a3, a4] st h = run d 68 6 [.ref x, a1, a2, a3, a4] (.ref x :: st) h := (run_act (c68_5)).trans rfl
theorem c68_6 : decode (aCode 68) 6 = .ok (.putfield 7, 3) := (congrArg (fun c => decode c 6) c68).trans dJ0_init_2_6
theorem e68_6 {d : Nat} {a0 a1 a2 a3 a4 : Value} {x v : Nat} {st : List Value} {h : aH} (hκ : (hk_ h x).1 = 1) (h6 : 64 ≤ x) : run d 68 6 [a0, a1, a2, a3, a4] (.ref v :: .ref x :: st) h = run d 68 9 [a0, a1, a2, a3, a4] st (sp_ h x 21 (some v)) := (run_act (c68_6)).trans (e_put (g := 21) (ty := 2) (fin := 0) rfl rfl (by rw [hκ]; rfl) h6 rfl)
theorem e68_6n {d : Nat} {a0 a1 a2 a3 a4 : Value} {x : Nat} {st : List Value} {h : aH} (hκ : (hk_ h x).1 = 1) (h6 : 64 ≤ x) : run d 68 6 [a0, a1, a2, a3, a4] (.null :: .ref x :: st) h = run d 68 9 [a0, a1, a2, a3, a4] st (sp_ h x 21 none) := (run_act (c68_6)).trans (e_put (g := 21) (ty := 2) (fin := 0) rfl rfl (by rw [hκ]; rfl) h6 rfl)
theorem c68_9 : decode (aCode 68) 9 = .ok (.aload_n 0, 1) := (congrArg (fun c => decode c 9) c68).trans dJ0_init_2_9
theorem e68_9 {d : Nat} {a1 a2 a3 a4 : Value} {x : Nat} {st : List Value} {h : aH} : run d 68 9 [.ref x, a1, a2, a3, a4] st h = run d 68 10 [.ref x, a1, a2, a3, a4] (.ref x :: st) h := (run_act (c68_9)).trans rfl
theorem c68_10 : decode (aCode 68) 10 = .ok (.getstatic 13, 3) := (congrArg (fun c => decode c 10) c68).trans dJ0_init_2_10
theorem e68_10 {d : Nat} {a0 a1 a2 a3 a4 : Value} {st : List Value} {h : aH} : run d 68 10 [a0, a1, a2, a3, a4] st h = run d 68 13 [a0, a1, a2, a3, a4] (.ref 46 :: st) h := (run_act (c68_10)).trans rfl
theorem c68_13 : decode (aCode 68) 13 = .ok (.putfield 17, 3) := (congrArg (fun c => decode c 13) c68).trans dJ0_init_2_13
theorem e68_13 {d : Nat} {a0 a1 a2 a3 a4 : Value} {x v : Nat} {st : List Value} {h : aH} (hκ : (hk_ h x).1 = 1) (h6 : 64 ≤ x) : run d 68 13 [a0, a1, a2, a3, a4] (.ref v :: .ref x :: st) h = run d 68 16 [a0, a1, a2, a3, a4] st (sp_ h x 22 (some v)) := (run_act (c68_13)).trans (e_put (g := 22) (ty := 2) (fin := 0) rfl rfl (by rw [hκ]; rfl) h6 rfl)
theorem e68_13n {d : Nat} {a0 a1 a2 a3 a4 : Value} {x : Nat} {st : List Value} {h : aH} (hκ : (hk_ h x).1 = 1) (h6 : 64 ≤ x) : run d 68 13 [a0, a1, a2, a3, a4] (.null :: .ref x :: st) h = run d 68 16 [a0, a1, a2, a3, a4] st (sp_ h x 22 none) := (run_act (c68_13)).trans (e_put (g := 22) (ty := 2) (fin := 0) rfl rfl (by rw [hκ]; rfl) h6 rfl)
theorem c68_16 : decode (aCode 68) 16 = .ok (.aload_n 0, 1) := (congrArg (fun c => decode c 16) c68).trans dJ0_init_2_16
theorem e68_16 {d : Nat} {a1 a2 a3 a4 : Value} {x : Nat} {st : List Value} {h : aH} : run d 68 16 [.ref x, a1, a2, a3, a4] st h = run d 68 17 [.ref x, a1, a2, a3, a4] (.ref x :: st) h := (run_act (c68_16)).trans rfl
theorem c68_17 : decode (aCode 68) 17 = .ok (.getstatic 20, 3) := (congrArg (fun c => decode c 17) c68).trans dJ0_init_2_17
theorem e68_17 {d : Nat} {a0 a1 a2 a3 a4 : Value} {st : List Value} {h : aH} : run d 68 17 [a0, a1, a2, a3, a4] st h = run d 68 20 [a0, a1, a2, a3, a4] (.ref 47 :: st) h := (run_act (c68_17)).trans rfl
theorem c68_20 : decode (aCode 68) 20 = .ok (.putfield 24, 3) := (congrArg (fun c => decode c 20) c68).trans dJ0_init_2_20
theorem e68_20 {d : Nat} {a0 a1 a2 a3 a4 : Value} {x v : Nat} {st : List Value} {h : aH} (hκ : (hk_ h x).1 = 1) (h6 : 64 ≤ x) : run d 68 20 [a0, a1, a2, a3, a4] (.ref v :: .ref x :: st) h = run d 68 23 [a0, a1, a2, a3, a4] st (sp_ h x 23 (some v)) := (run_act (c68_20)).trans (e_put (g := 23) (ty := 2) (fin := 0) rfl rfl (by rw [hκ]; rfl) h6 rfl)
theorem e68_20n {d : Nat} {a0 a1 a2 a3 a4 : Value} {x : Nat} {st : List Value} {h : aH} (hκ : (hk_ h x).1 = 1) (h6 : 64 ≤ x) : run d 68 20 [a0, a1, a2, a3, a4] (.null :: .ref x :: st) h = run d 68 23 [a0, a1, a2, a3, a4] st (sp_ h x 23 none) := (run_act (c68_20)).trans (e_put (g := 23) (ty := 2) (fin := 0) rfl rfl (by rw [hκ]; rfl) h6 rfl)
theorem c68_23 : decode (aCode 68) 23 = .ok (.iload 4, 2) := (congrArg (fun c => decode c 23) c68).trans dJ0_init_2_23
theorem e68_23 {d : Nat} {a0 a1 a2 a3 : Value} {x : Int32} {st : List Value} {h : aH} : run d 68 23 [a0, a1, a2, a3, .int x] st h = run d 68 25 [a0, a1, a2, a3, .int x] (.int x :: st) h := (run_act (c68_23)).trans rfl
theorem c68_25 : decode (aCode 68) 25 = .ok (.ifCond .eq 11, 3) := (congrArg (fun c => decode c 25) c68).trans dJ0_init_2_25
theorem e68_25 {d : Nat} {a0 a1 a2 a3 a4 : Value} {x : Int32} {st : List Value} {h : aH} : run d 68 25 [a0, a1, a2, a3, a4] (.int x :: st) h = if x = 0 then run d 68 36 [a0, a1, a2, a3, a4] st h else run d 68 28 [a0, a1, a2, a3, a4] st h := (run_act (c68_25)).trans (e_ifCond_eq rfl)
theorem c68_28 : decode (aCode 68) 28 = .ok (.aload_n 0, 1) := (congrArg (fun c => decode c 28) c68).trans dJ0_init_2_28
theorem e68_28 {d : Nat} {a1 a2 a3 a4 : Value} {x : Nat} {st : List Value} {h : aH} : run d 68 28 [.ref x, a1, a2, a3, a4] st h = run d 68 29 [.ref x, a1, a2, a3, a4] (.ref x :: st) h := (run_act (c68_28)).trans rfl
theorem c68_29 : decode (aCode 68) 29 = .ok (.invokevirtual 27, 3) := (congrArg (fun c => decode c 29) c68).trans dJ0_init_2_29
theorem c68_32 : decode (aCode 68) 32 = .ok (.pop, 1) := (congrArg (fun c => decode c 32) c68).trans dJ0_init_2_32
theorem e68_32 {d : Nat} {a0 a1 a2 a3 a4 : Value} {x : Nat} {st : List Value} {h : aH} : run d 68 32 [a0, a1, a2, a3, a4] (.ref x :: st) h = run d 68 33 [a0, a1, a2, a3, a4] st h := (run_act (c68_32)).trans rfl
theorem c68_33 : decode (aCode 68) 33 = .ok (.goto 8, 3) := (congrArg (fun c => decode c 33) c68).trans dJ0_init_2_33
theorem e68_33 {d : Nat} {a0 a1 a2 a3 a4 : Value} {st : List Value} {h : aH} : run d 68 33 [a0, a1, a2, a3, a4] st h = run d 68 41 [a0, a1, a2, a3, a4] st h := (run_act (c68_33)).trans rfl
theorem c68_36 : decode (aCode 68) 36 = .ok (.aload_n 0, 1) := (congrArg (fun c => decode c 36) c68).trans dJ0_init_2_36
theorem e68_36 {d : Nat} {a1 a2 a3 a4 : Value} {x : Nat} {st : List Value} {h : aH} : run d 68 36 [.ref x, a1, a2, a3, a4] st h = run d 68 37 [.ref x, a1, a2, a3, a4] (.ref x :: st) h := (run_act (c68_36)).trans rfl
theorem c68_37 : decode (aCode 68) 37 = .ok (.aconst_null, 1) := (congrArg (fun c => decode c 37) c68).trans dJ0_init_2_37
theorem e68_37 {d : Nat} {a0 a1 a2 a3 a4 : Value} {st : List Value} {h : aH} : run d 68 37 [a0, a1, a2, a3, a4] st h = run d 68 38 [a0, a1, a2, a3, a4] (.null :: st) h := (run_act (c68_37)).trans rfl
theorem c68_38 : decode (aCode 68) 38 = .ok (.putfield 17, 3) := (congrArg (fun c => decode c 38) c68).trans dJ0_init_2_38
theorem e68_38 {d : Nat} {a0 a1 a2 a3 a4 : Value} {x v : Nat} {st : List Value} {h : aH} (hκ : (hk_ h x).1 = 1) (h6 : 64 ≤ x) : run d 68 38 [a0, a1, a2, a3, a4] (.ref v :: .ref x :: st) h = run d 68 41 [a0, a1, a2, a3, a4] st (sp_ h x 22 (some v)) := (run_act (c68_38)).trans (e_put (g := 22) (ty := 2) (fin := 0) rfl rfl (by rw [hκ]; rfl) h6 rfl)
theorem e68_38n {d : Nat} {a0 a1 a2 a3 a4 : Value} {x : Nat} {st : List Value} {h : aH} (hκ : (hk_ h x).1 = 1) (h6 : 64 ≤ x) : run d 68 38 [a0, a1, a2, a3, a4] (.null :: .ref x :: st) h = run d 68 41 [a0, a1, a2, a3, a4] st (sp_ h x 22 none) := (run_act (c68_38)).trans (e_put (g := 22) (ty := 2) (fin := 0) rfl rfl (by rw [hκ]; rfl) h6 rfl)
theorem c68_41 : decode (aCode 68) 41 = .ok (.aload_n 0, 1) := (congrArg (fun c => decode c 41) c68).trans dJ0_init_2_41
theorem e68_41 {d : Nat} {a1 a2 a3 a4 : Value} {x : Nat} {st : List Value} {h : aH} : run d 68 41 [.ref x, a1, a2, a3, a4] st h = run d 68 42 [.ref x, a1, a2, a3, a4] (.ref x :: st) h := (run_act (c68_41)).trans rfl
theorem c68_42 : decode (aCode 68) 42 = .ok (.aload_n 1, 1) := (congrArg (fun c => decode c 42) c68).trans dJ0_init_2_42
theorem e68_42 {d : Nat} {a0 a2 a3 a4 : Value} {x : Nat} {st : List Value} {h : aH} : run d 68 42 [a0, .ref x, a2, a3, a4] st h = run d 68 43 [a0, .ref x, a2, a3, a4] (.ref x :: st) h := (run_act (c68_42)).trans rfl
theorem c68_43 : decode (aCode 68) 43 = .ok (.putfield 31, 3) := (congrArg (fun c => decode c 43) c68).trans dJ0_init_2_43
theorem e68_43 {d : Nat} {a0 a1 a2 a3 a4 : Value} {x v : Nat} {st : List Value} {h : aH} (hκ : (hk_ h x).1 = 1) (h6 : 64 ≤ x) : run d 68 43 [a0, a1, a2, a3, a4] (.ref v :: .ref x :: st) h = run d 68 46 [a0, a1, a2, a3, a4] st (sp_ h x 24 (some v)) := (run_act (c68_43)).trans (e_put (g := 24) (ty := 2) (fin := 0) rfl rfl (by rw [hκ]; rfl) h6 rfl)
theorem e68_43n {d : Nat} {a0 a1 a2 a3 a4 : Value} {x : Nat} {st : List Value} {h : aH} (hκ : (hk_ h x).1 = 1) (h6 : 64 ≤ x) : run d 68 43 [a0, a1, a2, a3, a4] (.null :: .ref x :: st) h = run d 68 46 [a0, a1, a2, a3, a4] st (sp_ h x 24 none) := (run_act (c68_43)).trans (e_put (g := 24) (ty := 2) (fin := 0) rfl rfl (by rw [hκ]; rfl) h6 rfl)
theorem c68_46 : decode (aCode 68) 46 = .ok (.aload_n 0, 1) := (congrArg (fun c => decode c 46) c68).trans dJ0_init_2_46
theorem e68_46 {d : Nat} {a1 a2 a3 a4 : Value} {x : Nat} {st : List Value} {h : aH} : run d 68 46 [.ref x, a1, a2, a3, a4] st h = run d 68 47 [.ref x, a1, a2, a3, a4] (.ref x :: st) h := (run_act (c68_46)).trans rfl
theorem c68_47 : decode (aCode 68) 47 = .ok (.aload_n 2, 1) := (congrArg (fun c => decode c 47) c68).trans dJ0_init_2_47
theorem e68_47 {d : Nat} {a0 a1 a3 a4 : Value} {x : Nat} {st : List Value} {h : aH} : run d 68 47 [a0, a1, .ref x, a3, a4] st h = run d 68 48 [a0, a1, .ref x, a3, a4] (.ref x :: st) h := (run_act (c68_47)).trans rfl
theorem e68_47n {d : Nat} {a0 a1 a3 a4 : Value} {st : List Value} {h : aH} : run d 68 47 [a0, a1, .null, a3, a4] st h = run d 68 48 [a0, a1, .null, a3, a4] (.null :: st) h := (run_act (c68_47)).trans rfl
theorem c68_48 : decode (aCode 68) 48 = .ok (.putfield 7, 3) := (congrArg (fun c => decode c 48) c68).trans dJ0_init_2_48
theorem e68_48 {d : Nat} {a0 a1 a2 a3 a4 : Value} {x v : Nat} {st : List Value} {h : aH} (hκ : (hk_ h x).1 = 1) (h6 : 64 ≤ x) : run d 68 48 [a0, a1, a2, a3, a4] (.ref v :: .ref x :: st) h = run d 68 51 [a0, a1, a2, a3, a4] st (sp_ h x 21 (some v)) := (run_act (c68_48)).trans (e_put (g := 21) (ty := 2) (fin := 0) rfl rfl (by rw [hκ]; rfl) h6 rfl)
theorem e68_48n {d : Nat} {a0 a1 a2 a3 a4 : Value} {x : Nat} {st : List Value} {h : aH} (hκ : (hk_ h x).1 = 1) (h6 : 64 ≤ x) : run d 68 48 [a0, a1, a2, a3, a4] (.null :: .ref x :: st) h = run d 68 51 [a0, a1, a2, a3, a4] st (sp_ h x 21 none) := (run_act (c68_48)).trans (e_put (g := 21) (ty := 2) (fin := 0) rfl rfl (by rw [hκ]; rfl) h6 rfl)
theorem c68_51 : decode (aCode 68) 51 = .ok (.iload_n 3, 1) := (congrArg (fun c => decode c 51) c68).trans dJ0_init_2_51
theorem e68_51 {d : Nat} {a0 a1 a2 a4 : Value} {x : Int32} {st : List Value} {h : aH} : run d 68 51 [a0, a1, a2, .int x, a4] st h = run d 68 52 [a0, a1, a2, .int x, a4] (.int x :: st) h := (run_act (c68_51)).trans rfl
theorem c68_52 : decode (aCode 68) 52 = .ok (.ifCond .ne 8, 3) := (congrArg (fun c => decode c 52) c68).trans dJ0_init_2_52
theorem e68_52 {d : Nat} {a0 a1 a2 a3 a4 : Value} {x : Int32} {st : List Value} {h : aH} : run d 68 52 [a0, a1, a2, a3, a4] (.int x :: st) h = if x = 0 then run d 68 55 [a0, a1, a2, a3, a4] st h else run d 68 60 [a0, a1, a2, a3, a4] st h := (run_act (c68_52)).trans (e_ifCond_ne rfl)
theorem c68_55 : decode (aCode 68) 55 = .ok (.aload_n 0, 1) := (congrArg (fun c => decode c 55) c68).trans dJ0_init_2_55
theorem e68_55 {d : Nat} {a1 a2 a3 a4 : Value} {x : Nat} {st : List Value} {h : aH} : run d 68 55 [.ref x, a1, a2, a3, a4] st h = run d 68 56 [.ref x, a1, a2, a3, a4] (.ref x :: st) h := (run_act (c68_55)).trans rfl
theorem c68_56 : decode (aCode 68) 56 = .ok (.aconst_null, 1) := (congrArg (fun c => decode c 56) c68).trans dJ0_init_2_56
theorem e68_56 {d : Nat} {a0 a1 a2 a3 a4 : Value} {st : List Value} {h : aH} : run d 68 56 [a0, a1, a2, a3, a4] st h = run d 68 57 [a0, a1, a2, a3, a4] (.null :: st) h := (run_act (c68_56)).trans rfl
theorem c68_57 : decode (aCode 68) 57 = .ok (.putfield 24, 3) := (congrArg (fun c => decode c 57) c68).trans dJ0_init_2_57
theorem e68_57 {d : Nat} {a0 a1 a2 a3 a4 : Value} {x v : Nat} {st : List Value} {h : aH} (hκ : (hk_ h x).1 = 1) (h6 : 64 ≤ x) : run d 68 57 [a0, a1, a2, a3, a4] (.ref v :: .ref x :: st) h = run d 68 60 [a0, a1, a2, a3, a4] st (sp_ h x 23 (some v)) := (run_act (c68_57)).trans (e_put (g := 23) (ty := 2) (fin := 0) rfl rfl (by rw [hκ]; rfl) h6 rfl)
theorem e68_57n {d : Nat} {a0 a1 a2 a3 a4 : Value} {x : Nat} {st : List Value} {h : aH} (hκ : (hk_ h x).1 = 1) (h6 : 64 ≤ x) : run d 68 57 [a0, a1, a2, a3, a4] (.null :: .ref x :: st) h = run d 68 60 [a0, a1, a2, a3, a4] st (sp_ h x 23 none) := (run_act (c68_57)).trans (e_put (g := 23) (ty := 2) (fin := 0) rfl rfl (by rw [hκ]; rfl) h6 rfl)
theorem c68_60 : decode (aCode 68) 60 = .ok (.return_, 1) := (congrArg (fun c => decode c 60) c68).trans dJ0_init_2_60
theorem e68_60 {d : Nat} {a0 a1 a2 a3 a4 : Value} {h : aH} : run d 68 60 [a0, a1, a2, a3, a4] [] h = some (.returned none, h) := (run_act (c68_60)).trans rfl
/-! java/lang/Exception.init: 69 -/
theorem c69 : aCode 69 = cJ1_init := rfl
theorem c69_0 : decode (aCode 69) 0 = .ok (.aload_n 0, 1) := (congrArg (fun c => decode c 0) c69).trans dJ1_init_0
theorem e69_0 {d : Nat} {a1 a2 a3 a4 : Value} {x : Nat} {st : List Value} {h : aH} : run d 69 0 [.ref x, a1, a2, a3, a4] st h = run d 69 1 [.ref x, a1, a2, a3, a4] (.ref x :: st) h := (run_act (c69_0)).trans rfl
theorem c69_1 : decode (aCode 69) 1 = .ok (.aload_n 1, 1) := (congrArg (fun c => decode c 1) c69).trans dJ1_init_1
theorem e69_1 {d : Nat} {a0 a2 a3 a4 : Value} {x : Nat} {st : List Value} {h : aH} : run d 69 1 [a0, .ref x, a2, a3, a4] st h = run d 69 2 [a0, .ref x, a2, a3, a4] (.ref x :: st) h := (run_act (c69_1)).trans rfl
theorem c69_2 : decode (aCode 69) 2 = .ok (.aload_n 2, 1) := (congrArg (fun c => decode c 2) c69).trans dJ1_init_2
theorem e69_2 {d : Nat} {a0 a1 a3 a4 : Value} {x : Nat} {st : List Value} {h : aH} : run d 69 2 [a0, a1, .ref x, a3, a4] st h = run d 69 3 [a0, a1, .ref x, a3, a4] (.ref x :: st) h := (run_act (c69_2)).trans rfl
theorem e69_2n {d : Nat} {a0 a1 a3 a4 : Value} {st : List Value} {h : aH} : run d 69 2 [a0, a1, .null, a3, a4] st h = run d 69 3 [a0, a1, .null, a3, a4] (.null :: st) h := (run_act (c69_2)).trans rfl
theorem c69_3 : decode (aCode 69) 3 = .ok (.iload_n 3, 1) := (congrArg (fun c => decode c 3) c69).trans dJ1_init_3
theorem e69_3 {d : Nat} {a0 a1 a2 a4 : Value} {x : Int32} {st : List Value} {h : aH} : run d 69 3 [a0, a1, a2, .int x, a4] st h = run d 69 4 [a0, a1, a2, .int x, a4] (.int x :: st) h := (run_act (c69_3)).trans rfl
theorem c69_4 : decode (aCode 69) 4 = .ok (.iload 4, 2) := (congrArg (fun c => decode c 4) c69).trans dJ1_init_4
theorem e69_4 {d : Nat} {a0 a1 a2 a3 : Value} {x : Int32} {st : List Value} {h : aH} : run d 69 4 [a0, a1, a2, a3, .int x] st h = run d 69 6 [a0, a1, a2, a3, .int x] (.int x :: st) h := (run_act (c69_4)).trans rfl
theorem c69_6 : decode (aCode 69) 6 = .ok (.invokespecial 16, 3) := (congrArg (fun c => decode c 6) c69).trans dJ1_init_6
theorem e69_6 {d : Nat} {a0 a1 a2 a3 a4 : Value} {x0 : Nat} {x2 : Int32} {x3 : Int32} {o : Nat} {h : aH} (hκ : (hk_ h o).1 < 98) : run (d + 1) 69 6 [a0, a1, a2, a3, a4] [.int x3, .int x2, .null, .ref x0, .ref o] h = aBk (d + 1) 69 6 [a0, a1, a2, a3, a4] [] false (run d 68 0 [.ref o, .ref x0, .null, .int x2, .int x3] [] h) := (run_act (c69_6)).trans (e_spec (m := 4) (ν := 68) (as := [.ref x0, .null, .int x2, .int x3]) (rest := []) (md := 1) (κ := 0) rfl rfl rfl hκ rfl rfl)
theorem c69_9 : decode (aCode 69) 9 = .ok (.return_, 1) := (congrArg (fun c => decode c 9) c69).trans dJ1_init_9
theorem e69_9 {d : Nat} {a0 a1 a2 a3 a4 : Value} {h : aH} : run d 69 9 [a0, a1, a2, a3, a4] [] h = some (.returned none, h) := (run_act (c69_9)).trans rfl
/-! java/lang/RuntimeException.init: 70 -/
theorem c70 : aCode 70 = cJ2_init := rfl
theorem c70_0 : decode (aCode 70) 0 = .ok (.aload_n 0, 1) := (congrArg (fun c => decode c 0) c70).trans dJ2_init_0
theorem e70_0 {d : Nat} {a1 a2 a3 a4 : Value} {x : Nat} {st : List Value} {h : aH} : run d 70 0 [.ref x, a1, a2, a3, a4] st h = run d 70 1 [.ref x, a1, a2, a3, a4] (.ref x :: st) h := (run_act (c70_0)).trans rfl
theorem c70_1 : decode (aCode 70) 1 = .ok (.aload_n 1, 1) := (congrArg (fun c => decode c 1) c70).trans dJ2_init_1
theorem e70_1 {d : Nat} {a0 a2 a3 a4 : Value} {x : Nat} {st : List Value} {h : aH} : run d 70 1 [a0, .ref x, a2, a3, a4] st h = run d 70 2 [a0, .ref x, a2, a3, a4] (.ref x :: st) h := (run_act (c70_1)).trans rfl
theorem c70_2 : decode (aCode 70) 2 = .ok (.aload_n 2, 1) := (congrArg (fun c => decode c 2) c70).trans dJ2_init_2
theorem e70_2 {d : Nat} {a0 a1 a3 a4 : Value} {x : Nat} {st : List Value} {h : aH} : run d 70 2 [a0, a1, .ref x, a3, a4] st h = run d 70 3 [a0, a1, .ref x, a3, a4] (.ref x :: st) h := (run_act (c70_2)).trans rfl
theorem e70_2n {d : Nat} {a0 a1 a3 a4 : Value} {st : List Value} {h : aH} : run d 70 2 [a0, a1, .null, a3, a4] st h = run d 70 3 [a0, a1, .null, a3, a4] (.null :: st) h := (run_act (c70_2)).trans rfl
theorem c70_3 : decode (aCode 70) 3 = .ok (.iload_n 3, 1) := (congrArg (fun c => decode c 3) c70).trans dJ2_init_3
theorem e70_3 {d : Nat} {a0 a1 a2 a4 : Value} {x : Int32} {st : List Value} {h : aH} : run d 70 3 [a0, a1, a2, .int x, a4] st h = run d 70 4 [a0, a1, a2, .int x, a4] (.int x :: st) h := (run_act (c70_3)).trans rfl
theorem c70_4 : decode (aCode 70) 4 = .ok (.iload 4, 2) := (congrArg (fun c => decode c 4) c70).trans dJ2_init_4
theorem e70_4 {d : Nat} {a0 a1 a2 a3 : Value} {x : Int32} {st : List Value} {h : aH} : run d 70 4 [a0, a1, a2, a3, .int x] st h = run d 70 6 [a0, a1, a2, a3, .int x] (.int x :: st) h := (run_act (c70_4)).trans rfl
theorem c70_6 : decode (aCode 70) 6 = .ok (.invokespecial 16, 3) := (congrArg (fun c => decode c 6) c70).trans dJ2_init_6
theorem e70_6 {d : Nat} {a0 a1 a2 a3 a4 : Value} {x0 : Nat} {x2 : Int32} {x3 : Int32} {o : Nat} {h : aH} (hκ : (hk_ h o).1 < 98) : run (d + 1) 70 6 [a0, a1, a2, a3, a4] [.int x3, .int x2, .null, .ref x0, .ref o] h = aBk (d + 1) 70 6 [a0, a1, a2, a3, a4] [] false (run d 69 0 [.ref o, .ref x0, .null, .int x2, .int x3] [] h) := (run_act (c70_6)).trans (e_spec (m := 4) (ν := 69) (as := [.ref x0, .null, .int x2, .int x3]) (rest := []) (md := 1) (κ := 0) rfl rfl rfl hκ rfl rfl)
theorem c70_9 : decode (aCode 70) 9 = .ok (.return_, 1) := (congrArg (fun c => decode c 9) c70).trans dJ2_init_9
theorem e70_9 {d : Nat} {a0 a1 a2 a3 a4 : Value} {h : aH} : run d 70 9 [a0, a1, a2, a3, a4] [] h = some (.returned none, h) := (run_act (c70_9)).trans rfl
/-! java/util/AbstractCollection.init: 111 -/
theorem c111 : aCode 111 = cJ3_init := rfl
theorem c111_0 : decode (aCode 111) 0 = .ok (.aload_n 0, 1) := (congrArg (fun c => decode c 0) c111).trans dJ3_init_0
theorem e111_0 {d : Nat} {x : Nat} {st : List Value} {h : aH} : run d 111 0 [.ref x] st h = run d 111 1 [.ref x] (.ref x :: st) h := (run_act (c111_0)).trans rfl
theorem c111_1 : decode (aCode 111) 1 = .ok (.invokespecial 1, 3) := (congrArg (fun c => decode c 1) c111).trans dJ3_init_1
theorem e111_1 {d : Nat} {a0 : Value} {o : Nat} {h : aH} (hκ : (hk_ h o).1 < 98) : run d 111 1 [a0] [.ref o] h = run d 111 4 [a0] [] h := (run_act (c111_1)).trans (e_obj rfl hκ rfl)
theorem c111_4 : decode (aCode 111) 4 = .ok (.return_, 1) := (congrArg (fun c => decode c 4) c111).trans dJ3_init_4
theorem e111_4 {d : Nat} {a0 : Value} {h : aH} : run d 111 4 [a0] [] h = some (.returned none, h) := (run_act (c111_4)).trans rfl
/-! java/util/AbstractList.init: 112 -/
theorem c112 : aCode 112 = cJ4_init := rfl
theorem c112_0 : decode (aCode 112) 0 = .ok (.aload_n 0, 1) := (congrArg (fun c => decode c 0) c112).trans dJ4_init_0
theorem e112_0 {d : Nat} {x : Nat} {st : List Value} {h : aH} : run d 112 0 [.ref x] st h = run d 112 1 [.ref x] (.ref x :: st) h := (run_act (c112_0)).trans rfl
theorem c112_1 : decode (aCode 112) 1 = .ok (.invokespecial 1, 3) := (congrArg (fun c => decode c 1) c112).trans dJ4_init_1
theorem e112_1 {d : Nat} {a0 : Value} {o : Nat} {h : aH} (hκ : (hk_ h o).1 < 98) : run (d + 1) 112 1 [a0] [.ref o] h = aBk (d + 1) 112 1 [a0] [] false (run d 111 0 [.ref o] [] h) := (run_act (c112_1)).trans (e_spec (m := 0) (ν := 111) (as := []) (rest := []) (md := 1) (κ := 0) rfl rfl rfl hκ rfl rfl)
theorem c112_4 : decode (aCode 112) 4 = .ok (.aload_n 0, 1) := (congrArg (fun c => decode c 4) c112).trans dJ4_init_4
theorem e112_4 {d : Nat} {x : Nat} {st : List Value} {h : aH} : run d 112 4 [.ref x] st h = run d 112 5 [.ref x] (.ref x :: st) h := (run_act (c112_4)).trans rfl
theorem c112_5 : decode (aCode 112) 5 = .ok (.iconst 0, 1) := (congrArg (fun c => decode c 5) c112).trans dJ4_init_5
theorem e112_5 {d : Nat} {a0 : Value} {st : List Value} {h : aH} : run d 112 5 [a0] st h = run d 112 6 [a0] (.int (nI 0) :: st) h := (run_act (c112_5)).trans rfl
theorem c112_6 : decode (aCode 112) 6 = .ok (.putfield 7, 3) := (congrArg (fun c => decode c 6) c112).trans dJ4_init_6
theorem e112_6 {d : Nat} {a0 : Value} {x : Nat} {v : Int32} {st : List Value} {h : aH} (hκ : (hk_ h x).1 = 5) (h6 : 64 ≤ x) : run d 112 6 [a0] (.int v :: .ref x :: st) h = run d 112 9 [a0] st (si_ h x 50 v) := (run_act (c112_6)).trans (e_put (g := 50) (ty := 0) (fin := 0) rfl rfl (by rw [hκ]; rfl) h6 rfl)
theorem c112_9 : decode (aCode 112) 9 = .ok (.return_, 1) := (congrArg (fun c => decode c 9) c112).trans dJ4_init_9
theorem e112_9 {d : Nat} {a0 : Value} {h : aH} : run d 112 9 [a0] [] h = some (.returned none, h) := (run_act (c112_9)).trans rfl
/-! java/util/ArrayList.init: 113 -/
theorem c113 : aCode 113 = cJ5_init := rfl
theorem c113_0 : decode (aCode 113) 0 = .ok (.aload_n 0, 1) := (congrArg (fun c => decode c 0) c113).trans dJ5_init_0
theorem e113_0 {d : Nat} {x : Nat} {st : List Value} {h : aH} : run d 113 0 [.ref x] st h = run d 113 1 [.ref x] (.ref x :: st) h := (run_act (c113_0)).trans rfl
theorem c113_1 : decode (aCode 113) 1 = .ok (.invokespecial 1, 3) := (congrArg (fun c => decode c 1) c113).trans dJ5_init_1
theorem e113_1 {d : Nat} {a0 : Value} {o : Nat} {h : aH} (hκ : (hk_ h o).1 < 98) : run (d + 1) 113 1 [a0] [.ref o] h = aBk (d + 1) 113 1 [a0] [] false (run d 112 0 [.ref o] [] h) := (run_act (c113_1)).trans (e_spec (m := 0) (ν := 112) (as := []) (rest := []) (md := 1) (κ := 0) rfl rfl rfl hκ rfl rfl)
theorem c113_4 : decode (aCode 113) 4 = .ok (.aload_n 0, 1) := (congrArg (fun c => decode c 4) c113).trans dJ5_init_4
theorem e113_4 {d : Nat} {x : Nat} {st : List Value} {h : aH} : run d 113 4 [.ref x] st h = run d 113 5 [.ref x] (.ref x :: st) h := (run_act (c113_4)).trans rfl
theorem c113_5 : decode (aCode 113) 5 = .ok (.getstatic 39, 3) := (congrArg (fun c => decode c 5) c113).trans dJ5_init_5
theorem e113_5 {d : Nat} {a0 : Value} {st : List Value} {h : aH} : run d 113 5 [a0] st h = run d 113 8 [a0] (.ref 45 :: st) h := (run_act (c113_5)).trans rfl
theorem c113_8 : decode (aCode 113) 8 = .ok (.putfield 9, 3) := (congrArg (fun c => decode c 8) c113).trans dJ5_init_8
theorem e113_8 {d : Nat} {a0 : Value} {x v : Nat} {st : List Value} {h : aH} (hκ : (hk_ h x).1 = 5) (h6 : 64 ≤ x) : run d 113 8 [a0] (.ref v :: .ref x :: st) h = run d 113 11 [a0] st (sp_ h x 51 (some v)) := (run_act (c113_8)).trans (e_put (g := 51) (ty := 2) (fin := 0) rfl rfl (by rw [hκ]; rfl) h6 rfl)
theorem e113_8n {d : Nat} {a0 : Value} {x : Nat} {st : List Value} {h : aH} (hκ : (hk_ h x).1 = 5) (h6 : 64 ≤ x) : run d 113 8 [a0] (.null :: .ref x :: st) h = run d 113 11 [a0] st (sp_ h x 51 none) := (run_act (c113_8)).trans (e_put (g := 51) (ty := 2) (fin := 0) rfl rfl (by rw [hκ]; rfl) h6 rfl)
theorem c113_11 : decode (aCode 113) 11 = .ok (.return_, 1) := (congrArg (fun c => decode c 11) c113).trans dJ5_init_11
theorem e113_11 {d : Nat} {a0 : Value} {h : aH} : run d 113 11 [a0] [] h = some (.returned none, h) := (run_act (c113_11)).trans rfl
/-! java/util/ArrayList.size: 114 -/
theorem c114 : aCode 114 = cJ5_size := rfl
theorem c114_0 : decode (aCode 114) 0 = .ok (.aload_n 0, 1) := (congrArg (fun c => decode c 0) c114).trans dJ5_size_0
theorem e114_0 {d : Nat} {x : Nat} {st : List Value} {h : aH} : run d 114 0 [.ref x] st h = run d 114 1 [.ref x] (.ref x :: st) h := (run_act (c114_0)).trans rfl
theorem c114_1 : decode (aCode 114) 1 = .ok (.getfield 48, 3) := (congrArg (fun c => decode c 1) c114).trans dJ5_size_1
theorem e114_1 {d : Nat} {a0 : Value} {x : Nat} {st : List Value} {h : aH} (hκ : (hk_ h x).1 = 5) : run d 114 1 [a0] (.ref x :: st) h = run d 114 4 [a0] (.int (hi_ h x 52) :: st) h := (run_act (c114_1)).trans (e_get (g := 52) (ty := 0) (fin := 0) rfl (by rw [hκ]; rfl))
theorem c114_4 : decode (aCode 114) 4 = .ok (.ireturn, 1) := (congrArg (fun c => decode c 4) c114).trans dJ5_size_4
theorem e114_4 {d : Nat} {a0 : Value} {x : Int32} {h : aH} : run d 114 4 [a0] [.int x] h = some (.returned (some (.int x)), h) := (run_act (c114_4)).trans rfl
/-! java/util/ArrayList.get: 115 -/
theorem c115 : aCode 115 = cJ5_get := rfl
theorem c115_0 : decode (aCode 115) 0 = .ok (.iload_n 1, 1) := (congrArg (fun c => decode c 0) c115).trans dJ5_get_0
theorem e115_0 {d : Nat} {a0 : Value} {x : Int32} {st : List Value} {h : aH} : run d 115 0 [a0, .int x] st h = run d 115 1 [a0, .int x] (.int x :: st) h := (run_act (c115_0)).trans rfl
theorem c115_1 : decode (aCode 115) 1 = .ok (.aload_n 0, 1) := (congrArg (fun c => decode c 1) c115).trans dJ5_get_1
theorem e115_1 {d : Nat} {a1 : Value} {x : Nat} {st : List Value} {h : aH} : run d 115 1 [.ref x, a1] st h = run d 115 2 [.ref x, a1] (.ref x :: st) h := (run_act (c115_1)).trans rfl
theorem c115_2 : decode (aCode 115) 2 = .ok (.getfield 48, 3) := (congrArg (fun c => decode c 2) c115).trans dJ5_get_2
theorem e115_2 {d : Nat} {a0 a1 : Value} {x : Nat} {st : List Value} {h : aH} (hκ : (hk_ h x).1 = 5) : run d 115 2 [a0, a1] (.ref x :: st) h = run d 115 5 [a0, a1] (.int (hi_ h x 52) :: st) h := (run_act (c115_2)).trans (e_get (g := 52) (ty := 0) (fin := 0) rfl (by rw [hκ]; rfl))
theorem c115_5 : decode (aCode 115) 5 = .ok (.invokestatic 118, 3) := (congrArg (fun c => decode c 5) c115).trans dJ5_get_5
theorem e115_5 {d : Nat} {a0 a1 : Value} {x0 : Int32} {x1 : Int32} {h : aH} : run (d + 1) 115 5 [a0, a1] [.int x1, .int x0] h = aBk (d + 1) 115 5 [a0, a1] [] false (run d 336 0 [.int x0, .int x1] [] h) := (run_act (c115_5)).trans (e_stat (m := 2) (ν := 336) (as := [.int x0, .int x1]) (rest := []) (md := 0) (κ := 0) rfl rfl rfl rfl rfl)
theorem c115_8 : decode (aCode 115) 8 = .ok (.pop, 1) := (congrArg (fun c => decode c 8) c115).trans dJ5_get_8
theorem e115_8 {d : Nat} {a0 a1 : Value} {x : Int32} {st : List Value} {h : aH} : run d 115 8 [a0, a1] (.int x :: st) h = run d 115 9 [a0, a1] st h := (run_act (c115_8)).trans rfl
theorem c115_9 : decode (aCode 115) 9 = .ok (.aload_n 0, 1) := (congrArg (fun c => decode c 9) c115).trans dJ5_get_9
theorem e115_9 {d : Nat} {a1 : Value} {x : Nat} {st : List Value} {h : aH} : run d 115 9 [.ref x, a1] st h = run d 115 10 [.ref x, a1] (.ref x :: st) h := (run_act (c115_9)).trans rfl
theorem c115_10 : decode (aCode 115) 10 = .ok (.iload_n 1, 1) := (congrArg (fun c => decode c 10) c115).trans dJ5_get_10
theorem e115_10 {d : Nat} {a0 : Value} {x : Int32} {st : List Value} {h : aH} : run d 115 10 [a0, .int x] st h = run d 115 11 [a0, .int x] (.int x :: st) h := (run_act (c115_10)).trans rfl
theorem c115_11 : decode (aCode 115) 11 = .ok (.invokevirtual 123, 3) := (congrArg (fun c => decode c 11) c115).trans dJ5_get_11
theorem e115_11 {d : Nat} {a0 a1 : Value} {x0 : Int32} {o : Nat} {h : aH} (hκ : (hk_ h o).1 = 5) : run (d + 1) 115 11 [a0, a1] [.int x0, .ref o] h = aBk (d + 1) 115 11 [a0, a1] [] true (run d 116 0 [.ref o, .int x0] [] h) := (run_act (c115_11)).trans (e_virt (m := 1) (ν := 116) (as := [.int x0]) (rest := []) (md := 4) (tg := [(5, 116)]) rfl rfl hκ rfl (.inl ⟨rfl, rfl⟩) rfl rfl)
theorem c115_14 : decode (aCode 115) 14 = .ok (.areturn, 1) := (congrArg (fun c => decode c 14) c115).trans dJ5_get_14
theorem e115_14 {d : Nat} {a0 a1 : Value} {x : Nat} {h : aH} : run d 115 14 [a0, a1] [.ref x] h = some (.returned (some (.ref x)), h) := (run_act (c115_14)).trans rfl
/-! java/util/ArrayList.elementData: 116 -/
theorem c116 : aCode 116 = cJ5_elementData := rfl
theorem c116_0 : decode (aCode 116) 0 = .ok (.aload_n 0, 1) := (congrArg (fun c => decode c 0) c116).trans dJ5_elementData_0
theorem e116_0 {d : Nat} {a1 : Value} {x : Nat} {st : List Value} {h : aH} : run d 116 0 [.ref x, a1] st h = run d 116 1 [.ref x, a1] (.ref x :: st) h := (run_act (c116_0)).trans rfl
theorem c116_1 : decode (aCode 116) 1 = .ok (.getfield 9, 3) := (congrArg (fun c => decode c 1) c116).trans dJ5_elementData_1
theorem e116_1 {d : Nat} {a0 a1 : Value} {x : Nat} {st : List Value} {h : aH} (hκ : (hk_ h x).1 = 5) : run d 116 1 [a0, a1] (.ref x :: st) h = run d 116 4 [a0, a1] (va_rf (hp_ h x 51) :: st) h := (run_act (c116_1)).trans (e_get (g := 51) (ty := 2) (fin := 0) rfl (by rw [hκ]; rfl))
theorem c116_4 : decode (aCode 116) 4 = .ok (.iload_n 1, 1) := (congrArg (fun c => decode c 4) c116).trans dJ5_elementData_4
theorem e116_4 {d : Nat} {a0 : Value} {x : Int32} {st : List Value} {h : aH} : run d 116 4 [a0, .int x] st h = run d 116 5 [a0, .int x] (.int x :: st) h := (run_act (c116_4)).trans rfl
theorem c116_5 : decode (aCode 116) 5 = .ok (.aaload, 1) := (congrArg (fun c => decode c 5) c116).trans dJ5_elementData_5
theorem e116_5 {d : Nat} {a0 a1 : Value} {x n : Nat} {st : List Value} {h : aH} (hκ : 110 ≤ (hk_ h x).1) (hn : n < (hk_ h x).2) (hb : (hk_ h x).2 ≤ 2147483647) : run d 116 5 [a0, a1] (.int (nI n) :: .ref x :: st) h = run d 116 6 [a0, a1] (va_rf (hp_ h x n) :: st) h := (run_act (c116_5)).trans (e_aald_n hκ hn hb)
theorem c116_6 : decode (aCode 116) 6 = .ok (.areturn, 1) := (congrArg (fun c => decode c 6) c116).trans dJ5_elementData_6
theorem e116_6 {d : Nat} {a0 a1 : Value} {x : Nat} {h : aH} : run d 116 6 [a0, a1] [.ref x] h = some (.returned (some (.ref x)), h) := (run_act (c116_6)).trans rfl
/-! java/util/ArrayList.add: 117 -/
theorem c117 : aCode 117 = cJ5_add := rfl
theorem c117_0 : decode (aCode 117) 0 = .ok (.aload_n 0, 1) := (congrArg (fun c => decode c 0) c117).trans dJ5_add_0
theorem e117_0 {d : Nat} {a1 : Value} {x : Nat} {st : List Value} {h : aH} : run d 117 0 [.ref x, a1] st h = run d 117 1 [.ref x, a1] (.ref x :: st) h := (run_act (c117_0)).trans rfl
theorem c117_1 : decode (aCode 117) 1 = .ok (.dup, 1) := (congrArg (fun c => decode c 1) c117).trans dJ5_add_1
theorem e117_1 {d : Nat} {a0 a1 : Value} {x : Nat} {st : List Value} {h : aH} : run d 117 1 [a0, a1] (.ref x :: st) h = run d 117 2 [a0, a1] (.ref x :: .ref x :: st) h := (run_act (c117_1)).trans rfl
theorem c117_2 : decode (aCode 117) 2 = .ok (.getfield 63, 3) := (congrArg (fun c => decode c 2) c117).trans dJ5_add_2
theorem e117_2 {d : Nat} {a0 a1 : Value} {x : Nat} {st : List Value} {h : aH} (hκ : (hk_ h x).1 = 5) : run d 117 2 [a0, a1] (.ref x :: st) h = run d 117 5 [a0, a1] (.int (hi_ h x 50) :: st) h := (run_act (c117_2)).trans (e_get (g := 50) (ty := 0) (fin := 0) rfl (by rw [hκ]; rfl))
theorem c117_5 : decode (aCode 117) 5 = .ok (.iconst 1, 1) := (congrArg (fun c => decode c 5) c117).trans dJ5_add_5
theorem e117_5 {d : Nat} {a0 a1 : Value} {st : List Value} {h : aH} : run d 117 5 [a0, a1] st h = run d 117 6 [a0, a1] (.int (nI 1) :: st) h := (run_act (c117_5)).trans rfl
theorem c117_6 : decode (aCode 117) 6 = .ok (.iadd, 1) := (congrArg (fun c => decode c 6) c117).trans dJ5_add_6
theorem e117_6 {d : Nat} {a0 a1 : Value} {x y : Int32} {st : List Value} {h : aH} : run d 117 6 [a0, a1] (.int y :: .int x :: st) h = run d 117 7 [a0, a1] (.int (x + y) :: st) h := (run_act (c117_6)).trans rfl
theorem c117_7 : decode (aCode 117) 7 = .ok (.putfield 63, 3) := (congrArg (fun c => decode c 7) c117).trans dJ5_add_7
theorem e117_7 {d : Nat} {a0 a1 : Value} {x : Nat} {v : Int32} {st : List Value} {h : aH} (hκ : (hk_ h x).1 = 5) (h6 : 64 ≤ x) : run d 117 7 [a0, a1] (.int v :: .ref x :: st) h = run d 117 10 [a0, a1] st (si_ h x 50 v) := (run_act (c117_7)).trans (e_put (g := 50) (ty := 0) (fin := 0) rfl rfl (by rw [hκ]; rfl) h6 rfl)
theorem c117_10 : decode (aCode 117) 10 = .ok (.aload_n 0, 1) := (congrArg (fun c => decode c 10) c117).trans dJ5_add_10
theorem e117_10 {d : Nat} {a1 : Value} {x : Nat} {st : List Value} {h : aH} : run d 117 10 [.ref x, a1] st h = run d 117 11 [.ref x, a1] (.ref x :: st) h := (run_act (c117_10)).trans rfl
theorem c117_11 : decode (aCode 117) 11 = .ok (.aload_n 1, 1) := (congrArg (fun c => decode c 11) c117).trans dJ5_add_11
theorem e117_11 {d : Nat} {a0 : Value} {x : Nat} {st : List Value} {h : aH} : run d 117 11 [a0, .ref x] st h = run d 117 12 [a0, .ref x] (.ref x :: st) h := (run_act (c117_11)).trans rfl
theorem c117_12 : decode (aCode 117) 12 = .ok (.aload_n 0, 1) := (congrArg (fun c => decode c 12) c117).trans dJ5_add_12
theorem e117_12 {d : Nat} {a1 : Value} {x : Nat} {st : List Value} {h : aH} : run d 117 12 [.ref x, a1] st h = run d 117 13 [.ref x, a1] (.ref x :: st) h := (run_act (c117_12)).trans rfl
theorem c117_13 : decode (aCode 117) 13 = .ok (.getfield 9, 3) := (congrArg (fun c => decode c 13) c117).trans dJ5_add_13
theorem e117_13 {d : Nat} {a0 a1 : Value} {x : Nat} {st : List Value} {h : aH} (hκ : (hk_ h x).1 = 5) : run d 117 13 [a0, a1] (.ref x :: st) h = run d 117 16 [a0, a1] (va_rf (hp_ h x 51) :: st) h := (run_act (c117_13)).trans (e_get (g := 51) (ty := 2) (fin := 0) rfl (by rw [hκ]; rfl))
theorem c117_16 : decode (aCode 117) 16 = .ok (.aload_n 0, 1) := (congrArg (fun c => decode c 16) c117).trans dJ5_add_16
theorem e117_16 {d : Nat} {a1 : Value} {x : Nat} {st : List Value} {h : aH} : run d 117 16 [.ref x, a1] st h = run d 117 17 [.ref x, a1] (.ref x :: st) h := (run_act (c117_16)).trans rfl
theorem c117_17 : decode (aCode 117) 17 = .ok (.getfield 48, 3) := (congrArg (fun c => decode c 17) c117).trans dJ5_add_17
theorem e117_17 {d : Nat} {a0 a1 : Value} {x : Nat} {st : List Value} {h : aH} (hκ : (hk_ h x).1 = 5) : run d 117 17 [a0, a1] (.ref x :: st) h = run d 117 20 [a0, a1] (.int (hi_ h x 52) :: st) h := (run_act (c117_17)).trans (e_get (g := 52) (ty := 0) (fin := 0) rfl (by rw [hκ]; rfl))
theorem c117_20 : decode (aCode 117) 20 = .ok (.invokevirtual 131, 3) := (congrArg (fun c => decode c 20) c117).trans dJ5_add_20
theorem e117_20 {d : Nat} {a0 a1 : Value} {x0 : Nat} {x1 : Nat} {x2 : Int32} {o : Nat} {h : aH} (hκ : (hk_ h o).1 = 5) : run (d + 1) 117 20 [a0, a1] [.int x2, .ref x1, .ref x0, .ref o] h = aBk (d + 1) 117 20 [a0, a1] [] true (run d 118 0 [.ref o, .ref x0, .ref x1, .int x2] [] h) := (run_act (c117_20)).trans (e_virt (m := 3) (ν := 118) (as := [.ref x0, .ref x1, .int x2]) (rest := []) (md := 4) (tg := [(5, 118)]) rfl rfl hκ rfl (.inl ⟨rfl, rfl⟩) rfl rfl)
theorem c117_23 : decode (aCode 117) 23 = .ok (.iconst 1, 1) := (congrArg (fun c => decode c 23) c117).trans dJ5_add_23
theorem e117_23 {d : Nat} {a0 a1 : Value} {st : List Value} {h : aH} : run d 117 23 [a0, a1] st h = run d 117 24 [a0, a1] (.int (nI 1) :: st) h := (run_act (c117_23)).trans rfl
theorem c117_24 : decode (aCode 117) 24 = .ok (.ireturn, 1) := (congrArg (fun c => decode c 24) c117).trans dJ5_add_24
theorem e117_24 {d : Nat} {a0 a1 : Value} {x : Int32} {h : aH} (hx : x = 0 ∨ x = 1) : run d 117 24 [a0, a1] [.int x] h = some (.returned (some (.int x)), h) := (run_act (c117_24)).trans (e_zret rfl hx)
/-! java/util/ArrayList.add_2: 118 -/
theorem c118 : aCode 118 = cJ5_add_2 := rfl
theorem c118_0 : decode (aCode 118) 0 = .ok (.iload_n 3, 1) := (congrArg (fun c => decode c 0) c118).trans dJ5_add_2_0
theorem e118_0 {d : Nat} {a0 a1 a2 : Value} {x : Int32} {st : List Value} {h : aH} : run d 118 0 [a0, a1, a2, .int x] st h = run d 118 1 [a0, a1, a2, .int x] (.int x :: st) h := (run_act (c118_0)).trans rfl
theorem c118_1 : decode (aCode 118) 1 = .ok (.aload_n 2, 1) := (congrArg (fun c => decode c 1) c118).trans dJ5_add_2_1
theorem e118_1 {d : Nat} {a0 a1 a3 : Value} {x : Nat} {st : List Value} {h : aH} : run d 118 1 [a0, a1, .ref x, a3] st h = run d 118 2 [a0, a1, .ref x, a3] (.ref x :: st) h := (run_act (c118_1)).trans rfl
theorem c118_2 : decode (aCode 118) 2 = .ok (.arraylength, 1) := (congrArg (fun c => decode c 2) c118).trans dJ5_add_2_2
theorem e118_2 {d : Nat} {a0 a1 a2 a3 : Value} {x : Nat} {st : List Value} {h : aH} (hκ : 100 ≤ (hk_ h x).1) : run d 118 2 [a0, a1, a2, a3] (.ref x :: st) h = run d 118 3 [a0, a1, a2, a3] (.int (nI (hk_ h x).2) :: st) h := (run_act (c118_2)).trans (e_alen hκ)
theorem c118_3 : decode (aCode 118) 3 = .ok (.if_icmp .ne 8, 3) := (congrArg (fun c => decode c 3) c118).trans dJ5_add_2_3
theorem e118_3 {d : Nat} {a0 a1 a2 a3 : Value} {x y : Int32} {st : List Value} {h : aH} : run d 118 3 [a0, a1, a2, a3] (.int y :: .int x :: st) h = if x = y then run d 118 6 [a0, a1, a2, a3] st h else run d 118 11 [a0, a1, a2, a3] st h := (run_act (c118_3)).trans (e_if_icmp_ne rfl)
theorem c118_6 : decode (aCode 118) 6 = .ok (.aload_n 0, 1) := (congrArg (fun c => decode c 6) c118).trans dJ5_add_2_6
theorem e118_6 {d : Nat} {a1 a2 a3 : Value} {x : Nat} {st : List Value} {h : aH} : run d 118 6 [.ref x, a1, a2, a3] st h = run d 118 7 [.ref x, a1, a2, a3] (.ref x :: st) h := (run_act (c118_6)).trans rfl
theorem c118_7 : decode (aCode 118) 7 = .ok (.invokevirtual 129, 3) := (congrArg (fun c => decode c 7) c118).trans dJ5_add_2_7
theorem e118_7 {d : Nat} {a0 a1 a2 a3 : Value} {o : Nat} {h : aH} (hκ : (hk_ h o).1 = 5) : run (d + 1) 118 7 [a0, a1, a2, a3] [.ref o] h = aBk (d + 1) 118 7 [a0, a1, a2, a3] [] true (run d 119 0 [.ref o] [] h) := (run_act (c118_7)).trans (e_virt (m := 0) (ν := 119) (as := []) (rest := []) (md := 4) (tg := [(5, 119)]) rfl rfl hκ rfl (.inl ⟨rfl, rfl⟩) rfl rfl)
theorem c118_10 : decode (aCode 118) 10 = .ok (.astore_n 2, 1) := (congrArg (fun c => decode c 10) c118).trans dJ5_add_2_10
theorem e118_10 {d : Nat} {a0 a1 a2 a3 : Value} {x : Nat} {st : List Value} {h : aH} : run d 118 10 [a0, a1, a2, a3] (.ref x :: st) h = run d 118 11 [a0, a1, .ref x, a3] st h := (run_act (c118_10)).trans rfl
theorem c118_11 : decode (aCode 118) 11 = .ok (.aload_n 2, 1) := (congrArg (fun c => decode c 11) c118).trans dJ5_add_2_11
theorem e118_11 {d : Nat} {a0 a1 a3 : Value} {x : Nat} {st : List Value} {h : aH} : run d 118 11 [a0, a1, .ref x, a3] st h = run d 118 12 [a0, a1, .ref x, a3] (.ref x :: st) h := (run_act (c118_11)).trans rfl
theorem c118_12 : decode (aCode 118) 12 = .ok (.iload_n 3, 1) := (congrArg (fun c => decode c 12) c118).trans dJ5_add_2_12
theorem e118_12 {d : Nat} {a0 a1 a2 : Value} {x : Int32} {st : List Value} {h : aH} : run d 118 12 [a0, a1, a2, .int x] st h = run d 118 13 [a0, a1, a2, .int x] (.int x :: st) h := (run_act (c118_12)).trans rfl
theorem c118_13 : decode (aCode 118) 13 = .ok (.aload_n 1, 1) := (congrArg (fun c => decode c 13) c118).trans dJ5_add_2_13
theorem e118_13 {d : Nat} {a0 a2 a3 : Value} {x : Nat} {st : List Value} {h : aH} : run d 118 13 [a0, .ref x, a2, a3] st h = run d 118 14 [a0, .ref x, a2, a3] (.ref x :: st) h := (run_act (c118_13)).trans rfl
theorem c118_14 : decode (aCode 118) 14 = .ok (.aastore, 1) := (congrArg (fun c => decode c 14) c118).trans dJ5_add_2_14
theorem e118_14 {d : Nat} {a0 a1 a2 a3 : Value} {x v n : Nat} {st : List Value} {h : aH} (h6 : 64 ≤ x) (hκ : aSto (hk_ h x).1 (hk_ h v).1 = true) (hn : n < (hk_ h x).2) (hb : (hk_ h x).2 ≤ 2147483647) : run d 118 14 [a0, a1, a2, a3] (.ref v :: .int (nI n) :: .ref x :: st) h = run d 118 15 [a0, a1, a2, a3] st (sp_ h x n (some v)) := (run_act (c118_14)).trans (e_aastore_n h6 hκ hn hb)
theorem c118_15 : decode (aCode 118) 15 = .ok (.aload_n 0, 1) := (congrArg (fun c => decode c 15) c118).trans dJ5_add_2_15
theorem e118_15 {d : Nat} {a1 a2 a3 : Value} {x : Nat} {st : List Value} {h : aH} : run d 118 15 [.ref x, a1, a2, a3] st h = run d 118 16 [.ref x, a1, a2, a3] (.ref x :: st) h := (run_act (c118_15)).trans rfl
theorem c118_16 : decode (aCode 118) 16 = .ok (.iload_n 3, 1) := (congrArg (fun c => decode c 16) c118).trans dJ5_add_2_16
theorem e118_16 {d : Nat} {a0 a1 a2 : Value} {x : Int32} {st : List Value} {h : aH} : run d 118 16 [a0, a1, a2, .int x] st h = run d 118 17 [a0, a1, a2, .int x] (.int x :: st) h := (run_act (c118_16)).trans rfl
theorem c118_17 : decode (aCode 118) 17 = .ok (.iconst 1, 1) := (congrArg (fun c => decode c 17) c118).trans dJ5_add_2_17
theorem e118_17 {d : Nat} {a0 a1 a2 a3 : Value} {st : List Value} {h : aH} : run d 118 17 [a0, a1, a2, a3] st h = run d 118 18 [a0, a1, a2, a3] (.int (nI 1) :: st) h := (run_act (c118_17)).trans rfl
theorem c118_18 : decode (aCode 118) 18 = .ok (.iadd, 1) := (congrArg (fun c => decode c 18) c118).trans dJ5_add_2_18
theorem e118_18 {d : Nat} {a0 a1 a2 a3 : Value} {x y : Int32} {st : List Value} {h : aH} : run d 118 18 [a0, a1, a2, a3] (.int y :: .int x :: st) h = run d 118 19 [a0, a1, a2, a3] (.int (x + y) :: st) h := (run_act (c118_18)).trans rfl
theorem c118_19 : decode (aCode 118) 19 = .ok (.putfield 48, 3) := (congrArg (fun c => decode c 19) c118).trans dJ5_add_2_19
theorem e118_19 {d : Nat} {a0 a1 a2 a3 : Value} {x : Nat} {v : Int32} {st : List Value} {h : aH} (hκ : (hk_ h x).1 = 5) (h6 : 64 ≤ x) : run d 118 19 [a0, a1, a2, a3] (.int v :: .ref x :: st) h = run d 118 22 [a0, a1, a2, a3] st (si_ h x 52 v) := (run_act (c118_19)).trans (e_put (g := 52) (ty := 0) (fin := 0) rfl rfl (by rw [hκ]; rfl) h6 rfl)
theorem c118_22 : decode (aCode 118) 22 = .ok (.return_, 1) := (congrArg (fun c => decode c 22) c118).trans dJ5_add_2_22
theorem e118_22 {d : Nat} {a0 a1 a2 a3 : Value} {h : aH} : run d 118 22 [a0, a1, a2, a3] [] h = some (.returned none, h) := (run_act (c118_22)).trans rfl
/-! java/util/ArrayList.grow: 119 -/
theorem c119 : aCode 119 = cJ5_grow := rfl
theorem c119_0 : decode (aCode 119) 0 = .ok (.aload_n 0, 1) := (congrArg (fun c => decode c 0) c119).trans dJ5_grow_0
theorem e119_0 {d : Nat} {x : Nat} {st : List Value} {h : aH} : run d 119 0 [.ref x] st h = run d 119 1 [.ref x] (.ref x :: st) h := (run_act (c119_0)).trans rfl
theorem c119_1 : decode (aCode 119) 1 = .ok (.aload_n 0, 1) := (congrArg (fun c => decode c 1) c119).trans dJ5_grow_1
theorem e119_1 {d : Nat} {x : Nat} {st : List Value} {h : aH} : run d 119 1 [.ref x] st h = run d 119 2 [.ref x] (.ref x :: st) h := (run_act (c119_1)).trans rfl
theorem c119_2 : decode (aCode 119) 2 = .ok (.getfield 48, 3) := (congrArg (fun c => decode c 2) c119).trans dJ5_grow_2
theorem e119_2 {d : Nat} {a0 : Value} {x : Nat} {st : List Value} {h : aH} (hκ : (hk_ h x).1 = 5) : run d 119 2 [a0] (.ref x :: st) h = run d 119 5 [a0] (.int (hi_ h x 52) :: st) h := (run_act (c119_2)).trans (e_get (g := 52) (ty := 0) (fin := 0) rfl (by rw [hκ]; rfl))
theorem c119_5 : decode (aCode 119) 5 = .ok (.iconst 1, 1) := (congrArg (fun c => decode c 5) c119).trans dJ5_grow_5
theorem e119_5 {d : Nat} {a0 : Value} {st : List Value} {h : aH} : run d 119 5 [a0] st h = run d 119 6 [a0] (.int (nI 1) :: st) h := (run_act (c119_5)).trans rfl
theorem c119_6 : decode (aCode 119) 6 = .ok (.iadd, 1) := (congrArg (fun c => decode c 6) c119).trans dJ5_grow_6
theorem e119_6 {d : Nat} {a0 : Value} {x y : Int32} {st : List Value} {h : aH} : run d 119 6 [a0] (.int y :: .int x :: st) h = run d 119 7 [a0] (.int (x + y) :: st) h := (run_act (c119_6)).trans rfl
theorem c119_7 : decode (aCode 119) 7 = .ok (.invokevirtual 69, 3) := (congrArg (fun c => decode c 7) c119).trans dJ5_grow_7
theorem e119_7 {d : Nat} {a0 : Value} {x0 : Int32} {o : Nat} {h : aH} (hκ : (hk_ h o).1 = 5) : run (d + 1) 119 7 [a0] [.int x0, .ref o] h = aBk (d + 1) 119 7 [a0] [] true (run d 120 0 [.ref o, .int x0, aU, aU] [] h) := (run_act (c119_7)).trans (e_virt (m := 1) (ν := 120) (as := [.int x0]) (rest := []) (md := 4) (tg := [(5, 120)]) rfl rfl hκ rfl (.inl ⟨rfl, rfl⟩) rfl rfl)
theorem c119_10 : decode (aCode 119) 10 = .ok (.areturn, 1) := (congrArg (fun c => decode c 10) c119).trans dJ5_grow_10
theorem e119_10 {d : Nat} {a0 : Value} {x : Nat} {h : aH} : run d 119 10 [a0] [.ref x] h = some (.returned (some (.ref x)), h) := (run_act (c119_10)).trans rfl
/-! java/util/ArrayList.grow_2: 120 -/
theorem c120 : aCode 120 = cJ5_grow_2 := rfl
theorem c120_0 : decode (aCode 120) 0 = .ok (.aload_n 0, 1) := (congrArg (fun c => decode c 0) c120).trans dJ5_grow_2_0
theorem e120_0 {d : Nat} {a1 a2 a3 : Value} {x : Nat} {st : List Value} {h : aH} : run d 120 0 [.ref x, a1, a2, a3] st h = run d 120 1 [.ref x, a1, a2, a3] (.ref x :: st) h := (run_act (c120_0)).trans rfl
theorem c120_1 : decode (aCode 120) 1 = .ok (.getfield 9, 3) := (congrArg (fun c => decode c 1) c120).trans dJ5_grow_2_1
theorem e120_1 {d : Nat} {a0 a1 a2 a3 : Value} {x : Nat} {st : List Value} {h : aH} (hκ : (hk_ h x).1 = 5) : run d 120 1 [a0, a1, a2, a3] (.ref x :: st) h = run d 120 4 [a0, a1, a2, a3] (va_rf (hp_ h x 51) :: st) h := (run_act (c120_1)).trans (e_get (g := 51) (ty := 2) (fin := 0) rfl (by rw [hκ]; rfl))
theorem c120_4 : decode (aCode 120) 4 = .ok (.arraylength, 1) := (congrArg (fun c => decode c 4) c120).trans dJ5_grow_2_4
theorem e120_4 {d : Nat} {a0 a1 a2 a3 : Value} {x : Nat} {st : List Value} {h : aH} (hκ : 100 ≤ (hk_ h x).1) : run d 120 4 [a0, a1, a2, a3] (.ref x :: st) h = run d 120 5 [a0, a1, a2, a3] (.int (nI (hk_ h x).2) :: st) h := (run_act (c120_4)).trans (e_alen hκ)
theorem c120_5 : decode (aCode 120) 5 = .ok (.istore_n 2, 1) := (congrArg (fun c => decode c 5) c120).trans dJ5_grow_2_5
theorem e120_5 {d : Nat} {a0 a1 a2 a3 : Value} {x : Int32} {st : List Value} {h : aH} : run d 120 5 [a0, a1, a2, a3] (.int x :: st) h = run d 120 6 [a0, a1, .int x, a3] st h := (run_act (c120_5)).trans rfl
theorem c120_6 : decode (aCode 120) 6 = .ok (.iload_n 2, 1) := (congrArg (fun c => decode c 6) c120).trans dJ5_grow_2_6
theorem e120_6 {d : Nat} {a0 a1 a3 : Value} {x : Int32} {st : List Value} {h : aH} : run d 120 6 [a0, a1, .int x, a3] st h = run d 120 7 [a0, a1, .int x, a3] (.int x :: st) h := (run_act (c120_6)).trans rfl
theorem c120_7 : decode (aCode 120) 7 = .ok (.ifCond .gt 13, 3) := (congrArg (fun c => decode c 7) c120).trans dJ5_grow_2_7
theorem e120_7 {d : Nat} {a0 a1 a2 a3 : Value} {x : Int32} {st : List Value} {h : aH} : run d 120 7 [a0, a1, a2, a3] (.int x :: st) h = if 0 < x then run d 120 20 [a0, a1, a2, a3] st h else run d 120 10 [a0, a1, a2, a3] st h := (run_act (c120_7)).trans (e_ifCond_gt rfl)
theorem c120_10 : decode (aCode 120) 10 = .ok (.aload_n 0, 1) := (congrArg (fun c => decode c 10) c120).trans dJ5_grow_2_10
theorem e120_10 {d : Nat} {a1 a2 a3 : Value} {x : Nat} {st : List Value} {h : aH} : run d 120 10 [.ref x, a1, a2, a3] st h = run d 120 11 [.ref x, a1, a2, a3] (.ref x :: st) h := (run_act (c120_10)).trans rfl
theorem c120_11 : decode (aCode 120) 11 = .ok (.getfield 9, 3) := (congrArg (fun c => decode c 11) c120).trans dJ5_grow_2_11
theorem e120_11 {d : Nat} {a0 a1 a2 a3 : Value} {x : Nat} {st : List Value} {h : aH} (hκ : (hk_ h x).1 = 5) : run d 120 11 [a0, a1, a2, a3] (.ref x :: st) h = run d 120 14 [a0, a1, a2, a3] (va_rf (hp_ h x 51) :: st) h := (run_act (c120_11)).trans (e_get (g := 51) (ty := 2) (fin := 0) rfl (by rw [hκ]; rfl))
theorem c120_14 : decode (aCode 120) 14 = .ok (.getstatic 39, 3) := (congrArg (fun c => decode c 14) c120).trans dJ5_grow_2_14
theorem e120_14 {d : Nat} {a0 a1 a2 a3 : Value} {st : List Value} {h : aH} : run d 120 14 [a0, a1, a2, a3] st h = run d 120 17 [a0, a1, a2, a3] (.ref 45 :: st) h := (run_act (c120_14)).trans rfl
theorem c120_17 : decode (aCode 120) 17 = .ok (.if_acmp .eq 28, 3) := (congrArg (fun c => decode c 17) c120).trans dJ5_grow_2_17
theorem e120_17s {d : Nat} {a0 a1 a2 a3 : Value} {x : Nat} {st : List Value} {h : aH} : run d 120 17 [a0, a1, a2, a3] (.ref x :: .ref x :: st) h = run d 120 45 [a0, a1, a2, a3] st h := (run_act (c120_17)).trans (e_acmpSe rfl)
theorem e120_17d {d : Nat} {a0 a1 a2 a3 : Value} {x y : Nat} {st : List Value} {h : aH} (hn : ¬ x = y) (h6 : 64 ≤ x ∨ 64 ≤ y) : run d 120 17 [a0, a1, a2, a3] (.ref y :: .ref x :: st) h = run d 120 20 [a0, a1, a2, a3] st h := (run_act (c120_17)).trans (e_acmpDe rfl hn h6)
theorem c120_20 : decode (aCode 120) 20 = .ok (.iload_n 2, 1) := (congrArg (fun c => decode c 20) c120).trans dJ5_grow_2_20
theorem e120_20 {d : Nat} {a0 a1 a3 : Value} {x : Int32} {st : List Value} {h : aH} : run d 120 20 [a0, a1, .int x, a3] st h = run d 120 21 [a0, a1, .int x, a3] (.int x :: st) h := (run_act (c120_20)).trans rfl
theorem c120_21 : decode (aCode 120) 21 = .ok (.iload_n 1, 1) := (congrArg (fun c => decode c 21) c120).trans dJ5_grow_2_21
theorem e120_21 {d : Nat} {a0 a2 a3 : Value} {x : Int32} {st : List Value} {h : aH} : run d 120 21 [a0, .int x, a2, a3] st h = run d 120 22 [a0, .int x, a2, a3] (.int x :: st) h := (run_act (c120_21)).trans rfl
theorem c120_22 : decode (aCode 120) 22 = .ok (.iload_n 2, 1) := (congrArg (fun c => decode c 22) c120).trans dJ5_grow_2_22
theorem e120_22 {d : Nat} {a0 a1 a3 : Value} {x : Int32} {st : List Value} {h : aH} : run d 120 22 [a0, a1, .int x, a3] st h = run d 120 23 [a0, a1, .int x, a3] (.int x :: st) h := (run_act (c120_22)).trans rfl
theorem c120_23 : decode (aCode 120) 23 = .ok (.isub, 1) := (congrArg (fun c => decode c 23) c120).trans dJ5_grow_2_23
theorem e120_23 {d : Nat} {a0 a1 a2 a3 : Value} {x y : Int32} {st : List Value} {h : aH} : run d 120 23 [a0, a1, a2, a3] (.int y :: .int x :: st) h = run d 120 24 [a0, a1, a2, a3] (.int (x - y) :: st) h := (run_act (c120_23)).trans rfl
theorem c120_24 : decode (aCode 120) 24 = .ok (.iload_n 2, 1) := (congrArg (fun c => decode c 24) c120).trans dJ5_grow_2_24
theorem e120_24 {d : Nat} {a0 a1 a3 : Value} {x : Int32} {st : List Value} {h : aH} : run d 120 24 [a0, a1, .int x, a3] st h = run d 120 25 [a0, a1, .int x, a3] (.int x :: st) h := (run_act (c120_24)).trans rfl
theorem c120_25 : decode (aCode 120) 25 = .ok (.iconst 1, 1) := (congrArg (fun c => decode c 25) c120).trans dJ5_grow_2_25
theorem e120_25 {d : Nat} {a0 a1 a2 a3 : Value} {st : List Value} {h : aH} : run d 120 25 [a0, a1, a2, a3] st h = run d 120 26 [a0, a1, a2, a3] (.int (nI 1) :: st) h := (run_act (c120_25)).trans rfl
theorem c120_26 : decode (aCode 120) 26 = .ok (.ishr, 1) := (congrArg (fun c => decode c 26) c120).trans dJ5_grow_2_26
theorem e120_26 {d : Nat} {a0 a1 a2 a3 : Value} {x y : Int32} {st : List Value} {h : aH} : run d 120 26 [a0, a1, a2, a3] (.int y :: .int x :: st) h = run d 120 27 [a0, a1, a2, a3] (.int (shr_ x y) :: st) h := (run_act (c120_26)).trans rfl
theorem c120_27 : decode (aCode 120) 27 = .ok (.invokestatic 73, 3) := (congrArg (fun c => decode c 27) c120).trans dJ5_grow_2_27
theorem e120_27 {d : Nat} {a0 a1 a2 a3 : Value} {x0 : Int32} {x1 : Int32} {x2 : Int32} {h : aH} : run (d + 1) 120 27 [a0, a1, a2, a3] [.int x2, .int x1, .int x0] h = aBk (d + 1) 120 27 [a0, a1, a2, a3] [] false (run d 326 0 [.int x0, .int x1, .int x2, aU] [] h) := (run_act (c120_27)).trans (e_stat (m := 3) (ν := 326) (as := [.int x0, .int x1, .int x2]) (rest := []) (md := 0) (κ := 0) rfl rfl rfl rfl rfl)
theorem c120_30 : decode (aCode 120) 30 = .ok (.istore_n 3, 1) := (congrArg (fun c => decode c 30) c120).trans dJ5_grow_2_30
theorem e120_30 {d : Nat} {a0 a1 a2 a3 : Value} {x : Int32} {st : List Value} {h : aH} : run d 120 30 [a0, a1, a2, a3] (.int x :: st) h = run d 120 31 [a0, a1, a2, .int x] st h := (run_act (c120_30)).trans rfl
theorem c120_31 : decode (aCode 120) 31 = .ok (.aload_n 0, 1) := (congrArg (fun c => decode c 31) c120).trans dJ5_grow_2_31
theorem e120_31 {d : Nat} {a1 a2 a3 : Value} {x : Nat} {st : List Value} {h : aH} : run d 120 31 [.ref x, a1, a2, a3] st h = run d 120 32 [.ref x, a1, a2, a3] (.ref x :: st) h := (run_act (c120_31)).trans rfl
theorem c120_32 : decode (aCode 120) 32 = .ok (.aload_n 0, 1) := (congrArg (fun c => decode c 32) c120).trans dJ5_grow_2_32
theorem e120_32 {d : Nat} {a1 a2 a3 : Value} {x : Nat} {st : List Value} {h : aH} : run d 120 32 [.ref x, a1, a2, a3] st h = run d 120 33 [.ref x, a1, a2, a3] (.ref x :: st) h := (run_act (c120_32)).trans rfl
theorem c120_33 : decode (aCode 120) 33 = .ok (.getfield 9, 3) := (congrArg (fun c => decode c 33) c120).trans dJ5_grow_2_33
theorem e120_33 {d : Nat} {a0 a1 a2 a3 : Value} {x : Nat} {st : List Value} {h : aH} (hκ : (hk_ h x).1 = 5) : run d 120 33 [a0, a1, a2, a3] (.ref x :: st) h = run d 120 36 [a0, a1, a2, a3] (va_rf (hp_ h x 51) :: st) h := (run_act (c120_33)).trans (e_get (g := 51) (ty := 2) (fin := 0) rfl (by rw [hκ]; rfl))
theorem c120_36 : decode (aCode 120) 36 = .ok (.iload_n 3, 1) := (congrArg (fun c => decode c 36) c120).trans dJ5_grow_2_36
theorem e120_36 {d : Nat} {a0 a1 a2 : Value} {x : Int32} {st : List Value} {h : aH} : run d 120 36 [a0, a1, a2, .int x] st h = run d 120 37 [a0, a1, a2, .int x] (.int x :: st) h := (run_act (c120_36)).trans rfl
theorem c120_37 : decode (aCode 120) 37 = .ok (.invokestatic 66, 3) := (congrArg (fun c => decode c 37) c120).trans dJ5_grow_2_37
theorem e120_37 {d : Nat} {a0 a1 a2 a3 : Value} {x0 : Nat} {x1 : Int32} {r0 : Nat} {h : aH} : run (d + 1) 120 37 [a0, a1, a2, a3] [.int x1, .ref x0, .ref r0] h = aBk (d + 1) 120 37 [a0, a1, a2, a3] [.ref r0] false (run d 334 0 [.ref x0, .int x1] [] h) := (run_act (c120_37)).trans (e_stat (m := 2) (ν := 334) (as := [.ref x0, .int x1]) (rest := [.ref r0]) (md := 0) (κ := 0) rfl rfl rfl rfl rfl)
theorem c120_40 : decode (aCode 120) 40 = .ok (.dup_x1, 1) := (congrArg (fun c => decode c 40) c120).trans dJ5_grow_2_40
theorem e120_40 {d : Nat} {a0 a1 a2 a3 : Value} {x : Nat} {y : Nat} {st : List Value} {h : aH} : run d 120 40 [a0, a1, a2, a3] (.ref x :: .ref y :: st) h = run d 120 41 [a0, a1, a2, a3] (.ref x :: .ref y :: .ref x :: st) h := (run_act (c120_40)).trans rfl
theorem c120_41 : decode (aCode 120) 41 = .ok (.putfield 9, 3) := (congrArg (fun c => decode c 41) c120).trans dJ5_grow_2_41
theorem e120_41 {d : Nat} {a0 a1 a2 a3 : Value} {x v : Nat} {st : List Value} {h : aH} (hκ : (hk_ h x).1 = 5) (h6 : 64 ≤ x) : run d 120 41 [a0, a1, a2, a3] (.ref v :: .ref x :: st) h = run d 120 44 [a0, a1, a2, a3] st (sp_ h x 51 (some v)) := (run_act (c120_41)).trans (e_put (g := 51) (ty := 2) (fin := 0) rfl rfl (by rw [hκ]; rfl) h6 rfl)
theorem e120_41n {d : Nat} {a0 a1 a2 a3 : Value} {x : Nat} {st : List Value} {h : aH} (hκ : (hk_ h x).1 = 5) (h6 : 64 ≤ x) : run d 120 41 [a0, a1, a2, a3] (.null :: .ref x :: st) h = run d 120 44 [a0, a1, a2, a3] st (sp_ h x 51 none) := (run_act (c120_41)).trans (e_put (g := 51) (ty := 2) (fin := 0) rfl rfl (by rw [hκ]; rfl) h6 rfl)
theorem c120_44 : decode (aCode 120) 44 = .ok (.areturn, 1) := (congrArg (fun c => decode c 44) c120).trans dJ5_grow_2_44
theorem e120_44 {d : Nat} {a0 a1 a2 a3 : Value} {x : Nat} {h : aH} : run d 120 44 [a0, a1, a2, a3] [.ref x] h = some (.returned (some (.ref x)), h) := (run_act (c120_44)).trans rfl
theorem c120_45 : decode (aCode 120) 45 = .ok (.aload_n 0, 1) := (congrArg (fun c => decode c 45) c120).trans dJ5_grow_2_45
theorem e120_45 {d : Nat} {a1 a2 a3 : Value} {x : Nat} {st : List Value} {h : aH} : run d 120 45 [.ref x, a1, a2, a3] st h = run d 120 46 [.ref x, a1, a2, a3] (.ref x :: st) h := (run_act (c120_45)).trans rfl
theorem c120_46 : decode (aCode 120) 46 = .ok (.bipush 10, 2) := (congrArg (fun c => decode c 46) c120).trans dJ5_grow_2_46
theorem e120_46 {d : Nat} {a0 a1 a2 a3 : Value} {st : List Value} {h : aH} : run d 120 46 [a0, a1, a2, a3] st h = run d 120 48 [a0, a1, a2, a3] (.int (nI 10) :: st) h := (run_act (c120_46)).trans rfl
theorem c120_48 : decode (aCode 120) 48 = .ok (.iload_n 1, 1) := (congrArg (fun c => decode c 48) c120).trans dJ5_grow_2_48
theorem e120_48 {d : Nat} {a0 a2 a3 : Value} {x : Int32} {st : List Value} {h : aH} : run d 120 48 [a0, .int x, a2, a3] st h = run d 120 49 [a0, .int x, a2, a3] (.int x :: st) h := (run_act (c120_48)).trans rfl
theorem c120_49 : decode (aCode 120) 49 = .ok (.invokestatic 79, 3) := (congrArg (fun c => decode c 49) c120).trans dJ5_grow_2_49
theorem e120_49 {d : Nat} {a0 a1 a2 a3 : Value} {x y : Int32} {r0 : Nat} {h : aH} : run d 120 49 [a0, a1, a2, a3] [.int y, .int x, .ref r0] h = run d 120 52 [a0, a1, a2, a3] [.int (max_ x y), .ref r0] h := (run_act (c120_49)).trans (e_max rfl rfl)
theorem c120_52 : decode (aCode 120) 52 = .ok (.anewarray 7, 3) := (congrArg (fun c => decode c 52) c120).trans dJ5_grow_2_52
theorem e120_52 {d : Nat} {a0 a1 a2 a3 : Value} {m : Nat} {st : List Value} {h : aH} (hm : m ≤ 1000000) : run d 120 52 [a0, a1, a2, a3] (.int (nI m) :: st) h = run d 120 55 [a0, a1, a2, a3] (.ref (hz_ h) :: st) (nw_ h 114 m m) := (run_act (c120_52)).trans (e_anew_n rfl rfl hm)
theorem c120_55 : decode (aCode 120) 55 = .ok (.dup_x1, 1) := (congrArg (fun c => decode c 55) c120).trans dJ5_grow_2_55
theorem e120_55 {d : Nat} {a0 a1 a2 a3 : Value} {x : Nat} {y : Nat} {st : List Value} {h : aH} : run d 120 55 [a0, a1, a2, a3] (.ref x :: .ref y :: st) h = run d 120 56 [a0, a1, a2, a3] (.ref x :: .ref y :: .ref x :: st) h := (run_act (c120_55)).trans rfl
theorem c120_56 : decode (aCode 120) 56 = .ok (.putfield 9, 3) := (congrArg (fun c => decode c 56) c120).trans dJ5_grow_2_56
theorem e120_56 {d : Nat} {a0 a1 a2 a3 : Value} {x v : Nat} {st : List Value} {h : aH} (hκ : (hk_ h x).1 = 5) (h6 : 64 ≤ x) : run d 120 56 [a0, a1, a2, a3] (.ref v :: .ref x :: st) h = run d 120 59 [a0, a1, a2, a3] st (sp_ h x 51 (some v)) := (run_act (c120_56)).trans (e_put (g := 51) (ty := 2) (fin := 0) rfl rfl (by rw [hκ]; rfl) h6 rfl)
theorem e120_56n {d : Nat} {a0 a1 a2 a3 : Value} {x : Nat} {st : List Value} {h : aH} (hκ : (hk_ h x).1 = 5) (h6 : 64 ≤ x) : run d 120 56 [a0, a1, a2, a3] (.null :: .ref x :: st) h = run d 120 59 [a0, a1, a2, a3] st (sp_ h x 51 none) := (run_act (c120_56)).trans (e_put (g := 51) (ty := 2) (fin := 0) rfl rfl (by rw [hκ]; rfl) h6 rfl)
theorem c120_59 : decode (aCode 120) 59 = .ok (.areturn, 1) := (congrArg (fun c => decode c 59) c120).trans dJ5_grow_2_59
theorem e120_59 {d : Nat} {a0 a1 a2 a3 : Value} {x : Nat} {h : aH} : run d 120 59 [a0, a1, a2, a3] [.ref x] h = some (.returned (some (.ref x)), h) := (run_act (c120_59)).trans rfl
/-! java/lang/String.length: 275 -/
theorem c275 : aCode 275 = cJ6_length := rfl
theorem c275_0 : decode (aCode 275) 0 = .ok (.aload_n 0, 1) := (congrArg (fun c => decode c 0) c275).trans dJ6_length_0
theorem e275_0 {d : Nat} {x : Nat} {st : List Value} {h : aH} : run d 275 0 [.ref x] st h = run d 275 1 [.ref x] (.ref x :: st) h := (run_act (c275_0)).trans rfl
theorem c275_1 : decode (aCode 275) 1 = .ok (.getfield 9, 3) := (congrArg (fun c => decode c 1) c275).trans dJ6_length_1
theorem e275_1 {d : Nat} {a0 : Value} {x : Nat} {st : List Value} {h : aH} (hκ : (hk_ h x).1 = 11) : run d 275 1 [a0] (.ref x :: st) h = run d 275 4 [a0] (va_rf (hp_ h x 133) :: st) h := (run_act (c275_1)).trans (e_get (g := 133) (ty := 2) (fin := 1) rfl (by rw [hκ]; rfl))
theorem c275_4 : decode (aCode 275) 4 = .ok (.arraylength, 1) := (congrArg (fun c => decode c 4) c275).trans dJ6_length_4
theorem e275_4 {d : Nat} {a0 : Value} {x : Nat} {st : List Value} {h : aH} (hκ : 100 ≤ (hk_ h x).1) : run d 275 4 [a0] (.ref x :: st) h = run d 275 5 [a0] (.int (nI (hk_ h x).2) :: st) h := (run_act (c275_4)).trans (e_alen hκ)
theorem c275_5 : decode (aCode 275) 5 = .ok (.aload_n 0, 1) := (congrArg (fun c => decode c 5) c275).trans dJ6_length_5
theorem e275_5 {d : Nat} {x : Nat} {st : List Value} {h : aH} : run d 275 5 [.ref x] st h = run d 275 6 [.ref x] (.ref x :: st) h := (run_act (c275_5)).trans rfl
theorem c275_6 : decode (aCode 275) 6 = .ok (.invokevirtual 335, 3) := (congrArg (fun c => decode c 6) c275).trans dJ6_length_6
theorem e275_6 {d : Nat} {a0 : Value} {o : Nat} {r0 : Int32} {h : aH} (hκ : (hk_ h o).1 = 11) : run (d + 1) 275 6 [a0] [.ref o, .int r0] h = aBk (d + 1) 275 6 [a0] [.int r0] true (run d 276 0 [.ref o] [] h) := (run_act (c275_6)).trans (e_virt (m := 0) (ν := 276) (as := []) (rest := [.int r0]) (md := 4) (tg := [(11, 276)]) rfl rfl hκ rfl (.inl ⟨rfl, rfl⟩) rfl rfl)
theorem c275_9 : decode (aCode 275) 9 = .ok (.ishr, 1) := (congrArg (fun c => decode c 9) c275).trans dJ6_length_9
theorem e275_9 {d : Nat} {a0 : Value} {x y : Int32} {st : List Value} {h : aH} : run d 275 9 [a0] (.int y :: .int x :: st) h = run d 275 10 [a0] (.int (shr_ x y) :: st) h := (run_act (c275_9)).trans rfl
theorem c275_10 : decode (aCode 275) 10 = .ok (.ireturn, 1) := (congrArg (fun c => decode c 10) c275).trans dJ6_length_10
theorem e275_10 {d : Nat} {a0 : Value} {x : Int32} {h : aH} : run d 275 10 [a0] [.int x] h = some (.returned (some (.int x)), h) := (run_act (c275_10)).trans rfl
/-! java/lang/String.coder: 276 -/
theorem c276 : aCode 276 = cJ6_coder := rfl
theorem c276_0 : decode (aCode 276) 0 = .ok (.getstatic 38, 3) := (congrArg (fun c => decode c 0) c276).trans dJ6_coder_0
theorem e276_0 {d : Nat} {a0 : Value} {st : List Value} {h : aH} : run d 276 0 [a0] st h = run d 276 3 [a0] (.int (nI 1) :: st) h := (run_act (c276_0)).trans rfl
theorem c276_3 : decode (aCode 276) 3 = .ok (.ifCond .eq 10, 3) := (congrArg (fun c => decode c 3) c276).trans dJ6_coder_3
theorem e276_3 {d : Nat} {a0 : Value} {x : Int32} {st : List Value} {h : aH} : run d 276 3 [a0] (.int x :: st) h = if x = 0 then run d 276 13 [a0] st h else run d 276 6 [a0] st h := (run_act (c276_3)).trans (e_ifCond_eq rfl)
theorem c276_6 : decode (aCode 276) 6 = .ok (.aload_n 0, 1) := (congrArg (fun c => decode c 6) c276).trans dJ6_coder_6
theorem e276_6 {d : Nat} {x : Nat} {st : List Value} {h : aH} : run d 276 6 [.ref x] st h = run d 276 7 [.ref x] (.ref x :: st) h := (run_act (c276_6)).trans rfl
theorem c276_7 : decode (aCode 276) 7 = .ok (.getfield 15, 3) := (congrArg (fun c => decode c 7) c276).trans dJ6_coder_7
theorem e276_7 {d : Nat} {a0 : Value} {x : Nat} {st : List Value} {h : aH} (hκ : (hk_ h x).1 = 11) : run d 276 7 [a0] (.ref x :: st) h = run d 276 10 [a0] (.int (hi_ h x 134) :: st) h := (run_act (c276_7)).trans (e_get (g := 134) (ty := 4) (fin := 1) rfl (by rw [hκ]; rfl))
theorem c276_10 : decode (aCode 276) 10 = .ok (.goto 4, 3) := (congrArg (fun c => decode c 10) c276).trans dJ6_coder_10
theorem e276_10 {d : Nat} {a0 : Value} {st : List Value} {h : aH} : run d 276 10 [a0] st h = run d 276 14 [a0] st h := (run_act (c276_10)).trans rfl
theorem c276_13 : decode (aCode 276) 13 = .ok (.iconst 1, 1) := (congrArg (fun c => decode c 13) c276).trans dJ6_coder_13
theorem e276_13 {d : Nat} {a0 : Value} {st : List Value} {h : aH} : run d 276 13 [a0] st h = run d 276 14 [a0] (.int (nI 1) :: st) h := (run_act (c276_13)).trans rfl
theorem c276_14 : decode (aCode 276) 14 = .ok (.ireturn, 1) := (congrArg (fun c => decode c 14) c276).trans dJ6_coder_14
theorem e276_14 {d : Nat} {a0 : Value} {x : Int32} {h : aH} (hx : x.toInt8.toInt32 = x) : run d 276 14 [a0] [.int x] h = some (.returned (some (.int x)), h) := (run_act (c276_14)).trans (e_bret rfl hx)
/-! java/lang/String.charAt: 277 -/
theorem c277 : aCode 277 = cJ6_charAt := rfl
theorem c277_0 : decode (aCode 277) 0 = .ok (.aload_n 0, 1) := (congrArg (fun c => decode c 0) c277).trans dJ6_charAt_0
theorem e277_0 {d : Nat} {a1 : Value} {x : Nat} {st : List Value} {h : aH} : run d 277 0 [.ref x, a1] st h = run d 277 1 [.ref x, a1] (.ref x :: st) h := (run_act (c277_0)).trans rfl
theorem c277_1 : decode (aCode 277) 1 = .ok (.invokevirtual 492, 3) := (congrArg (fun c => decode c 1) c277).trans dJ6_charAt_1
theorem e277_1 {d : Nat} {a0 a1 : Value} {o : Nat} {h : aH} (hκ : (hk_ h o).1 = 11) : run (d + 1) 277 1 [a0, a1] [.ref o] h = aBk (d + 1) 277 1 [a0, a1] [] true (run d 278 0 [.ref o] [] h) := (run_act (c277_1)).trans (e_virt (m := 0) (ν := 278) (as := []) (rest := []) (md := 4) (tg := [(11, 278)]) rfl rfl hκ rfl (.inl ⟨rfl, rfl⟩) rfl rfl)
theorem c277_4 : decode (aCode 277) 4 = .ok (.ifCond .eq 12, 3) := (congrArg (fun c => decode c 4) c277).trans dJ6_charAt_4
theorem e277_4 {d : Nat} {a0 a1 : Value} {x : Int32} {st : List Value} {h : aH} : run d 277 4 [a0, a1] (.int x :: st) h = if x = 0 then run d 277 16 [a0, a1] st h else run d 277 7 [a0, a1] st h := (run_act (c277_4)).trans (e_ifCond_eq rfl)
theorem c277_7 : decode (aCode 277) 7 = .ok (.aload_n 0, 1) := (congrArg (fun c => decode c 7) c277).trans dJ6_charAt_7
theorem e277_7 {d : Nat} {a1 : Value} {x : Nat} {st : List Value} {h : aH} : run d 277 7 [.ref x, a1] st h = run d 277 8 [.ref x, a1] (.ref x :: st) h := (run_act (c277_7)).trans rfl
theorem c277_8 : decode (aCode 277) 8 = .ok (.getfield 9, 3) := (congrArg (fun c => decode c 8) c277).trans dJ6_charAt_8
theorem e277_8 {d : Nat} {a0 a1 : Value} {x : Nat} {st : List Value} {h : aH} (hκ : (hk_ h x).1 = 11) : run d 277 8 [a0, a1] (.ref x :: st) h = run d 277 11 [a0, a1] (va_rf (hp_ h x 133) :: st) h := (run_act (c277_8)).trans (e_get (g := 133) (ty := 2) (fin := 1) rfl (by rw [hκ]; rfl))
theorem c277_11 : decode (aCode 277) 11 = .ok (.iload_n 1, 1) := (congrArg (fun c => decode c 11) c277).trans dJ6_charAt_11
theorem e277_11 {d : Nat} {a0 : Value} {x : Int32} {st : List Value} {h : aH} : run d 277 11 [a0, .int x] st h = run d 277 12 [a0, .int x] (.int x :: st) h := (run_act (c277_11)).trans rfl
theorem c277_12 : decode (aCode 277) 12 = .ok (.invokestatic 495, 3) := (congrArg (fun c => decode c 12) c277).trans dJ6_charAt_12
theorem e277_12 {d : Nat} {a0 a1 : Value} {x0 : Nat} {x1 : Int32} {h : aH} : run (d + 1) 277 12 [a0, a1] [.int x1, .ref x0] h = aBk (d + 1) 277 12 [a0, a1] [] false (run d 284 0 [.ref x0, .int x1] [] h) := (run_act (c277_12)).trans (e_stat (m := 2) (ν := 284) (as := [.ref x0, .int x1]) (rest := []) (md := 0) (κ := 0) rfl rfl rfl rfl rfl)
theorem c277_15 : decode (aCode 277) 15 = .ok (.ireturn, 1) := (congrArg (fun c => decode c 15) c277).trans dJ6_charAt_15
theorem e277_15 {d : Nat} {a0 a1 : Value} {x : Int32} {h : aH} (hx : (x.toUInt32 % 65536).toInt32 = x) : run d 277 15 [a0, a1] [.int x] h = some (.returned (some (.int x)), h) := (run_act (c277_15)).trans (e_cret rfl hx)
theorem c277_16 : decode (aCode 277) 16 = .ok (.aload_n 0, 1) := (congrArg (fun c => decode c 16) c277).trans dJ6_charAt_16
theorem e277_16 {d : Nat} {a1 : Value} {x : Nat} {st : List Value} {h : aH} : run d 277 16 [.ref x, a1] st h = run d 277 17 [.ref x, a1] (.ref x :: st) h := (run_act (c277_16)).trans rfl
theorem c277_17 : decode (aCode 277) 17 = .ok (.getfield 9, 3) := (congrArg (fun c => decode c 17) c277).trans dJ6_charAt_17
theorem e277_17 {d : Nat} {a0 a1 : Value} {x : Nat} {st : List Value} {h : aH} (hκ : (hk_ h x).1 = 11) : run d 277 17 [a0, a1] (.ref x :: st) h = run d 277 20 [a0, a1] (va_rf (hp_ h x 133) :: st) h := (run_act (c277_17)).trans (e_get (g := 133) (ty := 2) (fin := 1) rfl (by rw [hκ]; rfl))
theorem c277_20 : decode (aCode 277) 20 = .ok (.iload_n 1, 1) := (congrArg (fun c => decode c 20) c277).trans dJ6_charAt_20
theorem e277_20 {d : Nat} {a0 : Value} {x : Int32} {st : List Value} {h : aH} : run d 277 20 [a0, .int x] st h = run d 277 21 [a0, .int x] (.int x :: st) h := (run_act (c277_20)).trans rfl
theorem c277_21 : decode (aCode 277) 21 = .ok (.invokestatic 498, 3) := (congrArg (fun c => decode c 21) c277).trans dJ6_charAt_21
theorem e277_21 {d : Nat} {a0 a1 : Value} {x0 : Nat} {x1 : Int32} {h : aH} : run (d + 1) 277 21 [a0, a1] [.int x1, .ref x0] h = aBk (d + 1) 277 21 [a0, a1] [] false (run d 290 0 [.ref x0, .int x1] [] h) := (run_act (c277_21)).trans (e_stat (m := 2) (ν := 290) (as := [.ref x0, .int x1]) (rest := []) (md := 0) (κ := 0) rfl rfl rfl rfl rfl)
theorem c277_24 : decode (aCode 277) 24 = .ok (.ireturn, 1) := (congrArg (fun c => decode c 24) c277).trans dJ6_charAt_24
theorem e277_24 {d : Nat} {a0 a1 : Value} {x : Int32} {h : aH} (hx : (x.toUInt32 % 65536).toInt32 = x) : run d 277 24 [a0, a1] [.int x] h = some (.returned (some (.int x)), h) := (run_act (c277_24)).trans (e_cret rfl hx)
/-! java/lang/String.isLatin1: 278 -/
theorem c278 : aCode 278 = cJ6_isLatin1 := rfl
theorem c278_0 : decode (aCode 278) 0 = .ok (.getstatic 38, 3) := (congrArg (fun c => decode c 0) c278).trans dJ6_isLatin1_0
theorem e278_0 {d : Nat} {a0 : Value} {st : List Value} {h : aH} : run d 278 0 [a0] st h = run d 278 3 [a0] (.int (nI 1) :: st) h := (run_act (c278_0)).trans rfl
theorem c278_3 : decode (aCode 278) 3 = .ok (.ifCond .eq 14, 3) := (congrArg (fun c => decode c 3) c278).trans dJ6_isLatin1_3
theorem e278_3 {d : Nat} {a0 : Value} {x : Int32} {st : List Value} {h : aH} : run d 278 3 [a0] (.int x :: st) h = if x = 0 then run d 278 17 [a0] st h else run d 278 6 [a0] st h := (run_act (c278_3)).trans (e_ifCond_eq rfl)
theorem c278_6 : decode (aCode 278) 6 = .ok (.aload_n 0, 1) := (congrArg (fun c => decode c 6) c278).trans dJ6_isLatin1_6
theorem e278_6 {d : Nat} {x : Nat} {st : List Value} {h : aH} : run d 278 6 [.ref x] st h = run d 278 7 [.ref x] (.ref x :: st) h := (run_act (c278_6)).trans rfl
theorem c278_7 : decode (aCode 278) 7 = .ok (.getfield 15, 3) := (congrArg (fun c => decode c 7) c278).trans dJ6_isLatin1_7
theorem e278_7 {d : Nat} {a0 : Value} {x : Nat} {st : List Value} {h : aH} (hκ : (hk_ h x).1 = 11) : run d 278 7 [a0] (.ref x :: st) h = run d 278 10 [a0] (.int (hi_ h x 134) :: st) h := (run_act (c278_7)).trans (e_get (g := 134) (ty := 4) (fin := 1) rfl (by rw [hκ]; rfl))
theorem c278_10 : decode (aCode 278) 10 = .ok (.ifCond .ne 7, 3) := (congrArg (fun c => decode c 10) c278).trans dJ6_isLatin1_10
theorem e278_10 {d : Nat} {a0 : Value} {x : Int32} {st : List Value} {h : aH} : run d 278 10 [a0] (.int x :: st) h = if x = 0 then run d 278 13 [a0] st h else run d 278 17 [a0] st h := (run_act (c278_10)).trans (e_ifCond_ne rfl)
theorem c278_13 : decode (aCode 278) 13 = .ok (.iconst 1, 1) := (congrArg (fun c => decode c 13) c278).trans dJ6_isLatin1_13
theorem e278_13 {d : Nat} {a0 : Value} {st : List Value} {h : aH} : run d 278 13 [a0] st h = run d 278 14 [a0] (.int (nI 1) :: st) h := (run_act (c278_13)).trans rfl
theorem c278_14 : decode (aCode 278) 14 = .ok (.goto 4, 3) := (congrArg (fun c => decode c 14) c278).trans dJ6_isLatin1_14
theorem e278_14 {d : Nat} {a0 : Value} {st : List Value} {h : aH} : run d 278 14 [a0] st h = run d 278 18 [a0] st h := (run_act (c278_14)).trans rfl
theorem c278_17 : decode (aCode 278) 17 = .ok (.iconst 0, 1) := (congrArg (fun c => decode c 17) c278).trans dJ6_isLatin1_17
theorem e278_17 {d : Nat} {a0 : Value} {st : List Value} {h : aH} : run d 278 17 [a0] st h = run d 278 18 [a0] (.int (nI 0) :: st) h := (run_act (c278_17)).trans rfl
theorem c278_18 : decode (aCode 278) 18 = .ok (.ireturn, 1) := (congrArg (fun c => decode c 18) c278).trans dJ6_isLatin1_18
theorem e278_18 {d : Nat} {a0 : Value} {x : Int32} {h : aH} (hx : x = 0 ∨ x = 1) : run d 278 18 [a0] [.int x] h = some (.returned (some (.int x)), h) := (run_act (c278_18)).trans (e_zret rfl hx)
/-! java/lang/String.checkIndex: 279 -/
theorem c279 : aCode 279 = cJ6_checkIndex := rfl
theorem c279_0 : decode (aCode 279) 0 = .ok (.iload_n 0, 1) := (congrArg (fun c => decode c 0) c279).trans dJ6_checkIndex_0
theorem e279_0 {d : Nat} {a1 : Value} {x : Int32} {st : List Value} {h : aH} : run d 279 0 [.int x, a1] st h = run d 279 1 [.int x, a1] (.int x :: st) h := (run_act (c279_0)).trans rfl
theorem c279_1 : decode (aCode 279) 1 = .ok (.iload_n 1, 1) := (congrArg (fun c => decode c 1) c279).trans dJ6_checkIndex_1
theorem e279_1 {d : Nat} {a0 : Value} {x : Int32} {st : List Value} {h : aH} : run d 279 1 [a0, .int x] st h = run d 279 2 [a0, .int x] (.int x :: st) h := (run_act (c279_1)).trans rfl
theorem c279_2 : decode (aCode 279) 2 = .ok (.getstatic 1053, 3) := (congrArg (fun c => decode c 2) c279).trans dJ6_checkIndex_2
theorem e279_2 {d : Nat} {a0 a1 : Value} {st : List Value} {h : aH} : run d 279 2 [a0, a1] st h = run d 279 5 [a0, a1] (.ref 48 :: st) h := (run_act (c279_2)).trans rfl
theorem c279_5 : decode (aCode 279) 5 = .ok (.invokestatic 1059, 3) := (congrArg (fun c => decode c 5) c279).trans dJ6_checkIndex_5
theorem e279_5 {d : Nat} {a0 a1 : Value} {x0 : Int32} {x1 : Int32} {x2 : Nat} {h : aH} : run (d + 1) 279 5 [a0, a1] [.ref x2, .int x1, .int x0] h = aBk (d + 1) 279 5 [a0, a1] [] false (run d 288 0 [.int x0, .int x1, .ref x2] [] h) := (run_act (c279_5)).trans (e_stat (m := 3) (ν := 288) (as := [.int x0, .int x1, .ref x2]) (rest := []) (md := 0) (κ := 0) rfl rfl rfl rfl rfl)
theorem c279_8 : decode (aCode 279) 8 = .ok (.pop, 1) := (congrArg (fun c => decode c 8) c279).trans dJ6_checkIndex_8
theorem e279_8 {d : Nat} {a0 a1 : Value} {x : Int32} {st : List Value} {h : aH} : run d 279 8 [a0, a1] (.int x :: st) h = run d 279 9 [a0, a1] st h := (run_act (c279_8)).trans rfl
theorem c279_9 : decode (aCode 279) 9 = .ok (.return_, 1) := (congrArg (fun c => decode c 9) c279).trans dJ6_checkIndex_9
theorem e279_9 {d : Nat} {a0 a1 : Value} {h : aH} : run d 279 9 [a0, a1] [] h = some (.returned none, h) := (run_act (c279_9)).trans rfl
/-! java/lang/String.checkBoundsOffCount: 280 -/
theorem c280 : aCode 280 = cJ6_checkBoundsOffCount := rfl
theorem c280_0 : decode (aCode 280) 0 = .ok (.iload_n 0, 1) := (congrArg (fun c => decode c 0) c280).trans dJ6_checkBoundsOffCount_0
theorem e280_0 {d : Nat} {a1 a2 : Value} {x : Int32} {st : List Value} {h : aH} : run d 280 0 [.int x, a1, a2] st h = run d 280 1 [.int x, a1, a2] (.int x :: st) h := (run_act (c280_0)).trans rfl
theorem c280_1 : decode (aCode 280) 1 = .ok (.iload_n 1, 1) := (congrArg (fun c => decode c 1) c280).trans dJ6_checkBoundsOffCount_1
theorem e280_1 {d : Nat} {a0 a2 : Value} {x : Int32} {st : List Value} {h : aH} : run d 280 1 [a0, .int x, a2] st h = run d 280 2 [a0, .int x, a2] (.int x :: st) h := (run_act (c280_1)).trans rfl
theorem c280_2 : decode (aCode 280) 2 = .ok (.iload_n 2, 1) := (congrArg (fun c => decode c 2) c280).trans dJ6_checkBoundsOffCount_2
theorem e280_2 {d : Nat} {a0 a1 : Value} {x : Int32} {st : List Value} {h : aH} : run d 280 2 [a0, a1, .int x] st h = run d 280 3 [a0, a1, .int x] (.int x :: st) h := (run_act (c280_2)).trans rfl
theorem c280_3 : decode (aCode 280) 3 = .ok (.getstatic 1053, 3) := (congrArg (fun c => decode c 3) c280).trans dJ6_checkBoundsOffCount_3
theorem e280_3 {d : Nat} {a0 a1 a2 : Value} {st : List Value} {h : aH} : run d 280 3 [a0, a1, a2] st h = run d 280 6 [a0, a1, a2] (.ref 48 :: st) h := (run_act (c280_3)).trans rfl
theorem c280_6 : decode (aCode 280) 6 = .ok (.invokestatic 1065, 3) := (congrArg (fun c => decode c 6) c280).trans dJ6_checkBoundsOffCount_6
theorem e280_6 {d : Nat} {a0 a1 a2 : Value} {x0 : Int32} {x1 : Int32} {x2 : Int32} {x3 : Nat} {h : aH} : run (d + 1) 280 6 [a0, a1, a2] [.ref x3, .int x2, .int x1, .int x0] h = aBk (d + 1) 280 6 [a0, a1, a2] [] false (run d 289 0 [.int x0, .int x1, .int x2, .ref x3] [] h) := (run_act (c280_6)).trans (e_stat (m := 4) (ν := 289) (as := [.int x0, .int x1, .int x2, .ref x3]) (rest := []) (md := 0) (κ := 0) rfl rfl rfl rfl rfl)
theorem c280_9 : decode (aCode 280) 9 = .ok (.ireturn, 1) := (congrArg (fun c => decode c 9) c280).trans dJ6_checkBoundsOffCount_9
theorem e280_9 {d : Nat} {a0 a1 a2 : Value} {x : Int32} {h : aH} : run d 280 9 [a0, a1, a2] [.int x] h = some (.returned (some (.int x)), h) := (run_act (c280_9)).trans rfl
/-! java/lang/String.init: 281 -/
theorem c281 : aCode 281 = cJ6_init := rfl
theorem c281_0 : decode (aCode 281) 0 = .ok (.aload_n 0, 1) := (congrArg (fun c => decode c 0) c281).trans dJ6_init_0
theorem e281_0 {d : Nat} {a1 : Value} {x : Nat} {st : List Value} {h : aH} : run d 281 0 [.ref x, a1] st h = run d 281 1 [.ref x, a1] (.ref x :: st) h := (run_act (c281_0)).trans rfl
theorem c281_1 : decode (aCode 281) 1 = .ok (.aload_n 1, 1) := (congrArg (fun c => decode c 1) c281).trans dJ6_init_1
theorem e281_1 {d : Nat} {a0 : Value} {x : Nat} {st : List Value} {h : aH} : run d 281 1 [a0, .ref x] st h = run d 281 2 [a0, .ref x] (.ref x :: st) h := (run_act (c281_1)).trans rfl
theorem c281_2 : decode (aCode 281) 2 = .ok (.aconst_null, 1) := (congrArg (fun c => decode c 2) c281).trans dJ6_init_2
theorem e281_2 {d : Nat} {a0 a1 : Value} {st : List Value} {h : aH} : run d 281 2 [a0, a1] st h = run d 281 3 [a0, a1] (.null :: st) h := (run_act (c281_2)).trans rfl
theorem c281_3 : decode (aCode 281) 3 = .ok (.invokespecial 489, 3) := (congrArg (fun c => decode c 3) c281).trans dJ6_init_3
theorem e281_3 {d : Nat} {a0 a1 : Value} {x0 : Nat} {x1 : Nat} {o : Nat} {h : aH} (hκ : (hk_ h o).1 < 98) : run (d + 1) 281 3 [a0, a1] [.ref x1, .ref x0, .ref o] h = aBk (d + 1) 281 3 [a0, a1] [] false (run d 282 0 [.ref o, .ref x0, .ref x1, aU, aU] [] h) := (run_act (c281_3)).trans (e_spec (m := 2) (ν := 282) (as := [.ref x0, .ref x1]) (rest := []) (md := 1) (κ := 0) rfl rfl rfl hκ rfl rfl)
theorem c281_6 : decode (aCode 281) 6 = .ok (.return_, 1) := (congrArg (fun c => decode c 6) c281).trans dJ6_init_6
theorem e281_6 {d : Nat} {a0 a1 : Value} {h : aH} : run d 281 6 [a0, a1] [] h = some (.returned none, h) := (run_act (c281_6)).trans rfl
/-! java/lang/String.init_2: 282 -/
theorem c282 : aCode 282 = cJ6_init_2 := rfl
theorem c282_0 : decode (aCode 282) 0 = .ok (.aload_n 0, 1) := (congrArg (fun c => decode c 0) c282).trans dJ6_init_2_0
theorem e282_0 {d : Nat} {a1 a2 a3 a4 : Value} {x : Nat} {st : List Value} {h : aH} : run d 282 0 [.ref x, a1, a2, a3, a4] st h = run d 282 1 [.ref x, a1, a2, a3, a4] (.ref x :: st) h := (run_act (c282_0)).trans rfl
theorem c282_1 : decode (aCode 282) 1 = .ok (.invokespecial 1, 3) := (congrArg (fun c => decode c 1) c282).trans dJ6_init_2_1
theorem e282_1 {d : Nat} {a0 a1 a2 a3 a4 : Value} {o : Nat} {h : aH} (hκ : (hk_ h o).1 < 98) : run d 282 1 [a0, a1, a2, a3, a4] [.ref o] h = run d 282 4 [a0, a1, a2, a3, a4] [] h := (run_act (c282_1)).trans (e_obj rfl hκ rfl)
theorem c282_4 : decode (aCode 282) 4 = .ok (.aload_n 1, 1) := (congrArg (fun c => decode c 4) c282).trans dJ6_init_2_4
theorem e282_4 {d : Nat} {a0 a2 a3 a4 : Value} {x : Nat} {st : List Value} {h : aH} : run d 282 4 [a0, .ref x, a2, a3, a4] st h = run d 282 5 [a0, .ref x, a2, a3, a4] (.ref x :: st) h := (run_act (c282_4)).trans rfl
theorem c282_5 : decode (aCode 282) 5 = .ok (.invokevirtual 552, 3) := (congrArg (fun c => decode c 5) c282).trans dJ6_init_2_5
theorem e282_5 {d : Nat} {a0 a1 a2 a3 a4 : Value} {o : Nat} {h : aH} (hκ : (hk_ h o).1 = 17) : run (d + 1) 282 5 [a0, a1, a2, a3, a4] [.ref o] h = aBk (d + 1) 282 5 [a0, a1, a2, a3, a4] [] false (run d 320 0 [.ref o] [] h) := (run_act (c282_5)).trans (e_virt (m := 0) (ν := 320) (as := []) (rest := []) (md := 5) (tg := [(17, 320)]) rfl rfl hκ rfl (.inr ⟨⟨rfl, rfl⟩, rfl⟩) rfl rfl)
theorem c282_8 : decode (aCode 282) 8 = .ok (.astore_n 3, 1) := (congrArg (fun c => decode c 8) c282).trans dJ6_init_2_8
theorem e282_8 {d : Nat} {a0 a1 a2 a3 a4 : Value} {x : Nat} {st : List Value} {h : aH} : run d 282 8 [a0, a1, a2, a3, a4] (.ref x :: st) h = run d 282 9 [a0, a1, a2, .ref x, a4] st h := (run_act (c282_8)).trans rfl
theorem c282_9 : decode (aCode 282) 9 = .ok (.aload_n 1, 1) := (congrArg (fun c => decode c 9) c282).trans dJ6_init_2_9
theorem e282_9 {d : Nat} {a0 a2 a3 a4 : Value} {x : Nat} {st : List Value} {h : aH} : run d 282 9 [a0, .ref x, a2, a3, a4] st h = run d 282 10 [a0, .ref x, a2, a3, a4] (.ref x :: st) h := (run_act (c282_9)).trans rfl
theorem c282_10 : decode (aCode 282) 10 = .ok (.invokevirtual 549, 3) := (congrArg (fun c => decode c 10) c282).trans dJ6_init_2_10
theorem e282_10 {d : Nat} {a0 a1 a2 a3 a4 : Value} {o : Nat} {h : aH} (hκ : (hk_ h o).1 = 17) : run (d + 1) 282 10 [a0, a1, a2, a3, a4] [.ref o] h = aBk (d + 1) 282 10 [a0, a1, a2, a3, a4] [] false (run d 325 0 [.ref o] [] h) := (run_act (c282_10)).trans (e_virt (m := 0) (ν := 325) (as := []) (rest := []) (md := 5) (tg := [(17, 325)]) rfl rfl hκ rfl (.inr ⟨⟨rfl, rfl⟩, rfl⟩) rfl rfl)
theorem c282_13 : decode (aCode 282) 13 = .ok (.istore 4, 2) := (congrArg (fun c => decode c 13) c282).trans dJ6_init_2_13
theorem e282_13 {d : Nat} {a0 a1 a2 a3 a4 : Value} {x : Int32} {st : List Value} {h : aH} : run d 282 13 [a0, a1, a2, a3, a4] (.int x :: st) h = run d 282 15 [a0, a1, a2, a3, .int x] st h := (run_act (c282_13)).trans rfl
theorem c282_15 : decode (aCode 282) 15 = .ok (.aload_n 1, 1) := (congrArg (fun c => decode c 15) c282).trans dJ6_init_2_15
theorem e282_15 {d : Nat} {a0 a2 a3 a4 : Value} {x : Nat} {st : List Value} {h : aH} : run d 282 15 [a0, .ref x, a2, a3, a4] st h = run d 282 16 [a0, .ref x, a2, a3, a4] (.ref x :: st) h := (run_act (c282_15)).trans rfl
theorem c282_16 : decode (aCode 282) 16 = .ok (.invokevirtual 1047, 3) := (congrArg (fun c => decode c 16) c282).trans dJ6_init_2_16
theorem e282_16 {d : Nat} {a0 a1 a2 a3 a4 : Value} {o : Nat} {h : aH} (hκ : (hk_ h o).1 = 17) : run (d + 1) 282 16 [a0, a1, a2, a3, a4] [.ref o] h = aBk (d + 1) 282 16 [a0, a1, a2, a3, a4] [] false (run d 318 0 [.ref o] [] h) := (run_act (c282_16)).trans (e_virt (m := 0) (ν := 318) (as := []) (rest := []) (md := 5) (tg := [(17, 318)]) rfl rfl hκ rfl (.inr ⟨⟨rfl, rfl⟩, rfl⟩) rfl rfl)
theorem c282_19 : decode (aCode 282) 19 = .ok (.ifCond .eq 22, 3) := (congrArg (fun c => decode c 19) c282).trans dJ6_init_2_19
theorem e282_19 {d : Nat} {a0 a1 a2 a3 a4 : Value} {x : Int32} {st : List Value} {h : aH} : run d 282 19 [a0, a1, a2, a3, a4] (.int x :: st) h = if x = 0 then run d 282 41 [a0, a1, a2, a3, a4] st h else run d 282 22 [a0, a1, a2, a3, a4] st h := (run_act (c282_19)).trans (e_ifCond_eq rfl)
theorem c282_22 : decode (aCode 282) 22 = .ok (.aload_n 0, 1) := (congrArg (fun c => decode c 22) c282).trans dJ6_init_2_22
theorem e282_22 {d : Nat} {a1 a2 a3 a4 : Value} {x : Nat} {st : List Value} {h : aH} : run d 282 22 [.ref x, a1, a2, a3, a4] st h = run d 282 23 [.ref x, a1, a2, a3, a4] (.ref x :: st) h := (run_act (c282_22)).trans rfl
theorem c282_23 : decode (aCode 282) 23 = .ok (.iconst 0, 1) := (congrArg (fun c => decode c 23) c282).trans dJ6_init_2_23
theorem e282_23 {d : Nat} {a0 a1 a2 a3 a4 : Value} {st : List Value} {h : aH} : run d 282 23 [a0, a1, a2, a3, a4] st h = run d 282 24 [a0, a1, a2, a3, a4] (.int (nI 0) :: st) h := (run_act (c282_23)).trans rfl
theorem c282_24 : decode (aCode 282) 24 = .ok (.putfield 15, 3) := (congrArg (fun c => decode c 24) c282).trans dJ6_init_2_24
theorem e282_24 {d : Nat} {a0 a1 a2 a3 a4 : Value} {x : Nat} {v : Int32} {st : List Value} {h : aH} (hκ : (hk_ h x).1 = 11) (h6 : 64 ≤ x) (hv : v.toInt8.toInt32 = v) : run d 282 24 [a0, a1, a2, a3, a4] (.int v :: .ref x :: st) h = run d 282 27 [a0, a1, a2, a3, a4] st (si_ h x 134 v) := (run_act (c282_24)).trans (e_put (g := 134) (ty := 4) (fin := 1) rfl rfl (by rw [hκ]; rfl) h6 (if_pos hv))
theorem c282_27 : decode (aCode 282) 27 = .ok (.aload_n 0, 1) := (congrArg (fun c => decode c 27) c282).trans dJ6_init_2_27
theorem e282_27 {d : Nat} {a1 a2 a3 a4 : Value} {x : Nat} {st : List Value} {h : aH} : run d 282 27 [.ref x, a1, a2, a3, a4] st h = run d 282 28 [.ref x, a1, a2, a3, a4] (.ref x :: st) h := (run_act (c282_27)).trans rfl
theorem c282_28 : decode (aCode 282) 28 = .ok (.aload_n 3, 1) := (congrArg (fun c => decode c 28) c282).trans dJ6_init_2_28
theorem e282_28 {d : Nat} {a0 a1 a2 a4 : Value} {x : Nat} {st : List Value} {h : aH} : run d 282 28 [a0, a1, a2, .ref x, a4] st h = run d 282 29 [a0, a1, a2, .ref x, a4] (.ref x :: st) h := (run_act (c282_28)).trans rfl
theorem c282_29 : decode (aCode 282) 29 = .ok (.iconst 0, 1) := (congrArg (fun c => decode c 29) c282).trans dJ6_init_2_29
theorem e282_29 {d : Nat} {a0 a1 a2 a3 a4 : Value} {st : List Value} {h : aH} : run d 282 29 [a0, a1, a2, a3, a4] st h = run d 282 30 [a0, a1, a2, a3, a4] (.int (nI 0) :: st) h := (run_act (c282_29)).trans rfl
theorem c282_30 : decode (aCode 282) 30 = .ok (.iload 4, 2) := (congrArg (fun c => decode c 30) c282).trans dJ6_init_2_30
theorem e282_30 {d : Nat} {a0 a1 a2 a3 : Value} {x : Int32} {st : List Value} {h : aH} : run d 282 30 [a0, a1, a2, a3, .int x] st h = run d 282 32 [a0, a1, a2, a3, .int x] (.int x :: st) h := (run_act (c282_30)).trans rfl
theorem c282_32 : decode (aCode 282) 32 = .ok (.invokestatic 54, 3) := (congrArg (fun c => decode c 32) c282).trans dJ6_init_2_32
theorem e282_32 {d : Nat} {a0 a1 a2 a3 a4 : Value} {x0 : Nat} {x1 : Int32} {x2 : Int32} {r0 : Nat} {h : aH} : run (d + 1) 282 32 [a0, a1, a2, a3, a4] [.int x2, .int x1, .ref x0, .ref r0] h = aBk (d + 1) 282 32 [a0, a1, a2, a3, a4] [.ref r0] false (run d 331 0 [.ref x0, .int x1, .int x2] [] h) := (run_act (c282_32)).trans (e_stat (m := 3) (ν := 331) (as := [.ref x0, .int x1, .int x2]) (rest := [.ref r0]) (md := 0) (κ := 0) rfl rfl rfl rfl rfl)
theorem c282_35 : decode (aCode 282) 35 = .ok (.putfield 9, 3) := (congrArg (fun c => decode c 35) c282).trans dJ6_init_2_35
theorem e282_35 {d : Nat} {a0 a1 a2 a3 a4 : Value} {x v : Nat} {st : List Value} {h : aH} (hκ : (hk_ h x).1 = 11) (h6 : 64 ≤ x) : run d 282 35 [a0, a1, a2, a3, a4] (.ref v :: .ref x :: st) h = run d 282 38 [a0, a1, a2, a3, a4] st (sp_ h x 133 (some v)) := (run_act (c282_35)).trans (e_put (g := 133) (ty := 2) (fin := 1) rfl rfl (by rw [hκ]; rfl) h6 rfl)
theorem e282_35n {d : Nat} {a0 a1 a2 a3 a4 : Value} {x : Nat} {st : List Value} {h : aH} (hκ : (hk_ h x).1 = 11) (h6 : 64 ≤ x) : run d 282 35 [a0, a1, a2, a3, a4] (.null :: .ref x :: st) h = run d 282 38 [a0, a1, a2, a3, a4] st (sp_ h x 133 none) := (run_act (c282_35)).trans (e_put (g := 133) (ty := 2) (fin := 1) rfl rfl (by rw [hκ]; rfl) h6 rfl)
theorem c282_38 : decode (aCode 282) 38 = .ok (.goto 59, 3) := (congrArg (fun c => decode c 38) c282).trans dJ6_init_2_38
theorem e282_38 {d : Nat} {a0 a1 a2 a3 a4 : Value} {st : List Value} {h : aH} : run d 282 38 [a0, a1, a2, a3, a4] st h = run d 282 97 [a0, a1, a2, a3, a4] st h := (run_act (c282_38)).trans rfl
theorem c282_41 : decode (aCode 282) 41 = .ok (.getstatic 38, 3) := (congrArg (fun c => decode c 41) c282).trans dJ6_init_2_41
theorem e282_41 {d : Nat} {a0 a1 a2 a3 a4 : Value} {st : List Value} {h : aH} : run d 282 41 [a0, a1, a2, a3, a4] st h = run d 282 44 [a0, a1, a2, a3, a4] (.int (nI 1) :: st) h := (run_act (c282_41)).trans rfl
theorem c282_44 : decode (aCode 282) 44 = .ok (.ifCond .eq 35, 3) := (congrArg (fun c => decode c 44) c282).trans dJ6_init_2_44
theorem e282_44 {d : Nat} {a0 a1 a2 a3 a4 : Value} {x : Int32} {st : List Value} {h : aH} : run d 282 44 [a0, a1, a2, a3, a4] (.int x :: st) h = if x = 0 then run d 282 79 [a0, a1, a2, a3, a4] st h else run d 282 47 [a0, a1, a2, a3, a4] st h := (run_act (c282_44)).trans (e_ifCond_eq rfl)
theorem c282_47 : decode (aCode 282) 47 = .ok (.aload_n 1, 1) := (congrArg (fun c => decode c 47) c282).trans dJ6_init_2_47
theorem e282_47 {d : Nat} {a0 a2 a3 a4 : Value} {x : Nat} {st : List Value} {h : aH} : run d 282 47 [a0, .ref x, a2, a3, a4] st h = run d 282 48 [a0, .ref x, a2, a3, a4] (.ref x :: st) h := (run_act (c282_47)).trans rfl
theorem c282_48 : decode (aCode 282) 48 = .ok (.getfield 1048, 3) := (congrArg (fun c => decode c 48) c282).trans dJ6_init_2_48
theorem e282_48 {d : Nat} {a0 a1 a2 a3 a4 : Value} {x : Nat} {st : List Value} {h : aH} (hκ : (hk_ h x).1 = 17) : run d 282 48 [a0, a1, a2, a3, a4] (.ref x :: st) h = run d 282 51 [a0, a1, a2, a3, a4] (.int (hi_ h x 151) :: st) h := (run_act (c282_48)).trans (e_get (g := 151) (ty := 3) (fin := 0) rfl (by rw [hκ]; rfl))
theorem c282_51 : decode (aCode 282) 51 = .ok (.ifCond .eq 28, 3) := (congrArg (fun c => decode c 51) c282).trans dJ6_init_2_51
theorem e282_51 {d : Nat} {a0 a1 a2 a3 a4 : Value} {x : Int32} {st : List Value} {h : aH} : run d 282 51 [a0, a1, a2, a3, a4] (.int x :: st) h = if x = 0 then run d 282 79 [a0, a1, a2, a3, a4] st h else run d 282 54 [a0, a1, a2, a3, a4] st h := (run_act (c282_51)).trans (e_ifCond_eq rfl)
theorem c282_54 : decode (aCode 282) 54 = .ok (.aload_n 0, 1) := (congrArg (fun c => decode c 54) c282).trans dJ6_init_2_54
theorem e282_54 {d : Nat} {a1 a2 a3 a4 : Value} {x : Nat} {st : List Value} {h : aH} : run d 282 54 [.ref x, a1, a2, a3, a4] st h = run d 282 55 [.ref x, a1, a2, a3, a4] (.ref x :: st) h := (run_act (c282_54)).trans rfl
theorem c282_55 : decode (aCode 282) 55 = .ok (.aload_n 3, 1) := (congrArg (fun c => decode c 55) c282).trans dJ6_init_2_55
theorem e282_55 {d : Nat} {a0 a1 a2 a4 : Value} {x : Nat} {st : List Value} {h : aH} : run d 282 55 [a0, a1, a2, .ref x, a4] st h = run d 282 56 [a0, a1, a2, .ref x, a4] (.ref x :: st) h := (run_act (c282_55)).trans rfl
theorem c282_56 : decode (aCode 282) 56 = .ok (.iconst 0, 1) := (congrArg (fun c => decode c 56) c282).trans dJ6_init_2_56
theorem e282_56 {d : Nat} {a0 a1 a2 a3 a4 : Value} {st : List Value} {h : aH} : run d 282 56 [a0, a1, a2, a3, a4] st h = run d 282 57 [a0, a1, a2, a3, a4] (.int (nI 0) :: st) h := (run_act (c282_56)).trans rfl
theorem c282_57 : decode (aCode 282) 57 = .ok (.iload 4, 2) := (congrArg (fun c => decode c 57) c282).trans dJ6_init_2_57
theorem e282_57 {d : Nat} {a0 a1 a2 a3 : Value} {x : Int32} {st : List Value} {h : aH} : run d 282 57 [a0, a1, a2, a3, .int x] st h = run d 282 59 [a0, a1, a2, a3, .int x] (.int x :: st) h := (run_act (c282_57)).trans rfl
theorem c282_59 : decode (aCode 282) 59 = .ok (.invokestatic 1051, 3) := (congrArg (fun c => decode c 59) c282).trans dJ6_init_2_59
theorem e282_59 {d : Nat} {a0 a1 a2 a3 a4 : Value} {x0 : Nat} {x1 : Int32} {x2 : Int32} {r0 : Nat} {h : aH} : run (d + 1) 282 59 [a0, a1, a2, a3, a4] [.int x2, .int x1, .ref x0, .ref r0] h = aBk (d + 1) 282 59 [a0, a1, a2, a3, a4] [.ref r0] false (run d 300 0 [.ref x0, .int x1, .int x2, aU, aU, aU] [] h) := (run_act (c282_59)).trans (e_stat (m := 3) (ν := 300) (as := [.ref x0, .int x1, .int x2]) (rest := [.ref r0]) (md := 0) (κ := 0) rfl rfl rfl rfl rfl)
theorem c282_62 : decode (aCode 282) 62 = .ok (.putfield 9, 3) := (congrArg (fun c => decode c 62) c282).trans dJ6_init_2_62
theorem e282_62 {d : Nat} {a0 a1 a2 a3 a4 : Value} {x v : Nat} {st : List Value} {h : aH} (hκ : (hk_ h x).1 = 11) (h6 : 64 ≤ x) : run d 282 62 [a0, a1, a2, a3, a4] (.ref v :: .ref x :: st) h = run d 282 65 [a0, a1, a2, a3, a4] st (sp_ h x 133 (some v)) := (run_act (c282_62)).trans (e_put (g := 133) (ty := 2) (fin := 1) rfl rfl (by rw [hκ]; rfl) h6 rfl)
theorem e282_62n {d : Nat} {a0 a1 a2 a3 a4 : Value} {x : Nat} {st : List Value} {h : aH} (hκ : (hk_ h x).1 = 11) (h6 : 64 ≤ x) : run d 282 62 [a0, a1, a2, a3, a4] (.null :: .ref x :: st) h = run d 282 65 [a0, a1, a2, a3, a4] st (sp_ h x 133 none) := (run_act (c282_62)).trans (e_put (g := 133) (ty := 2) (fin := 1) rfl rfl (by rw [hκ]; rfl) h6 rfl)
theorem c282_65 : decode (aCode 282) 65 = .ok (.aload_n 0, 1) := (congrArg (fun c => decode c 65) c282).trans dJ6_init_2_65
theorem e282_65 {d : Nat} {a1 a2 a3 a4 : Value} {x : Nat} {st : List Value} {h : aH} : run d 282 65 [.ref x, a1, a2, a3, a4] st h = run d 282 66 [.ref x, a1, a2, a3, a4] (.ref x :: st) h := (run_act (c282_65)).trans rfl
theorem c282_66 : decode (aCode 282) 66 = .ok (.aload_n 0, 1) := (congrArg (fun c => decode c 66) c282).trans dJ6_init_2_66
theorem e282_66 {d : Nat} {a1 a2 a3 a4 : Value} {x : Nat} {st : List Value} {h : aH} : run d 282 66 [.ref x, a1, a2, a3, a4] st h = run d 282 67 [.ref x, a1, a2, a3, a4] (.ref x :: st) h := (run_act (c282_66)).trans rfl
theorem c282_67 : decode (aCode 282) 67 = .ok (.getfield 9, 3) := (congrArg (fun c => decode c 67) c282).trans dJ6_init_2_67
theorem e282_67 {d : Nat} {a0 a1 a2 a3 a4 : Value} {x : Nat} {st : List Value} {h : aH} (hκ : (hk_ h x).1 = 11) : run d 282 67 [a0, a1, a2, a3, a4] (.ref x :: st) h = run d 282 70 [a0, a1, a2, a3, a4] (va_rf (hp_ h x 133) :: st) h := (run_act (c282_67)).trans (e_get (g := 133) (ty := 2) (fin := 1) rfl (by rw [hκ]; rfl))
theorem c282_70 : decode (aCode 282) 70 = .ok (.iload 4, 2) := (congrArg (fun c => decode c 70) c282).trans dJ6_init_2_70
theorem e282_70 {d : Nat} {a0 a1 a2 a3 : Value} {x : Int32} {st : List Value} {h : aH} : run d 282 70 [a0, a1, a2, a3, .int x] st h = run d 282 72 [a0, a1, a2, a3, .int x] (.int x :: st) h := (run_act (c282_70)).trans rfl
theorem c282_72 : decode (aCode 282) 72 = .ok (.invokestatic 47, 3) := (congrArg (fun c => decode c 72) c282).trans dJ6_init_2_72
theorem e282_72 {d : Nat} {a0 a1 a2 a3 a4 : Value} {x0 : Nat} {x1 : Int32} {r0 : Nat} {h : aH} : run (d + 1) 282 72 [a0, a1, a2, a3, a4] [.int x1, .ref x0, .ref r0] h = aBk (d + 1) 282 72 [a0, a1, a2, a3, a4] [.ref r0] false (run d 302 0 [.ref x0, .int x1] [] h) := (run_act (c282_72)).trans (e_stat (m := 2) (ν := 302) (as := [.ref x0, .int x1]) (rest := [.ref r0]) (md := 0) (κ := 0) rfl rfl rfl rfl rfl)
theorem c282_75 : decode (aCode 282) 75 = .ok (.putfield 15, 3) := (congrArg (fun c => decode c 75) c282).trans dJ6_init_2_75
theorem e282_75 {d : Nat} {a0 a1 a2 a3 a4 : Value} {x : Nat} {v : Int32} {st : List Value} {h : aH} (hκ : (hk_ h x).1 = 11) (h6 : 64 ≤ x) (hv : v.toInt8.toInt32 = v) : run d 282 75 [a0, a1, a2, a3, a4] (.int v :: .ref x :: st) h = run d 282 78 [a0, a1, a2, a3, a4] st (si_ h x 134 v) := (run_act (c282_75)).trans (e_put (g := 134) (ty := 4) (fin := 1) rfl rfl (by rw [hκ]; rfl) h6 (if_pos hv))
theorem c282_78 : decode (aCode 282) 78 = .ok (.return_, 1) := (congrArg (fun c => decode c 78) c282).trans dJ6_init_2_78
theorem e282_78 {d : Nat} {a0 a1 a2 a3 a4 : Value} {h : aH} : run d 282 78 [a0, a1, a2, a3, a4] [] h = some (.returned none, h) := (run_act (c282_78)).trans rfl
theorem c282_79 : decode (aCode 282) 79 = .ok (.aload_n 0, 1) := (congrArg (fun c => decode c 79) c282).trans dJ6_init_2_79
theorem e282_79 {d : Nat} {a1 a2 a3 a4 : Value} {x : Nat} {st : List Value} {h : aH} : run d 282 79 [.ref x, a1, a2, a3, a4] st h = run d 282 80 [.ref x, a1, a2, a3, a4] (.ref x :: st) h := (run_act (c282_79)).trans rfl
theorem c282_80 : decode (aCode 282) 80 = .ok (.iconst 1, 1) := (congrArg (fun c => decode c 80) c282).trans dJ6_init_2_80
theorem e282_80 {d : Nat} {a0 a1 a2 a3 a4 : Value} {st : List Value} {h : aH} : run d 282 80 [a0, a1, a2, a3, a4] st h = run d 282 81 [a0, a1, a2, a3, a4] (.int (nI 1) :: st) h := (run_act (c282_80)).trans rfl
theorem c282_81 : decode (aCode 282) 81 = .ok (.putfield 15, 3) := (congrArg (fun c => decode c 81) c282).trans dJ6_init_2_81
theorem e282_81 {d : Nat} {a0 a1 a2 a3 a4 : Value} {x : Nat} {v : Int32} {st : List Value} {h : aH} (hκ : (hk_ h x).1 = 11) (h6 : 64 ≤ x) (hv : v.toInt8.toInt32 = v) : run d 282 81 [a0, a1, a2, a3, a4] (.int v :: .ref x :: st) h = run d 282 84 [a0, a1, a2, a3, a4] st (si_ h x 134 v) := (run_act (c282_81)).trans (e_put (g := 134) (ty := 4) (fin := 1) rfl rfl (by rw [hκ]; rfl) h6 (if_pos hv))
theorem c282_84 : decode (aCode 282) 84 = .ok (.aload_n 0, 1) := (congrArg (fun c => decode c 84) c282).trans dJ6_init_2_84
theorem e282_84 {d : Nat} {a1 a2 a3 a4 : Value} {x : Nat} {st : List Value} {h : aH} : run d 282 84 [.ref x, a1, a2, a3, a4] st h = run d 282 85 [.ref x, a1, a2, a3, a4] (.ref x :: st) h := (run_act (c282_84)).trans rfl
theorem c282_85 : decode (aCode 282) 85 = .ok (.aload_n 3, 1) := (congrArg (fun c => decode c 85) c282).trans dJ6_init_2_85
theorem e282_85 {d : Nat} {a0 a1 a2 a4 : Value} {x : Nat} {st : List Value} {h : aH} : run d 282 85 [a0, a1, a2, .ref x, a4] st h = run d 282 86 [a0, a1, a2, .ref x, a4] (.ref x :: st) h := (run_act (c282_85)).trans rfl
theorem c282_86 : decode (aCode 282) 86 = .ok (.iconst 0, 1) := (congrArg (fun c => decode c 86) c282).trans dJ6_init_2_86
theorem e282_86 {d : Nat} {a0 a1 a2 a3 a4 : Value} {st : List Value} {h : aH} : run d 282 86 [a0, a1, a2, a3, a4] st h = run d 282 87 [a0, a1, a2, a3, a4] (.int (nI 0) :: st) h := (run_act (c282_86)).trans rfl
theorem c282_87 : decode (aCode 282) 87 = .ok (.iload 4, 2) := (congrArg (fun c => decode c 87) c282).trans dJ6_init_2_87
theorem e282_87 {d : Nat} {a0 a1 a2 a3 : Value} {x : Int32} {st : List Value} {h : aH} : run d 282 87 [a0, a1, a2, a3, .int x] st h = run d 282 89 [a0, a1, a2, a3, .int x] (.int x :: st) h := (run_act (c282_87)).trans rfl
theorem c282_89 : decode (aCode 282) 89 = .ok (.iconst 1, 1) := (congrArg (fun c => decode c 89) c282).trans dJ6_init_2_89
theorem e282_89 {d : Nat} {a0 a1 a2 a3 a4 : Value} {st : List Value} {h : aH} : run d 282 89 [a0, a1, a2, a3, a4] st h = run d 282 90 [a0, a1, a2, a3, a4] (.int (nI 1) :: st) h := (run_act (c282_89)).trans rfl
theorem c282_90 : decode (aCode 282) 90 = .ok (.ishl, 1) := (congrArg (fun c => decode c 90) c282).trans dJ6_init_2_90
theorem e282_90 {d : Nat} {a0 a1 a2 a3 a4 : Value} {x y : Int32} {st : List Value} {h : aH} : run d 282 90 [a0, a1, a2, a3, a4] (.int y :: .int x :: st) h = run d 282 91 [a0, a1, a2, a3, a4] (.int (shl_ x y) :: st) h := (run_act (c282_90)).trans rfl
theorem c282_91 : decode (aCode 282) 91 = .ok (.invokestatic 54, 3) := (congrArg (fun c => decode c 91) c282).trans dJ6_init_2_91
theorem e282_91 {d : Nat} {a0 a1 a2 a3 a4 : Value} {x0 : Nat} {x1 : Int32} {x2 : Int32} {r0 : Nat} {h : aH} : run (d + 1) 282 91 [a0, a1, a2, a3, a4] [.int x2, .int x1, .ref x0, .ref r0] h = aBk (d + 1) 282 91 [a0, a1, a2, a3, a4] [.ref r0] false (run d 331 0 [.ref x0, .int x1, .int x2] [] h) := (run_act (c282_91)).trans (e_stat (m := 3) (ν := 331) (as := [.ref x0, .int x1, .int x2]) (rest := [.ref r0]) (md := 0) (κ := 0) rfl rfl rfl rfl rfl)
theorem c282_94 : decode (aCode 282) 94 = .ok (.putfield 9, 3) := (congrArg (fun c => decode c 94) c282).trans dJ6_init_2_94
theorem e282_94 {d : Nat} {a0 a1 a2 a3 a4 : Value} {x v : Nat} {st : List Value} {h : aH} (hκ : (hk_ h x).1 = 11) (h6 : 64 ≤ x) : run d 282 94 [a0, a1, a2, a3, a4] (.ref v :: .ref x :: st) h = run d 282 97 [a0, a1, a2, a3, a4] st (sp_ h x 133 (some v)) := (run_act (c282_94)).trans (e_put (g := 133) (ty := 2) (fin := 1) rfl rfl (by rw [hκ]; rfl) h6 rfl)
theorem e282_94n {d : Nat} {a0 a1 a2 a3 a4 : Value} {x : Nat} {st : List Value} {h : aH} (hκ : (hk_ h x).1 = 11) (h6 : 64 ≤ x) : run d 282 94 [a0, a1, a2, a3, a4] (.null :: .ref x :: st) h = run d 282 97 [a0, a1, a2, a3, a4] st (sp_ h x 133 none) := (run_act (c282_94)).trans (e_put (g := 133) (ty := 2) (fin := 1) rfl rfl (by rw [hκ]; rfl) h6 rfl)
theorem c282_97 : decode (aCode 282) 97 = .ok (.return_, 1) := (congrArg (fun c => decode c 97) c282).trans dJ6_init_2_97
theorem e282_97 {d : Nat} {a0 a1 a2 a3 a4 : Value} {h : aH} : run d 282 97 [a0, a1, a2, a3, a4] [] h = some (.returned none, h) := (run_act (c282_97)).trans rfl
/-! java/lang/String.equals: 283 -/
theorem c283 : aCode 283 = cJ6_equals := rfl
theorem c283_0 : decode (aCode 283) 0 = .ok (.aload_n 0, 1) := (congrArg (fun c => decode c 0) c283).trans dJ6_equals_0
theorem e283_0 {d : Nat} {a1 a2 : Value} {x : Nat} {st : List Value} {h : aH} : run d 283 0 [.ref x, a1, a2] st h = run d 283 1 [.ref x, a1, a2] (.ref x :: st) h := (run_act (c283_0)).trans rfl
theorem c283_1 : decode (aCode 283) 1 = .ok (.aload_n 1, 1) := (congrArg (fun c => decode c 1) c283).trans dJ6_equals_1
theorem e283_1 {d : Nat} {a0 a2 : Value} {x : Nat} {st : List Value} {h : aH} : run d 283 1 [a0, .ref x, a2] st h = run d 283 2 [a0, .ref x, a2] (.ref x :: st) h := (run_act (c283_1)).trans rfl
theorem c283_2 : decode (aCode 283) 2 = .ok (.if_acmp .ne 5, 3) := (congrArg (fun c => decode c 2) c283).trans dJ6_equals_2
theorem e283_2s {d : Nat} {a0 a1 a2 : Value} {x : Nat} {st : List Value} {h : aH} : run d 283 2 [a0, a1, a2] (.ref x :: .ref x :: st) h = run d 283 5 [a0, a1, a2] st h := (run_act (c283_2)).trans (e_acmpSn rfl)
theorem e283_2d {d : Nat} {a0 a1 a2 : Value} {x y : Nat} {st : List Value} {h : aH} (hn : ¬ x = y) (h6 : 64 ≤ x ∨ 64 ≤ y) : run d 283 2 [a0, a1, a2] (.ref y :: .ref x :: st) h = run d 283 7 [a0, a1, a2] st h := (run_act (c283_2)).trans (e_acmpDn rfl hn h6)
theorem c283_5 : decode (aCode 283) 5 = .ok (.iconst 1, 1) := (congrArg (fun c => decode c 5) c283).trans dJ6_equals_5
theorem e283_5 {d : Nat} {a0 a1 a2 : Value} {st : List Value} {h : aH} : run d 283 5 [a0, a1, a2] st h = run d 283 6 [a0, a1, a2] (.int (nI 1) :: st) h := (run_act (c283_5)).trans rfl
theorem c283_6 : decode (aCode 283) 6 = .ok (.ireturn, 1) := (congrArg (fun c => decode c 6) c283).trans dJ6_equals_6
theorem e283_6 {d : Nat} {a0 a1 a2 : Value} {x : Int32} {h : aH} (hx : x = 0 ∨ x = 1) : run d 283 6 [a0, a1, a2] [.int x] h = some (.returned (some (.int x)), h) := (run_act (c283_6)).trans (e_zret rfl hx)
theorem c283_7 : decode (aCode 283) 7 = .ok (.aload_n 1, 1) := (congrArg (fun c => decode c 7) c283).trans dJ6_equals_7
theorem e283_7 {d : Nat} {a0 a2 : Value} {x : Nat} {st : List Value} {h : aH} : run d 283 7 [a0, .ref x, a2] st h = run d 283 8 [a0, .ref x, a2] (.ref x :: st) h := (run_act (c283_7)).trans rfl
theorem c283_8 : decode (aCode 283) 8 = .ok (.instanceof 10, 3) := (congrArg (fun c => decode c 8) c283).trans dJ6_equals_8
theorem e283_8 {d : Nat} {a0 a1 a2 : Value} {x : Nat} {st : List Value} {h : aH} (hκ : (hk_ h x).1 ∈ ([11] : List Nat)) : run d 283 8 [a0, a1, a2] (.ref x :: st) h = run d 283 11 [a0, a1, a2] (.int (nI 1) :: st) h := (run_act (c283_8)).trans (e_inst rfl hκ)
theorem c283_11 : decode (aCode 283) 11 = .ok (.ifCond .eq 43, 3) := (congrArg (fun c => decode c 11) c283).trans dJ6_equals_11
theorem e283_11 {d : Nat} {a0 a1 a2 : Value} {x : Int32} {st : List Value} {h : aH} : run d 283 11 [a0, a1, a2] (.int x :: st) h = if x = 0 then run d 283 54 [a0, a1, a2] st h else run d 283 14 [a0, a1, a2] st h := (run_act (c283_11)).trans (e_ifCond_eq rfl)
theorem c283_14 : decode (aCode 283) 14 = .ok (.aload_n 1, 1) := (congrArg (fun c => decode c 14) c283).trans dJ6_equals_14
theorem e283_14 {d : Nat} {a0 a2 : Value} {x : Nat} {st : List Value} {h : aH} : run d 283 14 [a0, .ref x, a2] st h = run d 283 15 [a0, .ref x, a2] (.ref x :: st) h := (run_act (c283_14)).trans rfl
theorem c283_15 : decode (aCode 283) 15 = .ok (.checkcast 10, 3) := (congrArg (fun c => decode c 15) c283).trans dJ6_equals_15
theorem e283_15 {d : Nat} {a0 a1 a2 : Value} {x : Nat} {st : List Value} {h : aH} (hκ : (hk_ h x).1 ∈ ([11] : List Nat)) : run d 283 15 [a0, a1, a2] (.ref x :: st) h = run d 283 18 [a0, a1, a2] (.ref x :: st) h := (run_act (c283_15)).trans (e_cast rfl hκ)
theorem c283_18 : decode (aCode 283) 18 = .ok (.astore_n 2, 1) := (congrArg (fun c => decode c 18) c283).trans dJ6_equals_18
theorem e283_18 {d : Nat} {a0 a1 a2 : Value} {x : Nat} {st : List Value} {h : aH} : run d 283 18 [a0, a1, a2] (.ref x :: st) h = run d 283 19 [a0, a1, .ref x] st h := (run_act (c283_18)).trans rfl
theorem c283_19 : decode (aCode 283) 19 = .ok (.getstatic 38, 3) := (congrArg (fun c => decode c 19) c283).trans dJ6_equals_19
theorem e283_19 {d : Nat} {a0 a1 a2 : Value} {st : List Value} {h : aH} : run d 283 19 [a0, a1, a2] st h = run d 283 22 [a0, a1, a2] (.int (nI 1) :: st) h := (run_act (c283_19)).trans rfl
theorem c283_22 : decode (aCode 283) 22 = .ok (.ifCond .eq 14, 3) := (congrArg (fun c => decode c 22) c283).trans dJ6_equals_22
theorem e283_22 {d : Nat} {a0 a1 a2 : Value} {x : Int32} {st : List Value} {h : aH} : run d 283 22 [a0, a1, a2] (.int x :: st) h = if x = 0 then run d 283 36 [a0, a1, a2] st h else run d 283 25 [a0, a1, a2] st h := (run_act (c283_22)).trans (e_ifCond_eq rfl)
theorem c283_25 : decode (aCode 283) 25 = .ok (.aload_n 0, 1) := (congrArg (fun c => decode c 25) c283).trans dJ6_equals_25
theorem e283_25 {d : Nat} {a1 a2 : Value} {x : Nat} {st : List Value} {h : aH} : run d 283 25 [.ref x, a1, a2] st h = run d 283 26 [.ref x, a1, a2] (.ref x :: st) h := (run_act (c283_25)).trans rfl
theorem c283_26 : decode (aCode 283) 26 = .ok (.getfield 15, 3) := (congrArg (fun c => decode c 26) c283).trans dJ6_equals_26
theorem e283_26 {d : Nat} {a0 a1 a2 : Value} {x : Nat} {st : List Value} {h : aH} (hκ : (hk_ h x).1 = 11) : run d 283 26 [a0, a1, a2] (.ref x :: st) h = run d 283 29 [a0, a1, a2] (.int (hi_ h x 134) :: st) h := (run_act (c283_26)).trans (e_get (g := 134) (ty := 4) (fin := 1) rfl (by rw [hκ]; rfl))
theorem c283_29 : decode (aCode 283) 29 = .ok (.aload_n 2, 1) := (congrArg (fun c => decode c 29) c283).trans dJ6_equals_29
theorem e283_29 {d : Nat} {a0 a1 : Value} {x : Nat} {st : List Value} {h : aH} : run d 283 29 [a0, a1, .ref x] st h = run d 283 30 [a0, a1, .ref x] (.ref x :: st) h := (run_act (c283_29)).trans rfl
theorem c283_30 : decode (aCode 283) 30 = .ok (.getfield 15, 3) := (congrArg (fun c => decode c 30) c283).trans dJ6_equals_30
theorem e283_30 {d : Nat} {a0 a1 a2 : Value} {x : Nat} {st : List Value} {h : aH} (hκ : (hk_ h x).1 = 11) : run d 283 30 [a0, a1, a2] (.ref x :: st) h = run d 283 33 [a0, a1, a2] (.int (hi_ h x 134) :: st) h := (run_act (c283_30)).trans (e_get (g := 134) (ty := 4) (fin := 1) rfl (by rw [hκ]; rfl))
theorem c283_33 : decode (aCode 283) 33 = .ok (.if_icmp .ne 21, 3) := (congrArg (fun c => decode c 33) c283).trans dJ6_equals_33
theorem e283_33 {d : Nat} {a0 a1 a2 : Value} {x y : Int32} {st : List Value} {h : aH} : run d 283 33 [a0, a1, a2] (.int y :: .int x :: st) h = if x = y then run d 283 36 [a0, a1, a2] st h else run d 283 54 [a0, a1, a2] st h := (run_act (c283_33)).trans (e_if_icmp_ne rfl)
theorem c283_36 : decode (aCode 283) 36 = .ok (.aload_n 0, 1) := (congrArg (fun c => decode c 36) c283).trans dJ6_equals_36
theorem e283_36 {d : Nat} {a1 a2 : Value} {x : Nat} {st : List Value} {h : aH} : run d 283 36 [.ref x, a1, a2] st h = run d 283 37 [.ref x, a1, a2] (.ref x :: st) h := (run_act (c283_36)).trans rfl
theorem c283_37 : decode (aCode 283) 37 = .ok (.getfield 9, 3) := (congrArg (fun c => decode c 37) c283).trans dJ6_equals_37
theorem e283_37 {d : Nat} {a0 a1 a2 : Value} {x : Nat} {st : List Value} {h : aH} (hκ : (hk_ h x).1 = 11) : run d 283 37 [a0, a1, a2] (.ref x :: st) h = run d 283 40 [a0, a1, a2] (va_rf (hp_ h x 133) :: st) h := (run_act (c283_37)).trans (e_get (g := 133) (ty := 2) (fin := 1) rfl (by rw [hκ]; rfl))
theorem c283_40 : decode (aCode 283) 40 = .ok (.aload_n 2, 1) := (congrArg (fun c => decode c 40) c283).trans dJ6_equals_40
theorem e283_40 {d : Nat} {a0 a1 : Value} {x : Nat} {st : List Value} {h : aH} : run d 283 40 [a0, a1, .ref x] st h = run d 283 41 [a0, a1, .ref x] (.ref x :: st) h := (run_act (c283_40)).trans rfl
theorem c283_41 : decode (aCode 283) 41 = .ok (.getfield 9, 3) := (congrArg (fun c => decode c 41) c283).trans dJ6_equals_41
theorem e283_41 {d : Nat} {a0 a1 a2 : Value} {x : Nat} {st : List Value} {h : aH} (hκ : (hk_ h x).1 = 11) : run d 283 41 [a0, a1, a2] (.ref x :: st) h = run d 283 44 [a0, a1, a2] (va_rf (hp_ h x 133) :: st) h := (run_act (c283_41)).trans (e_get (g := 133) (ty := 2) (fin := 1) rfl (by rw [hκ]; rfl))
theorem c283_44 : decode (aCode 283) 44 = .ok (.invokestatic 541, 3) := (congrArg (fun c => decode c 44) c283).trans dJ6_equals_44
theorem e283_44 {d : Nat} {a0 a1 a2 : Value} {x0 : Nat} {x1 : Nat} {h : aH} : run (d + 1) 283 44 [a0, a1, a2] [.ref x1, .ref x0] h = aBk (d + 1) 283 44 [a0, a1, a2] [] false (run d 287 0 [.ref x0, .ref x1, aU] [] h) := (run_act (c283_44)).trans (e_stat (m := 2) (ν := 287) (as := [.ref x0, .ref x1]) (rest := []) (md := 0) (κ := 0) rfl rfl rfl rfl rfl)
theorem c283_47 : decode (aCode 283) 47 = .ok (.ifCond .eq 7, 3) := (congrArg (fun c => decode c 47) c283).trans dJ6_equals_47
theorem e283_47 {d : Nat} {a0 a1 a2 : Value} {x : Int32} {st : List Value} {h : aH} : run d 283 47 [a0, a1, a2] (.int x :: st) h = if x = 0 then run d 283 54 [a0, a1, a2] st h else run d 283 50 [a0, a1, a2] st h := (run_act (c283_47)).trans (e_ifCond_eq rfl)
theorem c283_50 : decode (aCode 283) 50 = .ok (.iconst 1, 1) := (congrArg (fun c => decode c 50) c283).trans dJ6_equals_50
theorem e283_50 {d : Nat} {a0 a1 a2 : Value} {st : List Value} {h : aH} : run d 283 50 [a0, a1, a2] st h = run d 283 51 [a0, a1, a2] (.int (nI 1) :: st) h := (run_act (c283_50)).trans rfl
theorem c283_51 : decode (aCode 283) 51 = .ok (.goto 4, 3) := (congrArg (fun c => decode c 51) c283).trans dJ6_equals_51
theorem e283_51 {d : Nat} {a0 a1 a2 : Value} {st : List Value} {h : aH} : run d 283 51 [a0, a1, a2] st h = run d 283 55 [a0, a1, a2] st h := (run_act (c283_51)).trans rfl
theorem c283_54 : decode (aCode 283) 54 = .ok (.iconst 0, 1) := (congrArg (fun c => decode c 54) c283).trans dJ6_equals_54
theorem e283_54 {d : Nat} {a0 a1 a2 : Value} {st : List Value} {h : aH} : run d 283 54 [a0, a1, a2] st h = run d 283 55 [a0, a1, a2] (.int (nI 0) :: st) h := (run_act (c283_54)).trans rfl
theorem c283_55 : decode (aCode 283) 55 = .ok (.ireturn, 1) := (congrArg (fun c => decode c 55) c283).trans dJ6_equals_55
theorem e283_55 {d : Nat} {a0 a1 a2 : Value} {x : Int32} {h : aH} (hx : x = 0 ∨ x = 1) : run d 283 55 [a0, a1, a2] [.int x] h = some (.returned (some (.int x)), h) := (run_act (c283_55)).trans (e_zret rfl hx)
/-! java/lang/StringLatin1.charAt: 284 -/
theorem c284 : aCode 284 = cJ7_charAt := rfl
theorem c284_0 : decode (aCode 284) 0 = .ok (.iload_n 1, 1) := (congrArg (fun c => decode c 0) c284).trans dJ7_charAt_0
theorem e284_0 {d : Nat} {a0 : Value} {x : Int32} {st : List Value} {h : aH} : run d 284 0 [a0, .int x] st h = run d 284 1 [a0, .int x] (.int x :: st) h := (run_act (c284_0)).trans rfl
theorem c284_1 : decode (aCode 284) 1 = .ok (.aload_n 0, 1) := (congrArg (fun c => decode c 1) c284).trans dJ7_charAt_1
theorem e284_1 {d : Nat} {a1 : Value} {x : Nat} {st : List Value} {h : aH} : run d 284 1 [.ref x, a1] st h = run d 284 2 [.ref x, a1] (.ref x :: st) h := (run_act (c284_1)).trans rfl
theorem c284_2 : decode (aCode 284) 2 = .ok (.arraylength, 1) := (congrArg (fun c => decode c 2) c284).trans dJ7_charAt_2
theorem e284_2 {d : Nat} {a0 a1 : Value} {x : Nat} {st : List Value} {h : aH} (hκ : 100 ≤ (hk_ h x).1) : run d 284 2 [a0, a1] (.ref x :: st) h = run d 284 3 [a0, a1] (.int (nI (hk_ h x).2) :: st) h := (run_act (c284_2)).trans (e_alen hκ)
theorem c284_3 : decode (aCode 284) 3 = .ok (.invokestatic 9, 3) := (congrArg (fun c => decode c 3) c284).trans dJ7_charAt_3
theorem e284_3 {d : Nat} {a0 a1 : Value} {x0 : Int32} {x1 : Int32} {h : aH} : run (d + 1) 284 3 [a0, a1] [.int x1, .int x0] h = aBk (d + 1) 284 3 [a0, a1] [] false (run d 279 0 [.int x0, .int x1] [] h) := (run_act (c284_3)).trans (e_stat (m := 2) (ν := 279) (as := [.int x0, .int x1]) (rest := []) (md := 0) (κ := 0) rfl rfl rfl rfl rfl)
theorem c284_6 : decode (aCode 284) 6 = .ok (.aload_n 0, 1) := (congrArg (fun c => decode c 6) c284).trans dJ7_charAt_6
theorem e284_6 {d : Nat} {a1 : Value} {x : Nat} {st : List Value} {h : aH} : run d 284 6 [.ref x, a1] st h = run d 284 7 [.ref x, a1] (.ref x :: st) h := (run_act (c284_6)).trans rfl
theorem c284_7 : decode (aCode 284) 7 = .ok (.iload_n 1, 1) := (congrArg (fun c => decode c 7) c284).trans dJ7_charAt_7
theorem e284_7 {d : Nat} {a0 : Value} {x : Int32} {st : List Value} {h : aH} : run d 284 7 [a0, .int x] st h = run d 284 8 [a0, .int x] (.int x :: st) h := (run_act (c284_7)).trans rfl
theorem c284_8 : decode (aCode 284) 8 = .ok (.baload, 1) := (congrArg (fun c => decode c 8) c284).trans dJ7_charAt_8
theorem e284_8 {d : Nat} {a0 a1 : Value} {x n : Nat} {st : List Value} {h : aH} (hκ : (hk_ h x).1 = 101 ∨ (hk_ h x).1 = 103) (hn : n < (hk_ h x).2) (hb : (hk_ h x).2 ≤ 2147483647) : run d 284 8 [a0, a1] (.int (nI n) :: .ref x :: st) h = run d 284 9 [a0, a1] (.int (hi_ h x n) :: st) h := (run_act (c284_8)).trans (e_bald_n hκ hn hb)
theorem c284_9 : decode (aCode 284) 9 = .ok (.sipush 255, 3) := (congrArg (fun c => decode c 9) c284).trans dJ7_charAt_9
theorem e284_9 {d : Nat} {a0 a1 : Value} {st : List Value} {h : aH} : run d 284 9 [a0, a1] st h = run d 284 12 [a0, a1] (.int (nI 255) :: st) h := (run_act (c284_9)).trans rfl
theorem c284_12 : decode (aCode 284) 12 = .ok (.iand, 1) := (congrArg (fun c => decode c 12) c284).trans dJ7_charAt_12
theorem e284_12 {d : Nat} {a0 a1 : Value} {x y : Int32} {st : List Value} {h : aH} : run d 284 12 [a0, a1] (.int y :: .int x :: st) h = run d 284 13 [a0, a1] (.int (x &&& y) :: st) h := (run_act (c284_12)).trans rfl
theorem c284_13 : decode (aCode 284) 13 = .ok (.i2c, 1) := (congrArg (fun c => decode c 13) c284).trans dJ7_charAt_13
theorem e284_13 {d : Nat} {a0 a1 : Value} {x : Int32} {st : List Value} {h : aH} : run d 284 13 [a0, a1] (.int x :: st) h = run d 284 14 [a0, a1] (.int ((x.toUInt32 % 65536).toInt32) :: st) h := (run_act (c284_13)).trans rfl
theorem c284_14 : decode (aCode 284) 14 = .ok (.ireturn, 1) := (congrArg (fun c => decode c 14) c284).trans dJ7_charAt_14
theorem e284_14 {d : Nat} {a0 a1 : Value} {x : Int32} {h : aH} (hx : (x.toUInt32 % 65536).toInt32 = x) : run d 284 14 [a0, a1] [.int x] h = some (.returned (some (.int x)), h) := (run_act (c284_14)).trans (e_cret rfl hx)
/-! java/lang/StringLatin1.canEncode: 285 -/
theorem c285 : aCode 285 = cJ7_canEncode := rfl
theorem c285_0 : decode (aCode 285) 0 = .ok (.iload_n 0, 1) := (congrArg (fun c => decode c 0) c285).trans dJ7_canEncode_0
theorem e285_0 {d : Nat} {x : Int32} {st : List Value} {h : aH} : run d 285 0 [.int x] st h = run d 285 1 [.int x] (.int x :: st) h := (run_act (c285_0)).trans rfl
theorem c285_1 : decode (aCode 285) 1 = .ok (.sipush 255, 3) := (congrArg (fun c => decode c 1) c285).trans dJ7_canEncode_1
theorem e285_1 {d : Nat} {a0 : Value} {st : List Value} {h : aH} : run d 285 1 [a0] st h = run d 285 4 [a0] (.int (nI 255) :: st) h := (run_act (c285_1)).trans rfl
theorem c285_4 : decode (aCode 285) 4 = .ok (.if_icmp .gt 7, 3) := (congrArg (fun c => decode c 4) c285).trans dJ7_canEncode_4
theorem e285_4 {d : Nat} {a0 : Value} {x y : Int32} {st : List Value} {h : aH} : run d 285 4 [a0] (.int y :: .int x :: st) h = if y < x then run d 285 11 [a0] st h else run d 285 7 [a0] st h := (run_act (c285_4)).trans (e_if_icmp_gt rfl)
theorem c285_7 : decode (aCode 285) 7 = .ok (.iconst 1, 1) := (congrArg (fun c => decode c 7) c285).trans dJ7_canEncode_7
theorem e285_7 {d : Nat} {a0 : Value} {st : List Value} {h : aH} : run d 285 7 [a0] st h = run d 285 8 [a0] (.int (nI 1) :: st) h := (run_act (c285_7)).trans rfl
theorem c285_8 : decode (aCode 285) 8 = .ok (.goto 4, 3) := (congrArg (fun c => decode c 8) c285).trans dJ7_canEncode_8
theorem e285_8 {d : Nat} {a0 : Value} {st : List Value} {h : aH} : run d 285 8 [a0] st h = run d 285 12 [a0] st h := (run_act (c285_8)).trans rfl
theorem c285_11 : decode (aCode 285) 11 = .ok (.iconst 0, 1) := (congrArg (fun c => decode c 11) c285).trans dJ7_canEncode_11
theorem e285_11 {d : Nat} {a0 : Value} {st : List Value} {h : aH} : run d 285 11 [a0] st h = run d 285 12 [a0] (.int (nI 0) :: st) h := (run_act (c285_11)).trans rfl
theorem c285_12 : decode (aCode 285) 12 = .ok (.ireturn, 1) := (congrArg (fun c => decode c 12) c285).trans dJ7_canEncode_12
theorem e285_12 {d : Nat} {a0 : Value} {x : Int32} {h : aH} (hx : x = 0 ∨ x = 1) : run d 285 12 [a0] [.int x] h = some (.returned (some (.int x)), h) := (run_act (c285_12)).trans (e_zret rfl hx)
/-! java/lang/StringLatin1.inflate: 286 -/
theorem c286 : aCode 286 = cJ7_inflate := rfl
theorem c286_0 : decode (aCode 286) 0 = .ok (.aload_n 0, 1) := (congrArg (fun c => decode c 0) c286).trans dJ7_inflate_0
theorem e286_0 {d : Nat} {a1 a2 a3 a4 : Value} {x : Nat} {st : List Value} {h : aH} : run d 286 0 [.ref x, a1, a2, a3, a4] st h = run d 286 1 [.ref x, a1, a2, a3, a4] (.ref x :: st) h := (run_act (c286_0)).trans rfl
theorem c286_1 : decode (aCode 286) 1 = .ok (.iload_n 1, 1) := (congrArg (fun c => decode c 1) c286).trans dJ7_inflate_1
theorem e286_1 {d : Nat} {a0 a2 a3 a4 : Value} {x : Int32} {st : List Value} {h : aH} : run d 286 1 [a0, .int x, a2, a3, a4] st h = run d 286 2 [a0, .int x, a2, a3, a4] (.int x :: st) h := (run_act (c286_1)).trans rfl
theorem c286_2 : decode (aCode 286) 2 = .ok (.aload_n 2, 1) := (congrArg (fun c => decode c 2) c286).trans dJ7_inflate_2
theorem e286_2 {d : Nat} {a0 a1 a3 a4 : Value} {x : Nat} {st : List Value} {h : aH} : run d 286 2 [a0, a1, .ref x, a3, a4] st h = run d 286 3 [a0, a1, .ref x, a3, a4] (.ref x :: st) h := (run_act (c286_2)).trans rfl
theorem c286_3 : decode (aCode 286) 3 = .ok (.iload_n 3, 1) := (congrArg (fun c => decode c 3) c286).trans dJ7_inflate_3
theorem e286_3 {d : Nat} {a0 a1 a2 a4 : Value} {x : Int32} {st : List Value} {h : aH} : run d 286 3 [a0, a1, a2, .int x, a4] st h = run d 286 4 [a0, a1, a2, .int x, a4] (.int x :: st) h := (run_act (c286_3)).trans rfl
theorem c286_4 : decode (aCode 286) 4 = .ok (.iload 4, 2) := (congrArg (fun c => decode c 4) c286).trans dJ7_inflate_4
theorem e286_4 {d : Nat} {a0 a1 a2 a3 : Value} {x : Int32} {st : List Value} {h : aH} : run d 286 4 [a0, a1, a2, a3, .int x] st h = run d 286 6 [a0, a1, a2, a3, .int x] (.int x :: st) h := (run_act (c286_4)).trans rfl
theorem c286_6 : decode (aCode 286) 6 = .ok (.invokestatic 240, 3) := (congrArg (fun c => decode c 6) c286).trans dJ7_inflate_6
theorem e286_6 {d : Nat} {a0 a1 a2 a3 a4 : Value} {x0 : Nat} {x1 : Int32} {x2 : Nat} {x3 : Int32} {x4 : Int32} {h : aH} : run (d + 1) 286 6 [a0, a1, a2, a3, a4] [.int x4, .int x3, .ref x2, .int x1, .ref x0] h = aBk (d + 1) 286 6 [a0, a1, a2, a3, a4] [] false (run d 296 0 [.ref x0, .int x1, .ref x2, .int x3, .int x4, aU] [] h) := (run_act (c286_6)).trans (e_stat (m := 5) (ν := 296) (as := [.ref x0, .int x1, .ref x2, .int x3, .int x4]) (rest := []) (md := 0) (κ := 0) rfl rfl rfl rfl rfl)
theorem c286_9 : decode (aCode 286) 9 = .ok (.return_, 1) := (congrArg (fun c => decode c 9) c286).trans dJ7_inflate_9
theorem e286_9 {d : Nat} {a0 a1 a2 a3 a4 : Value} {h : aH} : run d 286 9 [a0, a1, a2, a3, a4] [] h = some (.returned none, h) := (run_act (c286_9)).trans rfl
/-! java/lang/StringLatin1.equals: 287 -/
theorem c287 : aCode 287 = cJ7_equals := rfl
theorem c287_0 : decode (aCode 287) 0 = .ok (.aload_n 0, 1) := (congrArg (fun c => decode c 0) c287).trans dJ7_equals_0
theorem e287_0 {d : Nat} {a1 a2 : Value} {x : Nat} {st : List Value} {h : aH} : run d 287 0 [.ref x, a1, a2] st h = run d 287 1 [.ref x, a1, a2] (.ref x :: st) h := (run_act (c287_0)).trans rfl
theorem c287_1 : decode (aCode 287) 1 = .ok (.arraylength, 1) := (congrArg (fun c => decode c 1) c287).trans dJ7_equals_1
theorem e287_1 {d : Nat} {a0 a1 a2 : Value} {x : Nat} {st : List Value} {h : aH} (hκ : 100 ≤ (hk_ h x).1) : run d 287 1 [a0, a1, a2] (.ref x :: st) h = run d 287 2 [a0, a1, a2] (.int (nI (hk_ h x).2) :: st) h := (run_act (c287_1)).trans (e_alen hκ)
theorem c287_2 : decode (aCode 287) 2 = .ok (.aload_n 1, 1) := (congrArg (fun c => decode c 2) c287).trans dJ7_equals_2
theorem e287_2 {d : Nat} {a0 a2 : Value} {x : Nat} {st : List Value} {h : aH} : run d 287 2 [a0, .ref x, a2] st h = run d 287 3 [a0, .ref x, a2] (.ref x :: st) h := (run_act (c287_2)).trans rfl
theorem c287_3 : decode (aCode 287) 3 = .ok (.arraylength, 1) := (congrArg (fun c => decode c 3) c287).trans dJ7_equals_3
theorem e287_3 {d : Nat} {a0 a1 a2 : Value} {x : Nat} {st : List Value} {h : aH} (hκ : 100 ≤ (hk_ h x).1) : run d 287 3 [a0, a1, a2] (.ref x :: st) h = run d 287 4 [a0, a1, a2] (.int (nI (hk_ h x).2) :: st) h := (run_act (c287_3)).trans (e_alen hκ)
theorem c287_4 : decode (aCode 287) 4 = .ok (.if_icmp .ne 30, 3) := (congrArg (fun c => decode c 4) c287).trans dJ7_equals_4
theorem e287_4 {d : Nat} {a0 a1 a2 : Value} {x y : Int32} {st : List Value} {h : aH} : run d 287 4 [a0, a1, a2] (.int y :: .int x :: st) h = if x = y then run d 287 7 [a0, a1, a2] st h else run d 287 34 [a0, a1, a2] st h := (run_act (c287_4)).trans (e_if_icmp_ne rfl)
theorem c287_7 : decode (aCode 287) 7 = .ok (.iconst 0, 1) := (congrArg (fun c => decode c 7) c287).trans dJ7_equals_7
theorem e287_7 {d : Nat} {a0 a1 a2 : Value} {st : List Value} {h : aH} : run d 287 7 [a0, a1, a2] st h = run d 287 8 [a0, a1, a2] (.int (nI 0) :: st) h := (run_act (c287_7)).trans rfl
theorem c287_8 : decode (aCode 287) 8 = .ok (.istore_n 2, 1) := (congrArg (fun c => decode c 8) c287).trans dJ7_equals_8
theorem e287_8 {d : Nat} {a0 a1 a2 : Value} {x : Int32} {st : List Value} {h : aH} : run d 287 8 [a0, a1, a2] (.int x :: st) h = run d 287 9 [a0, a1, .int x] st h := (run_act (c287_8)).trans rfl
theorem c287_9 : decode (aCode 287) 9 = .ok (.iload_n 2, 1) := (congrArg (fun c => decode c 9) c287).trans dJ7_equals_9
theorem e287_9 {d : Nat} {a0 a1 : Value} {x : Int32} {st : List Value} {h : aH} : run d 287 9 [a0, a1, .int x] st h = run d 287 10 [a0, a1, .int x] (.int x :: st) h := (run_act (c287_9)).trans rfl
theorem c287_10 : decode (aCode 287) 10 = .ok (.aload_n 0, 1) := (congrArg (fun c => decode c 10) c287).trans dJ7_equals_10
theorem e287_10 {d : Nat} {a1 a2 : Value} {x : Nat} {st : List Value} {h : aH} : run d 287 10 [.ref x, a1, a2] st h = run d 287 11 [.ref x, a1, a2] (.ref x :: st) h := (run_act (c287_10)).trans rfl
theorem c287_11 : decode (aCode 287) 11 = .ok (.arraylength, 1) := (congrArg (fun c => decode c 11) c287).trans dJ7_equals_11
theorem e287_11 {d : Nat} {a0 a1 a2 : Value} {x : Nat} {st : List Value} {h : aH} (hκ : 100 ≤ (hk_ h x).1) : run d 287 11 [a0, a1, a2] (.ref x :: st) h = run d 287 12 [a0, a1, a2] (.int (nI (hk_ h x).2) :: st) h := (run_act (c287_11)).trans (e_alen hκ)
theorem c287_12 : decode (aCode 287) 12 = .ok (.if_icmp .ge 20, 3) := (congrArg (fun c => decode c 12) c287).trans dJ7_equals_12
theorem e287_12 {d : Nat} {a0 a1 a2 : Value} {x y : Int32} {st : List Value} {h : aH} : run d 287 12 [a0, a1, a2] (.int y :: .int x :: st) h = if y ≤ x then run d 287 32 [a0, a1, a2] st h else run d 287 15 [a0, a1, a2] st h := (run_act (c287_12)).trans (e_if_icmp_ge rfl)
theorem c287_15 : decode (aCode 287) 15 = .ok (.aload_n 0, 1) := (congrArg (fun c => decode c 15) c287).trans dJ7_equals_15
theorem e287_15 {d : Nat} {a1 a2 : Value} {x : Nat} {st : List Value} {h : aH} : run d 287 15 [.ref x, a1, a2] st h = run d 287 16 [.ref x, a1, a2] (.ref x :: st) h := (run_act (c287_15)).trans rfl
theorem c287_16 : decode (aCode 287) 16 = .ok (.iload_n 2, 1) := (congrArg (fun c => decode c 16) c287).trans dJ7_equals_16
theorem e287_16 {d : Nat} {a0 a1 : Value} {x : Int32} {st : List Value} {h : aH} : run d 287 16 [a0, a1, .int x] st h = run d 287 17 [a0, a1, .int x] (.int x :: st) h := (run_act (c287_16)).trans rfl
theorem c287_17 : decode (aCode 287) 17 = .ok (.baload, 1) := (congrArg (fun c => decode c 17) c287).trans dJ7_equals_17
theorem e287_17 {d : Nat} {a0 a1 a2 : Value} {x n : Nat} {st : List Value} {h : aH} (hκ : (hk_ h x).1 = 101 ∨ (hk_ h x).1 = 103) (hn : n < (hk_ h x).2) (hb : (hk_ h x).2 ≤ 2147483647) : run d 287 17 [a0, a1, a2] (.int (nI n) :: .ref x :: st) h = run d 287 18 [a0, a1, a2] (.int (hi_ h x n) :: st) h := (run_act (c287_17)).trans (e_bald_n hκ hn hb)
theorem c287_18 : decode (aCode 287) 18 = .ok (.aload_n 1, 1) := (congrArg (fun c => decode c 18) c287).trans dJ7_equals_18
theorem e287_18 {d : Nat} {a0 a2 : Value} {x : Nat} {st : List Value} {h : aH} : run d 287 18 [a0, .ref x, a2] st h = run d 287 19 [a0, .ref x, a2] (.ref x :: st) h := (run_act (c287_18)).trans rfl
theorem c287_19 : decode (aCode 287) 19 = .ok (.iload_n 2, 1) := (congrArg (fun c => decode c 19) c287).trans dJ7_equals_19
theorem e287_19 {d : Nat} {a0 a1 : Value} {x : Int32} {st : List Value} {h : aH} : run d 287 19 [a0, a1, .int x] st h = run d 287 20 [a0, a1, .int x] (.int x :: st) h := (run_act (c287_19)).trans rfl
theorem c287_20 : decode (aCode 287) 20 = .ok (.baload, 1) := (congrArg (fun c => decode c 20) c287).trans dJ7_equals_20
theorem e287_20 {d : Nat} {a0 a1 a2 : Value} {x n : Nat} {st : List Value} {h : aH} (hκ : (hk_ h x).1 = 101 ∨ (hk_ h x).1 = 103) (hn : n < (hk_ h x).2) (hb : (hk_ h x).2 ≤ 2147483647) : run d 287 20 [a0, a1, a2] (.int (nI n) :: .ref x :: st) h = run d 287 21 [a0, a1, a2] (.int (hi_ h x n) :: st) h := (run_act (c287_20)).trans (e_bald_n hκ hn hb)
theorem c287_21 : decode (aCode 287) 21 = .ok (.if_icmp .eq 5, 3) := (congrArg (fun c => decode c 21) c287).trans dJ7_equals_21
theorem e287_21 {d : Nat} {a0 a1 a2 : Value} {x y : Int32} {st : List Value} {h : aH} : run d 287 21 [a0, a1, a2] (.int y :: .int x :: st) h = if x = y then run d 287 26 [a0, a1, a2] st h else run d 287 24 [a0, a1, a2] st h := (run_act (c287_21)).trans (e_if_icmp_eq rfl)
theorem c287_24 : decode (aCode 287) 24 = .ok (.iconst 0, 1) := (congrArg (fun c => decode c 24) c287).trans dJ7_equals_24
theorem e287_24 {d : Nat} {a0 a1 a2 : Value} {st : List Value} {h : aH} : run d 287 24 [a0, a1, a2] st h = run d 287 25 [a0, a1, a2] (.int (nI 0) :: st) h := (run_act (c287_24)).trans rfl
theorem c287_25 : decode (aCode 287) 25 = .ok (.ireturn, 1) := (congrArg (fun c => decode c 25) c287).trans dJ7_equals_25
theorem e287_25 {d : Nat} {a0 a1 a2 : Value} {x : Int32} {h : aH} (hx : x = 0 ∨ x = 1) : run d 287 25 [a0, a1, a2] [.int x] h = some (.returned (some (.int x)), h) := (run_act (c287_25)).trans (e_zret rfl hx)
theorem c287_26 : decode (aCode 287) 26 = .ok (.iinc 2 1, 3) := (congrArg (fun c => decode c 26) c287).trans dJ7_equals_26
theorem e287_26 {d : Nat} {a0 a1 : Value} {x : Int32} {st : List Value} {h : aH} : run d 287 26 [a0, a1, .int x] st h = run d 287 29 [a0, a1, .int (x + (nI 1))] st h := (run_act (c287_26)).trans rfl
theorem c287_29 : decode (aCode 287) 29 = .ok (.goto (-20), 3) := (congrArg (fun c => decode c 29) c287).trans dJ7_equals_29
theorem e287_29 {d : Nat} {a0 a1 a2 : Value} {st : List Value} {h : aH} : run d 287 29 [a0, a1, a2] st h = run d 287 9 [a0, a1, a2] st h := (run_act (c287_29)).trans rfl
theorem c287_32 : decode (aCode 287) 32 = .ok (.iconst 1, 1) := (congrArg (fun c => decode c 32) c287).trans dJ7_equals_32
theorem e287_32 {d : Nat} {a0 a1 a2 : Value} {st : List Value} {h : aH} : run d 287 32 [a0, a1, a2] st h = run d 287 33 [a0, a1, a2] (.int (nI 1) :: st) h := (run_act (c287_32)).trans rfl
theorem c287_33 : decode (aCode 287) 33 = .ok (.ireturn, 1) := (congrArg (fun c => decode c 33) c287).trans dJ7_equals_33
theorem e287_33 {d : Nat} {a0 a1 a2 : Value} {x : Int32} {h : aH} (hx : x = 0 ∨ x = 1) : run d 287 33 [a0, a1, a2] [.int x] h = some (.returned (some (.int x)), h) := (run_act (c287_33)).trans (e_zret rfl hx)
theorem c287_34 : decode (aCode 287) 34 = .ok (.iconst 0, 1) := (congrArg (fun c => decode c 34) c287).trans dJ7_equals_34
theorem e287_34 {d : Nat} {a0 a1 a2 : Value} {st : List Value} {h : aH} : run d 287 34 [a0, a1, a2] st h = run d 287 35 [a0, a1, a2] (.int (nI 0) :: st) h := (run_act (c287_34)).trans rfl
theorem c287_35 : decode (aCode 287) 35 = .ok (.ireturn, 1) := (congrArg (fun c => decode c 35) c287).trans dJ7_equals_35
theorem e287_35 {d : Nat} {a0 a1 a2 : Value} {x : Int32} {h : aH} (hx : x = 0 ∨ x = 1) : run d 287 35 [a0, a1, a2] [.int x] h = some (.returned (some (.int x)), h) := (run_act (c287_35)).trans (e_zret rfl hx)
/-! jdk/internal/util/Preconditions.checkIndex: 288 -/
theorem c288 : aCode 288 = cJ8_checkIndex := rfl
theorem c288_0 : decode (aCode 288) 0 = .ok (.iload_n 0, 1) := (congrArg (fun c => decode c 0) c288).trans dJ8_checkIndex_0
theorem e288_0 {d : Nat} {a1 a2 : Value} {x : Int32} {st : List Value} {h : aH} : run d 288 0 [.int x, a1, a2] st h = run d 288 1 [.int x, a1, a2] (.int x :: st) h := (run_act (c288_0)).trans rfl
theorem c288_1 : decode (aCode 288) 1 = .ok (.ifCond .lt 8, 3) := (congrArg (fun c => decode c 1) c288).trans dJ8_checkIndex_1
theorem e288_1 {d : Nat} {a0 a1 a2 : Value} {x : Int32} {st : List Value} {h : aH} : run d 288 1 [a0, a1, a2] (.int x :: st) h = if x < 0 then run d 288 9 [a0, a1, a2] st h else run d 288 4 [a0, a1, a2] st h := (run_act (c288_1)).trans (e_ifCond_lt rfl)
theorem c288_4 : decode (aCode 288) 4 = .ok (.iload_n 0, 1) := (congrArg (fun c => decode c 4) c288).trans dJ8_checkIndex_4
theorem e288_4 {d : Nat} {a1 a2 : Value} {x : Int32} {st : List Value} {h : aH} : run d 288 4 [.int x, a1, a2] st h = run d 288 5 [.int x, a1, a2] (.int x :: st) h := (run_act (c288_4)).trans rfl
theorem c288_5 : decode (aCode 288) 5 = .ok (.iload_n 1, 1) := (congrArg (fun c => decode c 5) c288).trans dJ8_checkIndex_5
theorem e288_5 {d : Nat} {a0 a2 : Value} {x : Int32} {st : List Value} {h : aH} : run d 288 5 [a0, .int x, a2] st h = run d 288 6 [a0, .int x, a2] (.int x :: st) h := (run_act (c288_5)).trans rfl
theorem c288_6 : decode (aCode 288) 6 = .ok (.if_icmp .lt 10, 3) := (congrArg (fun c => decode c 6) c288).trans dJ8_checkIndex_6
theorem e288_6 {d : Nat} {a0 a1 a2 : Value} {x y : Int32} {st : List Value} {h : aH} : run d 288 6 [a0, a1, a2] (.int y :: .int x :: st) h = if x < y then run d 288 16 [a0, a1, a2] st h else run d 288 9 [a0, a1, a2] st h := (run_act (c288_6)).trans (e_if_icmp_lt rfl)
theorem c288_9 : decode (aCode 288) 9 = .ok (.aload_n 2, 1) := (congrArg (fun c => decode c 9) c288).trans dJ8_checkIndex_9
theorem e288_9 {d : Nat} {a0 a1 : Value} {x : Nat} {st : List Value} {h : aH} : run d 288 9 [a0, a1, .ref x] st h = run d 288 10 [a0, a1, .ref x] (.ref x :: st) h := (run_act (c288_9)).trans rfl
theorem c288_10 : decode (aCode 288) 10 = .ok (.iload_n 0, 1) := (congrArg (fun c => decode c 10) c288).trans dJ8_checkIndex_10
theorem e288_10 {d : Nat} {a1 a2 : Value} {x : Int32} {st : List Value} {h : aH} : run d 288 10 [.int x, a1, a2] st h = run d 288 11 [.int x, a1, a2] (.int x :: st) h := (run_act (c288_10)).trans rfl
theorem c288_11 : decode (aCode 288) 11 = .ok (.iload_n 1, 1) := (congrArg (fun c => decode c 11) c288).trans dJ8_checkIndex_11
theorem e288_11 {d : Nat} {a0 a2 : Value} {x : Int32} {st : List Value} {h : aH} : run d 288 11 [a0, .int x, a2] st h = run d 288 12 [a0, .int x, a2] (.int x :: st) h := (run_act (c288_11)).trans rfl
theorem c288_12 : decode (aCode 288) 12 = .ok (.invokestatic 95, 3) := (congrArg (fun c => decode c 12) c288).trans dJ8_checkIndex_12
theorem c288_16 : decode (aCode 288) 16 = .ok (.iload_n 0, 1) := (congrArg (fun c => decode c 16) c288).trans dJ8_checkIndex_16
theorem e288_16 {d : Nat} {a1 a2 : Value} {x : Int32} {st : List Value} {h : aH} : run d 288 16 [.int x, a1, a2] st h = run d 288 17 [.int x, a1, a2] (.int x :: st) h := (run_act (c288_16)).trans rfl
theorem c288_17 : decode (aCode 288) 17 = .ok (.ireturn, 1) := (congrArg (fun c => decode c 17) c288).trans dJ8_checkIndex_17
theorem e288_17 {d : Nat} {a0 a1 a2 : Value} {x : Int32} {h : aH} : run d 288 17 [a0, a1, a2] [.int x] h = some (.returned (some (.int x)), h) := (run_act (c288_17)).trans rfl
/-! jdk/internal/util/Preconditions.checkFromIndexSize: 289 -/
theorem c289 : aCode 289 = cJ8_checkFromIndexSize := rfl
theorem c289_0 : decode (aCode 289) 0 = .ok (.iload_n 2, 1) := (congrArg (fun c => decode c 0) c289).trans dJ8_checkFromIndexSize_0
theorem e289_0 {d : Nat} {a0 a1 a3 : Value} {x : Int32} {st : List Value} {h : aH} : run d 289 0 [a0, a1, .int x, a3] st h = run d 289 1 [a0, a1, .int x, a3] (.int x :: st) h := (run_act (c289_0)).trans rfl
theorem c289_1 : decode (aCode 289) 1 = .ok (.iload_n 0, 1) := (congrArg (fun c => decode c 1) c289).trans dJ8_checkFromIndexSize_1
theorem e289_1 {d : Nat} {a1 a2 a3 : Value} {x : Int32} {st : List Value} {h : aH} : run d 289 1 [.int x, a1, a2, a3] st h = run d 289 2 [.int x, a1, a2, a3] (.int x :: st) h := (run_act (c289_1)).trans rfl
theorem c289_2 : decode (aCode 289) 2 = .ok (.ior, 1) := (congrArg (fun c => decode c 2) c289).trans dJ8_checkFromIndexSize_2
theorem e289_2 {d : Nat} {a0 a1 a2 a3 : Value} {x y : Int32} {st : List Value} {h : aH} : run d 289 2 [a0, a1, a2, a3] (.int y :: .int x :: st) h = run d 289 3 [a0, a1, a2, a3] (.int (x ||| y) :: st) h := (run_act (c289_2)).trans rfl
theorem c289_3 : decode (aCode 289) 3 = .ok (.iload_n 1, 1) := (congrArg (fun c => decode c 3) c289).trans dJ8_checkFromIndexSize_3
theorem e289_3 {d : Nat} {a0 a2 a3 : Value} {x : Int32} {st : List Value} {h : aH} : run d 289 3 [a0, .int x, a2, a3] st h = run d 289 4 [a0, .int x, a2, a3] (.int x :: st) h := (run_act (c289_3)).trans rfl
theorem c289_4 : decode (aCode 289) 4 = .ok (.ior, 1) := (congrArg (fun c => decode c 4) c289).trans dJ8_checkFromIndexSize_4
theorem e289_4 {d : Nat} {a0 a1 a2 a3 : Value} {x y : Int32} {st : List Value} {h : aH} : run d 289 4 [a0, a1, a2, a3] (.int y :: .int x :: st) h = run d 289 5 [a0, a1, a2, a3] (.int (x ||| y) :: st) h := (run_act (c289_4)).trans rfl
theorem c289_5 : decode (aCode 289) 5 = .ok (.ifCond .lt 10, 3) := (congrArg (fun c => decode c 5) c289).trans dJ8_checkFromIndexSize_5
theorem e289_5 {d : Nat} {a0 a1 a2 a3 : Value} {x : Int32} {st : List Value} {h : aH} : run d 289 5 [a0, a1, a2, a3] (.int x :: st) h = if x < 0 then run d 289 15 [a0, a1, a2, a3] st h else run d 289 8 [a0, a1, a2, a3] st h := (run_act (c289_5)).trans (e_ifCond_lt rfl)
theorem c289_8 : decode (aCode 289) 8 = .ok (.iload_n 1, 1) := (congrArg (fun c => decode c 8) c289).trans dJ8_checkFromIndexSize_8
theorem e289_8 {d : Nat} {a0 a2 a3 : Value} {x : Int32} {st : List Value} {h : aH} : run d 289 8 [a0, .int x, a2, a3] st h = run d 289 9 [a0, .int x, a2, a3] (.int x :: st) h := (run_act (c289_8)).trans rfl
theorem c289_9 : decode (aCode 289) 9 = .ok (.iload_n 2, 1) := (congrArg (fun c => decode c 9) c289).trans dJ8_checkFromIndexSize_9
theorem e289_9 {d : Nat} {a0 a1 a3 : Value} {x : Int32} {st : List Value} {h : aH} : run d 289 9 [a0, a1, .int x, a3] st h = run d 289 10 [a0, a1, .int x, a3] (.int x :: st) h := (run_act (c289_9)).trans rfl
theorem c289_10 : decode (aCode 289) 10 = .ok (.iload_n 0, 1) := (congrArg (fun c => decode c 10) c289).trans dJ8_checkFromIndexSize_10
theorem e289_10 {d : Nat} {a1 a2 a3 : Value} {x : Int32} {st : List Value} {h : aH} : run d 289 10 [.int x, a1, a2, a3] st h = run d 289 11 [.int x, a1, a2, a3] (.int x :: st) h := (run_act (c289_10)).trans rfl
theorem c289_11 : decode (aCode 289) 11 = .ok (.isub, 1) := (congrArg (fun c => decode c 11) c289).trans dJ8_checkFromIndexSize_11
theorem e289_11 {d : Nat} {a0 a1 a2 a3 : Value} {x y : Int32} {st : List Value} {h : aH} : run d 289 11 [a0, a1, a2, a3] (.int y :: .int x :: st) h = run d 289 12 [a0, a1, a2, a3] (.int (x - y) :: st) h := (run_act (c289_11)).trans rfl
theorem c289_12 : decode (aCode 289) 12 = .ok (.if_icmp .le 11, 3) := (congrArg (fun c => decode c 12) c289).trans dJ8_checkFromIndexSize_12
theorem e289_12 {d : Nat} {a0 a1 a2 a3 : Value} {x y : Int32} {st : List Value} {h : aH} : run d 289 12 [a0, a1, a2, a3] (.int y :: .int x :: st) h = if x ≤ y then run d 289 23 [a0, a1, a2, a3] st h else run d 289 15 [a0, a1, a2, a3] st h := (run_act (c289_12)).trans (e_if_icmp_le rfl)
theorem c289_15 : decode (aCode 289) 15 = .ok (.aload_n 3, 1) := (congrArg (fun c => decode c 15) c289).trans dJ8_checkFromIndexSize_15
theorem e289_15 {d : Nat} {a0 a1 a2 : Value} {x : Nat} {st : List Value} {h : aH} : run d 289 15 [a0, a1, a2, .ref x] st h = run d 289 16 [a0, a1, a2, .ref x] (.ref x :: st) h := (run_act (c289_15)).trans rfl
theorem c289_16 : decode (aCode 289) 16 = .ok (.iload_n 0, 1) := (congrArg (fun c => decode c 16) c289).trans dJ8_checkFromIndexSize_16
theorem e289_16 {d : Nat} {a1 a2 a3 : Value} {x : Int32} {st : List Value} {h : aH} : run d 289 16 [.int x, a1, a2, a3] st h = run d 289 17 [.int x, a1, a2, a3] (.int x :: st) h := (run_act (c289_16)).trans rfl
theorem c289_17 : decode (aCode 289) 17 = .ok (.iload_n 1, 1) := (congrArg (fun c => decode c 17) c289).trans dJ8_checkFromIndexSize_17
theorem e289_17 {d : Nat} {a0 a2 a3 : Value} {x : Int32} {st : List Value} {h : aH} : run d 289 17 [a0, .int x, a2, a3] st h = run d 289 18 [a0, .int x, a2, a3] (.int x :: st) h := (run_act (c289_17)).trans rfl
theorem c289_18 : decode (aCode 289) 18 = .ok (.iload_n 2, 1) := (congrArg (fun c => decode c 18) c289).trans dJ8_checkFromIndexSize_18
theorem e289_18 {d : Nat} {a0 a1 a3 : Value} {x : Int32} {st : List Value} {h : aH} : run d 289 18 [a0, a1, .int x, a3] st h = run d 289 19 [a0, a1, .int x, a3] (.int x :: st) h := (run_act (c289_18)).trans rfl
theorem c289_19 : decode (aCode 289) 19 = .ok (.invokestatic 103, 3) := (congrArg (fun c => decode c 19) c289).trans dJ8_checkFromIndexSize_19
theorem c289_23 : decode (aCode 289) 23 = .ok (.iload_n 0, 1) := (congrArg (fun c => decode c 23) c289).trans dJ8_checkFromIndexSize_23
theorem e289_23 {d : Nat} {a1 a2 a3 : Value} {x : Int32} {st : List Value} {h : aH} : run d 289 23 [.int x, a1, a2, a3] st h = run d 289 24 [.int x, a1, a2, a3] (.int x :: st) h := (run_act (c289_23)).trans rfl
theorem c289_24 : decode (aCode 289) 24 = .ok (.ireturn, 1) := (congrArg (fun c => decode c 24) c289).trans dJ8_checkFromIndexSize_24
theorem e289_24 {d : Nat} {a0 a1 a2 a3 : Value} {x : Int32} {h : aH} : run d 289 24 [a0, a1, a2, a3] [.int x] h = some (.returned (some (.int x)), h) := (run_act (c289_24)).trans rfl
/-! java/lang/StringUTF16.charAt: 290 -/
theorem c290 : aCode 290 = cJ9_charAt := rfl
theorem c290_0 : decode (aCode 290) 0 = .ok (.iload_n 1, 1) := (congrArg (fun c => decode c 0) c290).trans dJ9_charAt_0
theorem e290_0 {d : Nat} {a0 : Value} {x : Int32} {st : List Value} {h : aH} : run d 290 0 [a0, .int x] st h = run d 290 1 [a0, .int x] (.int x :: st) h := (run_act (c290_0)).trans rfl
theorem c290_1 : decode (aCode 290) 1 = .ok (.aload_n 0, 1) := (congrArg (fun c => decode c 1) c290).trans dJ9_charAt_1
theorem e290_1 {d : Nat} {a1 : Value} {x : Nat} {st : List Value} {h : aH} : run d 290 1 [.ref x, a1] st h = run d 290 2 [.ref x, a1] (.ref x :: st) h := (run_act (c290_1)).trans rfl
theorem c290_2 : decode (aCode 290) 2 = .ok (.invokestatic 67, 3) := (congrArg (fun c => decode c 2) c290).trans dJ9_charAt_2
theorem e290_2 {d : Nat} {a0 a1 : Value} {x0 : Int32} {x1 : Nat} {h : aH} : run (d + 1) 290 2 [a0, a1] [.ref x1, .int x0] h = aBk (d + 1) 290 2 [a0, a1] [] false (run d 291 0 [.int x0, .ref x1] [] h) := (run_act (c290_2)).trans (e_stat (m := 2) (ν := 291) (as := [.int x0, .ref x1]) (rest := []) (md := 0) (κ := 0) rfl rfl rfl rfl rfl)
theorem c290_5 : decode (aCode 290) 5 = .ok (.aload_n 0, 1) := (congrArg (fun c => decode c 5) c290).trans dJ9_charAt_5
theorem e290_5 {d : Nat} {a1 : Value} {x : Nat} {st : List Value} {h : aH} : run d 290 5 [.ref x, a1] st h = run d 290 6 [.ref x, a1] (.ref x :: st) h := (run_act (c290_5)).trans rfl
theorem c290_6 : decode (aCode 290) 6 = .ok (.iload_n 1, 1) := (congrArg (fun c => decode c 6) c290).trans dJ9_charAt_6
theorem e290_6 {d : Nat} {a0 : Value} {x : Int32} {st : List Value} {h : aH} : run d 290 6 [a0, .int x] st h = run d 290 7 [a0, .int x] (.int x :: st) h := (run_act (c290_6)).trans rfl
theorem c290_7 : decode (aCode 290) 7 = .ok (.invokestatic 71, 3) := (congrArg (fun c => decode c 7) c290).trans dJ9_charAt_7
theorem e290_7 {d : Nat} {a0 a1 : Value} {x0 : Nat} {x1 : Int32} {h : aH} : run (d + 1) 290 7 [a0, a1] [.int x1, .ref x0] h = aBk (d + 1) 290 7 [a0, a1] [] false (run d 293 0 [.ref x0, .int x1] [] h) := (run_act (c290_7)).trans (e_stat (m := 2) (ν := 293) (as := [.ref x0, .int x1]) (rest := []) (md := 0) (κ := 0) rfl rfl rfl rfl rfl)
theorem c290_10 : decode (aCode 290) 10 = .ok (.ireturn, 1) := (congrArg (fun c => decode c 10) c290).trans dJ9_charAt_10
theorem e290_10 {d : Nat} {a0 a1 : Value} {x : Int32} {h : aH} (hx : (x.toUInt32 % 65536).toInt32 = x) : run d 290 10 [a0, a1] [.int x] h = some (.returned (some (.int x)), h) := (run_act (c290_10)).trans (e_cret rfl hx)
/-! java/lang/StringUTF16.checkIndex: 291 -/
theorem c291 : aCode 291 = cJ9_checkIndex := rfl
theorem c291_0 : decode (aCode 291) 0 = .ok (.iload_n 0, 1) := (congrArg (fun c => decode c 0) c291).trans dJ9_checkIndex_0
theorem e291_0 {d : Nat} {a1 : Value} {x : Int32} {st : List Value} {h : aH} : run d 291 0 [.int x, a1] st h = run d 291 1 [.int x, a1] (.int x :: st) h := (run_act (c291_0)).trans rfl
theorem c291_1 : decode (aCode 291) 1 = .ok (.aload_n 1, 1) := (congrArg (fun c => decode c 1) c291).trans dJ9_checkIndex_1
theorem e291_1 {d : Nat} {a0 : Value} {x : Nat} {st : List Value} {h : aH} : run d 291 1 [a0, .ref x] st h = run d 291 2 [a0, .ref x] (.ref x :: st) h := (run_act (c291_1)).trans rfl
theorem c291_2 : decode (aCode 291) 2 = .ok (.invokestatic 48, 3) := (congrArg (fun c => decode c 2) c291).trans dJ9_checkIndex_2
theorem e291_2 {d : Nat} {a0 a1 : Value} {x0 : Nat} {r0 : Int32} {h : aH} : run (d + 1) 291 2 [a0, a1] [.ref x0, .int r0] h = aBk (d + 1) 291 2 [a0, a1] [.int r0] false (run d 292 0 [.ref x0] [] h) := (run_act (c291_2)).trans (e_stat (m := 1) (ν := 292) (as := [.ref x0]) (rest := [.int r0]) (md := 0) (κ := 0) rfl rfl rfl rfl rfl)
theorem c291_5 : decode (aCode 291) 5 = .ok (.invokestatic 414, 3) := (congrArg (fun c => decode c 5) c291).trans dJ9_checkIndex_5
theorem e291_5 {d : Nat} {a0 a1 : Value} {x0 : Int32} {x1 : Int32} {h : aH} : run (d + 1) 291 5 [a0, a1] [.int x1, .int x0] h = aBk (d + 1) 291 5 [a0, a1] [] false (run d 279 0 [.int x0, .int x1] [] h) := (run_act (c291_5)).trans (e_stat (m := 2) (ν := 279) (as := [.int x0, .int x1]) (rest := []) (md := 0) (κ := 0) rfl rfl rfl rfl rfl)
theorem c291_8 : decode (aCode 291) 8 = .ok (.return_, 1) := (congrArg (fun c => decode c 8) c291).trans dJ9_checkIndex_8
theorem e291_8 {d : Nat} {a0 a1 : Value} {h : aH} : run d 291 8 [a0, a1] [] h = some (.returned none, h) := (run_act (c291_8)).trans rfl
/-! java/lang/StringUTF16.length: 292 -/
theorem c292 : aCode 292 = cJ9_length := rfl
theorem c292_0 : decode (aCode 292) 0 = .ok (.aload_n 0, 1) := (congrArg (fun c => decode c 0) c292).trans dJ9_length_0
theorem e292_0 {d : Nat} {x : Nat} {st : List Value} {h : aH} : run d 292 0 [.ref x] st h = run d 292 1 [.ref x] (.ref x :: st) h := (run_act (c292_0)).trans rfl
theorem c292_1 : decode (aCode 292) 1 = .ok (.arraylength, 1) := (congrArg (fun c => decode c 1) c292).trans dJ9_length_1
theorem e292_1 {d : Nat} {a0 : Value} {x : Nat} {st : List Value} {h : aH} (hκ : 100 ≤ (hk_ h x).1) : run d 292 1 [a0] (.ref x :: st) h = run d 292 2 [a0] (.int (nI (hk_ h x).2) :: st) h := (run_act (c292_1)).trans (e_alen hκ)
theorem c292_2 : decode (aCode 292) 2 = .ok (.iconst 1, 1) := (congrArg (fun c => decode c 2) c292).trans dJ9_length_2
theorem e292_2 {d : Nat} {a0 : Value} {st : List Value} {h : aH} : run d 292 2 [a0] st h = run d 292 3 [a0] (.int (nI 1) :: st) h := (run_act (c292_2)).trans rfl
theorem c292_3 : decode (aCode 292) 3 = .ok (.ishr, 1) := (congrArg (fun c => decode c 3) c292).trans dJ9_length_3
theorem e292_3 {d : Nat} {a0 : Value} {x y : Int32} {st : List Value} {h : aH} : run d 292 3 [a0] (.int y :: .int x :: st) h = run d 292 4 [a0] (.int (shr_ x y) :: st) h := (run_act (c292_3)).trans rfl
theorem c292_4 : decode (aCode 292) 4 = .ok (.ireturn, 1) := (congrArg (fun c => decode c 4) c292).trans dJ9_length_4
theorem e292_4 {d : Nat} {a0 : Value} {x : Int32} {h : aH} : run d 292 4 [a0] [.int x] h = some (.returned (some (.int x)), h) := (run_act (c292_4)).trans rfl
/-! java/lang/StringUTF16.getChar: 293 -/
theorem c293 : aCode 293 = cJ9_getChar := rfl
theorem c293_0 : decode (aCode 293) 0 = .ok (.getstatic 44, 3) := (congrArg (fun c => decode c 0) c293).trans dJ9_getChar_0
theorem e293_0 {d : Nat} {a0 a1 : Value} {st : List Value} {h : aH} : run d 293 0 [a0, a1] st h = run d 293 3 [a0, a1] (.int (nI 1) :: st) h := (run_act (c293_0)).trans rfl
theorem c293_3 : decode (aCode 293) 3 = .ok (.ifCond .ne 25, 3) := (congrArg (fun c => decode c 3) c293).trans dJ9_getChar_3
theorem e293_3 {d : Nat} {a0 a1 : Value} {x : Int32} {st : List Value} {h : aH} : run d 293 3 [a0, a1] (.int x :: st) h = if x = 0 then run d 293 6 [a0, a1] st h else run d 293 28 [a0, a1] st h := (run_act (c293_3)).trans (e_ifCond_ne rfl)
theorem c293_6 : decode (aCode 293) 6 = .ok (.iload_n 1, 1) := (congrArg (fun c => decode c 6) c293).trans dJ9_getChar_6
theorem e293_6 {d : Nat} {a0 : Value} {x : Int32} {st : List Value} {h : aH} : run d 293 6 [a0, .int x] st h = run d 293 7 [a0, .int x] (.int x :: st) h := (run_act (c293_6)).trans rfl
theorem c293_7 : decode (aCode 293) 7 = .ok (.ifCond .lt 11, 3) := (congrArg (fun c => decode c 7) c293).trans dJ9_getChar_7
theorem e293_7 {d : Nat} {a0 a1 : Value} {x : Int32} {st : List Value} {h : aH} : run d 293 7 [a0, a1] (.int x :: st) h = if x < 0 then run d 293 18 [a0, a1] st h else run d 293 10 [a0, a1] st h := (run_act (c293_7)).trans (e_ifCond_lt rfl)
theorem c293_10 : decode (aCode 293) 10 = .ok (.iload_n 1, 1) := (congrArg (fun c => decode c 10) c293).trans dJ9_getChar_10
theorem e293_10 {d : Nat} {a0 : Value} {x : Int32} {st : List Value} {h : aH} : run d 293 10 [a0, .int x] st h = run d 293 11 [a0, .int x] (.int x :: st) h := (run_act (c293_10)).trans rfl
theorem c293_11 : decode (aCode 293) 11 = .ok (.aload_n 0, 1) := (congrArg (fun c => decode c 11) c293).trans dJ9_getChar_11
theorem e293_11 {d : Nat} {a1 : Value} {x : Nat} {st : List Value} {h : aH} : run d 293 11 [.ref x, a1] st h = run d 293 12 [.ref x, a1] (.ref x :: st) h := (run_act (c293_11)).trans rfl
theorem c293_12 : decode (aCode 293) 12 = .ok (.invokestatic 48, 3) := (congrArg (fun c => decode c 12) c293).trans dJ9_getChar_12
theorem e293_12 {d : Nat} {a0 a1 : Value} {x0 : Nat} {r0 : Int32} {h : aH} : run (d + 1) 293 12 [a0, a1] [.ref x0, .int r0] h = aBk (d + 1) 293 12 [a0, a1] [.int r0] false (run d 292 0 [.ref x0] [] h) := (run_act (c293_12)).trans (e_stat (m := 1) (ν := 292) (as := [.ref x0]) (rest := [.int r0]) (md := 0) (κ := 0) rfl rfl rfl rfl rfl)
theorem c293_15 : decode (aCode 293) 15 = .ok (.if_icmp .lt 13, 3) := (congrArg (fun c => decode c 15) c293).trans dJ9_getChar_15
theorem e293_15 {d : Nat} {a0 a1 : Value} {x y : Int32} {st : List Value} {h : aH} : run d 293 15 [a0, a1] (.int y :: .int x :: st) h = if x < y then run d 293 28 [a0, a1] st h else run d 293 18 [a0, a1] st h := (run_act (c293_15)).trans (e_if_icmp_lt rfl)
theorem c293_18 : decode (aCode 293) 18 = .ok (.new 52, 3) := (congrArg (fun c => decode c 18) c293).trans dJ9_getChar_18
theorem c293_21 : decode (aCode 293) 21 = .ok (.dup, 1) := (congrArg (fun c => decode c 21) c293).trans dJ9_getChar_21
theorem e293_21 {d : Nat} {a0 a1 : Value} {x : Nat} {st : List Value} {h : aH} : run d 293 21 [a0, a1] (.ref x :: st) h = run d 293 22 [a0, a1] (.ref x :: .ref x :: st) h := (run_act (c293_21)).trans rfl
theorem c293_22 : decode (aCode 293) 22 = .ok (.ldc 54, 2) := (congrArg (fun c => decode c 22) c293).trans dJ9_getChar_22
theorem c293_24 : decode (aCode 293) 24 = .ok (.invokespecial 56, 3) := (congrArg (fun c => decode c 24) c293).trans dJ9_getChar_24
theorem c293_28 : decode (aCode 293) 28 = .ok (.iload_n 1, 1) := (congrArg (fun c => decode c 28) c293).trans dJ9_getChar_28
theorem e293_28 {d : Nat} {a0 : Value} {x : Int32} {st : List Value} {h : aH} : run d 293 28 [a0, .int x] st h = run d 293 29 [a0, .int x] (.int x :: st) h := (run_act (c293_28)).trans rfl
theorem c293_29 : decode (aCode 293) 29 = .ok (.iconst 1, 1) := (congrArg (fun c => decode c 29) c293).trans dJ9_getChar_29
theorem e293_29 {d : Nat} {a0 a1 : Value} {st : List Value} {h : aH} : run d 293 29 [a0, a1] st h = run d 293 30 [a0, a1] (.int (nI 1) :: st) h := (run_act (c293_29)).trans rfl
theorem c293_30 : decode (aCode 293) 30 = .ok (.ishl, 1) := (congrArg (fun c => decode c 30) c293).trans dJ9_getChar_30
theorem e293_30 {d : Nat} {a0 a1 : Value} {x y : Int32} {st : List Value} {h : aH} : run d 293 30 [a0, a1] (.int y :: .int x :: st) h = run d 293 31 [a0, a1] (.int (shl_ x y) :: st) h := (run_act (c293_30)).trans rfl
theorem c293_31 : decode (aCode 293) 31 = .ok (.istore_n 1, 1) := (congrArg (fun c => decode c 31) c293).trans dJ9_getChar_31
theorem e293_31 {d : Nat} {a0 a1 : Value} {x : Int32} {st : List Value} {h : aH} : run d 293 31 [a0, a1] (.int x :: st) h = run d 293 32 [a0, .int x] st h := (run_act (c293_31)).trans rfl
theorem c293_32 : decode (aCode 293) 32 = .ok (.aload_n 0, 1) := (congrArg (fun c => decode c 32) c293).trans dJ9_getChar_32
theorem e293_32 {d : Nat} {a1 : Value} {x : Nat} {st : List Value} {h : aH} : run d 293 32 [.ref x, a1] st h = run d 293 33 [.ref x, a1] (.ref x :: st) h := (run_act (c293_32)).trans rfl
theorem c293_33 : decode (aCode 293) 33 = .ok (.iload_n 1, 1) := (congrArg (fun c => decode c 33) c293).trans dJ9_getChar_33
theorem e293_33 {d : Nat} {a0 : Value} {x : Int32} {st : List Value} {h : aH} : run d 293 33 [a0, .int x] st h = run d 293 34 [a0, .int x] (.int x :: st) h := (run_act (c293_33)).trans rfl
theorem c293_34 : decode (aCode 293) 34 = .ok (.iinc 1 1, 3) := (congrArg (fun c => decode c 34) c293).trans dJ9_getChar_34
theorem e293_34 {d : Nat} {a0 : Value} {x : Int32} {st : List Value} {h : aH} : run d 293 34 [a0, .int x] st h = run d 293 37 [a0, .int (x + (nI 1))] st h := (run_act (c293_34)).trans rfl
theorem c293_37 : decode (aCode 293) 37 = .ok (.baload, 1) := (congrArg (fun c => decode c 37) c293).trans dJ9_getChar_37
theorem e293_37 {d : Nat} {a0 a1 : Value} {x n : Nat} {st : List Value} {h : aH} (hκ : (hk_ h x).1 = 101 ∨ (hk_ h x).1 = 103) (hn : n < (hk_ h x).2) (hb : (hk_ h x).2 ≤ 2147483647) : run d 293 37 [a0, a1] (.int (nI n) :: .ref x :: st) h = run d 293 38 [a0, a1] (.int (hi_ h x n) :: st) h := (run_act (c293_37)).trans (e_bald_n hκ hn hb)
theorem c293_38 : decode (aCode 293) 38 = .ok (.sipush 255, 3) := (congrArg (fun c => decode c 38) c293).trans dJ9_getChar_38
theorem e293_38 {d : Nat} {a0 a1 : Value} {st : List Value} {h : aH} : run d 293 38 [a0, a1] st h = run d 293 41 [a0, a1] (.int (nI 255) :: st) h := (run_act (c293_38)).trans rfl
theorem c293_41 : decode (aCode 293) 41 = .ok (.iand, 1) := (congrArg (fun c => decode c 41) c293).trans dJ9_getChar_41
theorem e293_41 {d : Nat} {a0 a1 : Value} {x y : Int32} {st : List Value} {h : aH} : run d 293 41 [a0, a1] (.int y :: .int x :: st) h = run d 293 42 [a0, a1] (.int (x &&& y) :: st) h := (run_act (c293_41)).trans rfl
theorem c293_42 : decode (aCode 293) 42 = .ok (.getstatic 59, 3) := (congrArg (fun c => decode c 42) c293).trans dJ9_getChar_42
theorem e293_42 {d : Nat} {a0 a1 : Value} {st : List Value} {h : aH} : run d 293 42 [a0, a1] st h = run d 293 45 [a0, a1] (.int (nI 0) :: st) h := (run_act (c293_42)).trans rfl
theorem c293_45 : decode (aCode 293) 45 = .ok (.ishl, 1) := (congrArg (fun c => decode c 45) c293).trans dJ9_getChar_45
theorem e293_45 {d : Nat} {a0 a1 : Value} {x y : Int32} {st : List Value} {h : aH} : run d 293 45 [a0, a1] (.int y :: .int x :: st) h = run d 293 46 [a0, a1] (.int (shl_ x y) :: st) h := (run_act (c293_45)).trans rfl
theorem c293_46 : decode (aCode 293) 46 = .ok (.aload_n 0, 1) := (congrArg (fun c => decode c 46) c293).trans dJ9_getChar_46
theorem e293_46 {d : Nat} {a1 : Value} {x : Nat} {st : List Value} {h : aH} : run d 293 46 [.ref x, a1] st h = run d 293 47 [.ref x, a1] (.ref x :: st) h := (run_act (c293_46)).trans rfl
theorem c293_47 : decode (aCode 293) 47 = .ok (.iload_n 1, 1) := (congrArg (fun c => decode c 47) c293).trans dJ9_getChar_47
theorem e293_47 {d : Nat} {a0 : Value} {x : Int32} {st : List Value} {h : aH} : run d 293 47 [a0, .int x] st h = run d 293 48 [a0, .int x] (.int x :: st) h := (run_act (c293_47)).trans rfl
theorem c293_48 : decode (aCode 293) 48 = .ok (.baload, 1) := (congrArg (fun c => decode c 48) c293).trans dJ9_getChar_48
theorem e293_48 {d : Nat} {a0 a1 : Value} {x n : Nat} {st : List Value} {h : aH} (hκ : (hk_ h x).1 = 101 ∨ (hk_ h x).1 = 103) (hn : n < (hk_ h x).2) (hb : (hk_ h x).2 ≤ 2147483647) : run d 293 48 [a0, a1] (.int (nI n) :: .ref x :: st) h = run d 293 49 [a0, a1] (.int (hi_ h x n) :: st) h := (run_act (c293_48)).trans (e_bald_n hκ hn hb)
theorem c293_49 : decode (aCode 293) 49 = .ok (.sipush 255, 3) := (congrArg (fun c => decode c 49) c293).trans dJ9_getChar_49
theorem e293_49 {d : Nat} {a0 a1 : Value} {st : List Value} {h : aH} : run d 293 49 [a0, a1] st h = run d 293 52 [a0, a1] (.int (nI 255) :: st) h := (run_act (c293_49)).trans rfl
theorem c293_52 : decode (aCode 293) 52 = .ok (.iand, 1) := (congrArg (fun c => decode c 52) c293).trans dJ9_getChar_52
theorem e293_52 {d : Nat} {a0 a1 : Value} {x y : Int32} {st : List Value} {h : aH} : run d 293 52 [a0, a1] (.int y :: .int x :: st) h = run d 293 53 [a0, a1] (.int (x &&& y) :: st) h := (run_act (c293_52)).trans rfl
theorem c293_53 : decode (aCode 293) 53 = .ok (.getstatic 63, 3) := (congrArg (fun c => decode c 53) c293).trans dJ9_getChar_53
theorem e293_53 {d : Nat} {a0 a1 : Value} {st : List Value} {h : aH} : run d 293 53 [a0, a1] st h = run d 293 56 [a0, a1] (.int (nI 8) :: st) h := (run_act (c293_53)).trans rfl
theorem c293_56 : decode (aCode 293) 56 = .ok (.ishl, 1) := (congrArg (fun c => decode c 56) c293).trans dJ9_getChar_56
theorem e293_56 {d : Nat} {a0 a1 : Value} {x y : Int32} {st : List Value} {h : aH} : run d 293 56 [a0, a1] (.int y :: .int x :: st) h = run d 293 57 [a0, a1] (.int (shl_ x y) :: st) h := (run_act (c293_56)).trans rfl
theorem c293_57 : decode (aCode 293) 57 = .ok (.ior, 1) := (congrArg (fun c => decode c 57) c293).trans dJ9_getChar_57
theorem e293_57 {d : Nat} {a0 a1 : Value} {x y : Int32} {st : List Value} {h : aH} : run d 293 57 [a0, a1] (.int y :: .int x :: st) h = run d 293 58 [a0, a1] (.int (x ||| y) :: st) h := (run_act (c293_57)).trans rfl
theorem c293_58 : decode (aCode 293) 58 = .ok (.i2c, 1) := (congrArg (fun c => decode c 58) c293).trans dJ9_getChar_58
theorem e293_58 {d : Nat} {a0 a1 : Value} {x : Int32} {st : List Value} {h : aH} : run d 293 58 [a0, a1] (.int x :: st) h = run d 293 59 [a0, a1] (.int ((x.toUInt32 % 65536).toInt32) :: st) h := (run_act (c293_58)).trans rfl
theorem c293_59 : decode (aCode 293) 59 = .ok (.ireturn, 1) := (congrArg (fun c => decode c 59) c293).trans dJ9_getChar_59
theorem e293_59 {d : Nat} {a0 a1 : Value} {x : Int32} {h : aH} (hx : (x.toUInt32 % 65536).toInt32 = x) : run d 293 59 [a0, a1] [.int x] h = some (.returned (some (.int x)), h) := (run_act (c293_59)).trans (e_cret rfl hx)
/-! java/lang/StringUTF16.newBytesFor: 294 -/
theorem c294 : aCode 294 = cJ9_newBytesFor := rfl
theorem c294_0 : decode (aCode 294) 0 = .ok (.iload_n 0, 1) := (congrArg (fun c => decode c 0) c294).trans dJ9_newBytesFor_0
theorem e294_0 {d : Nat} {x : Int32} {st : List Value} {h : aH} : run d 294 0 [.int x] st h = run d 294 1 [.int x] (.int x :: st) h := (run_act (c294_0)).trans rfl
theorem c294_1 : decode (aCode 294) 1 = .ok (.invokestatic 11, 3) := (congrArg (fun c => decode c 1) c294).trans dJ9_newBytesFor_1
theorem e294_1 {d : Nat} {a0 : Value} {x0 : Int32} {h : aH} : run (d + 1) 294 1 [a0] [.int x0] h = aBk (d + 1) 294 1 [a0] [] false (run d 295 0 [.int x0] [] h) := (run_act (c294_1)).trans (e_stat (m := 1) (ν := 295) (as := [.int x0]) (rest := []) (md := 0) (κ := 0) rfl rfl rfl rfl rfl)
theorem c294_4 : decode (aCode 294) 4 = .ok (.newarray .byte, 2) := (congrArg (fun c => decode c 4) c294).trans dJ9_newBytesFor_4
theorem e294_4 {d : Nat} {a0 : Value} {m : Nat} {st : List Value} {h : aH} (hm : m ≤ 1000000) : run d 294 4 [a0] (.int (nI m) :: st) h = run d 294 6 [a0] (.ref (hz_ h) :: st) (nw_ h 101 m m) := (run_act (c294_4)).trans (e_newa_n rfl hm)
theorem c294_6 : decode (aCode 294) 6 = .ok (.areturn, 1) := (congrArg (fun c => decode c 6) c294).trans dJ9_newBytesFor_6
theorem e294_6 {d : Nat} {a0 : Value} {x : Nat} {h : aH} : run d 294 6 [a0] [.ref x] h = some (.returned (some (.ref x)), h) := (run_act (c294_6)).trans rfl
/-! java/lang/StringUTF16.newBytesLength: 295 -/
theorem c295 : aCode 295 = cJ9_newBytesLength := rfl
theorem c295_0 : decode (aCode 295) 0 = .ok (.iload_n 0, 1) := (congrArg (fun c => decode c 0) c295).trans dJ9_newBytesLength_0
theorem e295_0 {d : Nat} {x : Int32} {st : List Value} {h : aH} : run d 295 0 [.int x] st h = run d 295 1 [.int x] (.int x :: st) h := (run_act (c295_0)).trans rfl
theorem c295_1 : decode (aCode 295) 1 = .ok (.ifCond .ge 11, 3) := (congrArg (fun c => decode c 1) c295).trans dJ9_newBytesLength_1
theorem e295_1 {d : Nat} {a0 : Value} {x : Int32} {st : List Value} {h : aH} : run d 295 1 [a0] (.int x :: st) h = if 0 ≤ x then run d 295 12 [a0] st h else run d 295 4 [a0] st h := (run_act (c295_1)).trans (e_ifCond_ge rfl)
theorem c295_4 : decode (aCode 295) 4 = .ok (.new 17, 3) := (congrArg (fun c => decode c 4) c295).trans dJ9_newBytesLength_4
theorem c295_7 : decode (aCode 295) 7 = .ok (.dup, 1) := (congrArg (fun c => decode c 7) c295).trans dJ9_newBytesLength_7
theorem e295_7 {d : Nat} {a0 : Value} {x : Nat} {st : List Value} {h : aH} : run d 295 7 [a0] (.ref x :: st) h = run d 295 8 [a0] (.ref x :: .ref x :: st) h := (run_act (c295_7)).trans rfl
theorem c295_8 : decode (aCode 295) 8 = .ok (.invokespecial 19, 3) := (congrArg (fun c => decode c 8) c295).trans dJ9_newBytesLength_8
theorem c295_12 : decode (aCode 295) 12 = .ok (.iload_n 0, 1) := (congrArg (fun c => decode c 12) c295).trans dJ9_newBytesLength_12
theorem e295_12 {d : Nat} {x : Int32} {st : List Value} {h : aH} : run d 295 12 [.int x] st h = run d 295 13 [.int x] (.int x :: st) h := (run_act (c295_12)).trans rfl
theorem c295_13 : decode (aCode 295) 13 = .ok (.ldc 20, 2) := (congrArg (fun c => decode c 13) c295).trans dJ9_newBytesLength_13
theorem e295_13 {d : Nat} {a0 : Value} {st : List Value} {h : aH} : run d 295 13 [a0] st h = run d 295 15 [a0] (.int (nI 1073741823) :: st) h := (run_act (c295_13)).trans rfl
theorem c295_15 : decode (aCode 295) 15 = .ok (.if_icmp .lt 40, 3) := (congrArg (fun c => decode c 15) c295).trans dJ9_newBytesLength_15
theorem e295_15 {d : Nat} {a0 : Value} {x y : Int32} {st : List Value} {h : aH} : run d 295 15 [a0] (.int y :: .int x :: st) h = if x < y then run d 295 55 [a0] st h else run d 295 18 [a0] st h := (run_act (c295_15)).trans (e_if_icmp_lt rfl)
theorem c295_18 : decode (aCode 295) 18 = .ok (.new 21, 3) := (congrArg (fun c => decode c 18) c295).trans dJ9_newBytesLength_18
theorem c295_21 : decode (aCode 295) 21 = .ok (.dup, 1) := (congrArg (fun c => decode c 21) c295).trans dJ9_newBytesLength_21
theorem e295_21 {d : Nat} {a0 : Value} {x : Nat} {st : List Value} {h : aH} : run d 295 21 [a0] (.ref x :: st) h = run d 295 22 [a0] (.ref x :: .ref x :: st) h := (run_act (c295_21)).trans rfl
theorem c295_22 : decode (aCode 295) 22 = .ok (.new 23, 3) := (congrArg (fun c => decode c 22) c295).trans dJ9_newBytesLength_22
theorem c295_25 : decode (aCode 295) 25 = .ok (.dup, 1) := (congrArg (fun c => decode c 25) c295).trans dJ9_newBytesLength_25
theorem e295_25 {d : Nat} {a0 : Value} {x : Nat} {st : List Value} {h : aH} : run d 295 25 [a0] (.ref x :: st) h = run d 295 26 [a0] (.ref x :: .ref x :: st) h := (run_act (c295_25)).trans rfl
theorem c295_26 : decode (aCode 295) 26 = .ok (.invokespecial 25, 3) := (congrArg (fun c => decode c 26) c295).trans dJ9_newBytesLength_26
theorem c295_55 : decode (aCode 295) 55 = .ok (.iload_n 0, 1) := (congrArg (fun c => decode c 55) c295).trans dJ9_newBytesLength_55
theorem e295_55 {d : Nat} {x : Int32} {st : List Value} {h : aH} : run d 295 55 [.int x] st h = run d 295 56 [.int x] (.int x :: st) h := (run_act (c295_55)).trans rfl
theorem c295_56 : decode (aCode 295) 56 = .ok (.iconst 1, 1) := (congrArg (fun c => decode c 56) c295).trans dJ9_newBytesLength_56
theorem e295_56 {d : Nat} {a0 : Value} {st : List Value} {h : aH} : run d 295 56 [a0] st h = run d 295 57 [a0] (.int (nI 1) :: st) h := (run_act (c295_56)).trans rfl
theorem c295_57 : decode (aCode 295) 57 = .ok (.ishl, 1) := (congrArg (fun c => decode c 57) c295).trans dJ9_newBytesLength_57
theorem e295_57 {d : Nat} {a0 : Value} {x y : Int32} {st : List Value} {h : aH} : run d 295 57 [a0] (.int y :: .int x :: st) h = run d 295 58 [a0] (.int (shl_ x y) :: st) h := (run_act (c295_57)).trans rfl
theorem c295_58 : decode (aCode 295) 58 = .ok (.ireturn, 1) := (congrArg (fun c => decode c 58) c295).trans dJ9_newBytesLength_58
theorem e295_58 {d : Nat} {a0 : Value} {x : Int32} {h : aH} : run d 295 58 [a0] [.int x] h = some (.returned (some (.int x)), h) := (run_act (c295_58)).trans rfl
/-! java/lang/StringUTF16.inflate: 296 -/
theorem c296 : aCode 296 = cJ9_inflate := rfl
theorem c296_0 : decode (aCode 296) 0 = .ok (.iload_n 3, 1) := (congrArg (fun c => decode c 0) c296).trans dJ9_inflate_0
theorem e296_0 {d : Nat} {a0 a1 a2 a4 a5 : Value} {x : Int32} {st : List Value} {h : aH} : run d 296 0 [a0, a1, a2, .int x, a4, a5] st h = run d 296 1 [a0, a1, a2, .int x, a4, a5] (.int x :: st) h := (run_act (c296_0)).trans rfl
theorem c296_1 : decode (aCode 296) 1 = .ok (.iload 4, 2) := (congrArg (fun c => decode c 1) c296).trans dJ9_inflate_1
theorem e296_1 {d : Nat} {a0 a1 a2 a3 a5 : Value} {x : Int32} {st : List Value} {h : aH} : run d 296 1 [a0, a1, a2, a3, .int x, a5] st h = run d 296 3 [a0, a1, a2, a3, .int x, a5] (.int x :: st) h := (run_act (c296_1)).trans rfl
theorem c296_3 : decode (aCode 296) 3 = .ok (.aload_n 2, 1) := (congrArg (fun c => decode c 3) c296).trans dJ9_inflate_3
theorem e296_3 {d : Nat} {a0 a1 a3 a4 a5 : Value} {x : Nat} {st : List Value} {h : aH} : run d 296 3 [a0, a1, .ref x, a3, a4, a5] st h = run d 296 4 [a0, a1, .ref x, a3, a4, a5] (.ref x :: st) h := (run_act (c296_3)).trans rfl
theorem c296_4 : decode (aCode 296) 4 = .ok (.invokestatic 173, 3) := (congrArg (fun c => decode c 4) c296).trans dJ9_inflate_4
theorem e296_4 {d : Nat} {a0 a1 a2 a3 a4 a5 : Value} {x0 : Int32} {x1 : Int32} {x2 : Nat} {h : aH} : run (d + 1) 296 4 [a0, a1, a2, a3, a4, a5] [.ref x2, .int x1, .int x0] h = aBk (d + 1) 296 4 [a0, a1, a2, a3, a4, a5] [] false (run d 297 0 [.int x0, .int x1, .ref x2] [] h) := (run_act (c296_4)).trans (e_stat (m := 3) (ν := 297) (as := [.int x0, .int x1, .ref x2]) (rest := []) (md := 0) (κ := 0) rfl rfl rfl rfl rfl)
theorem c296_7 : decode (aCode 296) 7 = .ok (.iconst 0, 1) := (congrArg (fun c => decode c 7) c296).trans dJ9_inflate_7
theorem e296_7 {d : Nat} {a0 a1 a2 a3 a4 a5 : Value} {st : List Value} {h : aH} : run d 296 7 [a0, a1, a2, a3, a4, a5] st h = run d 296 8 [a0, a1, a2, a3, a4, a5] (.int (nI 0) :: st) h := (run_act (c296_7)).trans rfl
theorem c296_8 : decode (aCode 296) 8 = .ok (.istore 5, 2) := (congrArg (fun c => decode c 8) c296).trans dJ9_inflate_8
theorem e296_8 {d : Nat} {a0 a1 a2 a3 a4 a5 : Value} {x : Int32} {st : List Value} {h : aH} : run d 296 8 [a0, a1, a2, a3, a4, a5] (.int x :: st) h = run d 296 10 [a0, a1, a2, a3, a4, .int x] st h := (run_act (c296_8)).trans rfl
theorem c296_10 : decode (aCode 296) 10 = .ok (.iload 5, 2) := (congrArg (fun c => decode c 10) c296).trans dJ9_inflate_10
theorem e296_10 {d : Nat} {a0 a1 a2 a3 a4 : Value} {x : Int32} {st : List Value} {h : aH} : run d 296 10 [a0, a1, a2, a3, a4, .int x] st h = run d 296 12 [a0, a1, a2, a3, a4, .int x] (.int x :: st) h := (run_act (c296_10)).trans rfl
theorem c296_12 : decode (aCode 296) 12 = .ok (.iload 4, 2) := (congrArg (fun c => decode c 12) c296).trans dJ9_inflate_12
theorem e296_12 {d : Nat} {a0 a1 a2 a3 a5 : Value} {x : Int32} {st : List Value} {h : aH} : run d 296 12 [a0, a1, a2, a3, .int x, a5] st h = run d 296 14 [a0, a1, a2, a3, .int x, a5] (.int x :: st) h := (run_act (c296_12)).trans rfl
theorem c296_14 : decode (aCode 296) 14 = .ok (.if_icmp .ge 27, 3) := (congrArg (fun c => decode c 14) c296).trans dJ9_inflate_14
theorem e296_14 {d : Nat} {a0 a1 a2 a3 a4 a5 : Value} {x y : Int32} {st : List Value} {h : aH} : run d 296 14 [a0, a1, a2, a3, a4, a5] (.int y :: .int x :: st) h = if y ≤ x then run d 296 41 [a0, a1, a2, a3, a4, a5] st h else run d 296 17 [a0, a1, a2, a3, a4, a5] st h := (run_act (c296_14)).trans (e_if_icmp_ge rfl)
theorem c296_17 : decode (aCode 296) 17 = .ok (.aload_n 2, 1) := (congrArg (fun c => decode c 17) c296).trans dJ9_inflate_17
theorem e296_17 {d : Nat} {a0 a1 a3 a4 a5 : Value} {x : Nat} {st : List Value} {h : aH} : run d 296 17 [a0, a1, .ref x, a3, a4, a5] st h = run d 296 18 [a0, a1, .ref x, a3, a4, a5] (.ref x :: st) h := (run_act (c296_17)).trans rfl
theorem c296_18 : decode (aCode 296) 18 = .ok (.iload_n 3, 1) := (congrArg (fun c => decode c 18) c296).trans dJ9_inflate_18
theorem e296_18 {d : Nat} {a0 a1 a2 a4 a5 : Value} {x : Int32} {st : List Value} {h : aH} : run d 296 18 [a0, a1, a2, .int x, a4, a5] st h = run d 296 19 [a0, a1, a2, .int x, a4, a5] (.int x :: st) h := (run_act (c296_18)).trans rfl
theorem c296_19 : decode (aCode 296) 19 = .ok (.iinc 3 1, 3) := (congrArg (fun c => decode c 19) c296).trans dJ9_inflate_19
theorem e296_19 {d : Nat} {a0 a1 a2 a4 a5 : Value} {x : Int32} {st : List Value} {h : aH} : run d 296 19 [a0, a1, a2, .int x, a4, a5] st h = run d 296 22 [a0, a1, a2, .int (x + (nI 1)), a4, a5] st h := (run_act (c296_19)).trans rfl
theorem c296_22 : decode (aCode 296) 22 = .ok (.aload_n 0, 1) := (congrArg (fun c => decode c 22) c296).trans dJ9_inflate_22
theorem e296_22 {d : Nat} {a1 a2 a3 a4 a5 : Value} {x : Nat} {st : List Value} {h : aH} : run d 296 22 [.ref x, a1, a2, a3, a4, a5] st h = run d 296 23 [.ref x, a1, a2, a3, a4, a5] (.ref x :: st) h := (run_act (c296_22)).trans rfl
theorem c296_23 : decode (aCode 296) 23 = .ok (.iload_n 1, 1) := (congrArg (fun c => decode c 23) c296).trans dJ9_inflate_23
theorem e296_23 {d : Nat} {a0 a2 a3 a4 a5 : Value} {x : Int32} {st : List Value} {h : aH} : run d 296 23 [a0, .int x, a2, a3, a4, a5] st h = run d 296 24 [a0, .int x, a2, a3, a4, a5] (.int x :: st) h := (run_act (c296_23)).trans rfl
theorem c296_24 : decode (aCode 296) 24 = .ok (.iinc 1 1, 3) := (congrArg (fun c => decode c 24) c296).trans dJ9_inflate_24
theorem e296_24 {d : Nat} {a0 a2 a3 a4 a5 : Value} {x : Int32} {st : List Value} {h : aH} : run d 296 24 [a0, .int x, a2, a3, a4, a5] st h = run d 296 27 [a0, .int (x + (nI 1)), a2, a3, a4, a5] st h := (run_act (c296_24)).trans rfl
theorem c296_27 : decode (aCode 296) 27 = .ok (.baload, 1) := (congrArg (fun c => decode c 27) c296).trans dJ9_inflate_27
theorem e296_27 {d : Nat} {a0 a1 a2 a3 a4 a5 : Value} {x n : Nat} {st : List Value} {h : aH} (hκ : (hk_ h x).1 = 101 ∨ (hk_ h x).1 = 103) (hn : n < (hk_ h x).2) (hb : (hk_ h x).2 ≤ 2147483647) : run d 296 27 [a0, a1, a2, a3, a4, a5] (.int (nI n) :: .ref x :: st) h = run d 296 28 [a0, a1, a2, a3, a4, a5] (.int (hi_ h x n) :: st) h := (run_act (c296_27)).trans (e_bald_n hκ hn hb)
theorem c296_28 : decode (aCode 296) 28 = .ok (.sipush 255, 3) := (congrArg (fun c => decode c 28) c296).trans dJ9_inflate_28
theorem e296_28 {d : Nat} {a0 a1 a2 a3 a4 a5 : Value} {st : List Value} {h : aH} : run d 296 28 [a0, a1, a2, a3, a4, a5] st h = run d 296 31 [a0, a1, a2, a3, a4, a5] (.int (nI 255) :: st) h := (run_act (c296_28)).trans rfl
theorem c296_31 : decode (aCode 296) 31 = .ok (.iand, 1) := (congrArg (fun c => decode c 31) c296).trans dJ9_inflate_31
theorem e296_31 {d : Nat} {a0 a1 a2 a3 a4 a5 : Value} {x y : Int32} {st : List Value} {h : aH} : run d 296 31 [a0, a1, a2, a3, a4, a5] (.int y :: .int x :: st) h = run d 296 32 [a0, a1, a2, a3, a4, a5] (.int (x &&& y) :: st) h := (run_act (c296_31)).trans rfl
theorem c296_32 : decode (aCode 296) 32 = .ok (.invokestatic 111, 3) := (congrArg (fun c => decode c 32) c296).trans dJ9_inflate_32
theorem e296_32 {d : Nat} {a0 a1 a2 a3 a4 a5 : Value} {x0 : Nat} {x1 : Int32} {x2 : Int32} {h : aH} : run (d + 1) 296 32 [a0, a1, a2, a3, a4, a5] [.int x2, .int x1, .ref x0] h = aBk (d + 1) 296 32 [a0, a1, a2, a3, a4, a5] [] false (run d 298 0 [.ref x0, .int x1, .int x2] [] h) := (run_act (c296_32)).trans (e_stat (m := 3) (ν := 298) (as := [.ref x0, .int x1, .int x2]) (rest := []) (md := 0) (κ := 0) rfl rfl rfl rfl rfl)
theorem c296_35 : decode (aCode 296) 35 = .ok (.iinc 5 1, 3) := (congrArg (fun c => decode c 35) c296).trans dJ9_inflate_35
theorem e296_35 {d : Nat} {a0 a1 a2 a3 a4 : Value} {x : Int32} {st : List Value} {h : aH} : run d 296 35 [a0, a1, a2, a3, a4, .int x] st h = run d 296 38 [a0, a1, a2, a3, a4, .int (x + (nI 1))] st h := (run_act (c296_35)).trans rfl
theorem c296_38 : decode (aCode 296) 38 = .ok (.goto (-28), 3) := (congrArg (fun c => decode c 38) c296).trans dJ9_inflate_38
theorem e296_38 {d : Nat} {a0 a1 a2 a3 a4 a5 : Value} {st : List Value} {h : aH} : run d 296 38 [a0, a1, a2, a3, a4, a5] st h = run d 296 10 [a0, a1, a2, a3, a4, a5] st h := (run_act (c296_38)).trans rfl
theorem c296_41 : decode (aCode 296) 41 = .ok (.return_, 1) := (congrArg (fun c => decode c 41) c296).trans dJ9_inflate_41
theorem e296_41 {d : Nat} {a0 a1 a2 a3 a4 a5 : Value} {h : aH} : run d 296 41 [a0, a1, a2, a3, a4, a5] [] h = some (.returned none, h) := (run_act (c296_41)).trans rfl
/-! java/lang/StringUTF16.checkBoundsOffCount: 297 -/
theorem c297 : aCode 297 = cJ9_checkBoundsOffCount := rfl
theorem c297_0 : decode (aCode 297) 0 = .ok (.iload_n 0, 1) := (congrArg (fun c => decode c 0) c297).trans dJ9_checkBoundsOffCount_0
theorem e297_0 {d : Nat} {a1 a2 : Value} {x : Int32} {st : List Value} {h : aH} : run d 297 0 [.int x, a1, a2] st h = run d 297 1 [.int x, a1, a2] (.int x :: st) h := (run_act (c297_0)).trans rfl
theorem c297_1 : decode (aCode 297) 1 = .ok (.iload_n 1, 1) := (congrArg (fun c => decode c 1) c297).trans dJ9_checkBoundsOffCount_1
theorem e297_1 {d : Nat} {a0 a2 : Value} {x : Int32} {st : List Value} {h : aH} : run d 297 1 [a0, .int x, a2] st h = run d 297 2 [a0, .int x, a2] (.int x :: st) h := (run_act (c297_1)).trans rfl
theorem c297_2 : decode (aCode 297) 2 = .ok (.aload_n 2, 1) := (congrArg (fun c => decode c 2) c297).trans dJ9_checkBoundsOffCount_2
theorem e297_2 {d : Nat} {a0 a1 : Value} {x : Nat} {st : List Value} {h : aH} : run d 297 2 [a0, a1, .ref x] st h = run d 297 3 [a0, a1, .ref x] (.ref x :: st) h := (run_act (c297_2)).trans rfl
theorem c297_3 : decode (aCode 297) 3 = .ok (.invokestatic 48, 3) := (congrArg (fun c => decode c 3) c297).trans dJ9_checkBoundsOffCount_3
theorem e297_3 {d : Nat} {a0 a1 a2 : Value} {x0 : Nat} {r0 : Int32} {r1 : Int32} {h : aH} : run (d + 1) 297 3 [a0, a1, a2] [.ref x0, .int r0, .int r1] h = aBk (d + 1) 297 3 [a0, a1, a2] [.int r0, .int r1] false (run d 292 0 [.ref x0] [] h) := (run_act (c297_3)).trans (e_stat (m := 1) (ν := 292) (as := [.ref x0]) (rest := [.int r0, .int r1]) (md := 0) (κ := 0) rfl rfl rfl rfl rfl)
theorem c297_6 : decode (aCode 297) 6 = .ok (.invokestatic 419, 3) := (congrArg (fun c => decode c 6) c297).trans dJ9_checkBoundsOffCount_6
theorem e297_6 {d : Nat} {a0 a1 a2 : Value} {x0 : Int32} {x1 : Int32} {x2 : Int32} {h : aH} : run (d + 1) 297 6 [a0, a1, a2] [.int x2, .int x1, .int x0] h = aBk (d + 1) 297 6 [a0, a1, a2] [] false (run d 280 0 [.int x0, .int x1, .int x2] [] h) := (run_act (c297_6)).trans (e_stat (m := 3) (ν := 280) (as := [.int x0, .int x1, .int x2]) (rest := []) (md := 0) (κ := 0) rfl rfl rfl rfl rfl)
theorem c297_9 : decode (aCode 297) 9 = .ok (.pop, 1) := (congrArg (fun c => decode c 9) c297).trans dJ9_checkBoundsOffCount_9
theorem e297_9 {d : Nat} {a0 a1 a2 : Value} {x : Int32} {st : List Value} {h : aH} : run d 297 9 [a0, a1, a2] (.int x :: st) h = run d 297 10 [a0, a1, a2] st h := (run_act (c297_9)).trans rfl
theorem c297_10 : decode (aCode 297) 10 = .ok (.return_, 1) := (congrArg (fun c => decode c 10) c297).trans dJ9_checkBoundsOffCount_10
theorem e297_10 {d : Nat} {a0 a1 a2 : Value} {h : aH} : run d 297 10 [a0, a1, a2] [] h = some (.returned none, h) := (run_act (c297_10)).trans rfl
/-! java/lang/StringUTF16.putChar: 298 -/
theorem c298 : aCode 298 = cJ9_putChar := rfl
theorem c298_0 : decode (aCode 298) 0 = .ok (.getstatic 44, 3) := (congrArg (fun c => decode c 0) c298).trans dJ9_putChar_0
theorem e298_0 {d : Nat} {a0 a1 a2 : Value} {st : List Value} {h : aH} : run d 298 0 [a0, a1, a2] st h = run d 298 3 [a0, a1, a2] (.int (nI 1) :: st) h := (run_act (c298_0)).trans rfl
theorem c298_3 : decode (aCode 298) 3 = .ok (.ifCond .ne 25, 3) := (congrArg (fun c => decode c 3) c298).trans dJ9_putChar_3
theorem e298_3 {d : Nat} {a0 a1 a2 : Value} {x : Int32} {st : List Value} {h : aH} : run d 298 3 [a0, a1, a2] (.int x :: st) h = if x = 0 then run d 298 6 [a0, a1, a2] st h else run d 298 28 [a0, a1, a2] st h := (run_act (c298_3)).trans (e_ifCond_ne rfl)
theorem c298_6 : decode (aCode 298) 6 = .ok (.iload_n 1, 1) := (congrArg (fun c => decode c 6) c298).trans dJ9_putChar_6
theorem e298_6 {d : Nat} {a0 a2 : Value} {x : Int32} {st : List Value} {h : aH} : run d 298 6 [a0, .int x, a2] st h = run d 298 7 [a0, .int x, a2] (.int x :: st) h := (run_act (c298_6)).trans rfl
theorem c298_7 : decode (aCode 298) 7 = .ok (.ifCond .lt 11, 3) := (congrArg (fun c => decode c 7) c298).trans dJ9_putChar_7
theorem e298_7 {d : Nat} {a0 a1 a2 : Value} {x : Int32} {st : List Value} {h : aH} : run d 298 7 [a0, a1, a2] (.int x :: st) h = if x < 0 then run d 298 18 [a0, a1, a2] st h else run d 298 10 [a0, a1, a2] st h := (run_act (c298_7)).trans (e_ifCond_lt rfl)
theorem c298_10 : decode (aCode 298) 10 = .ok (.iload_n 1, 1) := (congrArg (fun c => decode c 10) c298).trans dJ9_putChar_10
theorem e298_10 {d : Nat} {a0 a2 : Value} {x : Int32} {st : List Value} {h : aH} : run d 298 10 [a0, .int x, a2] st h = run d 298 11 [a0, .int x, a2] (.int x :: st) h := (run_act (c298_10)).trans rfl
theorem c298_11 : decode (aCode 298) 11 = .ok (.aload_n 0, 1) := (congrArg (fun c => decode c 11) c298).trans dJ9_putChar_11
theorem e298_11 {d : Nat} {a1 a2 : Value} {x : Nat} {st : List Value} {h : aH} : run d 298 11 [.ref x, a1, a2] st h = run d 298 12 [.ref x, a1, a2] (.ref x :: st) h := (run_act (c298_11)).trans rfl
theorem c298_12 : decode (aCode 298) 12 = .ok (.invokestatic 48, 3) := (congrArg (fun c => decode c 12) c298).trans dJ9_putChar_12
theorem e298_12 {d : Nat} {a0 a1 a2 : Value} {x0 : Nat} {r0 : Int32} {h : aH} : run (d + 1) 298 12 [a0, a1, a2] [.ref x0, .int r0] h = aBk (d + 1) 298 12 [a0, a1, a2] [.int r0] false (run d 292 0 [.ref x0] [] h) := (run_act (c298_12)).trans (e_stat (m := 1) (ν := 292) (as := [.ref x0]) (rest := [.int r0]) (md := 0) (κ := 0) rfl rfl rfl rfl rfl)
theorem c298_15 : decode (aCode 298) 15 = .ok (.if_icmp .lt 13, 3) := (congrArg (fun c => decode c 15) c298).trans dJ9_putChar_15
theorem e298_15 {d : Nat} {a0 a1 a2 : Value} {x y : Int32} {st : List Value} {h : aH} : run d 298 15 [a0, a1, a2] (.int y :: .int x :: st) h = if x < y then run d 298 28 [a0, a1, a2] st h else run d 298 18 [a0, a1, a2] st h := (run_act (c298_15)).trans (e_if_icmp_lt rfl)
theorem c298_18 : decode (aCode 298) 18 = .ok (.new 52, 3) := (congrArg (fun c => decode c 18) c298).trans dJ9_putChar_18
theorem c298_21 : decode (aCode 298) 21 = .ok (.dup, 1) := (congrArg (fun c => decode c 21) c298).trans dJ9_putChar_21
theorem e298_21 {d : Nat} {a0 a1 a2 : Value} {x : Nat} {st : List Value} {h : aH} : run d 298 21 [a0, a1, a2] (.ref x :: st) h = run d 298 22 [a0, a1, a2] (.ref x :: .ref x :: st) h := (run_act (c298_21)).trans rfl
theorem c298_22 : decode (aCode 298) 22 = .ok (.ldc 54, 2) := (congrArg (fun c => decode c 22) c298).trans dJ9_putChar_22
theorem c298_24 : decode (aCode 298) 24 = .ok (.invokespecial 56, 3) := (congrArg (fun c => decode c 24) c298).trans dJ9_putChar_24
theorem c298_28 : decode (aCode 298) 28 = .ok (.iload_n 1, 1) := (congrArg (fun c => decode c 28) c298).trans dJ9_putChar_28
theorem e298_28 {d : Nat} {a0 a2 : Value} {x : Int32} {st : List Value} {h : aH} : run d 298 28 [a0, .int x, a2] st h = run d 298 29 [a0, .int x, a2] (.int x :: st) h := (run_act (c298_28)).trans rfl
theorem c298_29 : decode (aCode 298) 29 = .ok (.iconst 1, 1) := (congrArg (fun c => decode c 29) c298).trans dJ9_putChar_29
theorem e298_29 {d : Nat} {a0 a1 a2 : Value} {st : List Value} {h : aH} : run d 298 29 [a0, a1, a2] st h = run d 298 30 [a0, a1, a2] (.int (nI 1) :: st) h := (run_act (c298_29)).trans rfl
theorem c298_30 : decode (aCode 298) 30 = .ok (.ishl, 1) := (congrArg (fun c => decode c 30) c298).trans dJ9_putChar_30
theorem e298_30 {d : Nat} {a0 a1 a2 : Value} {x y : Int32} {st : List Value} {h : aH} : run d 298 30 [a0, a1, a2] (.int y :: .int x :: st) h = run d 298 31 [a0, a1, a2] (.int (shl_ x y) :: st) h := (run_act (c298_30)).trans rfl
theorem c298_31 : decode (aCode 298) 31 = .ok (.istore_n 1, 1) := (congrArg (fun c => decode c 31) c298).trans dJ9_putChar_31
theorem e298_31 {d : Nat} {a0 a1 a2 : Value} {x : Int32} {st : List Value} {h : aH} : run d 298 31 [a0, a1, a2] (.int x :: st) h = run d 298 32 [a0, .int x, a2] st h := (run_act (c298_31)).trans rfl
theorem c298_32 : decode (aCode 298) 32 = .ok (.aload_n 0, 1) := (congrArg (fun c => decode c 32) c298).trans dJ9_putChar_32
theorem e298_32 {d : Nat} {a1 a2 : Value} {x : Nat} {st : List Value} {h : aH} : run d 298 32 [.ref x, a1, a2] st h = run d 298 33 [.ref x, a1, a2] (.ref x :: st) h := (run_act (c298_32)).trans rfl
theorem c298_33 : decode (aCode 298) 33 = .ok (.iload_n 1, 1) := (congrArg (fun c => decode c 33) c298).trans dJ9_putChar_33
theorem e298_33 {d : Nat} {a0 a2 : Value} {x : Int32} {st : List Value} {h : aH} : run d 298 33 [a0, .int x, a2] st h = run d 298 34 [a0, .int x, a2] (.int x :: st) h := (run_act (c298_33)).trans rfl
theorem c298_34 : decode (aCode 298) 34 = .ok (.iinc 1 1, 3) := (congrArg (fun c => decode c 34) c298).trans dJ9_putChar_34
theorem e298_34 {d : Nat} {a0 a2 : Value} {x : Int32} {st : List Value} {h : aH} : run d 298 34 [a0, .int x, a2] st h = run d 298 37 [a0, .int (x + (nI 1)), a2] st h := (run_act (c298_34)).trans rfl
theorem c298_37 : decode (aCode 298) 37 = .ok (.iload_n 2, 1) := (congrArg (fun c => decode c 37) c298).trans dJ9_putChar_37
theorem e298_37 {d : Nat} {a0 a1 : Value} {x : Int32} {st : List Value} {h : aH} : run d 298 37 [a0, a1, .int x] st h = run d 298 38 [a0, a1, .int x] (.int x :: st) h := (run_act (c298_37)).trans rfl
theorem c298_38 : decode (aCode 298) 38 = .ok (.getstatic 59, 3) := (congrArg (fun c => decode c 38) c298).trans dJ9_putChar_38
theorem e298_38 {d : Nat} {a0 a1 a2 : Value} {st : List Value} {h : aH} : run d 298 38 [a0, a1, a2] st h = run d 298 41 [a0, a1, a2] (.int (nI 0) :: st) h := (run_act (c298_38)).trans rfl
theorem c298_41 : decode (aCode 298) 41 = .ok (.ishr, 1) := (congrArg (fun c => decode c 41) c298).trans dJ9_putChar_41
theorem e298_41 {d : Nat} {a0 a1 a2 : Value} {x y : Int32} {st : List Value} {h : aH} : run d 298 41 [a0, a1, a2] (.int y :: .int x :: st) h = run d 298 42 [a0, a1, a2] (.int (shr_ x y) :: st) h := (run_act (c298_41)).trans rfl
theorem c298_42 : decode (aCode 298) 42 = .ok (.i2b, 1) := (congrArg (fun c => decode c 42) c298).trans dJ9_putChar_42
theorem e298_42 {d : Nat} {a0 a1 a2 : Value} {x : Int32} {st : List Value} {h : aH} : run d 298 42 [a0, a1, a2] (.int x :: st) h = run d 298 43 [a0, a1, a2] (.int (x.toInt8.toInt32) :: st) h := (run_act (c298_42)).trans rfl
theorem c298_43 : decode (aCode 298) 43 = .ok (.bastore, 1) := (congrArg (fun c => decode c 43) c298).trans dJ9_putChar_43
theorem e298_43 {d : Nat} {a0 a1 a2 : Value} {x n : Nat} {v : Int32} {st : List Value} {h : aH} (h6 : 64 ≤ x) (hκ : (hk_ h x).1 = 101) (hn : n < (hk_ h x).2) (hb : (hk_ h x).2 ≤ 2147483647) : run d 298 43 [a0, a1, a2] (.int v :: .int (nI n) :: .ref x :: st) h = run d 298 44 [a0, a1, a2] st (si_ h x n v.toInt8.toInt32) := (run_act (c298_43)).trans (e_bastore_n h6 hκ hn hb)
theorem e298_43z {d : Nat} {a0 a1 a2 : Value} {x n : Nat} {v : Int32} {st : List Value} {h : aH} (h6 : 64 ≤ x) (hκ : (hk_ h x).1 = 103) (hn : n < (hk_ h x).2) (hb : (hk_ h x).2 ≤ 2147483647) (hv : v = 0 ∨ v = 1) : run d 298 43 [a0, a1, a2] (.int v :: .int (nI n) :: .ref x :: st) h = run d 298 44 [a0, a1, a2] st (si_ h x n v) := (run_act (c298_43)).trans (e_zastore_n h6 hκ hn hb hv)
theorem c298_44 : decode (aCode 298) 44 = .ok (.aload_n 0, 1) := (congrArg (fun c => decode c 44) c298).trans dJ9_putChar_44
theorem e298_44 {d : Nat} {a1 a2 : Value} {x : Nat} {st : List Value} {h : aH} : run d 298 44 [.ref x, a1, a2] st h = run d 298 45 [.ref x, a1, a2] (.ref x :: st) h := (run_act (c298_44)).trans rfl
theorem c298_45 : decode (aCode 298) 45 = .ok (.iload_n 1, 1) := (congrArg (fun c => decode c 45) c298).trans dJ9_putChar_45
theorem e298_45 {d : Nat} {a0 a2 : Value} {x : Int32} {st : List Value} {h : aH} : run d 298 45 [a0, .int x, a2] st h = run d 298 46 [a0, .int x, a2] (.int x :: st) h := (run_act (c298_45)).trans rfl
theorem c298_46 : decode (aCode 298) 46 = .ok (.iload_n 2, 1) := (congrArg (fun c => decode c 46) c298).trans dJ9_putChar_46
theorem e298_46 {d : Nat} {a0 a1 : Value} {x : Int32} {st : List Value} {h : aH} : run d 298 46 [a0, a1, .int x] st h = run d 298 47 [a0, a1, .int x] (.int x :: st) h := (run_act (c298_46)).trans rfl
theorem c298_47 : decode (aCode 298) 47 = .ok (.getstatic 63, 3) := (congrArg (fun c => decode c 47) c298).trans dJ9_putChar_47
theorem e298_47 {d : Nat} {a0 a1 a2 : Value} {st : List Value} {h : aH} : run d 298 47 [a0, a1, a2] st h = run d 298 50 [a0, a1, a2] (.int (nI 8) :: st) h := (run_act (c298_47)).trans rfl
theorem c298_50 : decode (aCode 298) 50 = .ok (.ishr, 1) := (congrArg (fun c => decode c 50) c298).trans dJ9_putChar_50
theorem e298_50 {d : Nat} {a0 a1 a2 : Value} {x y : Int32} {st : List Value} {h : aH} : run d 298 50 [a0, a1, a2] (.int y :: .int x :: st) h = run d 298 51 [a0, a1, a2] (.int (shr_ x y) :: st) h := (run_act (c298_50)).trans rfl
theorem c298_51 : decode (aCode 298) 51 = .ok (.i2b, 1) := (congrArg (fun c => decode c 51) c298).trans dJ9_putChar_51
theorem e298_51 {d : Nat} {a0 a1 a2 : Value} {x : Int32} {st : List Value} {h : aH} : run d 298 51 [a0, a1, a2] (.int x :: st) h = run d 298 52 [a0, a1, a2] (.int (x.toInt8.toInt32) :: st) h := (run_act (c298_51)).trans rfl
theorem c298_52 : decode (aCode 298) 52 = .ok (.bastore, 1) := (congrArg (fun c => decode c 52) c298).trans dJ9_putChar_52
theorem e298_52 {d : Nat} {a0 a1 a2 : Value} {x n : Nat} {v : Int32} {st : List Value} {h : aH} (h6 : 64 ≤ x) (hκ : (hk_ h x).1 = 101) (hn : n < (hk_ h x).2) (hb : (hk_ h x).2 ≤ 2147483647) : run d 298 52 [a0, a1, a2] (.int v :: .int (nI n) :: .ref x :: st) h = run d 298 53 [a0, a1, a2] st (si_ h x n v.toInt8.toInt32) := (run_act (c298_52)).trans (e_bastore_n h6 hκ hn hb)
theorem e298_52z {d : Nat} {a0 a1 a2 : Value} {x n : Nat} {v : Int32} {st : List Value} {h : aH} (h6 : 64 ≤ x) (hκ : (hk_ h x).1 = 103) (hn : n < (hk_ h x).2) (hb : (hk_ h x).2 ≤ 2147483647) (hv : v = 0 ∨ v = 1) : run d 298 52 [a0, a1, a2] (.int v :: .int (nI n) :: .ref x :: st) h = run d 298 53 [a0, a1, a2] st (si_ h x n v) := (run_act (c298_52)).trans (e_zastore_n h6 hκ hn hb hv)
theorem c298_53 : decode (aCode 298) 53 = .ok (.return_, 1) := (congrArg (fun c => decode c 53) c298).trans dJ9_putChar_53
theorem e298_53 {d : Nat} {a0 a1 a2 : Value} {h : aH} : run d 298 53 [a0, a1, a2] [] h = some (.returned none, h) := (run_act (c298_53)).trans rfl
/-! java/lang/StringUTF16.putCharSB: 299 -/
theorem c299 : aCode 299 = cJ9_putCharSB := rfl
theorem c299_0 : decode (aCode 299) 0 = .ok (.iload_n 1, 1) := (congrArg (fun c => decode c 0) c299).trans dJ9_putCharSB_0
theorem e299_0 {d : Nat} {a0 a2 : Value} {x : Int32} {st : List Value} {h : aH} : run d 299 0 [a0, .int x, a2] st h = run d 299 1 [a0, .int x, a2] (.int x :: st) h := (run_act (c299_0)).trans rfl
theorem c299_1 : decode (aCode 299) 1 = .ok (.aload_n 0, 1) := (congrArg (fun c => decode c 1) c299).trans dJ9_putCharSB_1
theorem e299_1 {d : Nat} {a1 a2 : Value} {x : Nat} {st : List Value} {h : aH} : run d 299 1 [.ref x, a1, a2] st h = run d 299 2 [.ref x, a1, a2] (.ref x :: st) h := (run_act (c299_1)).trans rfl
theorem c299_2 : decode (aCode 299) 2 = .ok (.invokestatic 67, 3) := (congrArg (fun c => decode c 2) c299).trans dJ9_putCharSB_2
theorem e299_2 {d : Nat} {a0 a1 a2 : Value} {x0 : Int32} {x1 : Nat} {h : aH} : run (d + 1) 299 2 [a0, a1, a2] [.ref x1, .int x0] h = aBk (d + 1) 299 2 [a0, a1, a2] [] false (run d 291 0 [.int x0, .ref x1] [] h) := (run_act (c299_2)).trans (e_stat (m := 2) (ν := 291) (as := [.int x0, .ref x1]) (rest := []) (md := 0) (κ := 0) rfl rfl rfl rfl rfl)
theorem c299_5 : decode (aCode 299) 5 = .ok (.aload_n 0, 1) := (congrArg (fun c => decode c 5) c299).trans dJ9_putCharSB_5
theorem e299_5 {d : Nat} {a1 a2 : Value} {x : Nat} {st : List Value} {h : aH} : run d 299 5 [.ref x, a1, a2] st h = run d 299 6 [.ref x, a1, a2] (.ref x :: st) h := (run_act (c299_5)).trans rfl
theorem c299_6 : decode (aCode 299) 6 = .ok (.iload_n 1, 1) := (congrArg (fun c => decode c 6) c299).trans dJ9_putCharSB_6
theorem e299_6 {d : Nat} {a0 a2 : Value} {x : Int32} {st : List Value} {h : aH} : run d 299 6 [a0, .int x, a2] st h = run d 299 7 [a0, .int x, a2] (.int x :: st) h := (run_act (c299_6)).trans rfl
theorem c299_7 : decode (aCode 299) 7 = .ok (.iload_n 2, 1) := (congrArg (fun c => decode c 7) c299).trans dJ9_putCharSB_7
theorem e299_7 {d : Nat} {a0 a1 : Value} {x : Int32} {st : List Value} {h : aH} : run d 299 7 [a0, a1, .int x] st h = run d 299 8 [a0, a1, .int x] (.int x :: st) h := (run_act (c299_7)).trans rfl
theorem c299_8 : decode (aCode 299) 8 = .ok (.invokestatic 111, 3) := (congrArg (fun c => decode c 8) c299).trans dJ9_putCharSB_8
theorem e299_8 {d : Nat} {a0 a1 a2 : Value} {x0 : Nat} {x1 : Int32} {x2 : Int32} {h : aH} : run (d + 1) 299 8 [a0, a1, a2] [.int x2, .int x1, .ref x0] h = aBk (d + 1) 299 8 [a0, a1, a2] [] false (run d 298 0 [.ref x0, .int x1, .int x2] [] h) := (run_act (c299_8)).trans (e_stat (m := 3) (ν := 298) (as := [.ref x0, .int x1, .int x2]) (rest := []) (md := 0) (κ := 0) rfl rfl rfl rfl rfl)
theorem c299_11 : decode (aCode 299) 11 = .ok (.return_, 1) := (congrArg (fun c => decode c 11) c299).trans dJ9_putCharSB_11
theorem e299_11 {d : Nat} {a0 a1 a2 : Value} {h : aH} : run d 299 11 [a0, a1, a2] [] h = some (.returned none, h) := (run_act (c299_11)).trans rfl
/-! java/lang/StringUTF16.compress: 300 -/
theorem c300 : aCode 300 = cJ9_compress := rfl
theorem c300_0 : decode (aCode 300) 0 = .ok (.iload_n 2, 1) := (congrArg (fun c => decode c 0) c300).trans dJ9_compress_0
theorem e300_0 {d : Nat} {a0 a1 a3 a4 a5 : Value} {x : Int32} {st : List Value} {h : aH} : run d 300 0 [a0, a1, .int x, a3, a4, a5] st h = run d 300 1 [a0, a1, .int x, a3, a4, a5] (.int x :: st) h := (run_act (c300_0)).trans rfl
theorem c300_1 : decode (aCode 300) 1 = .ok (.newarray .byte, 2) := (congrArg (fun c => decode c 1) c300).trans dJ9_compress_1
theorem e300_1 {d : Nat} {a0 a1 a2 a3 a4 a5 : Value} {m : Nat} {st : List Value} {h : aH} (hm : m ≤ 1000000) : run d 300 1 [a0, a1, a2, a3, a4, a5] (.int (nI m) :: st) h = run d 300 3 [a0, a1, a2, a3, a4, a5] (.ref (hz_ h) :: st) (nw_ h 101 m m) := (run_act (c300_1)).trans (e_newa_n rfl hm)
theorem c300_3 : decode (aCode 300) 3 = .ok (.astore_n 3, 1) := (congrArg (fun c => decode c 3) c300).trans dJ9_compress_3
theorem e300_3 {d : Nat} {a0 a1 a2 a3 a4 a5 : Value} {x : Nat} {st : List Value} {h : aH} : run d 300 3 [a0, a1, a2, a3, a4, a5] (.ref x :: st) h = run d 300 4 [a0, a1, a2, .ref x, a4, a5] st h := (run_act (c300_3)).trans rfl
theorem c300_4 : decode (aCode 300) 4 = .ok (.aload_n 0, 1) := (congrArg (fun c => decode c 4) c300).trans dJ9_compress_4
theorem e300_4 {d : Nat} {a1 a2 a3 a4 a5 : Value} {x : Nat} {st : List Value} {h : aH} : run d 300 4 [.ref x, a1, a2, a3, a4, a5] st h = run d 300 5 [.ref x, a1, a2, a3, a4, a5] (.ref x :: st) h := (run_act (c300_4)).trans rfl
theorem c300_5 : decode (aCode 300) 5 = .ok (.iload_n 1, 1) := (congrArg (fun c => decode c 5) c300).trans dJ9_compress_5
theorem e300_5 {d : Nat} {a0 a2 a3 a4 a5 : Value} {x : Int32} {st : List Value} {h : aH} : run d 300 5 [a0, .int x, a2, a3, a4, a5] st h = run d 300 6 [a0, .int x, a2, a3, a4, a5] (.int x :: st) h := (run_act (c300_5)).trans rfl
theorem c300_6 : decode (aCode 300) 6 = .ok (.aload_n 3, 1) := (congrArg (fun c => decode c 6) c300).trans dJ9_compress_6
theorem e300_6 {d : Nat} {a0 a1 a2 a4 a5 : Value} {x : Nat} {st : List Value} {h : aH} : run d 300 6 [a0, a1, a2, .ref x, a4, a5] st h = run d 300 7 [a0, a1, a2, .ref x, a4, a5] (.ref x :: st) h := (run_act (c300_6)).trans rfl
theorem c300_7 : decode (aCode 300) 7 = .ok (.iconst 0, 1) := (congrArg (fun c => decode c 7) c300).trans dJ9_compress_7
theorem e300_7 {d : Nat} {a0 a1 a2 a3 a4 a5 : Value} {st : List Value} {h : aH} : run d 300 7 [a0, a1, a2, a3, a4, a5] st h = run d 300 8 [a0, a1, a2, a3, a4, a5] (.int (nI 0) :: st) h := (run_act (c300_7)).trans rfl
theorem c300_8 : decode (aCode 300) 8 = .ok (.iload_n 2, 1) := (congrArg (fun c => decode c 8) c300).trans dJ9_compress_8
theorem e300_8 {d : Nat} {a0 a1 a3 a4 a5 : Value} {x : Int32} {st : List Value} {h : aH} : run d 300 8 [a0, a1, .int x, a3, a4, a5] st h = run d 300 9 [a0, a1, .int x, a3, a4, a5] (.int x :: st) h := (run_act (c300_8)).trans rfl
theorem c300_9 : decode (aCode 300) 9 = .ok (.invokestatic 123, 3) := (congrArg (fun c => decode c 9) c300).trans dJ9_compress_9
theorem e300_9 {d : Nat} {a0 a1 a2 a3 a4 a5 : Value} {x0 : Nat} {x1 : Int32} {x2 : Nat} {x3 : Int32} {x4 : Int32} {h : aH} : run (d + 1) 300 9 [a0, a1, a2, a3, a4, a5] [.int x4, .int x3, .ref x2, .int x1, .ref x0] h = aBk (d + 1) 300 9 [a0, a1, a2, a3, a4, a5] [] false (run d 301 0 [.ref x0, .int x1, .ref x2, .int x3, .int x4, aU, aU] [] h) := (run_act (c300_9)).trans (e_stat (m := 5) (ν := 301) (as := [.ref x0, .int x1, .ref x2, .int x3, .int x4]) (rest := []) (md := 0) (κ := 0) rfl rfl rfl rfl rfl)
theorem c300_12 : decode (aCode 300) 12 = .ok (.istore 4, 2) := (congrArg (fun c => decode c 12) c300).trans dJ9_compress_12
theorem e300_12 {d : Nat} {a0 a1 a2 a3 a4 a5 : Value} {x : Int32} {st : List Value} {h : aH} : run d 300 12 [a0, a1, a2, a3, a4, a5] (.int x :: st) h = run d 300 14 [a0, a1, a2, a3, .int x, a5] st h := (run_act (c300_12)).trans rfl
theorem c300_14 : decode (aCode 300) 14 = .ok (.iload 4, 2) := (congrArg (fun c => decode c 14) c300).trans dJ9_compress_14
theorem e300_14 {d : Nat} {a0 a1 a2 a3 a5 : Value} {x : Int32} {st : List Value} {h : aH} : run d 300 14 [a0, a1, a2, a3, .int x, a5] st h = run d 300 16 [a0, a1, a2, a3, .int x, a5] (.int x :: st) h := (run_act (c300_14)).trans rfl
theorem c300_16 : decode (aCode 300) 16 = .ok (.iload_n 2, 1) := (congrArg (fun c => decode c 16) c300).trans dJ9_compress_16
theorem e300_16 {d : Nat} {a0 a1 a3 a4 a5 : Value} {x : Int32} {st : List Value} {h : aH} : run d 300 16 [a0, a1, .int x, a3, a4, a5] st h = run d 300 17 [a0, a1, .int x, a3, a4, a5] (.int x :: st) h := (run_act (c300_16)).trans rfl
theorem c300_17 : decode (aCode 300) 17 = .ok (.if_icmp .eq 47, 3) := (congrArg (fun c => decode c 17) c300).trans dJ9_compress_17
theorem e300_17 {d : Nat} {a0 a1 a2 a3 a4 a5 : Value} {x y : Int32} {st : List Value} {h : aH} : run d 300 17 [a0, a1, a2, a3, a4, a5] (.int y :: .int x :: st) h = if x = y then run d 300 64 [a0, a1, a2, a3, a4, a5] st h else run d 300 20 [a0, a1, a2, a3, a4, a5] st h := (run_act (c300_17)).trans (e_if_icmp_eq rfl)
theorem c300_20 : decode (aCode 300) 20 = .ok (.aload_n 0, 1) := (congrArg (fun c => decode c 20) c300).trans dJ9_compress_20
theorem e300_20 {d : Nat} {a1 a2 a3 a4 a5 : Value} {x : Nat} {st : List Value} {h : aH} : run d 300 20 [.ref x, a1, a2, a3, a4, a5] st h = run d 300 21 [.ref x, a1, a2, a3, a4, a5] (.ref x :: st) h := (run_act (c300_20)).trans rfl
theorem c300_21 : decode (aCode 300) 21 = .ok (.iload_n 1, 1) := (congrArg (fun c => decode c 21) c300).trans dJ9_compress_21
theorem e300_21 {d : Nat} {a0 a2 a3 a4 a5 : Value} {x : Int32} {st : List Value} {h : aH} : run d 300 21 [a0, .int x, a2, a3, a4, a5] st h = run d 300 22 [a0, .int x, a2, a3, a4, a5] (.int x :: st) h := (run_act (c300_21)).trans rfl
theorem c300_22 : decode (aCode 300) 22 = .ok (.iconst 1, 1) := (congrArg (fun c => decode c 22) c300).trans dJ9_compress_22
theorem e300_22 {d : Nat} {a0 a1 a2 a3 a4 a5 : Value} {st : List Value} {h : aH} : run d 300 22 [a0, a1, a2, a3, a4, a5] st h = run d 300 23 [a0, a1, a2, a3, a4, a5] (.int (nI 1) :: st) h := (run_act (c300_22)).trans rfl
theorem c300_23 : decode (aCode 300) 23 = .ok (.ishl, 1) := (congrArg (fun c => decode c 23) c300).trans dJ9_compress_23
theorem e300_23 {d : Nat} {a0 a1 a2 a3 a4 a5 : Value} {x y : Int32} {st : List Value} {h : aH} : run d 300 23 [a0, a1, a2, a3, a4, a5] (.int y :: .int x :: st) h = run d 300 24 [a0, a1, a2, a3, a4, a5] (.int (shl_ x y) :: st) h := (run_act (c300_23)).trans rfl
theorem c300_24 : decode (aCode 300) 24 = .ok (.iload_n 1, 1) := (congrArg (fun c => decode c 24) c300).trans dJ9_compress_24
theorem e300_24 {d : Nat} {a0 a2 a3 a4 a5 : Value} {x : Int32} {st : List Value} {h : aH} : run d 300 24 [a0, .int x, a2, a3, a4, a5] st h = run d 300 25 [a0, .int x, a2, a3, a4, a5] (.int x :: st) h := (run_act (c300_24)).trans rfl
theorem c300_25 : decode (aCode 300) 25 = .ok (.iload_n 2, 1) := (congrArg (fun c => decode c 25) c300).trans dJ9_compress_25
theorem e300_25 {d : Nat} {a0 a1 a3 a4 a5 : Value} {x : Int32} {st : List Value} {h : aH} : run d 300 25 [a0, a1, .int x, a3, a4, a5] st h = run d 300 26 [a0, a1, .int x, a3, a4, a5] (.int x :: st) h := (run_act (c300_25)).trans rfl
theorem c300_26 : decode (aCode 300) 26 = .ok (.iadd, 1) := (congrArg (fun c => decode c 26) c300).trans dJ9_compress_26
theorem e300_26 {d : Nat} {a0 a1 a2 a3 a4 a5 : Value} {x y : Int32} {st : List Value} {h : aH} : run d 300 26 [a0, a1, a2, a3, a4, a5] (.int y :: .int x :: st) h = run d 300 27 [a0, a1, a2, a3, a4, a5] (.int (x + y) :: st) h := (run_act (c300_26)).trans rfl
theorem c300_27 : decode (aCode 300) 27 = .ok (.invokestatic 11, 3) := (congrArg (fun c => decode c 27) c300).trans dJ9_compress_27
theorem e300_27 {d : Nat} {a0 a1 a2 a3 a4 a5 : Value} {x0 : Int32} {r0 : Int32} {r1 : Nat} {h : aH} : run (d + 1) 300 27 [a0, a1, a2, a3, a4, a5] [.int x0, .int r0, .ref r1] h = aBk (d + 1) 300 27 [a0, a1, a2, a3, a4, a5] [.int r0, .ref r1] false (run d 295 0 [.int x0] [] h) := (run_act (c300_27)).trans (e_stat (m := 1) (ν := 295) (as := [.int x0]) (rest := [.int r0, .ref r1]) (md := 0) (κ := 0) rfl rfl rfl rfl rfl)
theorem c300_30 : decode (aCode 300) 30 = .ok (.invokestatic 126, 3) := (congrArg (fun c => decode c 30) c300).trans dJ9_compress_30
theorem e300_30 {d : Nat} {a0 a1 a2 a3 a4 a5 : Value} {x0 : Nat} {x1 : Int32} {x2 : Int32} {h : aH} : run (d + 1) 300 30 [a0, a1, a2, a3, a4, a5] [.int x2, .int x1, .ref x0] h = aBk (d + 1) 300 30 [a0, a1, a2, a3, a4, a5] [] false (run d 331 0 [.ref x0, .int x1, .int x2] [] h) := (run_act (c300_30)).trans (e_stat (m := 3) (ν := 331) (as := [.ref x0, .int x1, .int x2]) (rest := []) (md := 0) (κ := 0) rfl rfl rfl rfl rfl)
theorem c300_33 : decode (aCode 300) 33 = .ok (.astore 5, 2) := (congrArg (fun c => decode c 33) c300).trans dJ9_compress_33
theorem e300_33 {d : Nat} {a0 a1 a2 a3 a4 a5 : Value} {x : Nat} {st : List Value} {h : aH} : run d 300 33 [a0, a1, a2, a3, a4, a5] (.ref x :: st) h = run d 300 35 [a0, a1, a2, a3, a4, .ref x] st h := (run_act (c300_33)).trans rfl
theorem c300_35 : decode (aCode 300) 35 = .ok (.aload 5, 2) := (congrArg (fun c => decode c 35) c300).trans dJ9_compress_35
theorem e300_35 {d : Nat} {a0 a1 a2 a3 a4 : Value} {x : Nat} {st : List Value} {h : aH} : run d 300 35 [a0, a1, a2, a3, a4, .ref x] st h = run d 300 37 [a0, a1, a2, a3, a4, .ref x] (.ref x :: st) h := (run_act (c300_35)).trans rfl
theorem c300_37 : decode (aCode 300) 37 = .ok (.iload 4, 2) := (congrArg (fun c => decode c 37) c300).trans dJ9_compress_37
theorem e300_37 {d : Nat} {a0 a1 a2 a3 a5 : Value} {x : Int32} {st : List Value} {h : aH} : run d 300 37 [a0, a1, a2, a3, .int x, a5] st h = run d 300 39 [a0, a1, a2, a3, .int x, a5] (.int x :: st) h := (run_act (c300_37)).trans rfl
theorem c300_39 : decode (aCode 300) 39 = .ok (.invokestatic 71, 3) := (congrArg (fun c => decode c 39) c300).trans dJ9_compress_39
theorem e300_39 {d : Nat} {a0 a1 a2 a3 a4 a5 : Value} {x0 : Nat} {x1 : Int32} {h : aH} : run (d + 1) 300 39 [a0, a1, a2, a3, a4, a5] [.int x1, .ref x0] h = aBk (d + 1) 300 39 [a0, a1, a2, a3, a4, a5] [] false (run d 293 0 [.ref x0, .int x1] [] h) := (run_act (c300_39)).trans (e_stat (m := 2) (ν := 293) (as := [.ref x0, .int x1]) (rest := []) (md := 0) (κ := 0) rfl rfl rfl rfl rfl)
theorem c300_42 : decode (aCode 300) 42 = .ok (.sipush 255, 3) := (congrArg (fun c => decode c 42) c300).trans dJ9_compress_42
theorem e300_42 {d : Nat} {a0 a1 a2 a3 a4 a5 : Value} {st : List Value} {h : aH} : run d 300 42 [a0, a1, a2, a3, a4, a5] st h = run d 300 45 [a0, a1, a2, a3, a4, a5] (.int (nI 255) :: st) h := (run_act (c300_42)).trans rfl
theorem c300_45 : decode (aCode 300) 45 = .ok (.if_icmp .gt 16, 3) := (congrArg (fun c => decode c 45) c300).trans dJ9_compress_45
theorem e300_45 {d : Nat} {a0 a1 a2 a3 a4 a5 : Value} {x y : Int32} {st : List Value} {h : aH} : run d 300 45 [a0, a1, a2, a3, a4, a5] (.int y :: .int x :: st) h = if y < x then run d 300 61 [a0, a1, a2, a3, a4, a5] st h else run d 300 48 [a0, a1, a2, a3, a4, a5] st h := (run_act (c300_45)).trans (e_if_icmp_gt rfl)
theorem c300_48 : decode (aCode 300) 48 = .ok (.aload 5, 2) := (congrArg (fun c => decode c 48) c300).trans dJ9_compress_48
theorem e300_48 {d : Nat} {a0 a1 a2 a3 a4 : Value} {x : Nat} {st : List Value} {h : aH} : run d 300 48 [a0, a1, a2, a3, a4, .ref x] st h = run d 300 50 [a0, a1, a2, a3, a4, .ref x] (.ref x :: st) h := (run_act (c300_48)).trans rfl
theorem c300_50 : decode (aCode 300) 50 = .ok (.iconst 0, 1) := (congrArg (fun c => decode c 50) c300).trans dJ9_compress_50
theorem e300_50 {d : Nat} {a0 a1 a2 a3 a4 a5 : Value} {st : List Value} {h : aH} : run d 300 50 [a0, a1, a2, a3, a4, a5] st h = run d 300 51 [a0, a1, a2, a3, a4, a5] (.int (nI 0) :: st) h := (run_act (c300_50)).trans rfl
theorem c300_51 : decode (aCode 300) 51 = .ok (.aload_n 3, 1) := (congrArg (fun c => decode c 51) c300).trans dJ9_compress_51
theorem e300_51 {d : Nat} {a0 a1 a2 a4 a5 : Value} {x : Nat} {st : List Value} {h : aH} : run d 300 51 [a0, a1, a2, .ref x, a4, a5] st h = run d 300 52 [a0, a1, a2, .ref x, a4, a5] (.ref x :: st) h := (run_act (c300_51)).trans rfl
theorem c300_52 : decode (aCode 300) 52 = .ok (.iconst 0, 1) := (congrArg (fun c => decode c 52) c300).trans dJ9_compress_52
theorem e300_52 {d : Nat} {a0 a1 a2 a3 a4 a5 : Value} {st : List Value} {h : aH} : run d 300 52 [a0, a1, a2, a3, a4, a5] st h = run d 300 53 [a0, a1, a2, a3, a4, a5] (.int (nI 0) :: st) h := (run_act (c300_52)).trans rfl
theorem c300_53 : decode (aCode 300) 53 = .ok (.iload_n 2, 1) := (congrArg (fun c => decode c 53) c300).trans dJ9_compress_53
theorem e300_53 {d : Nat} {a0 a1 a3 a4 a5 : Value} {x : Int32} {st : List Value} {h : aH} : run d 300 53 [a0, a1, .int x, a3, a4, a5] st h = run d 300 54 [a0, a1, .int x, a3, a4, a5] (.int x :: st) h := (run_act (c300_53)).trans rfl
theorem c300_54 : decode (aCode 300) 54 = .ok (.invokestatic 123, 3) := (congrArg (fun c => decode c 54) c300).trans dJ9_compress_54
theorem e300_54 {d : Nat} {a0 a1 a2 a3 a4 a5 : Value} {x0 : Nat} {x1 : Int32} {x2 : Nat} {x3 : Int32} {x4 : Int32} {h : aH} : run (d + 1) 300 54 [a0, a1, a2, a3, a4, a5] [.int x4, .int x3, .ref x2, .int x1, .ref x0] h = aBk (d + 1) 300 54 [a0, a1, a2, a3, a4, a5] [] false (run d 301 0 [.ref x0, .int x1, .ref x2, .int x3, .int x4, aU, aU] [] h) := (run_act (c300_54)).trans (e_stat (m := 5) (ν := 301) (as := [.ref x0, .int x1, .ref x2, .int x3, .int x4]) (rest := []) (md := 0) (κ := 0) rfl rfl rfl rfl rfl)
theorem c300_57 : decode (aCode 300) 57 = .ok (.iload_n 2, 1) := (congrArg (fun c => decode c 57) c300).trans dJ9_compress_57
theorem e300_57 {d : Nat} {a0 a1 a3 a4 a5 : Value} {x : Int32} {st : List Value} {h : aH} : run d 300 57 [a0, a1, .int x, a3, a4, a5] st h = run d 300 58 [a0, a1, .int x, a3, a4, a5] (.int x :: st) h := (run_act (c300_57)).trans rfl
theorem c300_58 : decode (aCode 300) 58 = .ok (.if_icmp .eq 6, 3) := (congrArg (fun c => decode c 58) c300).trans dJ9_compress_58
theorem e300_58 {d : Nat} {a0 a1 a2 a3 a4 a5 : Value} {x y : Int32} {st : List Value} {h : aH} : run d 300 58 [a0, a1, a2, a3, a4, a5] (.int y :: .int x :: st) h = if x = y then run d 300 64 [a0, a1, a2, a3, a4, a5] st h else run d 300 61 [a0, a1, a2, a3, a4, a5] st h := (run_act (c300_58)).trans (e_if_icmp_eq rfl)
theorem c300_61 : decode (aCode 300) 61 = .ok (.aload 5, 2) := (congrArg (fun c => decode c 61) c300).trans dJ9_compress_61
theorem e300_61 {d : Nat} {a0 a1 a2 a3 a4 : Value} {x : Nat} {st : List Value} {h : aH} : run d 300 61 [a0, a1, a2, a3, a4, .ref x] st h = run d 300 63 [a0, a1, a2, a3, a4, .ref x] (.ref x :: st) h := (run_act (c300_61)).trans rfl
theorem c300_63 : decode (aCode 300) 63 = .ok (.areturn, 1) := (congrArg (fun c => decode c 63) c300).trans dJ9_compress_63
theorem e300_63 {d : Nat} {a0 a1 a2 a3 a4 a5 : Value} {x : Nat} {h : aH} : run d 300 63 [a0, a1, a2, a3, a4, a5] [.ref x] h = some (.returned (some (.ref x)), h) := (run_act (c300_63)).trans rfl
theorem c300_64 : decode (aCode 300) 64 = .ok (.aload_n 3, 1) := (congrArg (fun c => decode c 64) c300).trans dJ9_compress_64
theorem e300_64 {d : Nat} {a0 a1 a2 a4 a5 : Value} {x : Nat} {st : List Value} {h : aH} : run d 300 64 [a0, a1, a2, .ref x, a4, a5] st h = run d 300 65 [a0, a1, a2, .ref x, a4, a5] (.ref x :: st) h := (run_act (c300_64)).trans rfl
theorem c300_65 : decode (aCode 300) 65 = .ok (.areturn, 1) := (congrArg (fun c => decode c 65) c300).trans dJ9_compress_65
theorem e300_65 {d : Nat} {a0 a1 a2 a3 a4 a5 : Value} {x : Nat} {h : aH} : run d 300 65 [a0, a1, a2, a3, a4, a5] [.ref x] h = some (.returned (some (.ref x)), h) := (run_act (c300_65)).trans rfl
/-! java/lang/StringUTF16.compress_2: 301 -/
theorem c301 : aCode 301 = cJ9_compress_2 := rfl
theorem c301_0 : decode (aCode 301) 0 = .ok (.iload_n 1, 1) := (congrArg (fun c => decode c 0) c301).trans dJ9_compress_2_0
theorem e301_0 {d : Nat} {a0 a2 a3 a4 a5 a6 : Value} {x : Int32} {st : List Value} {h : aH} : run d 301 0 [a0, .int x, a2, a3, a4, a5, a6] st h = run d 301 1 [a0, .int x, a2, a3, a4, a5, a6] (.int x :: st) h := (run_act (c301_0)).trans rfl
theorem c301_1 : decode (aCode 301) 1 = .ok (.iload 4, 2) := (congrArg (fun c => decode c 1) c301).trans dJ9_compress_2_1
theorem e301_1 {d : Nat} {a0 a1 a2 a3 a5 a6 : Value} {x : Int32} {st : List Value} {h : aH} : run d 301 1 [a0, a1, a2, a3, .int x, a5, a6] st h = run d 301 3 [a0, a1, a2, a3, .int x, a5, a6] (.int x :: st) h := (run_act (c301_1)).trans rfl
theorem c301_3 : decode (aCode 301) 3 = .ok (.aload_n 0, 1) := (congrArg (fun c => decode c 3) c301).trans dJ9_compress_2_3
theorem e301_3 {d : Nat} {a1 a2 a3 a4 a5 a6 : Value} {x : Nat} {st : List Value} {h : aH} : run d 301 3 [.ref x, a1, a2, a3, a4, a5, a6] st h = run d 301 4 [.ref x, a1, a2, a3, a4, a5, a6] (.ref x :: st) h := (run_act (c301_3)).trans rfl
theorem c301_4 : decode (aCode 301) 4 = .ok (.invokestatic 173, 3) := (congrArg (fun c => decode c 4) c301).trans dJ9_compress_2_4
theorem e301_4 {d : Nat} {a0 a1 a2 a3 a4 a5 a6 : Value} {x0 : Int32} {x1 : Int32} {x2 : Nat} {h : aH} : run (d + 1) 301 4 [a0, a1, a2, a3, a4, a5, a6] [.ref x2, .int x1, .int x0] h = aBk (d + 1) 301 4 [a0, a1, a2, a3, a4, a5, a6] [] false (run d 297 0 [.int x0, .int x1, .ref x2] [] h) := (run_act (c301_4)).trans (e_stat (m := 3) (ν := 297) (as := [.int x0, .int x1, .ref x2]) (rest := []) (md := 0) (κ := 0) rfl rfl rfl rfl rfl)
theorem c301_7 : decode (aCode 301) 7 = .ok (.iconst 0, 1) := (congrArg (fun c => decode c 7) c301).trans dJ9_compress_2_7
theorem e301_7 {d : Nat} {a0 a1 a2 a3 a4 a5 a6 : Value} {st : List Value} {h : aH} : run d 301 7 [a0, a1, a2, a3, a4, a5, a6] st h = run d 301 8 [a0, a1, a2, a3, a4, a5, a6] (.int (nI 0) :: st) h := (run_act (c301_7)).trans rfl
theorem c301_8 : decode (aCode 301) 8 = .ok (.istore 5, 2) := (congrArg (fun c => decode c 8) c301).trans dJ9_compress_2_8
theorem e301_8 {d : Nat} {a0 a1 a2 a3 a4 a5 a6 : Value} {x : Int32} {st : List Value} {h : aH} : run d 301 8 [a0, a1, a2, a3, a4, a5, a6] (.int x :: st) h = run d 301 10 [a0, a1, a2, a3, a4, .int x, a6] st h := (run_act (c301_8)).trans rfl
theorem c301_10 : decode (aCode 301) 10 = .ok (.iload 5, 2) := (congrArg (fun c => decode c 10) c301).trans dJ9_compress_2_10
theorem e301_10 {d : Nat} {a0 a1 a2 a3 a4 a6 : Value} {x : Int32} {st : List Value} {h : aH} : run d 301 10 [a0, a1, a2, a3, a4, .int x, a6] st h = run d 301 12 [a0, a1, a2, a3, a4, .int x, a6] (.int x :: st) h := (run_act (c301_10)).trans rfl
theorem c301_12 : decode (aCode 301) 12 = .ok (.iload 4, 2) := (congrArg (fun c => decode c 12) c301).trans dJ9_compress_2_12
theorem e301_12 {d : Nat} {a0 a1 a2 a3 a5 a6 : Value} {x : Int32} {st : List Value} {h : aH} : run d 301 12 [a0, a1, a2, a3, .int x, a5, a6] st h = run d 301 14 [a0, a1, a2, a3, .int x, a5, a6] (.int x :: st) h := (run_act (c301_12)).trans rfl
theorem c301_14 : decode (aCode 301) 14 = .ok (.if_icmp .ge 39, 3) := (congrArg (fun c => decode c 14) c301).trans dJ9_compress_2_14
theorem e301_14 {d : Nat} {a0 a1 a2 a3 a4 a5 a6 : Value} {x y : Int32} {st : List Value} {h : aH} : run d 301 14 [a0, a1, a2, a3, a4, a5, a6] (.int y :: .int x :: st) h = if y ≤ x then run d 301 53 [a0, a1, a2, a3, a4, a5, a6] st h else run d 301 17 [a0, a1, a2, a3, a4, a5, a6] st h := (run_act (c301_14)).trans (e_if_icmp_ge rfl)
theorem c301_17 : decode (aCode 301) 17 = .ok (.aload_n 0, 1) := (congrArg (fun c => decode c 17) c301).trans dJ9_compress_2_17
theorem e301_17 {d : Nat} {a1 a2 a3 a4 a5 a6 : Value} {x : Nat} {st : List Value} {h : aH} : run d 301 17 [.ref x, a1, a2, a3, a4, a5, a6] st h = run d 301 18 [.ref x, a1, a2, a3, a4, a5, a6] (.ref x :: st) h := (run_act (c301_17)).trans rfl
theorem c301_18 : decode (aCode 301) 18 = .ok (.iload_n 1, 1) := (congrArg (fun c => decode c 18) c301).trans dJ9_compress_2_18
theorem e301_18 {d : Nat} {a0 a2 a3 a4 a5 a6 : Value} {x : Int32} {st : List Value} {h : aH} : run d 301 18 [a0, .int x, a2, a3, a4, a5, a6] st h = run d 301 19 [a0, .int x, a2, a3, a4, a5, a6] (.int x :: st) h := (run_act (c301_18)).trans rfl
theorem c301_19 : decode (aCode 301) 19 = .ok (.invokestatic 71, 3) := (congrArg (fun c => decode c 19) c301).trans dJ9_compress_2_19
theorem e301_19 {d : Nat} {a0 a1 a2 a3 a4 a5 a6 : Value} {x0 : Nat} {x1 : Int32} {h : aH} : run (d + 1) 301 19 [a0, a1, a2, a3, a4, a5, a6] [.int x1, .ref x0] h = aBk (d + 1) 301 19 [a0, a1, a2, a3, a4, a5, a6] [] false (run d 293 0 [.ref x0, .int x1] [] h) := (run_act (c301_19)).trans (e_stat (m := 2) (ν := 293) (as := [.ref x0, .int x1]) (rest := []) (md := 0) (κ := 0) rfl rfl rfl rfl rfl)
theorem c301_22 : decode (aCode 301) 22 = .ok (.istore 6, 2) := (congrArg (fun c => decode c 22) c301).trans dJ9_compress_2_22
theorem e301_22 {d : Nat} {a0 a1 a2 a3 a4 a5 a6 : Value} {x : Int32} {st : List Value} {h : aH} : run d 301 22 [a0, a1, a2, a3, a4, a5, a6] (.int x :: st) h = run d 301 24 [a0, a1, a2, a3, a4, a5, .int x] st h := (run_act (c301_22)).trans rfl
theorem c301_24 : decode (aCode 301) 24 = .ok (.iload 6, 2) := (congrArg (fun c => decode c 24) c301).trans dJ9_compress_2_24
theorem e301_24 {d : Nat} {a0 a1 a2 a3 a4 a5 : Value} {x : Int32} {st : List Value} {h : aH} : run d 301 24 [a0, a1, a2, a3, a4, a5, .int x] st h = run d 301 26 [a0, a1, a2, a3, a4, a5, .int x] (.int x :: st) h := (run_act (c301_24)).trans rfl
theorem c301_26 : decode (aCode 301) 26 = .ok (.sipush 255, 3) := (congrArg (fun c => decode c 26) c301).trans dJ9_compress_2_26
theorem e301_26 {d : Nat} {a0 a1 a2 a3 a4 a5 a6 : Value} {st : List Value} {h : aH} : run d 301 26 [a0, a1, a2, a3, a4, a5, a6] st h = run d 301 29 [a0, a1, a2, a3, a4, a5, a6] (.int (nI 255) :: st) h := (run_act (c301_26)).trans rfl
theorem c301_29 : decode (aCode 301) 29 = .ok (.if_icmp .le 6, 3) := (congrArg (fun c => decode c 29) c301).trans dJ9_compress_2_29
theorem e301_29 {d : Nat} {a0 a1 a2 a3 a4 a5 a6 : Value} {x y : Int32} {st : List Value} {h : aH} : run d 301 29 [a0, a1, a2, a3, a4, a5, a6] (.int y :: .int x :: st) h = if x ≤ y then run d 301 35 [a0, a1, a2, a3, a4, a5, a6] st h else run d 301 32 [a0, a1, a2, a3, a4, a5, a6] st h := (run_act (c301_29)).trans (e_if_icmp_le rfl)
theorem c301_32 : decode (aCode 301) 32 = .ok (.iload 5, 2) := (congrArg (fun c => decode c 32) c301).trans dJ9_compress_2_32
theorem e301_32 {d : Nat} {a0 a1 a2 a3 a4 a6 : Value} {x : Int32} {st : List Value} {h : aH} : run d 301 32 [a0, a1, a2, a3, a4, .int x, a6] st h = run d 301 34 [a0, a1, a2, a3, a4, .int x, a6] (.int x :: st) h := (run_act (c301_32)).trans rfl
theorem c301_34 : decode (aCode 301) 34 = .ok (.ireturn, 1) := (congrArg (fun c => decode c 34) c301).trans dJ9_compress_2_34
theorem e301_34 {d : Nat} {a0 a1 a2 a3 a4 a5 a6 : Value} {x : Int32} {h : aH} : run d 301 34 [a0, a1, a2, a3, a4, a5, a6] [.int x] h = some (.returned (some (.int x)), h) := (run_act (c301_34)).trans rfl
theorem c301_35 : decode (aCode 301) 35 = .ok (.aload_n 2, 1) := (congrArg (fun c => decode c 35) c301).trans dJ9_compress_2_35
theorem e301_35 {d : Nat} {a0 a1 a3 a4 a5 a6 : Value} {x : Nat} {st : List Value} {h : aH} : run d 301 35 [a0, a1, .ref x, a3, a4, a5, a6] st h = run d 301 36 [a0, a1, .ref x, a3, a4, a5, a6] (.ref x :: st) h := (run_act (c301_35)).trans rfl
theorem c301_36 : decode (aCode 301) 36 = .ok (.iload_n 3, 1) := (congrArg (fun c => decode c 36) c301).trans dJ9_compress_2_36
theorem e301_36 {d : Nat} {a0 a1 a2 a4 a5 a6 : Value} {x : Int32} {st : List Value} {h : aH} : run d 301 36 [a0, a1, a2, .int x, a4, a5, a6] st h = run d 301 37 [a0, a1, a2, .int x, a4, a5, a6] (.int x :: st) h := (run_act (c301_36)).trans rfl
theorem c301_37 : decode (aCode 301) 37 = .ok (.iload 6, 2) := (congrArg (fun c => decode c 37) c301).trans dJ9_compress_2_37
theorem e301_37 {d : Nat} {a0 a1 a2 a3 a4 a5 : Value} {x : Int32} {st : List Value} {h : aH} : run d 301 37 [a0, a1, a2, a3, a4, a5, .int x] st h = run d 301 39 [a0, a1, a2, a3, a4, a5, .int x] (.int x :: st) h := (run_act (c301_37)).trans rfl
theorem c301_39 : decode (aCode 301) 39 = .ok (.i2b, 1) := (congrArg (fun c => decode c 39) c301).trans dJ9_compress_2_39
theorem e301_39 {d : Nat} {a0 a1 a2 a3 a4 a5 a6 : Value} {x : Int32} {st : List Value} {h : aH} : run d 301 39 [a0, a1, a2, a3, a4, a5, a6] (.int x :: st) h = run d 301 40 [a0, a1, a2, a3, a4, a5, a6] (.int (x.toInt8.toInt32) :: st) h := (run_act (c301_39)).trans rfl
theorem c301_40 : decode (aCode 301) 40 = .ok (.bastore, 1) := (congrArg (fun c => decode c 40) c301).trans dJ9_compress_2_40
theorem e301_40 {d : Nat} {a0 a1 a2 a3 a4 a5 a6 : Value} {x n : Nat} {v : Int32} {st : List Value} {h : aH} (h6 : 64 ≤ x) (hκ : (hk_ h x).1 = 101) (hn : n < (hk_ h x).2) (hb : (hk_ h x).2 ≤ 2147483647) : run d 301 40 [a0, a1, a2, a3, a4, a5, a6] (.int v :: .int (nI n) :: .ref x :: st) h = run d 301 41 [a0, a1, a2, a3, a4, a5, a6] st (si_ h x n v.toInt8.toInt32) := (run_act (c301_40)).trans (e_bastore_n h6 hκ hn hb)
theorem e301_40z {d : Nat} {a0 a1 a2 a3 a4 a5 a6 : Value} {x n : Nat} {v : Int32} {st : List Value} {h : aH} (h6 : 64 ≤ x) (hκ : (hk_ h x).1 = 103) (hn : n < (hk_ h x).2) (hb : (hk_ h x).2 ≤ 2147483647) (hv : v = 0 ∨ v = 1) : run d 301 40 [a0, a1, a2, a3, a4, a5, a6] (.int v :: .int (nI n) :: .ref x :: st) h = run d 301 41 [a0, a1, a2, a3, a4, a5, a6] st (si_ h x n v) := (run_act (c301_40)).trans (e_zastore_n h6 hκ hn hb hv)
theorem c301_41 : decode (aCode 301) 41 = .ok (.iinc 1 1, 3) := (congrArg (fun c => decode c 41) c301).trans dJ9_compress_2_41
theorem e301_41 {d : Nat} {a0 a2 a3 a4 a5 a6 : Value} {x : Int32} {st : List Value} {h : aH} : run d 301 41 [a0, .int x, a2, a3, a4, a5, a6] st h = run d 301 44 [a0, .int (x + (nI 1)), a2, a3, a4, a5, a6] st h := (run_act (c301_41)).trans rfl
theorem c301_44 : decode (aCode 301) 44 = .ok (.iinc 3 1, 3) := (congrArg (fun c => decode c 44) c301).trans dJ9_compress_2_44
theorem e301_44 {d : Nat} {a0 a1 a2 a4 a5 a6 : Value} {x : Int32} {st : List Value} {h : aH} : run d 301 44 [a0, a1, a2, .int x, a4, a5, a6] st h = run d 301 47 [a0, a1, a2, .int (x + (nI 1)), a4, a5, a6] st h := (run_act (c301_44)).trans rfl
theorem c301_47 : decode (aCode 301) 47 = .ok (.iinc 5 1, 3) := (congrArg (fun c => decode c 47) c301).trans dJ9_compress_2_47
theorem e301_47 {d : Nat} {a0 a1 a2 a3 a4 a6 : Value} {x : Int32} {st : List Value} {h : aH} : run d 301 47 [a0, a1, a2, a3, a4, .int x, a6] st h = run d 301 50 [a0, a1, a2, a3, a4, .int (x + (nI 1)), a6] st h := (run_act (c301_47)).trans rfl
theorem c301_50 : decode (aCode 301) 50 = .ok (.goto (-40), 3) := (congrArg (fun c => decode c 50) c301).trans dJ9_compress_2_50
theorem e301_50 {d : Nat} {a0 a1 a2 a3 a4 a5 a6 : Value} {st : List Value} {h : aH} : run d 301 50 [a0, a1, a2, a3, a4, a5, a6] st h = run d 301 10 [a0, a1, a2, a3, a4, a5, a6] st h := (run_act (c301_50)).trans rfl
theorem c301_53 : decode (aCode 301) 53 = .ok (.iload 4, 2) := (congrArg (fun c => decode c 53) c301).trans dJ9_compress_2_53
theorem e301_53 {d : Nat} {a0 a1 a2 a3 a5 a6 : Value} {x : Int32} {st : List Value} {h : aH} : run d 301 53 [a0, a1, a2, a3, .int x, a5, a6] st h = run d 301 55 [a0, a1, a2, a3, .int x, a5, a6] (.int x :: st) h := (run_act (c301_53)).trans rfl
theorem c301_55 : decode (aCode 301) 55 = .ok (.ireturn, 1) := (congrArg (fun c => decode c 55) c301).trans dJ9_compress_2_55
theorem e301_55 {d : Nat} {a0 a1 a2 a3 a4 a5 a6 : Value} {x : Int32} {h : aH} : run d 301 55 [a0, a1, a2, a3, a4, a5, a6] [.int x] h = some (.returned (some (.int x)), h) := (run_act (c301_55)).trans rfl
/-! java/lang/StringUTF16.coderFromArrayLen: 302 -/
theorem c302 : aCode 302 = cJ9_coderFromArrayLen := rfl
theorem c302_0 : decode (aCode 302) 0 = .ok (.iload_n 1, 1) := (congrArg (fun c => decode c 0) c302).trans dJ9_coderFromArrayLen_0
theorem e302_0 {d : Nat} {a0 : Value} {x : Int32} {st : List Value} {h : aH} : run d 302 0 [a0, .int x] st h = run d 302 1 [a0, .int x] (.int x :: st) h := (run_act (c302_0)).trans rfl
theorem c302_1 : decode (aCode 302) 1 = .ok (.aload_n 0, 1) := (congrArg (fun c => decode c 1) c302).trans dJ9_coderFromArrayLen_1
theorem e302_1 {d : Nat} {a1 : Value} {x : Nat} {st : List Value} {h : aH} : run d 302 1 [.ref x, a1] st h = run d 302 2 [.ref x, a1] (.ref x :: st) h := (run_act (c302_1)).trans rfl
theorem c302_2 : decode (aCode 302) 2 = .ok (.arraylength, 1) := (congrArg (fun c => decode c 2) c302).trans dJ9_coderFromArrayLen_2
theorem e302_2 {d : Nat} {a0 a1 : Value} {x : Nat} {st : List Value} {h : aH} (hκ : 100 ≤ (hk_ h x).1) : run d 302 2 [a0, a1] (.ref x :: st) h = run d 302 3 [a0, a1] (.int (nI (hk_ h x).2) :: st) h := (run_act (c302_2)).trans (e_alen hκ)
theorem c302_3 : decode (aCode 302) 3 = .ok (.isub, 1) := (congrArg (fun c => decode c 3) c302).trans dJ9_coderFromArrayLen_3
theorem e302_3 {d : Nat} {a0 a1 : Value} {x y : Int32} {st : List Value} {h : aH} : run d 302 3 [a0, a1] (.int y :: .int x :: st) h = run d 302 4 [a0, a1] (.int (x - y) :: st) h := (run_act (c302_3)).trans rfl
theorem c302_4 : decode (aCode 302) 4 = .ok (.bipush 31, 2) := (congrArg (fun c => decode c 4) c302).trans dJ9_coderFromArrayLen_4
theorem e302_4 {d : Nat} {a0 a1 : Value} {st : List Value} {h : aH} : run d 302 4 [a0, a1] st h = run d 302 6 [a0, a1] (.int (nI 31) :: st) h := (run_act (c302_4)).trans rfl
theorem c302_6 : decode (aCode 302) 6 = .ok (.iushr, 1) := (congrArg (fun c => decode c 6) c302).trans dJ9_coderFromArrayLen_6
theorem e302_6 {d : Nat} {a0 a1 : Value} {x y : Int32} {st : List Value} {h : aH} : run d 302 6 [a0, a1] (.int y :: .int x :: st) h = run d 302 7 [a0, a1] (.int (ush_ x y) :: st) h := (run_act (c302_6)).trans rfl
theorem c302_7 : decode (aCode 302) 7 = .ok (.i2b, 1) := (congrArg (fun c => decode c 7) c302).trans dJ9_coderFromArrayLen_7
theorem e302_7 {d : Nat} {a0 a1 : Value} {x : Int32} {st : List Value} {h : aH} : run d 302 7 [a0, a1] (.int x :: st) h = run d 302 8 [a0, a1] (.int (x.toInt8.toInt32) :: st) h := (run_act (c302_7)).trans rfl
theorem c302_8 : decode (aCode 302) 8 = .ok (.ireturn, 1) := (congrArg (fun c => decode c 8) c302).trans dJ9_coderFromArrayLen_8
theorem e302_8 {d : Nat} {a0 a1 : Value} {x : Int32} {h : aH} (hx : x.toInt8.toInt32 = x) : run d 302 8 [a0, a1] [.int x] h = some (.returned (some (.int x)), h) := (run_act (c302_8)).trans (e_bret rfl hx)
/-! java/lang/AbstractStringBuilder.init: 314 -/
theorem c314 : aCode 314 = cJ10_init := rfl
theorem c314_0 : decode (aCode 314) 0 = .ok (.aload_n 0, 1) := (congrArg (fun c => decode c 0) c314).trans dJ10_init_0
theorem e314_0 {d : Nat} {a1 : Value} {x : Nat} {st : List Value} {h : aH} : run d 314 0 [.ref x, a1] st h = run d 314 1 [.ref x, a1] (.ref x :: st) h := (run_act (c314_0)).trans rfl
theorem c314_1 : decode (aCode 314) 1 = .ok (.invokespecial 3, 3) := (congrArg (fun c => decode c 1) c314).trans dJ10_init_1
theorem e314_1 {d : Nat} {a0 a1 : Value} {o : Nat} {h : aH} (hκ : (hk_ h o).1 < 98) : run d 314 1 [a0, a1] [.ref o] h = run d 314 4 [a0, a1] [] h := (run_act (c314_1)).trans (e_obj rfl hκ rfl)
theorem c314_4 : decode (aCode 314) 4 = .ok (.getstatic 18, 3) := (congrArg (fun c => decode c 4) c314).trans dJ10_init_4
theorem e314_4 {d : Nat} {a0 a1 : Value} {st : List Value} {h : aH} : run d 314 4 [a0, a1] st h = run d 314 7 [a0, a1] (.int (nI 1) :: st) h := (run_act (c314_4)).trans rfl
theorem c314_7 : decode (aCode 314) 7 = .ok (.ifCond .eq 18, 3) := (congrArg (fun c => decode c 7) c314).trans dJ10_init_7
theorem e314_7 {d : Nat} {a0 a1 : Value} {x : Int32} {st : List Value} {h : aH} : run d 314 7 [a0, a1] (.int x :: st) h = if x = 0 then run d 314 25 [a0, a1] st h else run d 314 10 [a0, a1] st h := (run_act (c314_7)).trans (e_ifCond_eq rfl)
theorem c314_10 : decode (aCode 314) 10 = .ok (.aload_n 0, 1) := (congrArg (fun c => decode c 10) c314).trans dJ10_init_10
theorem e314_10 {d : Nat} {a1 : Value} {x : Nat} {st : List Value} {h : aH} : run d 314 10 [.ref x, a1] st h = run d 314 11 [.ref x, a1] (.ref x :: st) h := (run_act (c314_10)).trans rfl
theorem c314_11 : decode (aCode 314) 11 = .ok (.iload_n 1, 1) := (congrArg (fun c => decode c 11) c314).trans dJ10_init_11
theorem e314_11 {d : Nat} {a0 : Value} {x : Int32} {st : List Value} {h : aH} : run d 314 11 [a0, .int x] st h = run d 314 12 [a0, .int x] (.int x :: st) h := (run_act (c314_11)).trans rfl
theorem c314_12 : decode (aCode 314) 12 = .ok (.newarray .byte, 2) := (congrArg (fun c => decode c 12) c314).trans dJ10_init_12
theorem e314_12 {d : Nat} {a0 a1 : Value} {m : Nat} {st : List Value} {h : aH} (hm : m ≤ 1000000) : run d 314 12 [a0, a1] (.int (nI m) :: st) h = run d 314 14 [a0, a1] (.ref (hz_ h) :: st) (nw_ h 101 m m) := (run_act (c314_12)).trans (e_newa_n rfl hm)
theorem c314_14 : decode (aCode 314) 14 = .ok (.putfield 15, 3) := (congrArg (fun c => decode c 14) c314).trans dJ10_init_14
theorem e314_14 {d : Nat} {a0 a1 : Value} {x v : Nat} {st : List Value} {h : aH} (hκ : (hk_ h x).1 = 17) (h6 : 64 ≤ x) : run d 314 14 [a0, a1] (.ref v :: .ref x :: st) h = run d 314 17 [a0, a1] st (sp_ h x 149 (some v)) := (run_act (c314_14)).trans (e_put (g := 149) (ty := 2) (fin := 0) rfl rfl (by rw [hκ]; rfl) h6 rfl)
theorem e314_14n {d : Nat} {a0 a1 : Value} {x : Nat} {st : List Value} {h : aH} (hκ : (hk_ h x).1 = 17) (h6 : 64 ≤ x) : run d 314 14 [a0, a1] (.null :: .ref x :: st) h = run d 314 17 [a0, a1] st (sp_ h x 149 none) := (run_act (c314_14)).trans (e_put (g := 149) (ty := 2) (fin := 0) rfl rfl (by rw [hκ]; rfl) h6 rfl)
theorem c314_17 : decode (aCode 314) 17 = .ok (.aload_n 0, 1) := (congrArg (fun c => decode c 17) c314).trans dJ10_init_17
theorem e314_17 {d : Nat} {a1 : Value} {x : Nat} {st : List Value} {h : aH} : run d 314 17 [.ref x, a1] st h = run d 314 18 [.ref x, a1] (.ref x :: st) h := (run_act (c314_17)).trans rfl
theorem c314_18 : decode (aCode 314) 18 = .ok (.iconst 0, 1) := (congrArg (fun c => decode c 18) c314).trans dJ10_init_18
theorem e314_18 {d : Nat} {a0 a1 : Value} {st : List Value} {h : aH} : run d 314 18 [a0, a1] st h = run d 314 19 [a0, a1] (.int (nI 0) :: st) h := (run_act (c314_18)).trans rfl
theorem c314_19 : decode (aCode 314) 19 = .ok (.putfield 22, 3) := (congrArg (fun c => decode c 19) c314).trans dJ10_init_19
theorem e314_19 {d : Nat} {a0 a1 : Value} {x : Nat} {v : Int32} {st : List Value} {h : aH} (hκ : (hk_ h x).1 = 17) (h6 : 64 ≤ x) (hv : v.toInt8.toInt32 = v) : run d 314 19 [a0, a1] (.int v :: .ref x :: st) h = run d 314 22 [a0, a1] st (si_ h x 150 v) := (run_act (c314_19)).trans (e_put (g := 150) (ty := 4) (fin := 0) rfl rfl (by rw [hκ]; rfl) h6 (if_pos hv))
theorem c314_22 : decode (aCode 314) 22 = .ok (.goto 16, 3) := (congrArg (fun c => decode c 22) c314).trans dJ10_init_22
theorem e314_22 {d : Nat} {a0 a1 : Value} {st : List Value} {h : aH} : run d 314 22 [a0, a1] st h = run d 314 38 [a0, a1] st h := (run_act (c314_22)).trans rfl
theorem c314_25 : decode (aCode 314) 25 = .ok (.aload_n 0, 1) := (congrArg (fun c => decode c 25) c314).trans dJ10_init_25
theorem e314_25 {d : Nat} {a1 : Value} {x : Nat} {st : List Value} {h : aH} : run d 314 25 [.ref x, a1] st h = run d 314 26 [.ref x, a1] (.ref x :: st) h := (run_act (c314_25)).trans rfl
theorem c314_26 : decode (aCode 314) 26 = .ok (.iload_n 1, 1) := (congrArg (fun c => decode c 26) c314).trans dJ10_init_26
theorem e314_26 {d : Nat} {a0 : Value} {x : Int32} {st : List Value} {h : aH} : run d 314 26 [a0, .int x] st h = run d 314 27 [a0, .int x] (.int x :: st) h := (run_act (c314_26)).trans rfl
theorem c314_27 : decode (aCode 314) 27 = .ok (.invokestatic 26, 3) := (congrArg (fun c => decode c 27) c314).trans dJ10_init_27
theorem e314_27 {d : Nat} {a0 a1 : Value} {x0 : Int32} {r0 : Nat} {h : aH} : run (d + 1) 314 27 [a0, a1] [.int x0, .ref r0] h = aBk (d + 1) 314 27 [a0, a1] [.ref r0] false (run d 294 0 [.int x0] [] h) := (run_act (c314_27)).trans (e_stat (m := 1) (ν := 294) (as := [.int x0]) (rest := [.ref r0]) (md := 0) (κ := 0) rfl rfl rfl rfl rfl)
theorem c314_30 : decode (aCode 314) 30 = .ok (.putfield 15, 3) := (congrArg (fun c => decode c 30) c314).trans dJ10_init_30
theorem e314_30 {d : Nat} {a0 a1 : Value} {x v : Nat} {st : List Value} {h : aH} (hκ : (hk_ h x).1 = 17) (h6 : 64 ≤ x) : run d 314 30 [a0, a1] (.ref v :: .ref x :: st) h = run d 314 33 [a0, a1] st (sp_ h x 149 (some v)) := (run_act (c314_30)).trans (e_put (g := 149) (ty := 2) (fin := 0) rfl rfl (by rw [hκ]; rfl) h6 rfl)
theorem e314_30n {d : Nat} {a0 a1 : Value} {x : Nat} {st : List Value} {h : aH} (hκ : (hk_ h x).1 = 17) (h6 : 64 ≤ x) : run d 314 30 [a0, a1] (.null :: .ref x :: st) h = run d 314 33 [a0, a1] st (sp_ h x 149 none) := (run_act (c314_30)).trans (e_put (g := 149) (ty := 2) (fin := 0) rfl rfl (by rw [hκ]; rfl) h6 rfl)
theorem c314_33 : decode (aCode 314) 33 = .ok (.aload_n 0, 1) := (congrArg (fun c => decode c 33) c314).trans dJ10_init_33
theorem e314_33 {d : Nat} {a1 : Value} {x : Nat} {st : List Value} {h : aH} : run d 314 33 [.ref x, a1] st h = run d 314 34 [.ref x, a1] (.ref x :: st) h := (run_act (c314_33)).trans rfl
theorem c314_34 : decode (aCode 314) 34 = .ok (.iconst 1, 1) := (congrArg (fun c => decode c 34) c314).trans dJ10_init_34
theorem e314_34 {d : Nat} {a0 a1 : Value} {st : List Value} {h : aH} : run d 314 34 [a0, a1] st h = run d 314 35 [a0, a1] (.int (nI 1) :: st) h := (run_act (c314_34)).trans rfl
theorem c314_35 : decode (aCode 314) 35 = .ok (.putfield 22, 3) := (congrArg (fun c => decode c 35) c314).trans dJ10_init_35
theorem e314_35 {d : Nat} {a0 a1 : Value} {x : Nat} {v : Int32} {st : List Value} {h : aH} (hκ : (hk_ h x).1 = 17) (h6 : 64 ≤ x) (hv : v.toInt8.toInt32 = v) : run d 314 35 [a0, a1] (.int v :: .ref x :: st) h = run d 314 38 [a0, a1] st (si_ h x 150 v) := (run_act (c314_35)).trans (e_put (g := 150) (ty := 4) (fin := 0) rfl rfl (by rw [hκ]; rfl) h6 (if_pos hv))
theorem c314_38 : decode (aCode 314) 38 = .ok (.return_, 1) := (congrArg (fun c => decode c 38) c314).trans dJ10_init_38
theorem e314_38 {d : Nat} {a0 a1 : Value} {h : aH} : run d 314 38 [a0, a1] [] h = some (.returned none, h) := (run_act (c314_38)).trans rfl
/-! java/lang/AbstractStringBuilder.append: 315 -/
theorem c315 : aCode 315 = cJ10_append := rfl
theorem c315_0 : decode (aCode 315) 0 = .ok (.aload_n 0, 1) := (congrArg (fun c => decode c 0) c315).trans dJ10_append_0
theorem e315_0 {d : Nat} {a1 : Value} {x : Nat} {st : List Value} {h : aH} : run d 315 0 [.ref x, a1] st h = run d 315 1 [.ref x, a1] (.ref x :: st) h := (run_act (c315_0)).trans rfl
theorem c315_1 : decode (aCode 315) 1 = .ok (.aload_n 0, 1) := (congrArg (fun c => decode c 1) c315).trans dJ10_append_1
theorem e315_1 {d : Nat} {a1 : Value} {x : Nat} {st : List Value} {h : aH} : run d 315 1 [.ref x, a1] st h = run d 315 2 [.ref x, a1] (.ref x :: st) h := (run_act (c315_1)).trans rfl
theorem c315_2 : decode (aCode 315) 2 = .ok (.getfield 79, 3) := (congrArg (fun c => decode c 2) c315).trans dJ10_append_2
theorem e315_2 {d : Nat} {a0 a1 : Value} {x : Nat} {st : List Value} {h : aH} (hκ : (hk_ h x).1 = 17) : run d 315 2 [a0, a1] (.ref x :: st) h = run d 315 5 [a0, a1] (.int (hi_ h x 152) :: st) h := (run_act (c315_2)).trans (e_get (g := 152) (ty := 0) (fin := 0) rfl (by rw [hκ]; rfl))
theorem c315_5 : decode (aCode 315) 5 = .ok (.iconst 1, 1) := (congrArg (fun c => decode c 5) c315).trans dJ10_append_5
theorem e315_5 {d : Nat} {a0 a1 : Value} {st : List Value} {h : aH} : run d 315 5 [a0, a1] st h = run d 315 6 [a0, a1] (.int (nI 1) :: st) h := (run_act (c315_5)).trans rfl
theorem c315_6 : decode (aCode 315) 6 = .ok (.iadd, 1) := (congrArg (fun c => decode c 6) c315).trans dJ10_append_6
theorem e315_6 {d : Nat} {a0 a1 : Value} {x y : Int32} {st : List Value} {h : aH} : run d 315 6 [a0, a1] (.int y :: .int x :: st) h = run d 315 7 [a0, a1] (.int (x + y) :: st) h := (run_act (c315_6)).trans rfl
theorem c315_7 : decode (aCode 315) 7 = .ok (.invokevirtual 100, 3) := (congrArg (fun c => decode c 7) c315).trans dJ10_append_7
theorem e315_7 {d : Nat} {a0 a1 : Value} {x0 : Int32} {o : Nat} {h : aH} (hκ : (hk_ h o).1 = 17) : run (d + 1) 315 7 [a0, a1] [.int x0, .ref o] h = aBk (d + 1) 315 7 [a0, a1] [] false (run d 316 0 [.ref o, .int x0, aU] [] h) := (run_act (c315_7)).trans (e_virt (m := 1) (ν := 316) (as := [.int x0]) (rest := []) (md := 8) (tg := [(17, 316)]) rfl rfl hκ rfl (.inr ⟨⟨rfl, rfl⟩, rfl⟩) rfl rfl)
theorem c315_10 : decode (aCode 315) 10 = .ok (.aload_n 0, 1) := (congrArg (fun c => decode c 10) c315).trans dJ10_append_10
theorem e315_10 {d : Nat} {a1 : Value} {x : Nat} {st : List Value} {h : aH} : run d 315 10 [.ref x, a1] st h = run d 315 11 [.ref x, a1] (.ref x :: st) h := (run_act (c315_10)).trans rfl
theorem c315_11 : decode (aCode 315) 11 = .ok (.invokevirtual 83, 3) := (congrArg (fun c => decode c 11) c315).trans dJ10_append_11
theorem e315_11 {d : Nat} {a0 a1 : Value} {o : Nat} {h : aH} (hκ : (hk_ h o).1 = 17) : run (d + 1) 315 11 [a0, a1] [.ref o] h = aBk (d + 1) 315 11 [a0, a1] [] false (run d 318 0 [.ref o] [] h) := (run_act (c315_11)).trans (e_virt (m := 0) (ν := 318) (as := []) (rest := []) (md := 5) (tg := [(17, 318)]) rfl rfl hκ rfl (.inr ⟨⟨rfl, rfl⟩, rfl⟩) rfl rfl)
theorem c315_14 : decode (aCode 315) 14 = .ok (.ifCond .eq 31, 3) := (congrArg (fun c => decode c 14) c315).trans dJ10_append_14
theorem e315_14 {d : Nat} {a0 a1 : Value} {x : Int32} {st : List Value} {h : aH} : run d 315 14 [a0, a1] (.int x :: st) h = if x = 0 then run d 315 45 [a0, a1] st h else run d 315 17 [a0, a1] st h := (run_act (c315_14)).trans (e_ifCond_eq rfl)
theorem c315_17 : decode (aCode 315) 17 = .ok (.iload_n 1, 1) := (congrArg (fun c => decode c 17) c315).trans dJ10_append_17
theorem e315_17 {d : Nat} {a0 : Value} {x : Int32} {st : List Value} {h : aH} : run d 315 17 [a0, .int x] st h = run d 315 18 [a0, .int x] (.int x :: st) h := (run_act (c315_17)).trans rfl
theorem c315_18 : decode (aCode 315) 18 = .ok (.invokestatic 191, 3) := (congrArg (fun c => decode c 18) c315).trans dJ10_append_18
theorem e315_18 {d : Nat} {a0 a1 : Value} {x0 : Int32} {h : aH} : run (d + 1) 315 18 [a0, a1] [.int x0] h = aBk (d + 1) 315 18 [a0, a1] [] false (run d 285 0 [.int x0] [] h) := (run_act (c315_18)).trans (e_stat (m := 1) (ν := 285) (as := [.int x0]) (rest := []) (md := 0) (κ := 0) rfl rfl rfl rfl rfl)
theorem c315_21 : decode (aCode 315) 21 = .ok (.ifCond .eq 24, 3) := (congrArg (fun c => decode c 21) c315).trans dJ10_append_21
theorem e315_21 {d : Nat} {a0 a1 : Value} {x : Int32} {st : List Value} {h : aH} : run d 315 21 [a0, a1] (.int x :: st) h = if x = 0 then run d 315 45 [a0, a1] st h else run d 315 24 [a0, a1] st h := (run_act (c315_21)).trans (e_ifCond_eq rfl)
theorem c315_24 : decode (aCode 315) 24 = .ok (.aload_n 0, 1) := (congrArg (fun c => decode c 24) c315).trans dJ10_append_24
theorem e315_24 {d : Nat} {a1 : Value} {x : Nat} {st : List Value} {h : aH} : run d 315 24 [.ref x, a1] st h = run d 315 25 [.ref x, a1] (.ref x :: st) h := (run_act (c315_24)).trans rfl
theorem c315_25 : decode (aCode 315) 25 = .ok (.getfield 15, 3) := (congrArg (fun c => decode c 25) c315).trans dJ10_append_25
theorem e315_25 {d : Nat} {a0 a1 : Value} {x : Nat} {st : List Value} {h : aH} (hκ : (hk_ h x).1 = 17) : run d 315 25 [a0, a1] (.ref x :: st) h = run d 315 28 [a0, a1] (va_rf (hp_ h x 149) :: st) h := (run_act (c315_25)).trans (e_get (g := 149) (ty := 2) (fin := 0) rfl (by rw [hκ]; rfl))
theorem c315_28 : decode (aCode 315) 28 = .ok (.aload_n 0, 1) := (congrArg (fun c => decode c 28) c315).trans dJ10_append_28
theorem e315_28 {d : Nat} {a1 : Value} {x : Nat} {st : List Value} {h : aH} : run d 315 28 [.ref x, a1] st h = run d 315 29 [.ref x, a1] (.ref x :: st) h := (run_act (c315_28)).trans rfl
theorem c315_29 : decode (aCode 315) 29 = .ok (.dup, 1) := (congrArg (fun c => decode c 29) c315).trans dJ10_append_29
theorem e315_29 {d : Nat} {a0 a1 : Value} {x : Nat} {st : List Value} {h : aH} : run d 315 29 [a0, a1] (.ref x :: st) h = run d 315 30 [a0, a1] (.ref x :: .ref x :: st) h := (run_act (c315_29)).trans rfl
theorem c315_30 : decode (aCode 315) 30 = .ok (.getfield 79, 3) := (congrArg (fun c => decode c 30) c315).trans dJ10_append_30
theorem e315_30 {d : Nat} {a0 a1 : Value} {x : Nat} {st : List Value} {h : aH} (hκ : (hk_ h x).1 = 17) : run d 315 30 [a0, a1] (.ref x :: st) h = run d 315 33 [a0, a1] (.int (hi_ h x 152) :: st) h := (run_act (c315_30)).trans (e_get (g := 152) (ty := 0) (fin := 0) rfl (by rw [hκ]; rfl))
theorem c315_33 : decode (aCode 315) 33 = .ok (.dup_x1, 1) := (congrArg (fun c => decode c 33) c315).trans dJ10_append_33
theorem e315_33 {d : Nat} {a0 a1 : Value} {x : Int32} {y : Nat} {st : List Value} {h : aH} : run d 315 33 [a0, a1] (.int x :: .ref y :: st) h = run d 315 34 [a0, a1] (.int x :: .ref y :: .int x :: st) h := (run_act (c315_33)).trans rfl
theorem c315_34 : decode (aCode 315) 34 = .ok (.iconst 1, 1) := (congrArg (fun c => decode c 34) c315).trans dJ10_append_34
theorem e315_34 {d : Nat} {a0 a1 : Value} {st : List Value} {h : aH} : run d 315 34 [a0, a1] st h = run d 315 35 [a0, a1] (.int (nI 1) :: st) h := (run_act (c315_34)).trans rfl
theorem c315_35 : decode (aCode 315) 35 = .ok (.iadd, 1) := (congrArg (fun c => decode c 35) c315).trans dJ10_append_35
theorem e315_35 {d : Nat} {a0 a1 : Value} {x y : Int32} {st : List Value} {h : aH} : run d 315 35 [a0, a1] (.int y :: .int x :: st) h = run d 315 36 [a0, a1] (.int (x + y) :: st) h := (run_act (c315_35)).trans rfl
theorem c315_36 : decode (aCode 315) 36 = .ok (.putfield 79, 3) := (congrArg (fun c => decode c 36) c315).trans dJ10_append_36
theorem e315_36 {d : Nat} {a0 a1 : Value} {x : Nat} {v : Int32} {st : List Value} {h : aH} (hκ : (hk_ h x).1 = 17) (h6 : 64 ≤ x) : run d 315 36 [a0, a1] (.int v :: .ref x :: st) h = run d 315 39 [a0, a1] st (si_ h x 152 v) := (run_act (c315_36)).trans (e_put (g := 152) (ty := 0) (fin := 0) rfl rfl (by rw [hκ]; rfl) h6 rfl)
theorem c315_39 : decode (aCode 315) 39 = .ok (.iload_n 1, 1) := (congrArg (fun c => decode c 39) c315).trans dJ10_append_39
theorem e315_39 {d : Nat} {a0 : Value} {x : Int32} {st : List Value} {h : aH} : run d 315 39 [a0, .int x] st h = run d 315 40 [a0, .int x] (.int x :: st) h := (run_act (c315_39)).trans rfl
theorem c315_40 : decode (aCode 315) 40 = .ok (.i2b, 1) := (congrArg (fun c => decode c 40) c315).trans dJ10_append_40
theorem e315_40 {d : Nat} {a0 a1 : Value} {x : Int32} {st : List Value} {h : aH} : run d 315 40 [a0, a1] (.int x :: st) h = run d 315 41 [a0, a1] (.int (x.toInt8.toInt32) :: st) h := (run_act (c315_40)).trans rfl
theorem c315_41 : decode (aCode 315) 41 = .ok (.bastore, 1) := (congrArg (fun c => decode c 41) c315).trans dJ10_append_41
theorem e315_41 {d : Nat} {a0 a1 : Value} {x n : Nat} {v : Int32} {st : List Value} {h : aH} (h6 : 64 ≤ x) (hκ : (hk_ h x).1 = 101) (hn : n < (hk_ h x).2) (hb : (hk_ h x).2 ≤ 2147483647) : run d 315 41 [a0, a1] (.int v :: .int (nI n) :: .ref x :: st) h = run d 315 42 [a0, a1] st (si_ h x n v.toInt8.toInt32) := (run_act (c315_41)).trans (e_bastore_n h6 hκ hn hb)
theorem e315_41z {d : Nat} {a0 a1 : Value} {x n : Nat} {v : Int32} {st : List Value} {h : aH} (h6 : 64 ≤ x) (hκ : (hk_ h x).1 = 103) (hn : n < (hk_ h x).2) (hb : (hk_ h x).2 ≤ 2147483647) (hv : v = 0 ∨ v = 1) : run d 315 41 [a0, a1] (.int v :: .int (nI n) :: .ref x :: st) h = run d 315 42 [a0, a1] st (si_ h x n v) := (run_act (c315_41)).trans (e_zastore_n h6 hκ hn hb hv)
theorem c315_42 : decode (aCode 315) 42 = .ok (.goto 33, 3) := (congrArg (fun c => decode c 42) c315).trans dJ10_append_42
theorem e315_42 {d : Nat} {a0 a1 : Value} {st : List Value} {h : aH} : run d 315 42 [a0, a1] st h = run d 315 75 [a0, a1] st h := (run_act (c315_42)).trans rfl
theorem c315_45 : decode (aCode 315) 45 = .ok (.aload_n 0, 1) := (congrArg (fun c => decode c 45) c315).trans dJ10_append_45
theorem e315_45 {d : Nat} {a1 : Value} {x : Nat} {st : List Value} {h : aH} : run d 315 45 [.ref x, a1] st h = run d 315 46 [.ref x, a1] (.ref x :: st) h := (run_act (c315_45)).trans rfl
theorem c315_46 : decode (aCode 315) 46 = .ok (.invokevirtual 83, 3) := (congrArg (fun c => decode c 46) c315).trans dJ10_append_46
theorem e315_46 {d : Nat} {a0 a1 : Value} {o : Nat} {h : aH} (hκ : (hk_ h o).1 = 17) : run (d + 1) 315 46 [a0, a1] [.ref o] h = aBk (d + 1) 315 46 [a0, a1] [] false (run d 318 0 [.ref o] [] h) := (run_act (c315_46)).trans (e_virt (m := 0) (ν := 318) (as := []) (rest := []) (md := 5) (tg := [(17, 318)]) rfl rfl hκ rfl (.inr ⟨⟨rfl, rfl⟩, rfl⟩) rfl rfl)
theorem c315_49 : decode (aCode 315) 49 = .ok (.ifCond .eq 7, 3) := (congrArg (fun c => decode c 49) c315).trans dJ10_append_49
theorem e315_49 {d : Nat} {a0 a1 : Value} {x : Int32} {st : List Value} {h : aH} : run d 315 49 [a0, a1] (.int x :: st) h = if x = 0 then run d 315 56 [a0, a1] st h else run d 315 52 [a0, a1] st h := (run_act (c315_49)).trans (e_ifCond_eq rfl)
theorem c315_52 : decode (aCode 315) 52 = .ok (.aload_n 0, 1) := (congrArg (fun c => decode c 52) c315).trans dJ10_append_52
theorem e315_52 {d : Nat} {a1 : Value} {x : Nat} {st : List Value} {h : aH} : run d 315 52 [.ref x, a1] st h = run d 315 53 [.ref x, a1] (.ref x :: st) h := (run_act (c315_52)).trans rfl
theorem c315_53 : decode (aCode 315) 53 = .ok (.invokevirtual 195, 3) := (congrArg (fun c => decode c 53) c315).trans dJ10_append_53
theorem e315_53 {d : Nat} {a0 a1 : Value} {o : Nat} {h : aH} (hκ : (hk_ h o).1 = 17) : run (d + 1) 315 53 [a0, a1] [.ref o] h = aBk (d + 1) 315 53 [a0, a1] [] false (run d 319 0 [.ref o, aU] [] h) := (run_act (c315_53)).trans (e_virt (m := 0) (ν := 319) (as := []) (rest := []) (md := 8) (tg := [(17, 319)]) rfl rfl hκ rfl (.inr ⟨⟨rfl, rfl⟩, rfl⟩) rfl rfl)
theorem c315_56 : decode (aCode 315) 56 = .ok (.aload_n 0, 1) := (congrArg (fun c => decode c 56) c315).trans dJ10_append_56
theorem e315_56 {d : Nat} {a1 : Value} {x : Nat} {st : List Value} {h : aH} : run d 315 56 [.ref x, a1] st h = run d 315 57 [.ref x, a1] (.ref x :: st) h := (run_act (c315_56)).trans rfl
theorem c315_57 : decode (aCode 315) 57 = .ok (.getfield 15, 3) := (congrArg (fun c => decode c 57) c315).trans dJ10_append_57
theorem e315_57 {d : Nat} {a0 a1 : Value} {x : Nat} {st : List Value} {h : aH} (hκ : (hk_ h x).1 = 17) : run d 315 57 [a0, a1] (.ref x :: st) h = run d 315 60 [a0, a1] (va_rf (hp_ h x 149) :: st) h := (run_act (c315_57)).trans (e_get (g := 149) (ty := 2) (fin := 0) rfl (by rw [hκ]; rfl))
theorem c315_60 : decode (aCode 315) 60 = .ok (.aload_n 0, 1) := (congrArg (fun c => decode c 60) c315).trans dJ10_append_60
theorem e315_60 {d : Nat} {a1 : Value} {x : Nat} {st : List Value} {h : aH} : run d 315 60 [.ref x, a1] st h = run d 315 61 [.ref x, a1] (.ref x :: st) h := (run_act (c315_60)).trans rfl
theorem c315_61 : decode (aCode 315) 61 = .ok (.dup, 1) := (congrArg (fun c => decode c 61) c315).trans dJ10_append_61
theorem e315_61 {d : Nat} {a0 a1 : Value} {x : Nat} {st : List Value} {h : aH} : run d 315 61 [a0, a1] (.ref x :: st) h = run d 315 62 [a0, a1] (.ref x :: .ref x :: st) h := (run_act (c315_61)).trans rfl
theorem c315_62 : decode (aCode 315) 62 = .ok (.getfield 79, 3) := (congrArg (fun c => decode c 62) c315).trans dJ10_append_62
theorem e315_62 {d : Nat} {a0 a1 : Value} {x : Nat} {st : List Value} {h : aH} (hκ : (hk_ h x).1 = 17) : run d 315 62 [a0, a1] (.ref x :: st) h = run d 315 65 [a0, a1] (.int (hi_ h x 152) :: st) h := (run_act (c315_62)).trans (e_get (g := 152) (ty := 0) (fin := 0) rfl (by rw [hκ]; rfl))
theorem c315_65 : decode (aCode 315) 65 = .ok (.dup_x1, 1) := (congrArg (fun c => decode c 65) c315).trans dJ10_append_65
theorem e315_65 {d : Nat} {a0 a1 : Value} {x : Int32} {y : Nat} {st : List Value} {h : aH} : run d 315 65 [a0, a1] (.int x :: .ref y :: st) h = run d 315 66 [a0, a1] (.int x :: .ref y :: .int x :: st) h := (run_act (c315_65)).trans rfl
theorem c315_66 : decode (aCode 315) 66 = .ok (.iconst 1, 1) := (congrArg (fun c => decode c 66) c315).trans dJ10_append_66
theorem e315_66 {d : Nat} {a0 a1 : Value} {st : List Value} {h : aH} : run d 315 66 [a0, a1] st h = run d 315 67 [a0, a1] (.int (nI 1) :: st) h := (run_act (c315_66)).trans rfl
theorem c315_67 : decode (aCode 315) 67 = .ok (.iadd, 1) := (congrArg (fun c => decode c 67) c315).trans dJ10_append_67
theorem e315_67 {d : Nat} {a0 a1 : Value} {x y : Int32} {st : List Value} {h : aH} : run d 315 67 [a0, a1] (.int y :: .int x :: st) h = run d 315 68 [a0, a1] (.int (x + y) :: st) h := (run_act (c315_67)).trans rfl
theorem c315_68 : decode (aCode 315) 68 = .ok (.putfield 79, 3) := (congrArg (fun c => decode c 68) c315).trans dJ10_append_68
theorem e315_68 {d : Nat} {a0 a1 : Value} {x : Nat} {v : Int32} {st : List Value} {h : aH} (hκ : (hk_ h x).1 = 17) (h6 : 64 ≤ x) : run d 315 68 [a0, a1] (.int v :: .ref x :: st) h = run d 315 71 [a0, a1] st (si_ h x 152 v) := (run_act (c315_68)).trans (e_put (g := 152) (ty := 0) (fin := 0) rfl rfl (by rw [hκ]; rfl) h6 rfl)
theorem c315_71 : decode (aCode 315) 71 = .ok (.iload_n 1, 1) := (congrArg (fun c => decode c 71) c315).trans dJ10_append_71
theorem e315_71 {d : Nat} {a0 : Value} {x : Int32} {st : List Value} {h : aH} : run d 315 71 [a0, .int x] st h = run d 315 72 [a0, .int x] (.int x :: st) h := (run_act (c315_71)).trans rfl
theorem c315_72 : decode (aCode 315) 72 = .ok (.invokestatic 197, 3) := (congrArg (fun c => decode c 72) c315).trans dJ10_append_72
theorem e315_72 {d : Nat} {a0 a1 : Value} {x0 : Nat} {x1 : Int32} {x2 : Int32} {h : aH} : run (d + 1) 315 72 [a0, a1] [.int x2, .int x1, .ref x0] h = aBk (d + 1) 315 72 [a0, a1] [] false (run d 299 0 [.ref x0, .int x1, .int x2] [] h) := (run_act (c315_72)).trans (e_stat (m := 3) (ν := 299) (as := [.ref x0, .int x1, .int x2]) (rest := []) (md := 0) (κ := 0) rfl rfl rfl rfl rfl)
theorem c315_75 : decode (aCode 315) 75 = .ok (.aload_n 0, 1) := (congrArg (fun c => decode c 75) c315).trans dJ10_append_75
theorem e315_75 {d : Nat} {a1 : Value} {x : Nat} {st : List Value} {h : aH} : run d 315 75 [.ref x, a1] st h = run d 315 76 [.ref x, a1] (.ref x :: st) h := (run_act (c315_75)).trans rfl
theorem c315_76 : decode (aCode 315) 76 = .ok (.areturn, 1) := (congrArg (fun c => decode c 76) c315).trans dJ10_append_76
theorem e315_76 {d : Nat} {a0 a1 : Value} {x : Nat} {h : aH} : run d 315 76 [a0, a1] [.ref x] h = some (.returned (some (.ref x)), h) := (run_act (c315_76)).trans rfl
/-! java/lang/AbstractStringBuilder.ensureCapacityInternal: 316 -/
theorem c316 : aCode 316 = cJ10_ensureCapacityInternal := rfl
theorem c316_0 : decode (aCode 316) 0 = .ok (.aload_n 0, 1) := (congrArg (fun c => decode c 0) c316).trans dJ10_ensureCapacityInternal_0
theorem e316_0 {d : Nat} {a1 a2 : Value} {x : Nat} {st : List Value} {h : aH} : run d 316 0 [.ref x, a1, a2] st h = run d 316 1 [.ref x, a1, a2] (.ref x :: st) h := (run_act (c316_0)).trans rfl
theorem c316_1 : decode (aCode 316) 1 = .ok (.getfield 15, 3) := (congrArg (fun c => decode c 1) c316).trans dJ10_ensureCapacityInternal_1
theorem e316_1 {d : Nat} {a0 a1 a2 : Value} {x : Nat} {st : List Value} {h : aH} (hκ : (hk_ h x).1 = 17) : run d 316 1 [a0, a1, a2] (.ref x :: st) h = run d 316 4 [a0, a1, a2] (va_rf (hp_ h x 149) :: st) h := (run_act (c316_1)).trans (e_get (g := 149) (ty := 2) (fin := 0) rfl (by rw [hκ]; rfl))
theorem c316_4 : decode (aCode 316) 4 = .ok (.arraylength, 1) := (congrArg (fun c => decode c 4) c316).trans dJ10_ensureCapacityInternal_4
theorem e316_4 {d : Nat} {a0 a1 a2 : Value} {x : Nat} {st : List Value} {h : aH} (hκ : 100 ≤ (hk_ h x).1) : run d 316 4 [a0, a1, a2] (.ref x :: st) h = run d 316 5 [a0, a1, a2] (.int (nI (hk_ h x).2) :: st) h := (run_act (c316_4)).trans (e_alen hκ)
theorem c316_5 : decode (aCode 316) 5 = .ok (.aload_n 0, 1) := (congrArg (fun c => decode c 5) c316).trans dJ10_ensureCapacityInternal_5
theorem e316_5 {d : Nat} {a1 a2 : Value} {x : Nat} {st : List Value} {h : aH} : run d 316 5 [.ref x, a1, a2] st h = run d 316 6 [.ref x, a1, a2] (.ref x :: st) h := (run_act (c316_5)).trans rfl
theorem c316_6 : decode (aCode 316) 6 = .ok (.getfield 22, 3) := (congrArg (fun c => decode c 6) c316).trans dJ10_ensureCapacityInternal_6
theorem e316_6 {d : Nat} {a0 a1 a2 : Value} {x : Nat} {st : List Value} {h : aH} (hκ : (hk_ h x).1 = 17) : run d 316 6 [a0, a1, a2] (.ref x :: st) h = run d 316 9 [a0, a1, a2] (.int (hi_ h x 150) :: st) h := (run_act (c316_6)).trans (e_get (g := 150) (ty := 4) (fin := 0) rfl (by rw [hκ]; rfl))
theorem c316_9 : decode (aCode 316) 9 = .ok (.ishr, 1) := (congrArg (fun c => decode c 9) c316).trans dJ10_ensureCapacityInternal_9
theorem e316_9 {d : Nat} {a0 a1 a2 : Value} {x y : Int32} {st : List Value} {h : aH} : run d 316 9 [a0, a1, a2] (.int y :: .int x :: st) h = run d 316 10 [a0, a1, a2] (.int (shr_ x y) :: st) h := (run_act (c316_9)).trans rfl
theorem c316_10 : decode (aCode 316) 10 = .ok (.istore_n 2, 1) := (congrArg (fun c => decode c 10) c316).trans dJ10_ensureCapacityInternal_10
theorem e316_10 {d : Nat} {a0 a1 a2 : Value} {x : Int32} {st : List Value} {h : aH} : run d 316 10 [a0, a1, a2] (.int x :: st) h = run d 316 11 [a0, a1, .int x] st h := (run_act (c316_10)).trans rfl
theorem c316_11 : decode (aCode 316) 11 = .ok (.iload_n 1, 1) := (congrArg (fun c => decode c 11) c316).trans dJ10_ensureCapacityInternal_11
theorem e316_11 {d : Nat} {a0 a2 : Value} {x : Int32} {st : List Value} {h : aH} : run d 316 11 [a0, .int x, a2] st h = run d 316 12 [a0, .int x, a2] (.int x :: st) h := (run_act (c316_11)).trans rfl
theorem c316_12 : decode (aCode 316) 12 = .ok (.iload_n 2, 1) := (congrArg (fun c => decode c 12) c316).trans dJ10_ensureCapacityInternal_12
theorem e316_12 {d : Nat} {a0 a1 : Value} {x : Int32} {st : List Value} {h : aH} : run d 316 12 [a0, a1, .int x] st h = run d 316 13 [a0, a1, .int x] (.int x :: st) h := (run_act (c316_12)).trans rfl
theorem c316_13 : decode (aCode 316) 13 = .ok (.isub, 1) := (congrArg (fun c => decode c 13) c316).trans dJ10_ensureCapacityInternal_13
theorem e316_13 {d : Nat} {a0 a1 a2 : Value} {x y : Int32} {st : List Value} {h : aH} : run d 316 13 [a0, a1, a2] (.int y :: .int x :: st) h = run d 316 14 [a0, a1, a2] (.int (x - y) :: st) h := (run_act (c316_13)).trans rfl
theorem c316_14 : decode (aCode 316) 14 = .ok (.ifCond .le 24, 3) := (congrArg (fun c => decode c 14) c316).trans dJ10_ensureCapacityInternal_14
theorem e316_14 {d : Nat} {a0 a1 a2 : Value} {x : Int32} {st : List Value} {h : aH} : run d 316 14 [a0, a1, a2] (.int x :: st) h = if x ≤ 0 then run d 316 38 [a0, a1, a2] st h else run d 316 17 [a0, a1, a2] st h := (run_act (c316_14)).trans (e_ifCond_le rfl)
theorem c316_17 : decode (aCode 316) 17 = .ok (.aload_n 0, 1) := (congrArg (fun c => decode c 17) c316).trans dJ10_ensureCapacityInternal_17
theorem e316_17 {d : Nat} {a1 a2 : Value} {x : Nat} {st : List Value} {h : aH} : run d 316 17 [.ref x, a1, a2] st h = run d 316 18 [.ref x, a1, a2] (.ref x :: st) h := (run_act (c316_17)).trans rfl
theorem c316_18 : decode (aCode 316) 18 = .ok (.aload_n 0, 1) := (congrArg (fun c => decode c 18) c316).trans dJ10_ensureCapacityInternal_18
theorem e316_18 {d : Nat} {a1 a2 : Value} {x : Nat} {st : List Value} {h : aH} : run d 316 18 [.ref x, a1, a2] st h = run d 316 19 [.ref x, a1, a2] (.ref x :: st) h := (run_act (c316_18)).trans rfl
theorem c316_19 : decode (aCode 316) 19 = .ok (.getfield 15, 3) := (congrArg (fun c => decode c 19) c316).trans dJ10_ensureCapacityInternal_19
theorem e316_19 {d : Nat} {a0 a1 a2 : Value} {x : Nat} {st : List Value} {h : aH} (hκ : (hk_ h x).1 = 17) : run d 316 19 [a0, a1, a2] (.ref x :: st) h = run d 316 22 [a0, a1, a2] (va_rf (hp_ h x 149) :: st) h := (run_act (c316_19)).trans (e_get (g := 149) (ty := 2) (fin := 0) rfl (by rw [hκ]; rfl))
theorem c316_22 : decode (aCode 316) 22 = .ok (.aload_n 0, 1) := (congrArg (fun c => decode c 22) c316).trans dJ10_ensureCapacityInternal_22
theorem e316_22 {d : Nat} {a1 a2 : Value} {x : Nat} {st : List Value} {h : aH} : run d 316 22 [.ref x, a1, a2] st h = run d 316 23 [.ref x, a1, a2] (.ref x :: st) h := (run_act (c316_22)).trans rfl
theorem c316_23 : decode (aCode 316) 23 = .ok (.iload_n 1, 1) := (congrArg (fun c => decode c 23) c316).trans dJ10_ensureCapacityInternal_23
theorem e316_23 {d : Nat} {a0 a2 : Value} {x : Int32} {st : List Value} {h : aH} : run d 316 23 [a0, .int x, a2] st h = run d 316 24 [a0, .int x, a2] (.int x :: st) h := (run_act (c316_23)).trans rfl
theorem c316_24 : decode (aCode 316) 24 = .ok (.invokevirtual 104, 3) := (congrArg (fun c => decode c 24) c316).trans dJ10_ensureCapacityInternal_24
theorem e316_24 {d : Nat} {a0 a1 a2 : Value} {x0 : Int32} {o : Nat} {r0 : Nat} {r1 : Nat} {h : aH} (hκ : (hk_ h o).1 = 17) : run (d + 1) 316 24 [a0, a1, a2] [.int x0, .ref o, .ref r0, .ref r1] h = aBk (d + 1) 316 24 [a0, a1, a2] [.ref r0, .ref r1] false (run d 317 0 [.ref o, .int x0, aU, aU, aU, aU] [] h) := (run_act (c316_24)).trans (e_virt (m := 1) (ν := 317) (as := [.int x0]) (rest := [.ref r0, .ref r1]) (md := 8) (tg := [(17, 317)]) rfl rfl hκ rfl (.inr ⟨⟨rfl, rfl⟩, rfl⟩) rfl rfl)
theorem c316_27 : decode (aCode 316) 27 = .ok (.aload_n 0, 1) := (congrArg (fun c => decode c 27) c316).trans dJ10_ensureCapacityInternal_27
theorem e316_27 {d : Nat} {a1 a2 : Value} {x : Nat} {st : List Value} {h : aH} : run d 316 27 [.ref x, a1, a2] st h = run d 316 28 [.ref x, a1, a2] (.ref x :: st) h := (run_act (c316_27)).trans rfl
theorem c316_28 : decode (aCode 316) 28 = .ok (.getfield 22, 3) := (congrArg (fun c => decode c 28) c316).trans dJ10_ensureCapacityInternal_28
theorem e316_28 {d : Nat} {a0 a1 a2 : Value} {x : Nat} {st : List Value} {h : aH} (hκ : (hk_ h x).1 = 17) : run d 316 28 [a0, a1, a2] (.ref x :: st) h = run d 316 31 [a0, a1, a2] (.int (hi_ h x 150) :: st) h := (run_act (c316_28)).trans (e_get (g := 150) (ty := 4) (fin := 0) rfl (by rw [hκ]; rfl))
theorem c316_31 : decode (aCode 316) 31 = .ok (.ishl, 1) := (congrArg (fun c => decode c 31) c316).trans dJ10_ensureCapacityInternal_31
theorem e316_31 {d : Nat} {a0 a1 a2 : Value} {x y : Int32} {st : List Value} {h : aH} : run d 316 31 [a0, a1, a2] (.int y :: .int x :: st) h = run d 316 32 [a0, a1, a2] (.int (shl_ x y) :: st) h := (run_act (c316_31)).trans rfl
theorem c316_32 : decode (aCode 316) 32 = .ok (.invokestatic 108, 3) := (congrArg (fun c => decode c 32) c316).trans dJ10_ensureCapacityInternal_32
theorem e316_32 {d : Nat} {a0 a1 a2 : Value} {x0 : Nat} {x1 : Int32} {r0 : Nat} {h : aH} : run (d + 1) 316 32 [a0, a1, a2] [.int x1, .ref x0, .ref r0] h = aBk (d + 1) 316 32 [a0, a1, a2] [.ref r0] false (run d 330 0 [.ref x0, .int x1, aU] [] h) := (run_act (c316_32)).trans (e_stat (m := 2) (ν := 330) (as := [.ref x0, .int x1]) (rest := [.ref r0]) (md := 0) (κ := 0) rfl rfl rfl rfl rfl)
theorem c316_35 : decode (aCode 316) 35 = .ok (.putfield 15, 3) := (congrArg (fun c => decode c 35) c316).trans dJ10_ensureCapacityInternal_35
theorem e316_35 {d : Nat} {a0 a1 a2 : Value} {x v : Nat} {st : List Value} {h : aH} (hκ : (hk_ h x).1 = 17) (h6 : 64 ≤ x) : run d 316 35 [a0, a1, a2] (.ref v :: .ref x :: st) h = run d 316 38 [a0, a1, a2] st (sp_ h x 149 (some v)) := (run_act (c316_35)).trans (e_put (g := 149) (ty := 2) (fin := 0) rfl rfl (by rw [hκ]; rfl) h6 rfl)
theorem e316_35n {d : Nat} {a0 a1 a2 : Value} {x : Nat} {st : List Value} {h : aH} (hκ : (hk_ h x).1 = 17) (h6 : 64 ≤ x) : run d 316 35 [a0, a1, a2] (.null :: .ref x :: st) h = run d 316 38 [a0, a1, a2] st (sp_ h x 149 none) := (run_act (c316_35)).trans (e_put (g := 149) (ty := 2) (fin := 0) rfl rfl (by rw [hκ]; rfl) h6 rfl)
theorem c316_38 : decode (aCode 316) 38 = .ok (.return_, 1) := (congrArg (fun c => decode c 38) c316).trans dJ10_ensureCapacityInternal_38
theorem e316_38 {d : Nat} {a0 a1 a2 : Value} {h : aH} : run d 316 38 [a0, a1, a2] [] h = some (.returned none, h) := (run_act (c316_38)).trans rfl
/-! java/lang/AbstractStringBuilder.newCapacity: 317 -/
theorem c317 : aCode 317 = cJ10_newCapacity := rfl
theorem c317_0 : decode (aCode 317) 0 = .ok (.aload_n 0, 1) := (congrArg (fun c => decode c 0) c317).trans dJ10_newCapacity_0
theorem e317_0 {d : Nat} {a1 a2 a3 a4 a5 : Value} {x : Nat} {st : List Value} {h : aH} : run d 317 0 [.ref x, a1, a2, a3, a4, a5] st h = run d 317 1 [.ref x, a1, a2, a3, a4, a5] (.ref x :: st) h := (run_act (c317_0)).trans rfl
theorem c317_1 : decode (aCode 317) 1 = .ok (.getfield 15, 3) := (congrArg (fun c => decode c 1) c317).trans dJ10_newCapacity_1
theorem e317_1 {d : Nat} {a0 a1 a2 a3 a4 a5 : Value} {x : Nat} {st : List Value} {h : aH} (hκ : (hk_ h x).1 = 17) : run d 317 1 [a0, a1, a2, a3, a4, a5] (.ref x :: st) h = run d 317 4 [a0, a1, a2, a3, a4, a5] (va_rf (hp_ h x 149) :: st) h := (run_act (c317_1)).trans (e_get (g := 149) (ty := 2) (fin := 0) rfl (by rw [hκ]; rfl))
theorem c317_4 : decode (aCode 317) 4 = .ok (.arraylength, 1) := (congrArg (fun c => decode c 4) c317).trans dJ10_newCapacity_4
theorem e317_4 {d : Nat} {a0 a1 a2 a3 a4 a5 : Value} {x : Nat} {st : List Value} {h : aH} (hκ : 100 ≤ (hk_ h x).1) : run d 317 4 [a0, a1, a2, a3, a4, a5] (.ref x :: st) h = run d 317 5 [a0, a1, a2, a3, a4, a5] (.int (nI (hk_ h x).2) :: st) h := (run_act (c317_4)).trans (e_alen hκ)
theorem c317_5 : decode (aCode 317) 5 = .ok (.istore_n 2, 1) := (congrArg (fun c => decode c 5) c317).trans dJ10_newCapacity_5
theorem e317_5 {d : Nat} {a0 a1 a2 a3 a4 a5 : Value} {x : Int32} {st : List Value} {h : aH} : run d 317 5 [a0, a1, a2, a3, a4, a5] (.int x :: st) h = run d 317 6 [a0, a1, .int x, a3, a4, a5] st h := (run_act (c317_5)).trans rfl
theorem c317_6 : decode (aCode 317) 6 = .ok (.iload_n 1, 1) := (congrArg (fun c => decode c 6) c317).trans dJ10_newCapacity_6
theorem e317_6 {d : Nat} {a0 a2 a3 a4 a5 : Value} {x : Int32} {st : List Value} {h : aH} : run d 317 6 [a0, .int x, a2, a3, a4, a5] st h = run d 317 7 [a0, .int x, a2, a3, a4, a5] (.int x :: st) h := (run_act (c317_6)).trans rfl
theorem c317_7 : decode (aCode 317) 7 = .ok (.aload_n 0, 1) := (congrArg (fun c => decode c 7) c317).trans dJ10_newCapacity_7
theorem e317_7 {d : Nat} {a1 a2 a3 a4 a5 : Value} {x : Nat} {st : List Value} {h : aH} : run d 317 7 [.ref x, a1, a2, a3, a4, a5] st h = run d 317 8 [.ref x, a1, a2, a3, a4, a5] (.ref x :: st) h := (run_act (c317_7)).trans rfl
theorem c317_8 : decode (aCode 317) 8 = .ok (.getfield 22, 3) := (congrArg (fun c => decode c 8) c317).trans dJ10_newCapacity_8
theorem e317_8 {d : Nat} {a0 a1 a2 a3 a4 a5 : Value} {x : Nat} {st : List Value} {h : aH} (hκ : (hk_ h x).1 = 17) : run d 317 8 [a0, a1, a2, a3, a4, a5] (.ref x :: st) h = run d 317 11 [a0, a1, a2, a3, a4, a5] (.int (hi_ h x 150) :: st) h := (run_act (c317_8)).trans (e_get (g := 150) (ty := 4) (fin := 0) rfl (by rw [hκ]; rfl))
theorem c317_11 : decode (aCode 317) 11 = .ok (.ishl, 1) := (congrArg (fun c => decode c 11) c317).trans dJ10_newCapacity_11
theorem e317_11 {d : Nat} {a0 a1 a2 a3 a4 a5 : Value} {x y : Int32} {st : List Value} {h : aH} : run d 317 11 [a0, a1, a2, a3, a4, a5] (.int y :: .int x :: st) h = run d 317 12 [a0, a1, a2, a3, a4, a5] (.int (shl_ x y) :: st) h := (run_act (c317_11)).trans rfl
theorem c317_12 : decode (aCode 317) 12 = .ok (.istore_n 3, 1) := (congrArg (fun c => decode c 12) c317).trans dJ10_newCapacity_12
theorem e317_12 {d : Nat} {a0 a1 a2 a3 a4 a5 : Value} {x : Int32} {st : List Value} {h : aH} : run d 317 12 [a0, a1, a2, a3, a4, a5] (.int x :: st) h = run d 317 13 [a0, a1, a2, .int x, a4, a5] st h := (run_act (c317_12)).trans rfl
theorem c317_13 : decode (aCode 317) 13 = .ok (.iload_n 3, 1) := (congrArg (fun c => decode c 13) c317).trans dJ10_newCapacity_13
theorem e317_13 {d : Nat} {a0 a1 a2 a4 a5 : Value} {x : Int32} {st : List Value} {h : aH} : run d 317 13 [a0, a1, a2, .int x, a4, a5] st h = run d 317 14 [a0, a1, a2, .int x, a4, a5] (.int x :: st) h := (run_act (c317_13)).trans rfl
theorem c317_14 : decode (aCode 317) 14 = .ok (.iload_n 2, 1) := (congrArg (fun c => decode c 14) c317).trans dJ10_newCapacity_14
theorem e317_14 {d : Nat} {a0 a1 a3 a4 a5 : Value} {x : Int32} {st : List Value} {h : aH} : run d 317 14 [a0, a1, .int x, a3, a4, a5] st h = run d 317 15 [a0, a1, .int x, a3, a4, a5] (.int x :: st) h := (run_act (c317_14)).trans rfl
theorem c317_15 : decode (aCode 317) 15 = .ok (.isub, 1) := (congrArg (fun c => decode c 15) c317).trans dJ10_newCapacity_15
theorem e317_15 {d : Nat} {a0 a1 a2 a3 a4 a5 : Value} {x y : Int32} {st : List Value} {h : aH} : run d 317 15 [a0, a1, a2, a3, a4, a5] (.int y :: .int x :: st) h = run d 317 16 [a0, a1, a2, a3, a4, a5] (.int (x - y) :: st) h := (run_act (c317_15)).trans rfl
theorem c317_16 : decode (aCode 317) 16 = .ok (.istore 4, 2) := (congrArg (fun c => decode c 16) c317).trans dJ10_newCapacity_16
theorem e317_16 {d : Nat} {a0 a1 a2 a3 a4 a5 : Value} {x : Int32} {st : List Value} {h : aH} : run d 317 16 [a0, a1, a2, a3, a4, a5] (.int x :: st) h = run d 317 18 [a0, a1, a2, a3, .int x, a5] st h := (run_act (c317_16)).trans rfl
theorem c317_18 : decode (aCode 317) 18 = .ok (.iload_n 2, 1) := (congrArg (fun c => decode c 18) c317).trans dJ10_newCapacity_18
theorem e317_18 {d : Nat} {a0 a1 a3 a4 a5 : Value} {x : Int32} {st : List Value} {h : aH} : run d 317 18 [a0, a1, .int x, a3, a4, a5] st h = run d 317 19 [a0, a1, .int x, a3, a4, a5] (.int x :: st) h := (run_act (c317_18)).trans rfl
theorem c317_19 : decode (aCode 317) 19 = .ok (.iload 4, 2) := (congrArg (fun c => decode c 19) c317).trans dJ10_newCapacity_19
theorem e317_19 {d : Nat} {a0 a1 a2 a3 a5 : Value} {x : Int32} {st : List Value} {h : aH} : run d 317 19 [a0, a1, a2, a3, .int x, a5] st h = run d 317 21 [a0, a1, a2, a3, .int x, a5] (.int x :: st) h := (run_act (c317_19)).trans rfl
theorem c317_21 : decode (aCode 317) 21 = .ok (.iload_n 2, 1) := (congrArg (fun c => decode c 21) c317).trans dJ10_newCapacity_21
theorem e317_21 {d : Nat} {a0 a1 a3 a4 a5 : Value} {x : Int32} {st : List Value} {h : aH} : run d 317 21 [a0, a1, .int x, a3, a4, a5] st h = run d 317 22 [a0, a1, .int x, a3, a4, a5] (.int x :: st) h := (run_act (c317_21)).trans rfl
theorem c317_22 : decode (aCode 317) 22 = .ok (.iconst 2, 1) := (congrArg (fun c => decode c 22) c317).trans dJ10_newCapacity_22
theorem e317_22 {d : Nat} {a0 a1 a2 a3 a4 a5 : Value} {st : List Value} {h : aH} : run d 317 22 [a0, a1, a2, a3, a4, a5] st h = run d 317 23 [a0, a1, a2, a3, a4, a5] (.int (nI 2) :: st) h := (run_act (c317_22)).trans rfl
theorem c317_23 : decode (aCode 317) 23 = .ok (.aload_n 0, 1) := (congrArg (fun c => decode c 23) c317).trans dJ10_newCapacity_23
theorem e317_23 {d : Nat} {a1 a2 a3 a4 a5 : Value} {x : Nat} {st : List Value} {h : aH} : run d 317 23 [.ref x, a1, a2, a3, a4, a5] st h = run d 317 24 [.ref x, a1, a2, a3, a4, a5] (.ref x :: st) h := (run_act (c317_23)).trans rfl
theorem c317_24 : decode (aCode 317) 24 = .ok (.getfield 22, 3) := (congrArg (fun c => decode c 24) c317).trans dJ10_newCapacity_24
theorem e317_24 {d : Nat} {a0 a1 a2 a3 a4 a5 : Value} {x : Nat} {st : List Value} {h : aH} (hκ : (hk_ h x).1 = 17) : run d 317 24 [a0, a1, a2, a3, a4, a5] (.ref x :: st) h = run d 317 27 [a0, a1, a2, a3, a4, a5] (.int (hi_ h x 150) :: st) h := (run_act (c317_24)).trans (e_get (g := 150) (ty := 4) (fin := 0) rfl (by rw [hκ]; rfl))
theorem c317_27 : decode (aCode 317) 27 = .ok (.ishl, 1) := (congrArg (fun c => decode c 27) c317).trans dJ10_newCapacity_27
theorem e317_27 {d : Nat} {a0 a1 a2 a3 a4 a5 : Value} {x y : Int32} {st : List Value} {h : aH} : run d 317 27 [a0, a1, a2, a3, a4, a5] (.int y :: .int x :: st) h = run d 317 28 [a0, a1, a2, a3, a4, a5] (.int (shl_ x y) :: st) h := (run_act (c317_27)).trans rfl
theorem c317_28 : decode (aCode 317) 28 = .ok (.iadd, 1) := (congrArg (fun c => decode c 28) c317).trans dJ10_newCapacity_28
theorem e317_28 {d : Nat} {a0 a1 a2 a3 a4 a5 : Value} {x y : Int32} {st : List Value} {h : aH} : run d 317 28 [a0, a1, a2, a3, a4, a5] (.int y :: .int x :: st) h = run d 317 29 [a0, a1, a2, a3, a4, a5] (.int (x + y) :: st) h := (run_act (c317_28)).trans rfl
theorem c317_29 : decode (aCode 317) 29 = .ok (.invokestatic 114, 3) := (congrArg (fun c => decode c 29) c317).trans dJ10_newCapacity_29
theorem e317_29 {d : Nat} {a0 a1 a2 a3 a4 a5 : Value} {x0 : Int32} {x1 : Int32} {x2 : Int32} {h : aH} : run (d + 1) 317 29 [a0, a1, a2, a3, a4, a5] [.int x2, .int x1, .int x0] h = aBk (d + 1) 317 29 [a0, a1, a2, a3, a4, a5] [] false (run d 326 0 [.int x0, .int x1, .int x2, aU] [] h) := (run_act (c317_29)).trans (e_stat (m := 3) (ν := 326) (as := [.int x0, .int x1, .int x2]) (rest := []) (md := 0) (κ := 0) rfl rfl rfl rfl rfl)
theorem c317_32 : decode (aCode 317) 32 = .ok (.istore 5, 2) := (congrArg (fun c => decode c 32) c317).trans dJ10_newCapacity_32
theorem e317_32 {d : Nat} {a0 a1 a2 a3 a4 a5 : Value} {x : Int32} {st : List Value} {h : aH} : run d 317 32 [a0, a1, a2, a3, a4, a5] (.int x :: st) h = run d 317 34 [a0, a1, a2, a3, a4, .int x] st h := (run_act (c317_32)).trans rfl
theorem c317_34 : decode (aCode 317) 34 = .ok (.iload 5, 2) := (congrArg (fun c => decode c 34) c317).trans dJ10_newCapacity_34
theorem e317_34 {d : Nat} {a0 a1 a2 a3 a4 : Value} {x : Int32} {st : List Value} {h : aH} : run d 317 34 [a0, a1, a2, a3, a4, .int x] st h = run d 317 36 [a0, a1, a2, a3, a4, .int x] (.int x :: st) h := (run_act (c317_34)).trans rfl
theorem c317_36 : decode (aCode 317) 36 = .ok (.ldc 39, 2) := (congrArg (fun c => decode c 36) c317).trans dJ10_newCapacity_36
theorem e317_36 {d : Nat} {a0 a1 a2 a3 a4 a5 : Value} {st : List Value} {h : aH} : run d 317 36 [a0, a1, a2, a3, a4, a5] st h = run d 317 38 [a0, a1, a2, a3, a4, a5] (.int (nI 2147483647) :: st) h := (run_act (c317_36)).trans rfl
theorem c317_38 : decode (aCode 317) 38 = .ok (.if_icmp .ne 13, 3) := (congrArg (fun c => decode c 38) c317).trans dJ10_newCapacity_38
theorem e317_38 {d : Nat} {a0 a1 a2 a3 a4 a5 : Value} {x y : Int32} {st : List Value} {h : aH} : run d 317 38 [a0, a1, a2, a3, a4, a5] (.int y :: .int x :: st) h = if x = y then run d 317 41 [a0, a1, a2, a3, a4, a5] st h else run d 317 51 [a0, a1, a2, a3, a4, a5] st h := (run_act (c317_38)).trans (e_if_icmp_ne rfl)
theorem c317_41 : decode (aCode 317) 41 = .ok (.new 120, 3) := (congrArg (fun c => decode c 41) c317).trans dJ10_newCapacity_41
theorem c317_44 : decode (aCode 317) 44 = .ok (.dup, 1) := (congrArg (fun c => decode c 44) c317).trans dJ10_newCapacity_44
theorem e317_44 {d : Nat} {a0 a1 a2 a3 a4 a5 : Value} {x : Nat} {st : List Value} {h : aH} : run d 317 44 [a0, a1, a2, a3, a4, a5] (.ref x :: st) h = run d 317 45 [a0, a1, a2, a3, a4, a5] (.ref x :: .ref x :: st) h := (run_act (c317_44)).trans rfl
theorem c317_45 : decode (aCode 317) 45 = .ok (.ldc 122, 2) := (congrArg (fun c => decode c 45) c317).trans dJ10_newCapacity_45
theorem c317_47 : decode (aCode 317) 47 = .ok (.invokespecial 124, 3) := (congrArg (fun c => decode c 47) c317).trans dJ10_newCapacity_47
theorem c317_51 : decode (aCode 317) 51 = .ok (.iload 5, 2) := (congrArg (fun c => decode c 51) c317).trans dJ10_newCapacity_51
theorem e317_51 {d : Nat} {a0 a1 a2 a3 a4 : Value} {x : Int32} {st : List Value} {h : aH} : run d 317 51 [a0, a1, a2, a3, a4, .int x] st h = run d 317 53 [a0, a1, a2, a3, a4, .int x] (.int x :: st) h := (run_act (c317_51)).trans rfl
theorem c317_53 : decode (aCode 317) 53 = .ok (.aload_n 0, 1) := (congrArg (fun c => decode c 53) c317).trans dJ10_newCapacity_53
theorem e317_53 {d : Nat} {a1 a2 a3 a4 a5 : Value} {x : Nat} {st : List Value} {h : aH} : run d 317 53 [.ref x, a1, a2, a3, a4, a5] st h = run d 317 54 [.ref x, a1, a2, a3, a4, a5] (.ref x :: st) h := (run_act (c317_53)).trans rfl
theorem c317_54 : decode (aCode 317) 54 = .ok (.getfield 22, 3) := (congrArg (fun c => decode c 54) c317).trans dJ10_newCapacity_54
theorem e317_54 {d : Nat} {a0 a1 a2 a3 a4 a5 : Value} {x : Nat} {st : List Value} {h : aH} (hκ : (hk_ h x).1 = 17) : run d 317 54 [a0, a1, a2, a3, a4, a5] (.ref x :: st) h = run d 317 57 [a0, a1, a2, a3, a4, a5] (.int (hi_ h x 150) :: st) h := (run_act (c317_54)).trans (e_get (g := 150) (ty := 4) (fin := 0) rfl (by rw [hκ]; rfl))
theorem c317_57 : decode (aCode 317) 57 = .ok (.ishr, 1) := (congrArg (fun c => decode c 57) c317).trans dJ10_newCapacity_57
theorem e317_57 {d : Nat} {a0 a1 a2 a3 a4 a5 : Value} {x y : Int32} {st : List Value} {h : aH} : run d 317 57 [a0, a1, a2, a3, a4, a5] (.int y :: .int x :: st) h = run d 317 58 [a0, a1, a2, a3, a4, a5] (.int (shr_ x y) :: st) h := (run_act (c317_57)).trans rfl
theorem c317_58 : decode (aCode 317) 58 = .ok (.ireturn, 1) := (congrArg (fun c => decode c 58) c317).trans dJ10_newCapacity_58
theorem e317_58 {d : Nat} {a0 a1 a2 a3 a4 a5 : Value} {x : Int32} {h : aH} : run d 317 58 [a0, a1, a2, a3, a4, a5] [.int x] h = some (.returned (some (.int x)), h) := (run_act (c317_58)).trans rfl
/-! java/lang/AbstractStringBuilder.isLatin1: 318 -/
theorem c318 : aCode 318 = cJ10_isLatin1 := rfl
theorem c318_0 : decode (aCode 318) 0 = .ok (.getstatic 18, 3) := (congrArg (fun c => decode c 0) c318).trans dJ10_isLatin1_0
theorem e318_0 {d : Nat} {a0 : Value} {st : List Value} {h : aH} : run d 318 0 [a0] st h = run d 318 3 [a0] (.int (nI 1) :: st) h := (run_act (c318_0)).trans rfl
theorem c318_3 : decode (aCode 318) 3 = .ok (.ifCond .eq 14, 3) := (congrArg (fun c => decode c 3) c318).trans dJ10_isLatin1_3
theorem e318_3 {d : Nat} {a0 : Value} {x : Int32} {st : List Value} {h : aH} : run d 318 3 [a0] (.int x :: st) h = if x = 0 then run d 318 17 [a0] st h else run d 318 6 [a0] st h := (run_act (c318_3)).trans (e_ifCond_eq rfl)
theorem c318_6 : decode (aCode 318) 6 = .ok (.aload_n 0, 1) := (congrArg (fun c => decode c 6) c318).trans dJ10_isLatin1_6
theorem e318_6 {d : Nat} {x : Nat} {st : List Value} {h : aH} : run d 318 6 [.ref x] st h = run d 318 7 [.ref x] (.ref x :: st) h := (run_act (c318_6)).trans rfl
theorem c318_7 : decode (aCode 318) 7 = .ok (.getfield 22, 3) := (congrArg (fun c => decode c 7) c318).trans dJ10_isLatin1_7
theorem e318_7 {d : Nat} {a0 : Value} {x : Nat} {st : List Value} {h : aH} (hκ : (hk_ h x).1 = 17) : run d 318 7 [a0] (.ref x :: st) h = run d 318 10 [a0] (.int (hi_ h x 150) :: st) h := (run_act (c318_7)).trans (e_get (g := 150) (ty := 4) (fin := 0) rfl (by rw [hκ]; rfl))
theorem c318_10 : decode (aCode 318) 10 = .ok (.ifCond .ne 7, 3) := (congrArg (fun c => decode c 10) c318).trans dJ10_isLatin1_10
theorem e318_10 {d : Nat} {a0 : Value} {x : Int32} {st : List Value} {h : aH} : run d 318 10 [a0] (.int x :: st) h = if x = 0 then run d 318 13 [a0] st h else run d 318 17 [a0] st h := (run_act (c318_10)).trans (e_ifCond_ne rfl)
theorem c318_13 : decode (aCode 318) 13 = .ok (.iconst 1, 1) := (congrArg (fun c => decode c 13) c318).trans dJ10_isLatin1_13
theorem e318_13 {d : Nat} {a0 : Value} {st : List Value} {h : aH} : run d 318 13 [a0] st h = run d 318 14 [a0] (.int (nI 1) :: st) h := (run_act (c318_13)).trans rfl
theorem c318_14 : decode (aCode 318) 14 = .ok (.goto 4, 3) := (congrArg (fun c => decode c 14) c318).trans dJ10_isLatin1_14
theorem e318_14 {d : Nat} {a0 : Value} {st : List Value} {h : aH} : run d 318 14 [a0] st h = run d 318 18 [a0] st h := (run_act (c318_14)).trans rfl
theorem c318_17 : decode (aCode 318) 17 = .ok (.iconst 0, 1) := (congrArg (fun c => decode c 17) c318).trans dJ10_isLatin1_17
theorem e318_17 {d : Nat} {a0 : Value} {st : List Value} {h : aH} : run d 318 17 [a0] st h = run d 318 18 [a0] (.int (nI 0) :: st) h := (run_act (c318_17)).trans rfl
theorem c318_18 : decode (aCode 318) 18 = .ok (.ireturn, 1) := (congrArg (fun c => decode c 18) c318).trans dJ10_isLatin1_18
theorem e318_18 {d : Nat} {a0 : Value} {x : Int32} {h : aH} (hx : x = 0 ∨ x = 1) : run d 318 18 [a0] [.int x] h = some (.returned (some (.int x)), h) := (run_act (c318_18)).trans (e_zret rfl hx)
/-! java/lang/AbstractStringBuilder.inflate: 319 -/
theorem c319 : aCode 319 = cJ10_inflate := rfl
theorem c319_0 : decode (aCode 319) 0 = .ok (.aload_n 0, 1) := (congrArg (fun c => decode c 0) c319).trans dJ10_inflate_0
theorem e319_0 {d : Nat} {a1 : Value} {x : Nat} {st : List Value} {h : aH} : run d 319 0 [.ref x, a1] st h = run d 319 1 [.ref x, a1] (.ref x :: st) h := (run_act (c319_0)).trans rfl
theorem c319_1 : decode (aCode 319) 1 = .ok (.invokevirtual 83, 3) := (congrArg (fun c => decode c 1) c319).trans dJ10_inflate_1
theorem e319_1 {d : Nat} {a0 a1 : Value} {o : Nat} {h : aH} (hκ : (hk_ h o).1 = 17) : run (d + 1) 319 1 [a0, a1] [.ref o] h = aBk (d + 1) 319 1 [a0, a1] [] false (run d 318 0 [.ref o] [] h) := (run_act (c319_1)).trans (e_virt (m := 0) (ν := 318) (as := []) (rest := []) (md := 5) (tg := [(17, 318)]) rfl rfl hκ rfl (.inr ⟨⟨rfl, rfl⟩, rfl⟩) rfl rfl)
theorem c319_4 : decode (aCode 319) 4 = .ok (.ifCond .ne 4, 3) := (congrArg (fun c => decode c 4) c319).trans dJ10_inflate_4
theorem e319_4 {d : Nat} {a0 a1 : Value} {x : Int32} {st : List Value} {h : aH} : run d 319 4 [a0, a1] (.int x :: st) h = if x = 0 then run d 319 7 [a0, a1] st h else run d 319 8 [a0, a1] st h := (run_act (c319_4)).trans (e_ifCond_ne rfl)
theorem c319_7 : decode (aCode 319) 7 = .ok (.return_, 1) := (congrArg (fun c => decode c 7) c319).trans dJ10_inflate_7
theorem e319_7 {d : Nat} {a0 a1 : Value} {h : aH} : run d 319 7 [a0, a1] [] h = some (.returned none, h) := (run_act (c319_7)).trans rfl
theorem c319_8 : decode (aCode 319) 8 = .ok (.aload_n 0, 1) := (congrArg (fun c => decode c 8) c319).trans dJ10_inflate_8
theorem e319_8 {d : Nat} {a1 : Value} {x : Nat} {st : List Value} {h : aH} : run d 319 8 [.ref x, a1] st h = run d 319 9 [.ref x, a1] (.ref x :: st) h := (run_act (c319_8)).trans rfl
theorem c319_9 : decode (aCode 319) 9 = .ok (.getfield 15, 3) := (congrArg (fun c => decode c 9) c319).trans dJ10_inflate_9
theorem e319_9 {d : Nat} {a0 a1 : Value} {x : Nat} {st : List Value} {h : aH} (hκ : (hk_ h x).1 = 17) : run d 319 9 [a0, a1] (.ref x :: st) h = run d 319 12 [a0, a1] (va_rf (hp_ h x 149) :: st) h := (run_act (c319_9)).trans (e_get (g := 149) (ty := 2) (fin := 0) rfl (by rw [hκ]; rfl))
theorem c319_12 : decode (aCode 319) 12 = .ok (.arraylength, 1) := (congrArg (fun c => decode c 12) c319).trans dJ10_inflate_12
theorem e319_12 {d : Nat} {a0 a1 : Value} {x : Nat} {st : List Value} {h : aH} (hκ : 100 ≤ (hk_ h x).1) : run d 319 12 [a0, a1] (.ref x :: st) h = run d 319 13 [a0, a1] (.int (nI (hk_ h x).2) :: st) h := (run_act (c319_12)).trans (e_alen hκ)
theorem c319_13 : decode (aCode 319) 13 = .ok (.invokestatic 26, 3) := (congrArg (fun c => decode c 13) c319).trans dJ10_inflate_13
theorem e319_13 {d : Nat} {a0 a1 : Value} {x0 : Int32} {h : aH} : run (d + 1) 319 13 [a0, a1] [.int x0] h = aBk (d + 1) 319 13 [a0, a1] [] false (run d 294 0 [.int x0] [] h) := (run_act (c319_13)).trans (e_stat (m := 1) (ν := 294) (as := [.int x0]) (rest := []) (md := 0) (κ := 0) rfl rfl rfl rfl rfl)
theorem c319_16 : decode (aCode 319) 16 = .ok (.astore_n 1, 1) := (congrArg (fun c => decode c 16) c319).trans dJ10_inflate_16
theorem e319_16 {d : Nat} {a0 a1 : Value} {x : Nat} {st : List Value} {h : aH} : run d 319 16 [a0, a1] (.ref x :: st) h = run d 319 17 [a0, .ref x] st h := (run_act (c319_16)).trans rfl
theorem c319_17 : decode (aCode 319) 17 = .ok (.aload_n 0, 1) := (congrArg (fun c => decode c 17) c319).trans dJ10_inflate_17
theorem e319_17 {d : Nat} {a1 : Value} {x : Nat} {st : List Value} {h : aH} : run d 319 17 [.ref x, a1] st h = run d 319 18 [.ref x, a1] (.ref x :: st) h := (run_act (c319_17)).trans rfl
theorem c319_18 : decode (aCode 319) 18 = .ok (.getfield 15, 3) := (congrArg (fun c => decode c 18) c319).trans dJ10_inflate_18
theorem e319_18 {d : Nat} {a0 a1 : Value} {x : Nat} {st : List Value} {h : aH} (hκ : (hk_ h x).1 = 17) : run d 319 18 [a0, a1] (.ref x :: st) h = run d 319 21 [a0, a1] (va_rf (hp_ h x 149) :: st) h := (run_act (c319_18)).trans (e_get (g := 149) (ty := 2) (fin := 0) rfl (by rw [hκ]; rfl))
theorem c319_21 : decode (aCode 319) 21 = .ok (.iconst 0, 1) := (congrArg (fun c => decode c 21) c319).trans dJ10_inflate_21
theorem e319_21 {d : Nat} {a0 a1 : Value} {st : List Value} {h : aH} : run d 319 21 [a0, a1] st h = run d 319 22 [a0, a1] (.int (nI 0) :: st) h := (run_act (c319_21)).trans rfl
theorem c319_22 : decode (aCode 319) 22 = .ok (.aload_n 1, 1) := (congrArg (fun c => decode c 22) c319).trans dJ10_inflate_22
theorem e319_22 {d : Nat} {a0 : Value} {x : Nat} {st : List Value} {h : aH} : run d 319 22 [a0, .ref x] st h = run d 319 23 [a0, .ref x] (.ref x :: st) h := (run_act (c319_22)).trans rfl
theorem c319_23 : decode (aCode 319) 23 = .ok (.iconst 0, 1) := (congrArg (fun c => decode c 23) c319).trans dJ10_inflate_23
theorem e319_23 {d : Nat} {a0 a1 : Value} {st : List Value} {h : aH} : run d 319 23 [a0, a1] st h = run d 319 24 [a0, a1] (.int (nI 0) :: st) h := (run_act (c319_23)).trans rfl
theorem c319_24 : decode (aCode 319) 24 = .ok (.aload_n 0, 1) := (congrArg (fun c => decode c 24) c319).trans dJ10_inflate_24
theorem e319_24 {d : Nat} {a1 : Value} {x : Nat} {st : List Value} {h : aH} : run d 319 24 [.ref x, a1] st h = run d 319 25 [.ref x, a1] (.ref x :: st) h := (run_act (c319_24)).trans rfl
theorem c319_25 : decode (aCode 319) 25 = .ok (.getfield 79, 3) := (congrArg (fun c => decode c 25) c319).trans dJ10_inflate_25
theorem e319_25 {d : Nat} {a0 a1 : Value} {x : Nat} {st : List Value} {h : aH} (hκ : (hk_ h x).1 = 17) : run d 319 25 [a0, a1] (.ref x :: st) h = run d 319 28 [a0, a1] (.int (hi_ h x 152) :: st) h := (run_act (c319_25)).trans (e_get (g := 152) (ty := 0) (fin := 0) rfl (by rw [hκ]; rfl))
theorem c319_28 : decode (aCode 319) 28 = .ok (.invokestatic 125, 3) := (congrArg (fun c => decode c 28) c319).trans dJ10_inflate_28
theorem e319_28 {d : Nat} {a0 a1 : Value} {x0 : Nat} {x1 : Int32} {x2 : Nat} {x3 : Int32} {x4 : Int32} {h : aH} : run (d + 1) 319 28 [a0, a1] [.int x4, .int x3, .ref x2, .int x1, .ref x0] h = aBk (d + 1) 319 28 [a0, a1] [] false (run d 286 0 [.ref x0, .int x1, .ref x2, .int x3, .int x4] [] h) := (run_act (c319_28)).trans (e_stat (m := 5) (ν := 286) (as := [.ref x0, .int x1, .ref x2, .int x3, .int x4]) (rest := []) (md := 0) (κ := 0) rfl rfl rfl rfl rfl)
theorem c319_31 : decode (aCode 319) 31 = .ok (.aload_n 0, 1) := (congrArg (fun c => decode c 31) c319).trans dJ10_inflate_31
theorem e319_31 {d : Nat} {a1 : Value} {x : Nat} {st : List Value} {h : aH} : run d 319 31 [.ref x, a1] st h = run d 319 32 [.ref x, a1] (.ref x :: st) h := (run_act (c319_31)).trans rfl
theorem c319_32 : decode (aCode 319) 32 = .ok (.aload_n 1, 1) := (congrArg (fun c => decode c 32) c319).trans dJ10_inflate_32
theorem e319_32 {d : Nat} {a0 : Value} {x : Nat} {st : List Value} {h : aH} : run d 319 32 [a0, .ref x] st h = run d 319 33 [a0, .ref x] (.ref x :: st) h := (run_act (c319_32)).trans rfl
theorem c319_33 : decode (aCode 319) 33 = .ok (.putfield 15, 3) := (congrArg (fun c => decode c 33) c319).trans dJ10_inflate_33
theorem e319_33 {d : Nat} {a0 a1 : Value} {x v : Nat} {st : List Value} {h : aH} (hκ : (hk_ h x).1 = 17) (h6 : 64 ≤ x) : run d 319 33 [a0, a1] (.ref v :: .ref x :: st) h = run d 319 36 [a0, a1] st (sp_ h x 149 (some v)) := (run_act (c319_33)).trans (e_put (g := 149) (ty := 2) (fin := 0) rfl rfl (by rw [hκ]; rfl) h6 rfl)
theorem e319_33n {d : Nat} {a0 a1 : Value} {x : Nat} {st : List Value} {h : aH} (hκ : (hk_ h x).1 = 17) (h6 : 64 ≤ x) : run d 319 33 [a0, a1] (.null :: .ref x :: st) h = run d 319 36 [a0, a1] st (sp_ h x 149 none) := (run_act (c319_33)).trans (e_put (g := 149) (ty := 2) (fin := 0) rfl rfl (by rw [hκ]; rfl) h6 rfl)
theorem c319_36 : decode (aCode 319) 36 = .ok (.aload_n 0, 1) := (congrArg (fun c => decode c 36) c319).trans dJ10_inflate_36
theorem e319_36 {d : Nat} {a1 : Value} {x : Nat} {st : List Value} {h : aH} : run d 319 36 [.ref x, a1] st h = run d 319 37 [.ref x, a1] (.ref x :: st) h := (run_act (c319_36)).trans rfl
theorem c319_37 : decode (aCode 319) 37 = .ok (.iconst 1, 1) := (congrArg (fun c => decode c 37) c319).trans dJ10_inflate_37
theorem e319_37 {d : Nat} {a0 a1 : Value} {st : List Value} {h : aH} : run d 319 37 [a0, a1] st h = run d 319 38 [a0, a1] (.int (nI 1) :: st) h := (run_act (c319_37)).trans rfl
theorem c319_38 : decode (aCode 319) 38 = .ok (.putfield 22, 3) := (congrArg (fun c => decode c 38) c319).trans dJ10_inflate_38
theorem e319_38 {d : Nat} {a0 a1 : Value} {x : Nat} {v : Int32} {st : List Value} {h : aH} (hκ : (hk_ h x).1 = 17) (h6 : 64 ≤ x) (hv : v.toInt8.toInt32 = v) : run d 319 38 [a0, a1] (.int v :: .ref x :: st) h = run d 319 41 [a0, a1] st (si_ h x 150 v) := (run_act (c319_38)).trans (e_put (g := 150) (ty := 4) (fin := 0) rfl rfl (by rw [hκ]; rfl) h6 (if_pos hv))
theorem c319_41 : decode (aCode 319) 41 = .ok (.return_, 1) := (congrArg (fun c => decode c 41) c319).trans dJ10_inflate_41
theorem e319_41 {d : Nat} {a0 a1 : Value} {h : aH} : run d 319 41 [a0, a1] [] h = some (.returned none, h) := (run_act (c319_41)).trans rfl
/-! java/lang/AbstractStringBuilder.getValue: 320 -/
theorem c320 : aCode 320 = cJ10_getValue := rfl
theorem c320_0 : decode (aCode 320) 0 = .ok (.aload_n 0, 1) := (congrArg (fun c => decode c 0) c320).trans dJ10_getValue_0
theorem e320_0 {d : Nat} {x : Nat} {st : List Value} {h : aH} : run d 320 0 [.ref x] st h = run d 320 1 [.ref x] (.ref x :: st) h := (run_act (c320_0)).trans rfl
theorem c320_1 : decode (aCode 320) 1 = .ok (.getfield 15, 3) := (congrArg (fun c => decode c 1) c320).trans dJ10_getValue_1
theorem e320_1 {d : Nat} {a0 : Value} {x : Nat} {st : List Value} {h : aH} (hκ : (hk_ h x).1 = 17) : run d 320 1 [a0] (.ref x :: st) h = run d 320 4 [a0] (va_rf (hp_ h x 149) :: st) h := (run_act (c320_1)).trans (e_get (g := 149) (ty := 2) (fin := 0) rfl (by rw [hκ]; rfl))
theorem c320_4 : decode (aCode 320) 4 = .ok (.areturn, 1) := (congrArg (fun c => decode c 4) c320).trans dJ10_getValue_4
theorem e320_4 {d : Nat} {a0 : Value} {x : Nat} {h : aH} : run d 320 4 [a0] [.ref x] h = some (.returned (some (.ref x)), h) := (run_act (c320_4)).trans rfl
/-! java/lang/AbstractStringBuilder.length: 321 -/
theorem c321 : aCode 321 = cJ10_length := rfl
theorem c321_0 : decode (aCode 321) 0 = .ok (.aload_n 0, 1) := (congrArg (fun c => decode c 0) c321).trans dJ10_length_0
theorem e321_0 {d : Nat} {x : Nat} {st : List Value} {h : aH} : run d 321 0 [.ref x] st h = run d 321 1 [.ref x] (.ref x :: st) h := (run_act (c321_0)).trans rfl
theorem c321_1 : decode (aCode 321) 1 = .ok (.getfield 79, 3) := (congrArg (fun c => decode c 1) c321).trans dJ10_length_1
theorem e321_1 {d : Nat} {a0 : Value} {x : Nat} {st : List Value} {h : aH} (hκ : (hk_ h x).1 = 17) : run d 321 1 [a0] (.ref x :: st) h = run d 321 4 [a0] (.int (hi_ h x 152) :: st) h := (run_act (c321_1)).trans (e_get (g := 152) (ty := 0) (fin := 0) rfl (by rw [hκ]; rfl))
theorem c321_4 : decode (aCode 321) 4 = .ok (.ireturn, 1) := (congrArg (fun c => decode c 4) c321).trans dJ10_length_4
theorem e321_4 {d : Nat} {a0 : Value} {x : Int32} {h : aH} : run d 321 4 [a0] [.int x] h = some (.returned (some (.int x)), h) := (run_act (c321_4)).trans rfl
/-! java/lang/StringBuilder.init: 322 -/
theorem c322 : aCode 322 = cJ11_init := rfl
theorem c322_0 : decode (aCode 322) 0 = .ok (.aload_n 0, 1) := (congrArg (fun c => decode c 0) c322).trans dJ11_init_0
theorem e322_0 {d : Nat} {x : Nat} {st : List Value} {h : aH} : run d 322 0 [.ref x] st h = run d 322 1 [.ref x] (.ref x :: st) h := (run_act (c322_0)).trans rfl
theorem c322_1 : decode (aCode 322) 1 = .ok (.bipush 16, 2) := (congrArg (fun c => decode c 1) c322).trans dJ11_init_1
theorem e322_1 {d : Nat} {a0 : Value} {st : List Value} {h : aH} : run d 322 1 [a0] st h = run d 322 3 [a0] (.int (nI 16) :: st) h := (run_act (c322_1)).trans rfl
theorem c322_3 : decode (aCode 322) 3 = .ok (.invokespecial 1, 3) := (congrArg (fun c => decode c 3) c322).trans dJ11_init_3
theorem e322_3 {d : Nat} {a0 : Value} {x0 : Int32} {o : Nat} {h : aH} (hκ : (hk_ h o).1 < 98) : run (d + 1) 322 3 [a0] [.int x0, .ref o] h = aBk (d + 1) 322 3 [a0] [] false (run d 314 0 [.ref o, .int x0] [] h) := (run_act (c322_3)).trans (e_spec (m := 1) (ν := 314) (as := [.int x0]) (rest := []) (md := 1) (κ := 0) rfl rfl rfl hκ rfl rfl)
theorem c322_6 : decode (aCode 322) 6 = .ok (.return_, 1) := (congrArg (fun c => decode c 6) c322).trans dJ11_init_6
theorem e322_6 {d : Nat} {a0 : Value} {h : aH} : run d 322 6 [a0] [] h = some (.returned none, h) := (run_act (c322_6)).trans rfl
/-! java/lang/StringBuilder.append: 323 -/
theorem c323 : aCode 323 = cJ11_append := rfl
theorem c323_0 : decode (aCode 323) 0 = .ok (.aload_n 0, 1) := (congrArg (fun c => decode c 0) c323).trans dJ11_append_0
theorem e323_0 {d : Nat} {a1 : Value} {x : Nat} {st : List Value} {h : aH} : run d 323 0 [.ref x, a1] st h = run d 323 1 [.ref x, a1] (.ref x :: st) h := (run_act (c323_0)).trans rfl
theorem c323_1 : decode (aCode 323) 1 = .ok (.iload_n 1, 1) := (congrArg (fun c => decode c 1) c323).trans dJ11_append_1
theorem e323_1 {d : Nat} {a0 : Value} {x : Int32} {st : List Value} {h : aH} : run d 323 1 [a0, .int x] st h = run d 323 2 [a0, .int x] (.int x :: st) h := (run_act (c323_1)).trans rfl
theorem c323_2 : decode (aCode 323) 2 = .ok (.invokespecial 50, 3) := (congrArg (fun c => decode c 2) c323).trans dJ11_append_2
theorem e323_2 {d : Nat} {a0 a1 : Value} {x0 : Int32} {o : Nat} {h : aH} (hκ : (hk_ h o).1 = 17) : run (d + 1) 323 2 [a0, a1] [.int x0, .ref o] h = aBk (d + 1) 323 2 [a0, a1] [] false (run d 315 0 [.ref o, .int x0] [] h) := (run_act (c323_2)).trans (e_super (m := 1) (ν := 315) (as := [.int x0]) (rest := []) (κ := 17) rfl rfl hκ rfl rfl)
theorem c323_5 : decode (aCode 323) 5 = .ok (.pop, 1) := (congrArg (fun c => decode c 5) c323).trans dJ11_append_5
theorem e323_5 {d : Nat} {a0 a1 : Value} {x : Nat} {st : List Value} {h : aH} : run d 323 5 [a0, a1] (.ref x :: st) h = run d 323 6 [a0, a1] st h := (run_act (c323_5)).trans rfl
theorem c323_6 : decode (aCode 323) 6 = .ok (.aload_n 0, 1) := (congrArg (fun c => decode c 6) c323).trans dJ11_append_6
theorem e323_6 {d : Nat} {a1 : Value} {x : Nat} {st : List Value} {h : aH} : run d 323 6 [.ref x, a1] st h = run d 323 7 [.ref x, a1] (.ref x :: st) h := (run_act (c323_6)).trans rfl
theorem c323_7 : decode (aCode 323) 7 = .ok (.areturn, 1) := (congrArg (fun c => decode c 7) c323).trans dJ11_append_7
theorem e323_7 {d : Nat} {a0 a1 : Value} {x : Nat} {h : aH} : run d 323 7 [a0, a1] [.ref x] h = some (.returned (some (.ref x)), h) := (run_act (c323_7)).trans rfl
/-! java/lang/StringBuilder.toString: 324 -/
theorem c324 : aCode 324 = cJ11_toString := rfl
theorem c324_0 : decode (aCode 324) 0 = .ok (.new 18, 3) := (congrArg (fun c => decode c 0) c324).trans dJ11_toString_0
theorem e324_0 {d : Nat} {a0 : Value} {st : List Value} {h : aH} : run d 324 0 [a0] st h = run d 324 3 [a0] (.ref (hz_ h) :: st) (nw_ h 11 0 4) := (run_act (c324_0)).trans rfl
theorem c324_3 : decode (aCode 324) 3 = .ok (.dup, 1) := (congrArg (fun c => decode c 3) c324).trans dJ11_toString_3
theorem e324_3 {d : Nat} {a0 : Value} {x : Nat} {st : List Value} {h : aH} : run d 324 3 [a0] (.ref x :: st) h = run d 324 4 [a0] (.ref x :: .ref x :: st) h := (run_act (c324_3)).trans rfl
theorem c324_4 : decode (aCode 324) 4 = .ok (.aload_n 0, 1) := (congrArg (fun c => decode c 4) c324).trans dJ11_toString_4
theorem e324_4 {d : Nat} {x : Nat} {st : List Value} {h : aH} : run d 324 4 [.ref x] st h = run d 324 5 [.ref x] (.ref x :: st) h := (run_act (c324_4)).trans rfl
theorem c324_5 : decode (aCode 324) 5 = .ok (.invokespecial 137, 3) := (congrArg (fun c => decode c 5) c324).trans dJ11_toString_5
theorem e324_5 {d : Nat} {a0 : Value} {x0 : Nat} {o : Nat} {r0 : Nat} {h : aH} (hκ : (hk_ h o).1 < 98) : run (d + 1) 324 5 [a0] [.ref x0, .ref o, .ref r0] h = aBk (d + 1) 324 5 [a0] [.ref r0] false (run d 281 0 [.ref o, .ref x0] [] h) := (run_act (c324_5)).trans (e_spec (m := 1) (ν := 281) (as := [.ref x0]) (rest := [.ref r0]) (md := 1) (κ := 0) rfl rfl rfl hκ rfl rfl)
theorem c324_8 : decode (aCode 324) 8 = .ok (.areturn, 1) := (congrArg (fun c => decode c 8) c324).trans dJ11_toString_8
theorem e324_8 {d : Nat} {a0 : Value} {x : Nat} {h : aH} : run d 324 8 [a0] [.ref x] h = some (.returned (some (.ref x)), h) := (run_act (c324_8)).trans rfl
/-! java/lang/StringBuilder.length: 325 -/
theorem c325 : aCode 325 = cJ11_length := rfl
theorem c325_0 : decode (aCode 325) 0 = .ok (.aload_n 0, 1) := (congrArg (fun c => decode c 0) c325).trans dJ11_length_0
theorem e325_0 {d : Nat} {x : Nat} {st : List Value} {h : aH} : run d 325 0 [.ref x] st h = run d 325 1 [.ref x] (.ref x :: st) h := (run_act (c325_0)).trans rfl
theorem c325_1 : decode (aCode 325) 1 = .ok (.invokespecial 343, 3) := (congrArg (fun c => decode c 1) c325).trans dJ11_length_1
theorem e325_1 {d : Nat} {a0 : Value} {o : Nat} {h : aH} (hκ : (hk_ h o).1 = 17) : run (d + 1) 325 1 [a0] [.ref o] h = aBk (d + 1) 325 1 [a0] [] false (run d 321 0 [.ref o] [] h) := (run_act (c325_1)).trans (e_super (m := 0) (ν := 321) (as := []) (rest := []) (κ := 17) rfl rfl hκ rfl rfl)
theorem c325_4 : decode (aCode 325) 4 = .ok (.ireturn, 1) := (congrArg (fun c => decode c 4) c325).trans dJ11_length_4
theorem e325_4 {d : Nat} {a0 : Value} {x : Int32} {h : aH} : run d 325 4 [a0] [.int x] h = some (.returned (some (.int x)), h) := (run_act (c325_4)).trans rfl
/-! jdk/internal/util/ArraysSupport.newLength: 326 -/
theorem c326 : aCode 326 = cJ12_newLength := rfl
theorem c326_0 : decode (aCode 326) 0 = .ok (.iload_n 0, 1) := (congrArg (fun c => decode c 0) c326).trans dJ12_newLength_0
theorem e326_0 {d : Nat} {a1 a2 a3 : Value} {x : Int32} {st : List Value} {h : aH} : run d 326 0 [.int x, a1, a2, a3] st h = run d 326 1 [.int x, a1, a2, a3] (.int x :: st) h := (run_act (c326_0)).trans rfl
theorem c326_1 : decode (aCode 326) 1 = .ok (.iload_n 1, 1) := (congrArg (fun c => decode c 1) c326).trans dJ12_newLength_1
theorem e326_1 {d : Nat} {a0 a2 a3 : Value} {x : Int32} {st : List Value} {h : aH} : run d 326 1 [a0, .int x, a2, a3] st h = run d 326 2 [a0, .int x, a2, a3] (.int x :: st) h := (run_act (c326_1)).trans rfl
theorem c326_2 : decode (aCode 326) 2 = .ok (.iload_n 2, 1) := (congrArg (fun c => decode c 2) c326).trans dJ12_newLength_2
theorem e326_2 {d : Nat} {a0 a1 a3 : Value} {x : Int32} {st : List Value} {h : aH} : run d 326 2 [a0, a1, .int x, a3] st h = run d 326 3 [a0, a1, .int x, a3] (.int x :: st) h := (run_act (c326_2)).trans rfl
theorem c326_3 : decode (aCode 326) 3 = .ok (.invokestatic 194, 3) := (congrArg (fun c => decode c 3) c326).trans dJ12_newLength_3
theorem e326_3 {d : Nat} {a0 a1 a2 a3 : Value} {x y : Int32} {r0 : Int32} {h : aH} : run d 326 3 [a0, a1, a2, a3] [.int y, .int x, .int r0] h = run d 326 6 [a0, a1, a2, a3] [.int (max_ x y), .int r0] h := (run_act (c326_3)).trans (e_max rfl rfl)
theorem c326_6 : decode (aCode 326) 6 = .ok (.iadd, 1) := (congrArg (fun c => decode c 6) c326).trans dJ12_newLength_6
theorem e326_6 {d : Nat} {a0 a1 a2 a3 : Value} {x y : Int32} {st : List Value} {h : aH} : run d 326 6 [a0, a1, a2, a3] (.int y :: .int x :: st) h = run d 326 7 [a0, a1, a2, a3] (.int (x + y) :: st) h := (run_act (c326_6)).trans rfl
theorem c326_7 : decode (aCode 326) 7 = .ok (.istore_n 3, 1) := (congrArg (fun c => decode c 7) c326).trans dJ12_newLength_7
theorem e326_7 {d : Nat} {a0 a1 a2 a3 : Value} {x : Int32} {st : List Value} {h : aH} : run d 326 7 [a0, a1, a2, a3] (.int x :: st) h = run d 326 8 [a0, a1, a2, .int x] st h := (run_act (c326_7)).trans rfl
theorem c326_8 : decode (aCode 326) 8 = .ok (.iconst 0, 1) := (congrArg (fun c => decode c 8) c326).trans dJ12_newLength_8
theorem e326_8 {d : Nat} {a0 a1 a2 a3 : Value} {st : List Value} {h : aH} : run d 326 8 [a0, a1, a2, a3] st h = run d 326 9 [a0, a1, a2, a3] (.int (nI 0) :: st) h := (run_act (c326_8)).trans rfl
theorem c326_9 : decode (aCode 326) 9 = .ok (.iload_n 3, 1) := (congrArg (fun c => decode c 9) c326).trans dJ12_newLength_9
theorem e326_9 {d : Nat} {a0 a1 a2 : Value} {x : Int32} {st : List Value} {h : aH} : run d 326 9 [a0, a1, a2, .int x] st h = run d 326 10 [a0, a1, a2, .int x] (.int x :: st) h := (run_act (c326_9)).trans rfl
theorem c326_10 : decode (aCode 326) 10 = .ok (.if_icmp .ge 11, 3) := (congrArg (fun c => decode c 10) c326).trans dJ12_newLength_10
theorem e326_10 {d : Nat} {a0 a1 a2 a3 : Value} {x y : Int32} {st : List Value} {h : aH} : run d 326 10 [a0, a1, a2, a3] (.int y :: .int x :: st) h = if y ≤ x then run d 326 21 [a0, a1, a2, a3] st h else run d 326 13 [a0, a1, a2, a3] st h := (run_act (c326_10)).trans (e_if_icmp_ge rfl)
theorem c326_13 : decode (aCode 326) 13 = .ok (.iload_n 3, 1) := (congrArg (fun c => decode c 13) c326).trans dJ12_newLength_13
theorem e326_13 {d : Nat} {a0 a1 a2 : Value} {x : Int32} {st : List Value} {h : aH} : run d 326 13 [a0, a1, a2, .int x] st h = run d 326 14 [a0, a1, a2, .int x] (.int x :: st) h := (run_act (c326_13)).trans rfl
theorem c326_14 : decode (aCode 326) 14 = .ok (.ldc 200, 2) := (congrArg (fun c => decode c 14) c326).trans dJ12_newLength_14
theorem e326_14 {d : Nat} {a0 a1 a2 a3 : Value} {st : List Value} {h : aH} : run d 326 14 [a0, a1, a2, a3] st h = run d 326 16 [a0, a1, a2, a3] (.int (nI 2147483639) :: st) h := (run_act (c326_14)).trans rfl
theorem c326_16 : decode (aCode 326) 16 = .ok (.if_icmp .gt 5, 3) := (congrArg (fun c => decode c 16) c326).trans dJ12_newLength_16
theorem e326_16 {d : Nat} {a0 a1 a2 a3 : Value} {x y : Int32} {st : List Value} {h : aH} : run d 326 16 [a0, a1, a2, a3] (.int y :: .int x :: st) h = if y < x then run d 326 21 [a0, a1, a2, a3] st h else run d 326 19 [a0, a1, a2, a3] st h := (run_act (c326_16)).trans (e_if_icmp_gt rfl)
theorem c326_19 : decode (aCode 326) 19 = .ok (.iload_n 3, 1) := (congrArg (fun c => decode c 19) c326).trans dJ12_newLength_19
theorem e326_19 {d : Nat} {a0 a1 a2 : Value} {x : Int32} {st : List Value} {h : aH} : run d 326 19 [a0, a1, a2, .int x] st h = run d 326 20 [a0, a1, a2, .int x] (.int x :: st) h := (run_act (c326_19)).trans rfl
theorem c326_20 : decode (aCode 326) 20 = .ok (.ireturn, 1) := (congrArg (fun c => decode c 20) c326).trans dJ12_newLength_20
theorem e326_20 {d : Nat} {a0 a1 a2 a3 : Value} {x : Int32} {h : aH} : run d 326 20 [a0, a1, a2, a3] [.int x] h = some (.returned (some (.int x)), h) := (run_act (c326_20)).trans rfl
theorem c326_21 : decode (aCode 326) 21 = .ok (.iload_n 0, 1) := (congrArg (fun c => decode c 21) c326).trans dJ12_newLength_21
theorem e326_21 {d : Nat} {a1 a2 a3 : Value} {x : Int32} {st : List Value} {h : aH} : run d 326 21 [.int x, a1, a2, a3] st h = run d 326 22 [.int x, a1, a2, a3] (.int x :: st) h := (run_act (c326_21)).trans rfl
theorem c326_22 : decode (aCode 326) 22 = .ok (.iload_n 1, 1) := (congrArg (fun c => decode c 22) c326).trans dJ12_newLength_22
theorem e326_22 {d : Nat} {a0 a2 a3 : Value} {x : Int32} {st : List Value} {h : aH} : run d 326 22 [a0, .int x, a2, a3] st h = run d 326 23 [a0, .int x, a2, a3] (.int x :: st) h := (run_act (c326_22)).trans rfl
theorem c326_23 : decode (aCode 326) 23 = .ok (.invokestatic 201, 3) := (congrArg (fun c => decode c 23) c326).trans dJ12_newLength_23
theorem e326_23 {d : Nat} {a0 a1 a2 a3 : Value} {x0 : Int32} {x1 : Int32} {h : aH} : run (d + 1) 326 23 [a0, a1, a2, a3] [.int x1, .int x0] h = aBk (d + 1) 326 23 [a0, a1, a2, a3] [] false (run d 327 0 [.int x0, .int x1, aU] [] h) := (run_act (c326_23)).trans (e_stat (m := 2) (ν := 327) (as := [.int x0, .int x1]) (rest := []) (md := 0) (κ := 0) rfl rfl rfl rfl rfl)
theorem c326_26 : decode (aCode 326) 26 = .ok (.ireturn, 1) := (congrArg (fun c => decode c 26) c326).trans dJ12_newLength_26
theorem e326_26 {d : Nat} {a0 a1 a2 a3 : Value} {x : Int32} {h : aH} : run d 326 26 [a0, a1, a2, a3] [.int x] h = some (.returned (some (.int x)), h) := (run_act (c326_26)).trans rfl
/-! jdk/internal/util/ArraysSupport.hugeLength: 327 -/
theorem c327 : aCode 327 = cJ12_hugeLength := rfl
theorem c327_0 : decode (aCode 327) 0 = .ok (.iload_n 0, 1) := (congrArg (fun c => decode c 0) c327).trans dJ12_hugeLength_0
theorem e327_0 {d : Nat} {a1 a2 : Value} {x : Int32} {st : List Value} {h : aH} : run d 327 0 [.int x, a1, a2] st h = run d 327 1 [.int x, a1, a2] (.int x :: st) h := (run_act (c327_0)).trans rfl
theorem c327_1 : decode (aCode 327) 1 = .ok (.iload_n 1, 1) := (congrArg (fun c => decode c 1) c327).trans dJ12_hugeLength_1
theorem e327_1 {d : Nat} {a0 a2 : Value} {x : Int32} {st : List Value} {h : aH} : run d 327 1 [a0, .int x, a2] st h = run d 327 2 [a0, .int x, a2] (.int x :: st) h := (run_act (c327_1)).trans rfl
theorem c327_2 : decode (aCode 327) 2 = .ok (.iadd, 1) := (congrArg (fun c => decode c 2) c327).trans dJ12_hugeLength_2
theorem e327_2 {d : Nat} {a0 a1 a2 : Value} {x y : Int32} {st : List Value} {h : aH} : run d 327 2 [a0, a1, a2] (.int y :: .int x :: st) h = run d 327 3 [a0, a1, a2] (.int (x + y) :: st) h := (run_act (c327_2)).trans rfl
theorem c327_3 : decode (aCode 327) 3 = .ok (.istore_n 2, 1) := (congrArg (fun c => decode c 3) c327).trans dJ12_hugeLength_3
theorem e327_3 {d : Nat} {a0 a1 a2 : Value} {x : Int32} {st : List Value} {h : aH} : run d 327 3 [a0, a1, a2] (.int x :: st) h = run d 327 4 [a0, a1, .int x] st h := (run_act (c327_3)).trans rfl
theorem c327_4 : decode (aCode 327) 4 = .ok (.iload_n 2, 1) := (congrArg (fun c => decode c 4) c327).trans dJ12_hugeLength_4
theorem e327_4 {d : Nat} {a0 a1 : Value} {x : Int32} {st : List Value} {h : aH} : run d 327 4 [a0, a1, .int x] st h = run d 327 5 [a0, a1, .int x] (.int x :: st) h := (run_act (c327_4)).trans rfl
theorem c327_5 : decode (aCode 327) 5 = .ok (.ifCond .ge 44, 3) := (congrArg (fun c => decode c 5) c327).trans dJ12_hugeLength_5
theorem e327_5 {d : Nat} {a0 a1 a2 : Value} {x : Int32} {st : List Value} {h : aH} : run d 327 5 [a0, a1, a2] (.int x :: st) h = if 0 ≤ x then run d 327 49 [a0, a1, a2] st h else run d 327 8 [a0, a1, a2] st h := (run_act (c327_5)).trans (e_ifCond_ge rfl)
theorem c327_8 : decode (aCode 327) 8 = .ok (.new 204, 3) := (congrArg (fun c => decode c 8) c327).trans dJ12_hugeLength_8
theorem c327_11 : decode (aCode 327) 11 = .ok (.dup, 1) := (congrArg (fun c => decode c 11) c327).trans dJ12_hugeLength_11
theorem e327_11 {d : Nat} {a0 a1 a2 : Value} {x : Nat} {st : List Value} {h : aH} : run d 327 11 [a0, a1, a2] (.ref x :: st) h = run d 327 12 [a0, a1, a2] (.ref x :: .ref x :: st) h := (run_act (c327_11)).trans rfl
theorem c327_12 : decode (aCode 327) 12 = .ok (.new 89, 3) := (congrArg (fun c => decode c 12) c327).trans dJ12_hugeLength_12
theorem c327_15 : decode (aCode 327) 15 = .ok (.dup, 1) := (congrArg (fun c => decode c 15) c327).trans dJ12_hugeLength_15
theorem e327_15 {d : Nat} {a0 a1 a2 : Value} {x : Nat} {st : List Value} {h : aH} : run d 327 15 [a0, a1, a2] (.ref x :: st) h = run d 327 16 [a0, a1, a2] (.ref x :: .ref x :: st) h := (run_act (c327_15)).trans rfl
theorem c327_16 : decode (aCode 327) 16 = .ok (.invokespecial 91, 3) := (congrArg (fun c => decode c 16) c327).trans dJ12_hugeLength_16
theorem c327_49 : decode (aCode 327) 49 = .ok (.iload_n 2, 1) := (congrArg (fun c => decode c 49) c327).trans dJ12_hugeLength_49
theorem e327_49 {d : Nat} {a0 a1 : Value} {x : Int32} {st : List Value} {h : aH} : run d 327 49 [a0, a1, .int x] st h = run d 327 50 [a0, a1, .int x] (.int x :: st) h := (run_act (c327_49)).trans rfl
theorem c327_50 : decode (aCode 327) 50 = .ok (.ldc 200, 2) := (congrArg (fun c => decode c 50) c327).trans dJ12_hugeLength_50
theorem e327_50 {d : Nat} {a0 a1 a2 : Value} {st : List Value} {h : aH} : run d 327 50 [a0, a1, a2] st h = run d 327 52 [a0, a1, a2] (.int (nI 2147483639) :: st) h := (run_act (c327_50)).trans rfl
theorem c327_52 : decode (aCode 327) 52 = .ok (.if_icmp .gt 6, 3) := (congrArg (fun c => decode c 52) c327).trans dJ12_hugeLength_52
theorem e327_52 {d : Nat} {a0 a1 a2 : Value} {x y : Int32} {st : List Value} {h : aH} : run d 327 52 [a0, a1, a2] (.int y :: .int x :: st) h = if y < x then run d 327 58 [a0, a1, a2] st h else run d 327 55 [a0, a1, a2] st h := (run_act (c327_52)).trans (e_if_icmp_gt rfl)
theorem c327_55 : decode (aCode 327) 55 = .ok (.ldc 200, 2) := (congrArg (fun c => decode c 55) c327).trans dJ12_hugeLength_55
theorem e327_55 {d : Nat} {a0 a1 a2 : Value} {st : List Value} {h : aH} : run d 327 55 [a0, a1, a2] st h = run d 327 57 [a0, a1, a2] (.int (nI 2147483639) :: st) h := (run_act (c327_55)).trans rfl
theorem c327_57 : decode (aCode 327) 57 = .ok (.ireturn, 1) := (congrArg (fun c => decode c 57) c327).trans dJ12_hugeLength_57
theorem e327_57 {d : Nat} {a0 a1 a2 : Value} {x : Int32} {h : aH} : run d 327 57 [a0, a1, a2] [.int x] h = some (.returned (some (.int x)), h) := (run_act (c327_57)).trans rfl
theorem c327_58 : decode (aCode 327) 58 = .ok (.iload_n 2, 1) := (congrArg (fun c => decode c 58) c327).trans dJ12_hugeLength_58
theorem e327_58 {d : Nat} {a0 a1 : Value} {x : Int32} {st : List Value} {h : aH} : run d 327 58 [a0, a1, .int x] st h = run d 327 59 [a0, a1, .int x] (.int x :: st) h := (run_act (c327_58)).trans rfl
theorem c327_59 : decode (aCode 327) 59 = .ok (.ireturn, 1) := (congrArg (fun c => decode c 59) c327).trans dJ12_hugeLength_59
theorem e327_59 {d : Nat} {a0 a1 a2 : Value} {x : Int32} {h : aH} : run d 327 59 [a0, a1, a2] [.int x] h = some (.returned (some (.int x)), h) := (run_act (c327_59)).trans rfl
/-! java/lang/Math.max: 328 -/
theorem c328 : aCode 328 = cJ13_max := rfl
theorem c328_0 : decode (aCode 328) 0 = .ok (.iload_n 0, 1) := (congrArg (fun c => decode c 0) c328).trans dJ13_max_0
theorem e328_0 {d : Nat} {a1 : Value} {x : Int32} {st : List Value} {h : aH} : run d 328 0 [.int x, a1] st h = run d 328 1 [.int x, a1] (.int x :: st) h := (run_act (c328_0)).trans rfl
theorem c328_1 : decode (aCode 328) 1 = .ok (.iload_n 1, 1) := (congrArg (fun c => decode c 1) c328).trans dJ13_max_1
theorem e328_1 {d : Nat} {a0 : Value} {x : Int32} {st : List Value} {h : aH} : run d 328 1 [a0, .int x] st h = run d 328 2 [a0, .int x] (.int x :: st) h := (run_act (c328_1)).trans rfl
theorem c328_2 : decode (aCode 328) 2 = .ok (.if_icmp .lt 7, 3) := (congrArg (fun c => decode c 2) c328).trans dJ13_max_2
theorem e328_2 {d : Nat} {a0 a1 : Value} {x y : Int32} {st : List Value} {h : aH} : run d 328 2 [a0, a1] (.int y :: .int x :: st) h = if x < y then run d 328 9 [a0, a1] st h else run d 328 5 [a0, a1] st h := (run_act (c328_2)).trans (e_if_icmp_lt rfl)
theorem c328_5 : decode (aCode 328) 5 = .ok (.iload_n 0, 1) := (congrArg (fun c => decode c 5) c328).trans dJ13_max_5
theorem e328_5 {d : Nat} {a1 : Value} {x : Int32} {st : List Value} {h : aH} : run d 328 5 [.int x, a1] st h = run d 328 6 [.int x, a1] (.int x :: st) h := (run_act (c328_5)).trans rfl
theorem c328_6 : decode (aCode 328) 6 = .ok (.goto 4, 3) := (congrArg (fun c => decode c 6) c328).trans dJ13_max_6
theorem e328_6 {d : Nat} {a0 a1 : Value} {st : List Value} {h : aH} : run d 328 6 [a0, a1] st h = run d 328 10 [a0, a1] st h := (run_act (c328_6)).trans rfl
theorem c328_9 : decode (aCode 328) 9 = .ok (.iload_n 1, 1) := (congrArg (fun c => decode c 9) c328).trans dJ13_max_9
theorem e328_9 {d : Nat} {a0 : Value} {x : Int32} {st : List Value} {h : aH} : run d 328 9 [a0, .int x] st h = run d 328 10 [a0, .int x] (.int x :: st) h := (run_act (c328_9)).trans rfl
theorem c328_10 : decode (aCode 328) 10 = .ok (.ireturn, 1) := (congrArg (fun c => decode c 10) c328).trans dJ13_max_10
theorem e328_10 {d : Nat} {a0 a1 : Value} {x : Int32} {h : aH} : run d 328 10 [a0, a1] [.int x] h = some (.returned (some (.int x)), h) := (run_act (c328_10)).trans rfl
/-! java/lang/Math.min: 329 -/
theorem c329 : aCode 329 = cJ13_min := rfl
theorem c329_0 : decode (aCode 329) 0 = .ok (.iload_n 0, 1) := (congrArg (fun c => decode c 0) c329).trans dJ13_min_0
theorem e329_0 {d : Nat} {a1 : Value} {x : Int32} {st : List Value} {h : aH} : run d 329 0 [.int x, a1] st h = run d 329 1 [.int x, a1] (.int x :: st) h := (run_act (c329_0)).trans rfl
theorem c329_1 : decode (aCode 329) 1 = .ok (.iload_n 1, 1) := (congrArg (fun c => decode c 1) c329).trans dJ13_min_1
theorem e329_1 {d : Nat} {a0 : Value} {x : Int32} {st : List Value} {h : aH} : run d 329 1 [a0, .int x] st h = run d 329 2 [a0, .int x] (.int x :: st) h := (run_act (c329_1)).trans rfl
theorem c329_2 : decode (aCode 329) 2 = .ok (.if_icmp .gt 7, 3) := (congrArg (fun c => decode c 2) c329).trans dJ13_min_2
theorem e329_2 {d : Nat} {a0 a1 : Value} {x y : Int32} {st : List Value} {h : aH} : run d 329 2 [a0, a1] (.int y :: .int x :: st) h = if y < x then run d 329 9 [a0, a1] st h else run d 329 5 [a0, a1] st h := (run_act (c329_2)).trans (e_if_icmp_gt rfl)
theorem c329_5 : decode (aCode 329) 5 = .ok (.iload_n 0, 1) := (congrArg (fun c => decode c 5) c329).trans dJ13_min_5
theorem e329_5 {d : Nat} {a1 : Value} {x : Int32} {st : List Value} {h : aH} : run d 329 5 [.int x, a1] st h = run d 329 6 [.int x, a1] (.int x :: st) h := (run_act (c329_5)).trans rfl
theorem c329_6 : decode (aCode 329) 6 = .ok (.goto 4, 3) := (congrArg (fun c => decode c 6) c329).trans dJ13_min_6
theorem e329_6 {d : Nat} {a0 a1 : Value} {st : List Value} {h : aH} : run d 329 6 [a0, a1] st h = run d 329 10 [a0, a1] st h := (run_act (c329_6)).trans rfl
theorem c329_9 : decode (aCode 329) 9 = .ok (.iload_n 1, 1) := (congrArg (fun c => decode c 9) c329).trans dJ13_min_9
theorem e329_9 {d : Nat} {a0 : Value} {x : Int32} {st : List Value} {h : aH} : run d 329 9 [a0, .int x] st h = run d 329 10 [a0, .int x] (.int x :: st) h := (run_act (c329_9)).trans rfl
theorem c329_10 : decode (aCode 329) 10 = .ok (.ireturn, 1) := (congrArg (fun c => decode c 10) c329).trans dJ13_min_10
theorem e329_10 {d : Nat} {a0 a1 : Value} {x : Int32} {h : aH} : run d 329 10 [a0, a1] [.int x] h = some (.returned (some (.int x)), h) := (run_act (c329_10)).trans rfl
/-! java/util/Arrays.copyOf: 330 -/
theorem c330 : aCode 330 = cJ14_copyOf := rfl
theorem c330_0 : decode (aCode 330) 0 = .ok (.iload_n 1, 1) := (congrArg (fun c => decode c 0) c330).trans dJ14_copyOf_0
theorem e330_0 {d : Nat} {a0 a2 : Value} {x : Int32} {st : List Value} {h : aH} : run d 330 0 [a0, .int x, a2] st h = run d 330 1 [a0, .int x, a2] (.int x :: st) h := (run_act (c330_0)).trans rfl
theorem c330_1 : decode (aCode 330) 1 = .ok (.aload_n 0, 1) := (congrArg (fun c => decode c 1) c330).trans dJ14_copyOf_1
theorem e330_1 {d : Nat} {a1 a2 : Value} {x : Nat} {st : List Value} {h : aH} : run d 330 1 [.ref x, a1, a2] st h = run d 330 2 [.ref x, a1, a2] (.ref x :: st) h := (run_act (c330_1)).trans rfl
theorem c330_2 : decode (aCode 330) 2 = .ok (.arraylength, 1) := (congrArg (fun c => decode c 2) c330).trans dJ14_copyOf_2
theorem e330_2 {d : Nat} {a0 a1 a2 : Value} {x : Nat} {st : List Value} {h : aH} (hκ : 100 ≤ (hk_ h x).1) : run d 330 2 [a0, a1, a2] (.ref x :: st) h = run d 330 3 [a0, a1, a2] (.int (nI (hk_ h x).2) :: st) h := (run_act (c330_2)).trans (e_alen hκ)
theorem c330_3 : decode (aCode 330) 3 = .ok (.if_icmp .ne 11, 3) := (congrArg (fun c => decode c 3) c330).trans dJ14_copyOf_3
theorem e330_3 {d : Nat} {a0 a1 a2 : Value} {x y : Int32} {st : List Value} {h : aH} : run d 330 3 [a0, a1, a2] (.int y :: .int x :: st) h = if x = y then run d 330 6 [a0, a1, a2] st h else run d 330 14 [a0, a1, a2] st h := (run_act (c330_3)).trans (e_if_icmp_ne rfl)
theorem c330_6 : decode (aCode 330) 6 = .ok (.aload_n 0, 1) := (congrArg (fun c => decode c 6) c330).trans dJ14_copyOf_6
theorem e330_6 {d : Nat} {a1 a2 : Value} {x : Nat} {st : List Value} {h : aH} : run d 330 6 [.ref x, a1, a2] st h = run d 330 7 [.ref x, a1, a2] (.ref x :: st) h := (run_act (c330_6)).trans rfl
theorem c330_7 : decode (aCode 330) 7 = .ok (.invokevirtual 310, 3) := (congrArg (fun c => decode c 7) c330).trans dJ14_copyOf_7
theorem c330_10 : decode (aCode 330) 10 = .ok (.checkcast 311, 3) := (congrArg (fun c => decode c 10) c330).trans dJ14_copyOf_10
theorem c330_13 : decode (aCode 330) 13 = .ok (.areturn, 1) := (congrArg (fun c => decode c 13) c330).trans dJ14_copyOf_13
theorem e330_13 {d : Nat} {a0 a1 a2 : Value} {x : Nat} {h : aH} : run d 330 13 [a0, a1, a2] [.ref x] h = some (.returned (some (.ref x)), h) := (run_act (c330_13)).trans rfl
theorem c330_14 : decode (aCode 330) 14 = .ok (.iload_n 1, 1) := (congrArg (fun c => decode c 14) c330).trans dJ14_copyOf_14
theorem e330_14 {d : Nat} {a0 a2 : Value} {x : Int32} {st : List Value} {h : aH} : run d 330 14 [a0, .int x, a2] st h = run d 330 15 [a0, .int x, a2] (.int x :: st) h := (run_act (c330_14)).trans rfl
theorem c330_15 : decode (aCode 330) 15 = .ok (.newarray .byte, 2) := (congrArg (fun c => decode c 15) c330).trans dJ14_copyOf_15
theorem e330_15 {d : Nat} {a0 a1 a2 : Value} {m : Nat} {st : List Value} {h : aH} (hm : m ≤ 1000000) : run d 330 15 [a0, a1, a2] (.int (nI m) :: st) h = run d 330 17 [a0, a1, a2] (.ref (hz_ h) :: st) (nw_ h 101 m m) := (run_act (c330_15)).trans (e_newa_n rfl hm)
theorem c330_17 : decode (aCode 330) 17 = .ok (.astore_n 2, 1) := (congrArg (fun c => decode c 17) c330).trans dJ14_copyOf_17
theorem e330_17 {d : Nat} {a0 a1 a2 : Value} {x : Nat} {st : List Value} {h : aH} : run d 330 17 [a0, a1, a2] (.ref x :: st) h = run d 330 18 [a0, a1, .ref x] st h := (run_act (c330_17)).trans rfl
theorem c330_18 : decode (aCode 330) 18 = .ok (.aload_n 0, 1) := (congrArg (fun c => decode c 18) c330).trans dJ14_copyOf_18
theorem e330_18 {d : Nat} {a1 a2 : Value} {x : Nat} {st : List Value} {h : aH} : run d 330 18 [.ref x, a1, a2] st h = run d 330 19 [.ref x, a1, a2] (.ref x :: st) h := (run_act (c330_18)).trans rfl
theorem c330_19 : decode (aCode 330) 19 = .ok (.iconst 0, 1) := (congrArg (fun c => decode c 19) c330).trans dJ14_copyOf_19
theorem e330_19 {d : Nat} {a0 a1 a2 : Value} {st : List Value} {h : aH} : run d 330 19 [a0, a1, a2] st h = run d 330 20 [a0, a1, a2] (.int (nI 0) :: st) h := (run_act (c330_19)).trans rfl
theorem c330_20 : decode (aCode 330) 20 = .ok (.aload_n 2, 1) := (congrArg (fun c => decode c 20) c330).trans dJ14_copyOf_20
theorem e330_20 {d : Nat} {a0 a1 : Value} {x : Nat} {st : List Value} {h : aH} : run d 330 20 [a0, a1, .ref x] st h = run d 330 21 [a0, a1, .ref x] (.ref x :: st) h := (run_act (c330_20)).trans rfl
theorem c330_21 : decode (aCode 330) 21 = .ok (.iconst 0, 1) := (congrArg (fun c => decode c 21) c330).trans dJ14_copyOf_21
theorem e330_21 {d : Nat} {a0 a1 a2 : Value} {st : List Value} {h : aH} : run d 330 21 [a0, a1, a2] st h = run d 330 22 [a0, a1, a2] (.int (nI 0) :: st) h := (run_act (c330_21)).trans rfl
theorem c330_22 : decode (aCode 330) 22 = .ok (.aload_n 0, 1) := (congrArg (fun c => decode c 22) c330).trans dJ14_copyOf_22
theorem e330_22 {d : Nat} {a1 a2 : Value} {x : Nat} {st : List Value} {h : aH} : run d 330 22 [.ref x, a1, a2] st h = run d 330 23 [.ref x, a1, a2] (.ref x :: st) h := (run_act (c330_22)).trans rfl
theorem c330_23 : decode (aCode 330) 23 = .ok (.arraylength, 1) := (congrArg (fun c => decode c 23) c330).trans dJ14_copyOf_23
theorem e330_23 {d : Nat} {a0 a1 a2 : Value} {x : Nat} {st : List Value} {h : aH} (hκ : 100 ≤ (hk_ h x).1) : run d 330 23 [a0, a1, a2] (.ref x :: st) h = run d 330 24 [a0, a1, a2] (.int (nI (hk_ h x).2) :: st) h := (run_act (c330_23)).trans (e_alen hκ)
theorem c330_24 : decode (aCode 330) 24 = .ok (.iload_n 1, 1) := (congrArg (fun c => decode c 24) c330).trans dJ14_copyOf_24
theorem e330_24 {d : Nat} {a0 a2 : Value} {x : Int32} {st : List Value} {h : aH} : run d 330 24 [a0, .int x, a2] st h = run d 330 25 [a0, .int x, a2] (.int x :: st) h := (run_act (c330_24)).trans rfl
theorem c330_25 : decode (aCode 330) 25 = .ok (.invokestatic 304, 3) := (congrArg (fun c => decode c 25) c330).trans dJ14_copyOf_25
theorem e330_25 {d : Nat} {a0 a1 a2 : Value} {x y : Int32} {r0 : Int32} {r1 : Nat} {r2 : Int32} {r3 : Nat} {h : aH} : run d 330 25 [a0, a1, a2] [.int y, .int x, .int r0, .ref r1, .int r2, .ref r3] h = run d 330 28 [a0, a1, a2] [.int (min_ x y), .int r0, .ref r1, .int r2, .ref r3] h := (run_act (c330_25)).trans (e_min rfl rfl)
theorem c330_28 : decode (aCode 330) 28 = .ok (.invokestatic 150, 3) := (congrArg (fun c => decode c 28) c330).trans dJ14_copyOf_28
theorem e330_28 {d : Nat} {a0 a1 a2 : Value} {m dp sp q s : Nat} {h : aH} (h1 : 64 ≤ q) (h2 : s ≠ q) (h3 : (hk_ h s).1 = (hk_ h q).1) (h4 : (hk_ h q).1 = 100 ∨ ((hk_ h q).1 = 101 ∧ ∀ i, i < m → (hi_ h s (sp + i)).toInt8.toInt32 = hi_ h s (sp + i))) (h8 : sp + m ≤ (hk_ h s).2) (h9 : dp + m ≤ (hk_ h q).2) (hb : (hk_ h s).2 ≤ 2147483647) (hb2 : (hk_ h q).2 ≤ 2147483647) : run d 330 28 [a0, a1, a2] [.int (nI m), .int (nI dp), .ref q, .int (nI sp), .ref s] h = run d 330 31 [a0, a1, a2] [] (cp_ h s sp q dp m) := (run_act (c330_28)).trans (e_copy_n rfl h1 h2 h3 h4 h8 h9 hb hb2 (by decide))
theorem c330_31 : decode (aCode 330) 31 = .ok (.aload_n 2, 1) := (congrArg (fun c => decode c 31) c330).trans dJ14_copyOf_31
theorem e330_31 {d : Nat} {a0 a1 : Value} {x : Nat} {st : List Value} {h : aH} : run d 330 31 [a0, a1, .ref x] st h = run d 330 32 [a0, a1, .ref x] (.ref x :: st) h := (run_act (c330_31)).trans rfl
theorem c330_32 : decode (aCode 330) 32 = .ok (.areturn, 1) := (congrArg (fun c => decode c 32) c330).trans dJ14_copyOf_32
theorem e330_32 {d : Nat} {a0 a1 a2 : Value} {x : Nat} {h : aH} : run d 330 32 [a0, a1, a2] [.ref x] h = some (.returned (some (.ref x)), h) := (run_act (c330_32)).trans rfl
/-! java/util/Arrays.copyOfRange: 331 -/
theorem c331 : aCode 331 = cJ14_copyOfRange := rfl
theorem c331_0 : decode (aCode 331) 0 = .ok (.iload_n 1, 1) := (congrArg (fun c => decode c 0) c331).trans dJ14_copyOfRange_0
theorem e331_0 {d : Nat} {a0 a2 : Value} {x : Int32} {st : List Value} {h : aH} : run d 331 0 [a0, .int x, a2] st h = run d 331 1 [a0, .int x, a2] (.int x :: st) h := (run_act (c331_0)).trans rfl
theorem c331_1 : decode (aCode 331) 1 = .ok (.ifCond .ne 9, 3) := (congrArg (fun c => decode c 1) c331).trans dJ14_copyOfRange_1
theorem e331_1 {d : Nat} {a0 a1 a2 : Value} {x : Int32} {st : List Value} {h : aH} : run d 331 1 [a0, a1, a2] (.int x :: st) h = if x = 0 then run d 331 4 [a0, a1, a2] st h else run d 331 10 [a0, a1, a2] st h := (run_act (c331_1)).trans (e_ifCond_ne rfl)
theorem c331_4 : decode (aCode 331) 4 = .ok (.iload_n 2, 1) := (congrArg (fun c => decode c 4) c331).trans dJ14_copyOfRange_4
theorem e331_4 {d : Nat} {a0 a1 : Value} {x : Int32} {st : List Value} {h : aH} : run d 331 4 [a0, a1, .int x] st h = run d 331 5 [a0, a1, .int x] (.int x :: st) h := (run_act (c331_4)).trans rfl
theorem c331_5 : decode (aCode 331) 5 = .ok (.aload_n 0, 1) := (congrArg (fun c => decode c 5) c331).trans dJ14_copyOfRange_5
theorem e331_5 {d : Nat} {a1 a2 : Value} {x : Nat} {st : List Value} {h : aH} : run d 331 5 [.ref x, a1, a2] st h = run d 331 6 [.ref x, a1, a2] (.ref x :: st) h := (run_act (c331_5)).trans rfl
theorem c331_6 : decode (aCode 331) 6 = .ok (.arraylength, 1) := (congrArg (fun c => decode c 6) c331).trans dJ14_copyOfRange_6
theorem e331_6 {d : Nat} {a0 a1 a2 : Value} {x : Nat} {st : List Value} {h : aH} (hκ : 100 ≤ (hk_ h x).1) : run d 331 6 [a0, a1, a2] (.ref x :: st) h = run d 331 7 [a0, a1, a2] (.int (nI (hk_ h x).2) :: st) h := (run_act (c331_6)).trans (e_alen hκ)
theorem c331_7 : decode (aCode 331) 7 = .ok (.if_icmp .eq 10, 3) := (congrArg (fun c => decode c 7) c331).trans dJ14_copyOfRange_7
theorem e331_7 {d : Nat} {a0 a1 a2 : Value} {x y : Int32} {st : List Value} {h : aH} : run d 331 7 [a0, a1, a2] (.int y :: .int x :: st) h = if x = y then run d 331 17 [a0, a1, a2] st h else run d 331 10 [a0, a1, a2] st h := (run_act (c331_7)).trans (e_if_icmp_eq rfl)
theorem c331_10 : decode (aCode 331) 10 = .ok (.aload_n 0, 1) := (congrArg (fun c => decode c 10) c331).trans dJ14_copyOfRange_10
theorem e331_10 {d : Nat} {a1 a2 : Value} {x : Nat} {st : List Value} {h : aH} : run d 331 10 [.ref x, a1, a2] st h = run d 331 11 [.ref x, a1, a2] (.ref x :: st) h := (run_act (c331_10)).trans rfl
theorem c331_11 : decode (aCode 331) 11 = .ok (.iload_n 1, 1) := (congrArg (fun c => decode c 11) c331).trans dJ14_copyOfRange_11
theorem e331_11 {d : Nat} {a0 a2 : Value} {x : Int32} {st : List Value} {h : aH} : run d 331 11 [a0, .int x, a2] st h = run d 331 12 [a0, .int x, a2] (.int x :: st) h := (run_act (c331_11)).trans rfl
theorem c331_12 : decode (aCode 331) 12 = .ok (.iload_n 2, 1) := (congrArg (fun c => decode c 12) c331).trans dJ14_copyOfRange_12
theorem e331_12 {d : Nat} {a0 a1 : Value} {x : Int32} {st : List Value} {h : aH} : run d 331 12 [a0, a1, .int x] st h = run d 331 13 [a0, a1, .int x] (.int x :: st) h := (run_act (c331_12)).trans rfl
theorem c331_13 : decode (aCode 331) 13 = .ok (.invokestatic 339, 3) := (congrArg (fun c => decode c 13) c331).trans dJ14_copyOfRange_13
theorem e331_13 {d : Nat} {a0 a1 a2 : Value} {x0 : Nat} {x1 : Int32} {x2 : Int32} {h : aH} : run (d + 1) 331 13 [a0, a1, a2] [.int x2, .int x1, .ref x0] h = aBk (d + 1) 331 13 [a0, a1, a2] [] false (run d 332 0 [.ref x0, .int x1, .int x2, aU, aU] [] h) := (run_act (c331_13)).trans (e_stat (m := 3) (ν := 332) (as := [.ref x0, .int x1, .int x2]) (rest := []) (md := 0) (κ := 0) rfl rfl rfl rfl rfl)
theorem c331_16 : decode (aCode 331) 16 = .ok (.areturn, 1) := (congrArg (fun c => decode c 16) c331).trans dJ14_copyOfRange_16
theorem e331_16 {d : Nat} {a0 a1 a2 : Value} {x : Nat} {h : aH} : run d 331 16 [a0, a1, a2] [.ref x] h = some (.returned (some (.ref x)), h) := (run_act (c331_16)).trans rfl
theorem c331_17 : decode (aCode 331) 17 = .ok (.aload_n 0, 1) := (congrArg (fun c => decode c 17) c331).trans dJ14_copyOfRange_17
theorem e331_17 {d : Nat} {a1 a2 : Value} {x : Nat} {st : List Value} {h : aH} : run d 331 17 [.ref x, a1, a2] st h = run d 331 18 [.ref x, a1, a2] (.ref x :: st) h := (run_act (c331_17)).trans rfl
theorem c331_18 : decode (aCode 331) 18 = .ok (.invokevirtual 310, 3) := (congrArg (fun c => decode c 18) c331).trans dJ14_copyOfRange_18
theorem c331_21 : decode (aCode 331) 21 = .ok (.checkcast 311, 3) := (congrArg (fun c => decode c 21) c331).trans dJ14_copyOfRange_21
theorem c331_24 : decode (aCode 331) 24 = .ok (.areturn, 1) := (congrArg (fun c => decode c 24) c331).trans dJ14_copyOfRange_24
theorem e331_24 {d : Nat} {a0 a1 a2 : Value} {x : Nat} {h : aH} : run d 331 24 [a0, a1, a2] [.ref x] h = some (.returned (some (.ref x)), h) := (run_act (c331_24)).trans rfl
/-! java/util/Arrays.copyOfRangeByte: 332 -/
theorem c332 : aCode 332 = cJ14_copyOfRangeByte := rfl
theorem c332_0 : decode (aCode 332) 0 = .ok (.iload_n 1, 1) := (congrArg (fun c => decode c 0) c332).trans dJ14_copyOfRangeByte_0
theorem e332_0 {d : Nat} {a0 a2 a3 a4 : Value} {x : Int32} {st : List Value} {h : aH} : run d 332 0 [a0, .int x, a2, a3, a4] st h = run d 332 1 [a0, .int x, a2, a3, a4] (.int x :: st) h := (run_act (c332_0)).trans rfl
theorem c332_1 : decode (aCode 332) 1 = .ok (.iload_n 2, 1) := (congrArg (fun c => decode c 1) c332).trans dJ14_copyOfRangeByte_1
theorem e332_1 {d : Nat} {a0 a1 a3 a4 : Value} {x : Int32} {st : List Value} {h : aH} : run d 332 1 [a0, a1, .int x, a3, a4] st h = run d 332 2 [a0, a1, .int x, a3, a4] (.int x :: st) h := (run_act (c332_1)).trans rfl
theorem c332_2 : decode (aCode 332) 2 = .ok (.invokestatic 343, 3) := (congrArg (fun c => decode c 2) c332).trans dJ14_copyOfRangeByte_2
theorem e332_2 {d : Nat} {a0 a1 a2 a3 a4 : Value} {x0 : Int32} {x1 : Int32} {h : aH} : run (d + 1) 332 2 [a0, a1, a2, a3, a4] [.int x1, .int x0] h = aBk (d + 1) 332 2 [a0, a1, a2, a3, a4] [] false (run d 333 0 [.int x0, .int x1] [] h) := (run_act (c332_2)).trans (e_stat (m := 2) (ν := 333) (as := [.int x0, .int x1]) (rest := []) (md := 0) (κ := 0) rfl rfl rfl rfl rfl)
theorem c332_5 : decode (aCode 332) 5 = .ok (.iload_n 2, 1) := (congrArg (fun c => decode c 5) c332).trans dJ14_copyOfRangeByte_5
theorem e332_5 {d : Nat} {a0 a1 a3 a4 : Value} {x : Int32} {st : List Value} {h : aH} : run d 332 5 [a0, a1, .int x, a3, a4] st h = run d 332 6 [a0, a1, .int x, a3, a4] (.int x :: st) h := (run_act (c332_5)).trans rfl
theorem c332_6 : decode (aCode 332) 6 = .ok (.iload_n 1, 1) := (congrArg (fun c => decode c 6) c332).trans dJ14_copyOfRangeByte_6
theorem e332_6 {d : Nat} {a0 a2 a3 a4 : Value} {x : Int32} {st : List Value} {h : aH} : run d 332 6 [a0, .int x, a2, a3, a4] st h = run d 332 7 [a0, .int x, a2, a3, a4] (.int x :: st) h := (run_act (c332_6)).trans rfl
theorem c332_7 : decode (aCode 332) 7 = .ok (.isub, 1) := (congrArg (fun c => decode c 7) c332).trans dJ14_copyOfRangeByte_7
theorem e332_7 {d : Nat} {a0 a1 a2 a3 a4 : Value} {x y : Int32} {st : List Value} {h : aH} : run d 332 7 [a0, a1, a2, a3, a4] (.int y :: .int x :: st) h = run d 332 8 [a0, a1, a2, a3, a4] (.int (x - y) :: st) h := (run_act (c332_7)).trans rfl
theorem c332_8 : decode (aCode 332) 8 = .ok (.istore_n 3, 1) := (congrArg (fun c => decode c 8) c332).trans dJ14_copyOfRangeByte_8
theorem e332_8 {d : Nat} {a0 a1 a2 a3 a4 : Value} {x : Int32} {st : List Value} {h : aH} : run d 332 8 [a0, a1, a2, a3, a4] (.int x :: st) h = run d 332 9 [a0, a1, a2, .int x, a4] st h := (run_act (c332_8)).trans rfl
theorem c332_9 : decode (aCode 332) 9 = .ok (.iload_n 3, 1) := (congrArg (fun c => decode c 9) c332).trans dJ14_copyOfRangeByte_9
theorem e332_9 {d : Nat} {a0 a1 a2 a4 : Value} {x : Int32} {st : List Value} {h : aH} : run d 332 9 [a0, a1, a2, .int x, a4] st h = run d 332 10 [a0, a1, a2, .int x, a4] (.int x :: st) h := (run_act (c332_9)).trans rfl
theorem c332_10 : decode (aCode 332) 10 = .ok (.newarray .byte, 2) := (congrArg (fun c => decode c 10) c332).trans dJ14_copyOfRangeByte_10
theorem e332_10 {d : Nat} {a0 a1 a2 a3 a4 : Value} {m : Nat} {st : List Value} {h : aH} (hm : m ≤ 1000000) : run d 332 10 [a0, a1, a2, a3, a4] (.int (nI m) :: st) h = run d 332 12 [a0, a1, a2, a3, a4] (.ref (hz_ h) :: st) (nw_ h 101 m m) := (run_act (c332_10)).trans (e_newa_n rfl hm)
theorem c332_12 : decode (aCode 332) 12 = .ok (.astore 4, 2) := (congrArg (fun c => decode c 12) c332).trans dJ14_copyOfRangeByte_12
theorem e332_12 {d : Nat} {a0 a1 a2 a3 a4 : Value} {x : Nat} {st : List Value} {h : aH} : run d 332 12 [a0, a1, a2, a3, a4] (.ref x :: st) h = run d 332 14 [a0, a1, a2, a3, .ref x] st h := (run_act (c332_12)).trans rfl
theorem c332_14 : decode (aCode 332) 14 = .ok (.aload_n 0, 1) := (congrArg (fun c => decode c 14) c332).trans dJ14_copyOfRangeByte_14
theorem e332_14 {d : Nat} {a1 a2 a3 a4 : Value} {x : Nat} {st : List Value} {h : aH} : run d 332 14 [.ref x, a1, a2, a3, a4] st h = run d 332 15 [.ref x, a1, a2, a3, a4] (.ref x :: st) h := (run_act (c332_14)).trans rfl
theorem c332_15 : decode (aCode 332) 15 = .ok (.iload_n 1, 1) := (congrArg (fun c => decode c 15) c332).trans dJ14_copyOfRangeByte_15
theorem e332_15 {d : Nat} {a0 a2 a3 a4 : Value} {x : Int32} {st : List Value} {h : aH} : run d 332 15 [a0, .int x, a2, a3, a4] st h = run d 332 16 [a0, .int x, a2, a3, a4] (.int x :: st) h := (run_act (c332_15)).trans rfl
theorem c332_16 : decode (aCode 332) 16 = .ok (.aload 4, 2) := (congrArg (fun c => decode c 16) c332).trans dJ14_copyOfRangeByte_16
theorem e332_16 {d : Nat} {a0 a1 a2 a3 : Value} {x : Nat} {st : List Value} {h : aH} : run d 332 16 [a0, a1, a2, a3, .ref x] st h = run d 332 18 [a0, a1, a2, a3, .ref x] (.ref x :: st) h := (run_act (c332_16)).trans rfl
theorem c332_18 : decode (aCode 332) 18 = .ok (.iconst 0, 1) := (congrArg (fun c => decode c 18) c332).trans dJ14_copyOfRangeByte_18
theorem e332_18 {d : Nat} {a0 a1 a2 a3 a4 : Value} {st : List Value} {h : aH} : run d 332 18 [a0, a1, a2, a3, a4] st h = run d 332 19 [a0, a1, a2, a3, a4] (.int (nI 0) :: st) h := (run_act (c332_18)).trans rfl
theorem c332_19 : decode (aCode 332) 19 = .ok (.aload_n 0, 1) := (congrArg (fun c => decode c 19) c332).trans dJ14_copyOfRangeByte_19
theorem e332_19 {d : Nat} {a1 a2 a3 a4 : Value} {x : Nat} {st : List Value} {h : aH} : run d 332 19 [.ref x, a1, a2, a3, a4] st h = run d 332 20 [.ref x, a1, a2, a3, a4] (.ref x :: st) h := (run_act (c332_19)).trans rfl
theorem c332_20 : decode (aCode 332) 20 = .ok (.arraylength, 1) := (congrArg (fun c => decode c 20) c332).trans dJ14_copyOfRangeByte_20
theorem e332_20 {d : Nat} {a0 a1 a2 a3 a4 : Value} {x : Nat} {st : List Value} {h : aH} (hκ : 100 ≤ (hk_ h x).1) : run d 332 20 [a0, a1, a2, a3, a4] (.ref x :: st) h = run d 332 21 [a0, a1, a2, a3, a4] (.int (nI (hk_ h x).2) :: st) h := (run_act (c332_20)).trans (e_alen hκ)
theorem c332_21 : decode (aCode 332) 21 = .ok (.iload_n 1, 1) := (congrArg (fun c => decode c 21) c332).trans dJ14_copyOfRangeByte_21
theorem e332_21 {d : Nat} {a0 a2 a3 a4 : Value} {x : Int32} {st : List Value} {h : aH} : run d 332 21 [a0, .int x, a2, a3, a4] st h = run d 332 22 [a0, .int x, a2, a3, a4] (.int x :: st) h := (run_act (c332_21)).trans rfl
theorem c332_22 : decode (aCode 332) 22 = .ok (.isub, 1) := (congrArg (fun c => decode c 22) c332).trans dJ14_copyOfRangeByte_22
theorem e332_22 {d : Nat} {a0 a1 a2 a3 a4 : Value} {x y : Int32} {st : List Value} {h : aH} : run d 332 22 [a0, a1, a2, a3, a4] (.int y :: .int x :: st) h = run d 332 23 [a0, a1, a2, a3, a4] (.int (x - y) :: st) h := (run_act (c332_22)).trans rfl
theorem c332_23 : decode (aCode 332) 23 = .ok (.iload_n 3, 1) := (congrArg (fun c => decode c 23) c332).trans dJ14_copyOfRangeByte_23
theorem e332_23 {d : Nat} {a0 a1 a2 a4 : Value} {x : Int32} {st : List Value} {h : aH} : run d 332 23 [a0, a1, a2, .int x, a4] st h = run d 332 24 [a0, a1, a2, .int x, a4] (.int x :: st) h := (run_act (c332_23)).trans rfl
theorem c332_24 : decode (aCode 332) 24 = .ok (.invokestatic 304, 3) := (congrArg (fun c => decode c 24) c332).trans dJ14_copyOfRangeByte_24
theorem e332_24 {d : Nat} {a0 a1 a2 a3 a4 : Value} {x y : Int32} {r0 : Int32} {r1 : Nat} {r2 : Int32} {r3 : Nat} {h : aH} : run d 332 24 [a0, a1, a2, a3, a4] [.int y, .int x, .int r0, .ref r1, .int r2, .ref r3] h = run d 332 27 [a0, a1, a2, a3, a4] [.int (min_ x y), .int r0, .ref r1, .int r2, .ref r3] h := (run_act (c332_24)).trans (e_min rfl rfl)
theorem c332_27 : decode (aCode 332) 27 = .ok (.invokestatic 150, 3) := (congrArg (fun c => decode c 27) c332).trans dJ14_copyOfRangeByte_27
theorem e332_27 {d : Nat} {a0 a1 a2 a3 a4 : Value} {m dp sp q s : Nat} {h : aH} (h1 : 64 ≤ q) (h2 : s ≠ q) (h3 : (hk_ h s).1 = (hk_ h q).1) (h4 : (hk_ h q).1 = 100 ∨ ((hk_ h q).1 = 101 ∧ ∀ i, i < m → (hi_ h s (sp + i)).toInt8.toInt32 = hi_ h s (sp + i))) (h8 : sp + m ≤ (hk_ h s).2) (h9 : dp + m ≤ (hk_ h q).2) (hb : (hk_ h s).2 ≤ 2147483647) (hb2 : (hk_ h q).2 ≤ 2147483647) : run d 332 27 [a0, a1, a2, a3, a4] [.int (nI m), .int (nI dp), .ref q, .int (nI sp), .ref s] h = run d 332 30 [a0, a1, a2, a3, a4] [] (cp_ h s sp q dp m) := (run_act (c332_27)).trans (e_copy_n rfl h1 h2 h3 h4 h8 h9 hb hb2 (by decide))
theorem c332_30 : decode (aCode 332) 30 = .ok (.aload 4, 2) := (congrArg (fun c => decode c 30) c332).trans dJ14_copyOfRangeByte_30
theorem e332_30 {d : Nat} {a0 a1 a2 a3 : Value} {x : Nat} {st : List Value} {h : aH} : run d 332 30 [a0, a1, a2, a3, .ref x] st h = run d 332 32 [a0, a1, a2, a3, .ref x] (.ref x :: st) h := (run_act (c332_30)).trans rfl
theorem c332_32 : decode (aCode 332) 32 = .ok (.areturn, 1) := (congrArg (fun c => decode c 32) c332).trans dJ14_copyOfRangeByte_32
theorem e332_32 {d : Nat} {a0 a1 a2 a3 a4 : Value} {x : Nat} {h : aH} : run d 332 32 [a0, a1, a2, a3, a4] [.ref x] h = some (.returned (some (.ref x)), h) := (run_act (c332_32)).trans rfl
/-! java/util/Arrays.checkLength: 333 -/
theorem c333 : aCode 333 = cJ14_checkLength := rfl
theorem c333_0 : decode (aCode 333) 0 = .ok (.iload_n 1, 1) := (congrArg (fun c => decode c 0) c333).trans dJ14_checkLength_0
theorem e333_0 {d : Nat} {a0 : Value} {x : Int32} {st : List Value} {h : aH} : run d 333 0 [a0, .int x] st h = run d 333 1 [a0, .int x] (.int x :: st) h := (run_act (c333_0)).trans rfl
theorem c333_1 : decode (aCode 333) 1 = .ok (.iload_n 0, 1) := (congrArg (fun c => decode c 1) c333).trans dJ14_checkLength_1
theorem e333_1 {d : Nat} {a1 : Value} {x : Int32} {st : List Value} {h : aH} : run d 333 1 [.int x, a1] st h = run d 333 2 [.int x, a1] (.int x :: st) h := (run_act (c333_1)).trans rfl
theorem c333_2 : decode (aCode 333) 2 = .ok (.if_icmp .ge 35, 3) := (congrArg (fun c => decode c 2) c333).trans dJ14_checkLength_2
theorem e333_2 {d : Nat} {a0 a1 : Value} {x y : Int32} {st : List Value} {h : aH} : run d 333 2 [a0, a1] (.int y :: .int x :: st) h = if y ≤ x then run d 333 37 [a0, a1] st h else run d 333 5 [a0, a1] st h := (run_act (c333_2)).trans (e_if_icmp_ge rfl)
theorem c333_5 : decode (aCode 333) 5 = .ok (.new 43, 3) := (congrArg (fun c => decode c 5) c333).trans dJ14_checkLength_5
theorem c333_8 : decode (aCode 333) 8 = .ok (.dup, 1) := (congrArg (fun c => decode c 8) c333).trans dJ14_checkLength_8
theorem e333_8 {d : Nat} {a0 a1 : Value} {x : Nat} {st : List Value} {h : aH} : run d 333 8 [a0, a1] (.ref x :: st) h = run d 333 9 [a0, a1] (.ref x :: .ref x :: st) h := (run_act (c333_8)).trans rfl
theorem c333_9 : decode (aCode 333) 9 = .ok (.new 45, 3) := (congrArg (fun c => decode c 9) c333).trans dJ14_checkLength_9
theorem c333_12 : decode (aCode 333) 12 = .ok (.dup, 1) := (congrArg (fun c => decode c 12) c333).trans dJ14_checkLength_12
theorem e333_12 {d : Nat} {a0 a1 : Value} {x : Nat} {st : List Value} {h : aH} : run d 333 12 [a0, a1] (.ref x :: st) h = run d 333 13 [a0, a1] (.ref x :: .ref x :: st) h := (run_act (c333_12)).trans rfl
theorem c333_13 : decode (aCode 333) 13 = .ok (.invokespecial 47, 3) := (congrArg (fun c => decode c 13) c333).trans dJ14_checkLength_13
theorem c333_37 : decode (aCode 333) 37 = .ok (.return_, 1) := (congrArg (fun c => decode c 37) c333).trans dJ14_checkLength_37
theorem e333_37 {d : Nat} {a0 a1 : Value} {h : aH} : run d 333 37 [a0, a1] [] h = some (.returned none, h) := (run_act (c333_37)).trans rfl
/-! java/util/Arrays.copyOf_2: 334 -/
theorem c334 : aCode 334 = cJ14_copyOf_2 := rfl
theorem c334_0 : decode (aCode 334) 0 = .ok (.aload_n 0, 1) := (congrArg (fun c => decode c 0) c334).trans dJ14_copyOf_2_0
theorem e334_0 {d : Nat} {a1 : Value} {x : Nat} {st : List Value} {h : aH} : run d 334 0 [.ref x, a1] st h = run d 334 1 [.ref x, a1] (.ref x :: st) h := (run_act (c334_0)).trans rfl
theorem c334_1 : decode (aCode 334) 1 = .ok (.iload_n 1, 1) := (congrArg (fun c => decode c 1) c334).trans dJ14_copyOf_2_1
theorem e334_1 {d : Nat} {a0 : Value} {x : Int32} {st : List Value} {h : aH} : run d 334 1 [a0, .int x] st h = run d 334 2 [a0, .int x] (.int x :: st) h := (run_act (c334_1)).trans rfl
theorem c334_2 : decode (aCode 334) 2 = .ok (.aload_n 0, 1) := (congrArg (fun c => decode c 2) c334).trans dJ14_copyOf_2_2
theorem e334_2 {d : Nat} {a1 : Value} {x : Nat} {st : List Value} {h : aH} : run d 334 2 [.ref x, a1] st h = run d 334 3 [.ref x, a1] (.ref x :: st) h := (run_act (c334_2)).trans rfl
theorem c334_3 : decode (aCode 334) 3 = .ok (.invokevirtual 86, 3) := (congrArg (fun c => decode c 3) c334).trans dJ14_copyOf_2_3
theorem c334_6 : decode (aCode 334) 6 = .ok (.invokestatic 300, 3) := (congrArg (fun c => decode c 6) c334).trans dJ14_copyOf_2_6
theorem e334_6 {d : Nat} {a0 a1 : Value} {x0 : Nat} {x1 : Int32} {x2 : Nat} {h : aH} : run (d + 1) 334 6 [a0, a1] [.ref x2, .int x1, .ref x0] h = aBk (d + 1) 334 6 [a0, a1] [] false (run d 335 0 [.ref x0, .int x1, .ref x2, aU] [] h) := (run_act (c334_6)).trans (e_stat (m := 3) (ν := 335) (as := [.ref x0, .int x1, .ref x2]) (rest := []) (md := 0) (κ := 0) rfl rfl rfl rfl rfl)
theorem c334_9 : decode (aCode 334) 9 = .ok (.areturn, 1) := (congrArg (fun c => decode c 9) c334).trans dJ14_copyOf_2_9
theorem e334_9 {d : Nat} {a0 a1 : Value} {x : Nat} {h : aH} : run d 334 9 [a0, a1] [.ref x] h = some (.returned (some (.ref x)), h) := (run_act (c334_9)).trans rfl
/-! java/util/Arrays.copyOf_3: 335 -/
theorem c335 : aCode 335 = cJ14_copyOf_3 := rfl
theorem c335_0 : decode (aCode 335) 0 = .ok (.aload_n 2, 1) := (congrArg (fun c => decode c 0) c335).trans dJ14_copyOf_3_0
theorem e335_0 {d : Nat} {a0 a1 a3 : Value} {x : Nat} {st : List Value} {h : aH} : run d 335 0 [a0, a1, .ref x, a3] st h = run d 335 1 [a0, a1, .ref x, a3] (.ref x :: st) h := (run_act (c335_0)).trans rfl
theorem c335_1 : decode (aCode 335) 1 = .ok (.ldc 110, 2) := (congrArg (fun c => decode c 1) c335).trans dJ14_copyOf_3_1
theorem c335_3 : decode (aCode 335) 3 = .ok (.if_acmp .ne 10, 3) := (congrArg (fun c => decode c 3) c335).trans dJ14_copyOf_3_3
theorem e335_3s {d : Nat} {a0 a1 a2 a3 : Value} {x : Nat} {st : List Value} {h : aH} : run d 335 3 [a0, a1, a2, a3] (.ref x :: .ref x :: st) h = run d 335 6 [a0, a1, a2, a3] st h := (run_act (c335_3)).trans (e_acmpSn rfl)
theorem e335_3d {d : Nat} {a0 a1 a2 a3 : Value} {x y : Nat} {st : List Value} {h : aH} (hn : ¬ x = y) (h6 : 64 ≤ x ∨ 64 ≤ y) : run d 335 3 [a0, a1, a2, a3] (.ref y :: .ref x :: st) h = run d 335 13 [a0, a1, a2, a3] st h := (run_act (c335_3)).trans (e_acmpDn rfl hn h6)
theorem c335_6 : decode (aCode 335) 6 = .ok (.iload_n 1, 1) := (congrArg (fun c => decode c 6) c335).trans dJ14_copyOf_3_6
theorem e335_6 {d : Nat} {a0 a2 a3 : Value} {x : Int32} {st : List Value} {h : aH} : run d 335 6 [a0, .int x, a2, a3] st h = run d 335 7 [a0, .int x, a2, a3] (.int x :: st) h := (run_act (c335_6)).trans rfl
theorem c335_7 : decode (aCode 335) 7 = .ok (.anewarray 2, 3) := (congrArg (fun c => decode c 7) c335).trans dJ14_copyOf_3_7
theorem e335_7 {d : Nat} {a0 a1 a2 a3 : Value} {m : Nat} {st : List Value} {h : aH} (hm : m ≤ 1000000) : run d 335 7 [a0, a1, a2, a3] (.int (nI m) :: st) h = run d 335 10 [a0, a1, a2, a3] (.ref (hz_ h) :: st) (nw_ h 114 m m) := (run_act (c335_7)).trans (e_anew_n rfl rfl hm)
theorem c335_10 : decode (aCode 335) 10 = .ok (.goto 14, 3) := (congrArg (fun c => decode c 10) c335).trans dJ14_copyOf_3_10
theorem e335_10 {d : Nat} {a0 a1 a2 a3 : Value} {st : List Value} {h : aH} : run d 335 10 [a0, a1, a2, a3] st h = run d 335 24 [a0, a1, a2, a3] st h := (run_act (c335_10)).trans rfl
theorem c335_13 : decode (aCode 335) 13 = .ok (.aload_n 2, 1) := (congrArg (fun c => decode c 13) c335).trans dJ14_copyOf_3_13
theorem e335_13 {d : Nat} {a0 a1 a3 : Value} {x : Nat} {st : List Value} {h : aH} : run d 335 13 [a0, a1, .ref x, a3] st h = run d 335 14 [a0, a1, .ref x, a3] (.ref x :: st) h := (run_act (c335_13)).trans rfl
theorem c335_14 : decode (aCode 335) 14 = .ok (.invokevirtual 90, 3) := (congrArg (fun c => decode c 14) c335).trans dJ14_copyOf_3_14
theorem c335_24 : decode (aCode 335) 24 = .ok (.astore_n 3, 1) := (congrArg (fun c => decode c 24) c335).trans dJ14_copyOf_3_24
theorem e335_24 {d : Nat} {a0 a1 a2 a3 : Value} {x : Nat} {st : List Value} {h : aH} : run d 335 24 [a0, a1, a2, a3] (.ref x :: st) h = run d 335 25 [a0, a1, a2, .ref x] st h := (run_act (c335_24)).trans rfl
theorem c335_25 : decode (aCode 335) 25 = .ok (.aload_n 0, 1) := (congrArg (fun c => decode c 25) c335).trans dJ14_copyOf_3_25
theorem e335_25 {d : Nat} {a1 a2 a3 : Value} {x : Nat} {st : List Value} {h : aH} : run d 335 25 [.ref x, a1, a2, a3] st h = run d 335 26 [.ref x, a1, a2, a3] (.ref x :: st) h := (run_act (c335_25)).trans rfl
theorem c335_26 : decode (aCode 335) 26 = .ok (.iconst 0, 1) := (congrArg (fun c => decode c 26) c335).trans dJ14_copyOf_3_26
theorem e335_26 {d : Nat} {a0 a1 a2 a3 : Value} {st : List Value} {h : aH} : run d 335 26 [a0, a1, a2, a3] st h = run d 335 27 [a0, a1, a2, a3] (.int (nI 0) :: st) h := (run_act (c335_26)).trans rfl
theorem c335_27 : decode (aCode 335) 27 = .ok (.aload_n 3, 1) := (congrArg (fun c => decode c 27) c335).trans dJ14_copyOf_3_27
theorem e335_27 {d : Nat} {a0 a1 a2 : Value} {x : Nat} {st : List Value} {h : aH} : run d 335 27 [a0, a1, a2, .ref x] st h = run d 335 28 [a0, a1, a2, .ref x] (.ref x :: st) h := (run_act (c335_27)).trans rfl
theorem c335_28 : decode (aCode 335) 28 = .ok (.iconst 0, 1) := (congrArg (fun c => decode c 28) c335).trans dJ14_copyOf_3_28
theorem e335_28 {d : Nat} {a0 a1 a2 a3 : Value} {st : List Value} {h : aH} : run d 335 28 [a0, a1, a2, a3] st h = run d 335 29 [a0, a1, a2, a3] (.int (nI 0) :: st) h := (run_act (c335_28)).trans rfl
theorem c335_29 : decode (aCode 335) 29 = .ok (.aload_n 0, 1) := (congrArg (fun c => decode c 29) c335).trans dJ14_copyOf_3_29
theorem e335_29 {d : Nat} {a1 a2 a3 : Value} {x : Nat} {st : List Value} {h : aH} : run d 335 29 [.ref x, a1, a2, a3] st h = run d 335 30 [.ref x, a1, a2, a3] (.ref x :: st) h := (run_act (c335_29)).trans rfl
theorem c335_30 : decode (aCode 335) 30 = .ok (.arraylength, 1) := (congrArg (fun c => decode c 30) c335).trans dJ14_copyOf_3_30
theorem e335_30 {d : Nat} {a0 a1 a2 a3 : Value} {x : Nat} {st : List Value} {h : aH} (hκ : 100 ≤ (hk_ h x).1) : run d 335 30 [a0, a1, a2, a3] (.ref x :: st) h = run d 335 31 [a0, a1, a2, a3] (.int (nI (hk_ h x).2) :: st) h := (run_act (c335_30)).trans (e_alen hκ)
theorem c335_31 : decode (aCode 335) 31 = .ok (.iload_n 1, 1) := (congrArg (fun c => decode c 31) c335).trans dJ14_copyOf_3_31
theorem e335_31 {d : Nat} {a0 a2 a3 : Value} {x : Int32} {st : List Value} {h : aH} : run d 335 31 [a0, .int x, a2, a3] st h = run d 335 32 [a0, .int x, a2, a3] (.int x :: st) h := (run_act (c335_31)).trans rfl
theorem c335_32 : decode (aCode 335) 32 = .ok (.invokestatic 304, 3) := (congrArg (fun c => decode c 32) c335).trans dJ14_copyOf_3_32
theorem e335_32 {d : Nat} {a0 a1 a2 a3 : Value} {x y : Int32} {r0 : Int32} {r1 : Nat} {r2 : Int32} {r3 : Nat} {h : aH} : run d 335 32 [a0, a1, a2, a3] [.int y, .int x, .int r0, .ref r1, .int r2, .ref r3] h = run d 335 35 [a0, a1, a2, a3] [.int (min_ x y), .int r0, .ref r1, .int r2, .ref r3] h := (run_act (c335_32)).trans (e_min rfl rfl)
theorem c335_35 : decode (aCode 335) 35 = .ok (.invokestatic 150, 3) := (congrArg (fun c => decode c 35) c335).trans dJ14_copyOf_3_35
theorem e335_35 {d : Nat} {a0 a1 a2 a3 : Value} {m dp sp q s : Nat} {h : aH} (h1 : 64 ≤ q) (h2 : s ≠ q) (h3 : (hk_ h s).1 = (hk_ h q).1) (h4 : (hk_ h q).1 = 100 ∨ ((hk_ h q).1 = 101 ∧ ∀ i, i < m → (hi_ h s (sp + i)).toInt8.toInt32 = hi_ h s (sp + i))) (h8 : sp + m ≤ (hk_ h s).2) (h9 : dp + m ≤ (hk_ h q).2) (hb : (hk_ h s).2 ≤ 2147483647) (hb2 : (hk_ h q).2 ≤ 2147483647) : run d 335 35 [a0, a1, a2, a3] [.int (nI m), .int (nI dp), .ref q, .int (nI sp), .ref s] h = run d 335 38 [a0, a1, a2, a3] [] (cp_ h s sp q dp m) := (run_act (c335_35)).trans (e_copy_n rfl h1 h2 h3 h4 h8 h9 hb hb2 (by decide))
theorem c335_38 : decode (aCode 335) 38 = .ok (.aload_n 3, 1) := (congrArg (fun c => decode c 38) c335).trans dJ14_copyOf_3_38
theorem e335_38 {d : Nat} {a0 a1 a2 : Value} {x : Nat} {st : List Value} {h : aH} : run d 335 38 [a0, a1, a2, .ref x] st h = run d 335 39 [a0, a1, a2, .ref x] (.ref x :: st) h := (run_act (c335_38)).trans rfl
theorem c335_39 : decode (aCode 335) 39 = .ok (.areturn, 1) := (congrArg (fun c => decode c 39) c335).trans dJ14_copyOf_3_39
theorem e335_39 {d : Nat} {a0 a1 a2 a3 : Value} {x : Nat} {h : aH} : run d 335 39 [a0, a1, a2, a3] [.ref x] h = some (.returned (some (.ref x)), h) := (run_act (c335_39)).trans rfl
/-! java/util/Objects.checkIndex: 336 -/
theorem c336 : aCode 336 = cJ15_checkIndex := rfl
theorem c336_0 : decode (aCode 336) 0 = .ok (.iload_n 0, 1) := (congrArg (fun c => decode c 0) c336).trans dJ15_checkIndex_0
theorem e336_0 {d : Nat} {a1 : Value} {x : Int32} {st : List Value} {h : aH} : run d 336 0 [.int x, a1] st h = run d 336 1 [.int x, a1] (.int x :: st) h := (run_act (c336_0)).trans rfl
theorem c336_1 : decode (aCode 336) 1 = .ok (.iload_n 1, 1) := (congrArg (fun c => decode c 1) c336).trans dJ15_checkIndex_1
theorem e336_1 {d : Nat} {a0 : Value} {x : Int32} {st : List Value} {h : aH} : run d 336 1 [a0, .int x] st h = run d 336 2 [a0, .int x] (.int x :: st) h := (run_act (c336_1)).trans rfl
theorem c336_2 : decode (aCode 336) 2 = .ok (.aconst_null, 1) := (congrArg (fun c => decode c 2) c336).trans dJ15_checkIndex_2
theorem e336_2 {d : Nat} {a0 a1 : Value} {st : List Value} {h : aH} : run d 336 2 [a0, a1] st h = run d 336 3 [a0, a1] (.null :: st) h := (run_act (c336_2)).trans rfl
theorem c336_3 : decode (aCode 336) 3 = .ok (.invokestatic 105, 3) := (congrArg (fun c => decode c 3) c336).trans dJ15_checkIndex_3
theorem e336_3 {d : Nat} {a0 a1 : Value} {x0 : Int32} {x1 : Int32} {x2 : Nat} {h : aH} : run (d + 1) 336 3 [a0, a1] [.ref x2, .int x1, .int x0] h = aBk (d + 1) 336 3 [a0, a1] [] false (run d 288 0 [.int x0, .int x1, .ref x2] [] h) := (run_act (c336_3)).trans (e_stat (m := 3) (ν := 288) (as := [.int x0, .int x1, .ref x2]) (rest := []) (md := 0) (κ := 0) rfl rfl rfl rfl rfl)
theorem c336_6 : decode (aCode 336) 6 = .ok (.ireturn, 1) := (congrArg (fun c => decode c 6) c336).trans dJ15_checkIndex_6
theorem e336_6 {d : Nat} {a0 a1 : Value} {x : Int32} {h : aH} : run d 336 6 [a0, a1] [.int x] h = some (.returned (some (.int x)), h) := (run_act (c336_6)).trans rfl
/-! java/lang/Integer.bitCount: 340 -/
theorem c340 : aCode 340 = cJ16_bitCount := rfl
theorem c340_0 : decode (aCode 340) 0 = .ok (.iload_n 0, 1) := (congrArg (fun c => decode c 0) c340).trans dJ16_bitCount_0
theorem e340_0 {d : Nat} {x : Int32} {st : List Value} {h : aH} : run d 340 0 [.int x] st h = run d 340 1 [.int x] (.int x :: st) h := (run_act (c340_0)).trans rfl
theorem c340_1 : decode (aCode 340) 1 = .ok (.iload_n 0, 1) := (congrArg (fun c => decode c 1) c340).trans dJ16_bitCount_1
theorem e340_1 {d : Nat} {x : Int32} {st : List Value} {h : aH} : run d 340 1 [.int x] st h = run d 340 2 [.int x] (.int x :: st) h := (run_act (c340_1)).trans rfl
theorem c340_2 : decode (aCode 340) 2 = .ok (.iconst 1, 1) := (congrArg (fun c => decode c 2) c340).trans dJ16_bitCount_2
theorem e340_2 {d : Nat} {a0 : Value} {st : List Value} {h : aH} : run d 340 2 [a0] st h = run d 340 3 [a0] (.int (nI 1) :: st) h := (run_act (c340_2)).trans rfl
theorem c340_3 : decode (aCode 340) 3 = .ok (.iushr, 1) := (congrArg (fun c => decode c 3) c340).trans dJ16_bitCount_3
theorem e340_3 {d : Nat} {a0 : Value} {x y : Int32} {st : List Value} {h : aH} : run d 340 3 [a0] (.int y :: .int x :: st) h = run d 340 4 [a0] (.int (ush_ x y) :: st) h := (run_act (c340_3)).trans rfl
theorem c340_4 : decode (aCode 340) 4 = .ok (.ldc_w 265, 3) := (congrArg (fun c => decode c 4) c340).trans dJ16_bitCount_4
theorem e340_4 {d : Nat} {a0 : Value} {st : List Value} {h : aH} : run d 340 4 [a0] st h = run d 340 7 [a0] (.int (nI 1431655765) :: st) h := (run_act (c340_4)).trans rfl
theorem c340_7 : decode (aCode 340) 7 = .ok (.iand, 1) := (congrArg (fun c => decode c 7) c340).trans dJ16_bitCount_7
theorem e340_7 {d : Nat} {a0 : Value} {x y : Int32} {st : List Value} {h : aH} : run d 340 7 [a0] (.int y :: .int x :: st) h = run d 340 8 [a0] (.int (x &&& y) :: st) h := (run_act (c340_7)).trans rfl
theorem c340_8 : decode (aCode 340) 8 = .ok (.isub, 1) := (congrArg (fun c => decode c 8) c340).trans dJ16_bitCount_8
theorem e340_8 {d : Nat} {a0 : Value} {x y : Int32} {st : List Value} {h : aH} : run d 340 8 [a0] (.int y :: .int x :: st) h = run d 340 9 [a0] (.int (x - y) :: st) h := (run_act (c340_8)).trans rfl
theorem c340_9 : decode (aCode 340) 9 = .ok (.istore_n 0, 1) := (congrArg (fun c => decode c 9) c340).trans dJ16_bitCount_9
theorem e340_9 {d : Nat} {a0 : Value} {x : Int32} {st : List Value} {h : aH} : run d 340 9 [a0] (.int x :: st) h = run d 340 10 [.int x] st h := (run_act (c340_9)).trans rfl
theorem c340_10 : decode (aCode 340) 10 = .ok (.iload_n 0, 1) := (congrArg (fun c => decode c 10) c340).trans dJ16_bitCount_10
theorem e340_10 {d : Nat} {x : Int32} {st : List Value} {h : aH} : run d 340 10 [.int x] st h = run d 340 11 [.int x] (.int x :: st) h := (run_act (c340_10)).trans rfl
theorem c340_11 : decode (aCode 340) 11 = .ok (.ldc_w 266, 3) := (congrArg (fun c => decode c 11) c340).trans dJ16_bitCount_11
theorem e340_11 {d : Nat} {a0 : Value} {st : List Value} {h : aH} : run d 340 11 [a0] st h = run d 340 14 [a0] (.int (nI 858993459) :: st) h := (run_act (c340_11)).trans rfl
theorem c340_14 : decode (aCode 340) 14 = .ok (.iand, 1) := (congrArg (fun c => decode c 14) c340).trans dJ16_bitCount_14
theorem e340_14 {d : Nat} {a0 : Value} {x y : Int32} {st : List Value} {h : aH} : run d 340 14 [a0] (.int y :: .int x :: st) h = run d 340 15 [a0] (.int (x &&& y) :: st) h := (run_act (c340_14)).trans rfl
theorem c340_15 : decode (aCode 340) 15 = .ok (.iload_n 0, 1) := (congrArg (fun c => decode c 15) c340).trans dJ16_bitCount_15
theorem e340_15 {d : Nat} {x : Int32} {st : List Value} {h : aH} : run d 340 15 [.int x] st h = run d 340 16 [.int x] (.int x :: st) h := (run_act (c340_15)).trans rfl
theorem c340_16 : decode (aCode 340) 16 = .ok (.iconst 2, 1) := (congrArg (fun c => decode c 16) c340).trans dJ16_bitCount_16
theorem e340_16 {d : Nat} {a0 : Value} {st : List Value} {h : aH} : run d 340 16 [a0] st h = run d 340 17 [a0] (.int (nI 2) :: st) h := (run_act (c340_16)).trans rfl
theorem c340_17 : decode (aCode 340) 17 = .ok (.iushr, 1) := (congrArg (fun c => decode c 17) c340).trans dJ16_bitCount_17
theorem e340_17 {d : Nat} {a0 : Value} {x y : Int32} {st : List Value} {h : aH} : run d 340 17 [a0] (.int y :: .int x :: st) h = run d 340 18 [a0] (.int (ush_ x y) :: st) h := (run_act (c340_17)).trans rfl
theorem c340_18 : decode (aCode 340) 18 = .ok (.ldc_w 266, 3) := (congrArg (fun c => decode c 18) c340).trans dJ16_bitCount_18
theorem e340_18 {d : Nat} {a0 : Value} {st : List Value} {h : aH} : run d 340 18 [a0] st h = run d 340 21 [a0] (.int (nI 858993459) :: st) h := (run_act (c340_18)).trans rfl
theorem c340_21 : decode (aCode 340) 21 = .ok (.iand, 1) := (congrArg (fun c => decode c 21) c340).trans dJ16_bitCount_21
theorem e340_21 {d : Nat} {a0 : Value} {x y : Int32} {st : List Value} {h : aH} : run d 340 21 [a0] (.int y :: .int x :: st) h = run d 340 22 [a0] (.int (x &&& y) :: st) h := (run_act (c340_21)).trans rfl
theorem c340_22 : decode (aCode 340) 22 = .ok (.iadd, 1) := (congrArg (fun c => decode c 22) c340).trans dJ16_bitCount_22
theorem e340_22 {d : Nat} {a0 : Value} {x y : Int32} {st : List Value} {h : aH} : run d 340 22 [a0] (.int y :: .int x :: st) h = run d 340 23 [a0] (.int (x + y) :: st) h := (run_act (c340_22)).trans rfl
theorem c340_23 : decode (aCode 340) 23 = .ok (.istore_n 0, 1) := (congrArg (fun c => decode c 23) c340).trans dJ16_bitCount_23
theorem e340_23 {d : Nat} {a0 : Value} {x : Int32} {st : List Value} {h : aH} : run d 340 23 [a0] (.int x :: st) h = run d 340 24 [.int x] st h := (run_act (c340_23)).trans rfl
theorem c340_24 : decode (aCode 340) 24 = .ok (.iload_n 0, 1) := (congrArg (fun c => decode c 24) c340).trans dJ16_bitCount_24
theorem e340_24 {d : Nat} {x : Int32} {st : List Value} {h : aH} : run d 340 24 [.int x] st h = run d 340 25 [.int x] (.int x :: st) h := (run_act (c340_24)).trans rfl
theorem c340_25 : decode (aCode 340) 25 = .ok (.iload_n 0, 1) := (congrArg (fun c => decode c 25) c340).trans dJ16_bitCount_25
theorem e340_25 {d : Nat} {x : Int32} {st : List Value} {h : aH} : run d 340 25 [.int x] st h = run d 340 26 [.int x] (.int x :: st) h := (run_act (c340_25)).trans rfl
theorem c340_26 : decode (aCode 340) 26 = .ok (.iconst 4, 1) := (congrArg (fun c => decode c 26) c340).trans dJ16_bitCount_26
theorem e340_26 {d : Nat} {a0 : Value} {st : List Value} {h : aH} : run d 340 26 [a0] st h = run d 340 27 [a0] (.int (nI 4) :: st) h := (run_act (c340_26)).trans rfl
theorem c340_27 : decode (aCode 340) 27 = .ok (.iushr, 1) := (congrArg (fun c => decode c 27) c340).trans dJ16_bitCount_27
theorem e340_27 {d : Nat} {a0 : Value} {x y : Int32} {st : List Value} {h : aH} : run d 340 27 [a0] (.int y :: .int x :: st) h = run d 340 28 [a0] (.int (ush_ x y) :: st) h := (run_act (c340_27)).trans rfl
theorem c340_28 : decode (aCode 340) 28 = .ok (.iadd, 1) := (congrArg (fun c => decode c 28) c340).trans dJ16_bitCount_28
theorem e340_28 {d : Nat} {a0 : Value} {x y : Int32} {st : List Value} {h : aH} : run d 340 28 [a0] (.int y :: .int x :: st) h = run d 340 29 [a0] (.int (x + y) :: st) h := (run_act (c340_28)).trans rfl
theorem c340_29 : decode (aCode 340) 29 = .ok (.ldc_w 267, 3) := (congrArg (fun c => decode c 29) c340).trans dJ16_bitCount_29
theorem e340_29 {d : Nat} {a0 : Value} {st : List Value} {h : aH} : run d 340 29 [a0] st h = run d 340 32 [a0] (.int (nI 252645135) :: st) h := (run_act (c340_29)).trans rfl
theorem c340_32 : decode (aCode 340) 32 = .ok (.iand, 1) := (congrArg (fun c => decode c 32) c340).trans dJ16_bitCount_32
theorem e340_32 {d : Nat} {a0 : Value} {x y : Int32} {st : List Value} {h : aH} : run d 340 32 [a0] (.int y :: .int x :: st) h = run d 340 33 [a0] (.int (x &&& y) :: st) h := (run_act (c340_32)).trans rfl
theorem c340_33 : decode (aCode 340) 33 = .ok (.istore_n 0, 1) := (congrArg (fun c => decode c 33) c340).trans dJ16_bitCount_33
theorem e340_33 {d : Nat} {a0 : Value} {x : Int32} {st : List Value} {h : aH} : run d 340 33 [a0] (.int x :: st) h = run d 340 34 [.int x] st h := (run_act (c340_33)).trans rfl
theorem c340_34 : decode (aCode 340) 34 = .ok (.iload_n 0, 1) := (congrArg (fun c => decode c 34) c340).trans dJ16_bitCount_34
theorem e340_34 {d : Nat} {x : Int32} {st : List Value} {h : aH} : run d 340 34 [.int x] st h = run d 340 35 [.int x] (.int x :: st) h := (run_act (c340_34)).trans rfl
theorem c340_35 : decode (aCode 340) 35 = .ok (.iload_n 0, 1) := (congrArg (fun c => decode c 35) c340).trans dJ16_bitCount_35
theorem e340_35 {d : Nat} {x : Int32} {st : List Value} {h : aH} : run d 340 35 [.int x] st h = run d 340 36 [.int x] (.int x :: st) h := (run_act (c340_35)).trans rfl
theorem c340_36 : decode (aCode 340) 36 = .ok (.bipush 8, 2) := (congrArg (fun c => decode c 36) c340).trans dJ16_bitCount_36
theorem e340_36 {d : Nat} {a0 : Value} {st : List Value} {h : aH} : run d 340 36 [a0] st h = run d 340 38 [a0] (.int (nI 8) :: st) h := (run_act (c340_36)).trans rfl
theorem c340_38 : decode (aCode 340) 38 = .ok (.iushr, 1) := (congrArg (fun c => decode c 38) c340).trans dJ16_bitCount_38
theorem e340_38 {d : Nat} {a0 : Value} {x y : Int32} {st : List Value} {h : aH} : run d 340 38 [a0] (.int y :: .int x :: st) h = run d 340 39 [a0] (.int (ush_ x y) :: st) h := (run_act (c340_38)).trans rfl
theorem c340_39 : decode (aCode 340) 39 = .ok (.iadd, 1) := (congrArg (fun c => decode c 39) c340).trans dJ16_bitCount_39
theorem e340_39 {d : Nat} {a0 : Value} {x y : Int32} {st : List Value} {h : aH} : run d 340 39 [a0] (.int y :: .int x :: st) h = run d 340 40 [a0] (.int (x + y) :: st) h := (run_act (c340_39)).trans rfl
theorem c340_40 : decode (aCode 340) 40 = .ok (.istore_n 0, 1) := (congrArg (fun c => decode c 40) c340).trans dJ16_bitCount_40
theorem e340_40 {d : Nat} {a0 : Value} {x : Int32} {st : List Value} {h : aH} : run d 340 40 [a0] (.int x :: st) h = run d 340 41 [.int x] st h := (run_act (c340_40)).trans rfl
theorem c340_41 : decode (aCode 340) 41 = .ok (.iload_n 0, 1) := (congrArg (fun c => decode c 41) c340).trans dJ16_bitCount_41
theorem e340_41 {d : Nat} {x : Int32} {st : List Value} {h : aH} : run d 340 41 [.int x] st h = run d 340 42 [.int x] (.int x :: st) h := (run_act (c340_41)).trans rfl
theorem c340_42 : decode (aCode 340) 42 = .ok (.iload_n 0, 1) := (congrArg (fun c => decode c 42) c340).trans dJ16_bitCount_42
theorem e340_42 {d : Nat} {x : Int32} {st : List Value} {h : aH} : run d 340 42 [.int x] st h = run d 340 43 [.int x] (.int x :: st) h := (run_act (c340_42)).trans rfl
theorem c340_43 : decode (aCode 340) 43 = .ok (.bipush 16, 2) := (congrArg (fun c => decode c 43) c340).trans dJ16_bitCount_43
theorem e340_43 {d : Nat} {a0 : Value} {st : List Value} {h : aH} : run d 340 43 [a0] st h = run d 340 45 [a0] (.int (nI 16) :: st) h := (run_act (c340_43)).trans rfl
theorem c340_45 : decode (aCode 340) 45 = .ok (.iushr, 1) := (congrArg (fun c => decode c 45) c340).trans dJ16_bitCount_45
theorem e340_45 {d : Nat} {a0 : Value} {x y : Int32} {st : List Value} {h : aH} : run d 340 45 [a0] (.int y :: .int x :: st) h = run d 340 46 [a0] (.int (ush_ x y) :: st) h := (run_act (c340_45)).trans rfl
theorem c340_46 : decode (aCode 340) 46 = .ok (.iadd, 1) := (congrArg (fun c => decode c 46) c340).trans dJ16_bitCount_46
theorem e340_46 {d : Nat} {a0 : Value} {x y : Int32} {st : List Value} {h : aH} : run d 340 46 [a0] (.int y :: .int x :: st) h = run d 340 47 [a0] (.int (x + y) :: st) h := (run_act (c340_46)).trans rfl
theorem c340_47 : decode (aCode 340) 47 = .ok (.istore_n 0, 1) := (congrArg (fun c => decode c 47) c340).trans dJ16_bitCount_47
theorem e340_47 {d : Nat} {a0 : Value} {x : Int32} {st : List Value} {h : aH} : run d 340 47 [a0] (.int x :: st) h = run d 340 48 [.int x] st h := (run_act (c340_47)).trans rfl
theorem c340_48 : decode (aCode 340) 48 = .ok (.iload_n 0, 1) := (congrArg (fun c => decode c 48) c340).trans dJ16_bitCount_48
theorem e340_48 {d : Nat} {x : Int32} {st : List Value} {h : aH} : run d 340 48 [.int x] st h = run d 340 49 [.int x] (.int x :: st) h := (run_act (c340_48)).trans rfl
theorem c340_49 : decode (aCode 340) 49 = .ok (.bipush 63, 2) := (congrArg (fun c => decode c 49) c340).trans dJ16_bitCount_49
theorem e340_49 {d : Nat} {a0 : Value} {st : List Value} {h : aH} : run d 340 49 [a0] st h = run d 340 51 [a0] (.int (nI 63) :: st) h := (run_act (c340_49)).trans rfl
theorem c340_51 : decode (aCode 340) 51 = .ok (.iand, 1) := (congrArg (fun c => decode c 51) c340).trans dJ16_bitCount_51
theorem e340_51 {d : Nat} {a0 : Value} {x y : Int32} {st : List Value} {h : aH} : run d 340 51 [a0] (.int y :: .int x :: st) h = run d 340 52 [a0] (.int (x &&& y) :: st) h := (run_act (c340_51)).trans rfl
theorem c340_52 : decode (aCode 340) 52 = .ok (.ireturn, 1) := (congrArg (fun c => decode c 52) c340).trans dJ16_bitCount_52
theorem e340_52 {d : Nat} {a0 : Value} {x : Int32} {h : aH} : run d 340 52 [a0] [.int x] h = some (.returned (some (.int x)), h) := (run_act (c340_52)).trans rfl
/-! java/lang/Object.init: 341 -/
theorem c341 : aCode 341 = cJ17_init := rfl
theorem c341_0 : decode (aCode 341) 0 = .ok (.return_, 1) := (congrArg (fun c => decode c 0) c341).trans dJ17_init_0
theorem e341_0 {d : Nat} {a0 : Value} {h : aH} : run d 341 0 [a0] [] h = some (.returned none, h) := (run_act (c341_0)).trans rfl
