set_option maxRecDepth 100000
/-! THE SHAPES (by program) -/
def mKL : List (Nat × Nat) := [(10, 0), (101, 2000), (101, 2000), (100, 403), (100, 403), (100, 403), (104, 403), (104, 21), (104, 11), (100, 11), (100, 2), (100, 8), (100, 8), (100, 2), (100, 14), (100, 14), (100, 14), (100, 14), (100, 2), (100, 2), (100, 2), (100, 8), (100, 8), (103, 260), (100, 260), (100, 260), (100, 260), (100, 260), (100, 840), (100, 840), (100, 64), (100, 9), (100, 400), (100, 31), (100, 31), (100, 7), (100, 4), (100, 1240), (100, 512), (100, 640), (103, 2048), (100, 128), (100, 20), (103, 20), (103, 3), (100, 93)]
def mPL : List (Option Nat) := [none, some 459, none, some 460, none, some 461, some 462, some 463, some 464, some 465, none, none, none, none, none, none, none, none, none, none, none, some 466, some 467, some 468, some 469, some 470, some 471, some 472, some 473, some 474, some 475, some 476, some 477, some 478, some 479, some 480, none, some 481, some 482, some 483, some 484, some 485, none, some 486, some 487, some 488, none, some 489, some 490, none, some 491, some 492, none, none, some 493, some 494, none, some 495, some 496, some 497, some 498, some 499, none, some 500, some 501, some 502, some 503]
/-- M's cells -/
def MS (h : aH) : Prop := (∀ i, i < 46 → hk_ h (458 + i) = mKL.getD i (0, 0)) ∧ (∀ i, i < 67 → (mPL.getD i none).isSome = true → hp_ h 458 (66 + i) = mPL.getD i none)
theorem mk_458 {h : aH} (hM : MS h) : hk_ h 458 = (10, 0) := hM.1 0 (by decide)
theorem mk_459 {h : aH} (hM : MS h) : hk_ h 459 = (101, 2000) := hM.1 1 (by decide)
theorem mk_460 {h : aH} (hM : MS h) : hk_ h 460 = (101, 2000) := hM.1 2 (by decide)
theorem mk_461 {h : aH} (hM : MS h) : hk_ h 461 = (100, 403) := hM.1 3 (by decide)
theorem mk_462 {h : aH} (hM : MS h) : hk_ h 462 = (100, 403) := hM.1 4 (by decide)
theorem mk_463 {h : aH} (hM : MS h) : hk_ h 463 = (100, 403) := hM.1 5 (by decide)
theorem mk_464 {h : aH} (hM : MS h) : hk_ h 464 = (104, 403) := hM.1 6 (by decide)
theorem mk_465 {h : aH} (hM : MS h) : hk_ h 465 = (104, 21) := hM.1 7 (by decide)
theorem mk_466 {h : aH} (hM : MS h) : hk_ h 466 = (104, 11) := hM.1 8 (by decide)
theorem mk_467 {h : aH} (hM : MS h) : hk_ h 467 = (100, 11) := hM.1 9 (by decide)
theorem mk_468 {h : aH} (hM : MS h) : hk_ h 468 = (100, 2) := hM.1 10 (by decide)
theorem mk_469 {h : aH} (hM : MS h) : hk_ h 469 = (100, 8) := hM.1 11 (by decide)
theorem mk_470 {h : aH} (hM : MS h) : hk_ h 470 = (100, 8) := hM.1 12 (by decide)
theorem mk_471 {h : aH} (hM : MS h) : hk_ h 471 = (100, 2) := hM.1 13 (by decide)
theorem mk_472 {h : aH} (hM : MS h) : hk_ h 472 = (100, 14) := hM.1 14 (by decide)
theorem mk_473 {h : aH} (hM : MS h) : hk_ h 473 = (100, 14) := hM.1 15 (by decide)
theorem mk_474 {h : aH} (hM : MS h) : hk_ h 474 = (100, 14) := hM.1 16 (by decide)
theorem mk_475 {h : aH} (hM : MS h) : hk_ h 475 = (100, 14) := hM.1 17 (by decide)
theorem mk_476 {h : aH} (hM : MS h) : hk_ h 476 = (100, 2) := hM.1 18 (by decide)
theorem mk_477 {h : aH} (hM : MS h) : hk_ h 477 = (100, 2) := hM.1 19 (by decide)
theorem mk_478 {h : aH} (hM : MS h) : hk_ h 478 = (100, 2) := hM.1 20 (by decide)
theorem mk_479 {h : aH} (hM : MS h) : hk_ h 479 = (100, 8) := hM.1 21 (by decide)
theorem mk_480 {h : aH} (hM : MS h) : hk_ h 480 = (100, 8) := hM.1 22 (by decide)
theorem mk_481 {h : aH} (hM : MS h) : hk_ h 481 = (103, 260) := hM.1 23 (by decide)
theorem mk_482 {h : aH} (hM : MS h) : hk_ h 482 = (100, 260) := hM.1 24 (by decide)
theorem mk_483 {h : aH} (hM : MS h) : hk_ h 483 = (100, 260) := hM.1 25 (by decide)
theorem mk_484 {h : aH} (hM : MS h) : hk_ h 484 = (100, 260) := hM.1 26 (by decide)
theorem mk_485 {h : aH} (hM : MS h) : hk_ h 485 = (100, 260) := hM.1 27 (by decide)
theorem mk_486 {h : aH} (hM : MS h) : hk_ h 486 = (100, 840) := hM.1 28 (by decide)
theorem mk_487 {h : aH} (hM : MS h) : hk_ h 487 = (100, 840) := hM.1 29 (by decide)
theorem mk_488 {h : aH} (hM : MS h) : hk_ h 488 = (100, 64) := hM.1 30 (by decide)
theorem mk_489 {h : aH} (hM : MS h) : hk_ h 489 = (100, 9) := hM.1 31 (by decide)
theorem mk_490 {h : aH} (hM : MS h) : hk_ h 490 = (100, 400) := hM.1 32 (by decide)
theorem mk_491 {h : aH} (hM : MS h) : hk_ h 491 = (100, 31) := hM.1 33 (by decide)
theorem mk_492 {h : aH} (hM : MS h) : hk_ h 492 = (100, 31) := hM.1 34 (by decide)
theorem mk_493 {h : aH} (hM : MS h) : hk_ h 493 = (100, 7) := hM.1 35 (by decide)
theorem mk_494 {h : aH} (hM : MS h) : hk_ h 494 = (100, 4) := hM.1 36 (by decide)
theorem mk_495 {h : aH} (hM : MS h) : hk_ h 495 = (100, 1240) := hM.1 37 (by decide)
theorem mk_496 {h : aH} (hM : MS h) : hk_ h 496 = (100, 512) := hM.1 38 (by decide)
theorem mk_497 {h : aH} (hM : MS h) : hk_ h 497 = (100, 640) := hM.1 39 (by decide)
theorem mk_498 {h : aH} (hM : MS h) : hk_ h 498 = (103, 2048) := hM.1 40 (by decide)
theorem mk_499 {h : aH} (hM : MS h) : hk_ h 499 = (100, 128) := hM.1 41 (by decide)
theorem mk_500 {h : aH} (hM : MS h) : hk_ h 500 = (100, 20) := hM.1 42 (by decide)
theorem mk_501 {h : aH} (hM : MS h) : hk_ h 501 = (103, 20) := hM.1 43 (by decide)
theorem mk_502 {h : aH} (hM : MS h) : hk_ h 502 = (103, 3) := hM.1 44 (by decide)
theorem mk_503 {h : aH} (hM : MS h) : hk_ h 503 = (100, 93) := hM.1 45 (by decide)
theorem mp_67 {h : aH} (hM : MS h) : hp_ h 458 67 = some 459 := hM.2 1 (by decide) rfl
theorem mp_69 {h : aH} (hM : MS h) : hp_ h 458 69 = some 460 := hM.2 3 (by decide) rfl
theorem mp_71 {h : aH} (hM : MS h) : hp_ h 458 71 = some 461 := hM.2 5 (by decide) rfl
theorem mp_72 {h : aH} (hM : MS h) : hp_ h 458 72 = some 462 := hM.2 6 (by decide) rfl
theorem mp_73 {h : aH} (hM : MS h) : hp_ h 458 73 = some 463 := hM.2 7 (by decide) rfl
theorem mp_74 {h : aH} (hM : MS h) : hp_ h 458 74 = some 464 := hM.2 8 (by decide) rfl
theorem mp_75 {h : aH} (hM : MS h) : hp_ h 458 75 = some 465 := hM.2 9 (by decide) rfl
theorem mp_87 {h : aH} (hM : MS h) : hp_ h 458 87 = some 466 := hM.2 21 (by decide) rfl
theorem mp_88 {h : aH} (hM : MS h) : hp_ h 458 88 = some 467 := hM.2 22 (by decide) rfl
theorem mp_89 {h : aH} (hM : MS h) : hp_ h 458 89 = some 468 := hM.2 23 (by decide) rfl
theorem mp_90 {h : aH} (hM : MS h) : hp_ h 458 90 = some 469 := hM.2 24 (by decide) rfl
theorem mp_91 {h : aH} (hM : MS h) : hp_ h 458 91 = some 470 := hM.2 25 (by decide) rfl
theorem mp_92 {h : aH} (hM : MS h) : hp_ h 458 92 = some 471 := hM.2 26 (by decide) rfl
theorem mp_93 {h : aH} (hM : MS h) : hp_ h 458 93 = some 472 := hM.2 27 (by decide) rfl
theorem mp_94 {h : aH} (hM : MS h) : hp_ h 458 94 = some 473 := hM.2 28 (by decide) rfl
theorem mp_95 {h : aH} (hM : MS h) : hp_ h 458 95 = some 474 := hM.2 29 (by decide) rfl
theorem mp_96 {h : aH} (hM : MS h) : hp_ h 458 96 = some 475 := hM.2 30 (by decide) rfl
theorem mp_97 {h : aH} (hM : MS h) : hp_ h 458 97 = some 476 := hM.2 31 (by decide) rfl
theorem mp_98 {h : aH} (hM : MS h) : hp_ h 458 98 = some 477 := hM.2 32 (by decide) rfl
theorem mp_99 {h : aH} (hM : MS h) : hp_ h 458 99 = some 478 := hM.2 33 (by decide) rfl
theorem mp_100 {h : aH} (hM : MS h) : hp_ h 458 100 = some 479 := hM.2 34 (by decide) rfl
theorem mp_101 {h : aH} (hM : MS h) : hp_ h 458 101 = some 480 := hM.2 35 (by decide) rfl
theorem mp_103 {h : aH} (hM : MS h) : hp_ h 458 103 = some 481 := hM.2 37 (by decide) rfl
theorem mp_104 {h : aH} (hM : MS h) : hp_ h 458 104 = some 482 := hM.2 38 (by decide) rfl
theorem mp_105 {h : aH} (hM : MS h) : hp_ h 458 105 = some 483 := hM.2 39 (by decide) rfl
theorem mp_106 {h : aH} (hM : MS h) : hp_ h 458 106 = some 484 := hM.2 40 (by decide) rfl
theorem mp_107 {h : aH} (hM : MS h) : hp_ h 458 107 = some 485 := hM.2 41 (by decide) rfl
theorem mp_109 {h : aH} (hM : MS h) : hp_ h 458 109 = some 486 := hM.2 43 (by decide) rfl
theorem mp_110 {h : aH} (hM : MS h) : hp_ h 458 110 = some 487 := hM.2 44 (by decide) rfl
theorem mp_111 {h : aH} (hM : MS h) : hp_ h 458 111 = some 488 := hM.2 45 (by decide) rfl
theorem mp_113 {h : aH} (hM : MS h) : hp_ h 458 113 = some 489 := hM.2 47 (by decide) rfl
theorem mp_114 {h : aH} (hM : MS h) : hp_ h 458 114 = some 490 := hM.2 48 (by decide) rfl
theorem mp_116 {h : aH} (hM : MS h) : hp_ h 458 116 = some 491 := hM.2 50 (by decide) rfl
theorem mp_117 {h : aH} (hM : MS h) : hp_ h 458 117 = some 492 := hM.2 51 (by decide) rfl
theorem mp_120 {h : aH} (hM : MS h) : hp_ h 458 120 = some 493 := hM.2 54 (by decide) rfl
theorem mp_121 {h : aH} (hM : MS h) : hp_ h 458 121 = some 494 := hM.2 55 (by decide) rfl
theorem mp_123 {h : aH} (hM : MS h) : hp_ h 458 123 = some 495 := hM.2 57 (by decide) rfl
theorem mp_124 {h : aH} (hM : MS h) : hp_ h 458 124 = some 496 := hM.2 58 (by decide) rfl
theorem mp_125 {h : aH} (hM : MS h) : hp_ h 458 125 = some 497 := hM.2 59 (by decide) rfl
theorem mp_126 {h : aH} (hM : MS h) : hp_ h 458 126 = some 498 := hM.2 60 (by decide) rfl
theorem mp_127 {h : aH} (hM : MS h) : hp_ h 458 127 = some 499 := hM.2 61 (by decide) rfl
theorem mp_129 {h : aH} (hM : MS h) : hp_ h 458 129 = some 500 := hM.2 63 (by decide) rfl
theorem mp_130 {h : aH} (hM : MS h) : hp_ h 458 130 = some 501 := hM.2 64 (by decide) rfl
theorem mp_131 {h : aH} (hM : MS h) : hp_ h 458 131 = some 502 := hM.2 65 (by decide) rfl
theorem mp_132 {h : aH} (hM : MS h) : hp_ h 458 132 = some 503 := hM.2 66 (by decide) rfl
/-- a house's cells -/
def HS (h : aH) (a : Nat) : Prop := hk_ h a = (6, 0) ∧ hk_ h (a + 1) = (100, 7) ∧ hk_ h (a + 2) = (100, 7) ∧ hk_ h (a + 3) = (100, 4) ∧ hk_ h (a + 4) = (100, 7) ∧ hk_ h (a + 5) = (100, 4) ∧ hk_ h (a + 6) = (7, 0) ∧ hk_ h (a + 7) = (100, 9) ∧ hp_ h a 53 = some (a + 1) ∧ hp_ h a 54 = some (a + 2) ∧ hp_ h a 55 = some (a + 3) ∧ hp_ h a 61 = some (a + 4) ∧ hp_ h a 62 = some (a + 5) ∧ hp_ h a 63 = some (a + 6) ∧ hp_ h (a + 6) 64 = some (a + 7)
theorem hs_k {h : aH} {a : Nat} (hH : HS h a) : hk_ h a = (6, 0) := hH.1
theorem hs_k1 {h : aH} {a : Nat} (hH : HS h a) : hk_ h (a + 1) = (100, 7) := hH.2.1
theorem hs_k2 {h : aH} {a : Nat} (hH : HS h a) : hk_ h (a + 2) = (100, 7) := hH.2.2.1
theorem hs_k3 {h : aH} {a : Nat} (hH : HS h a) : hk_ h (a + 3) = (100, 4) := hH.2.2.2.1
theorem hs_k4 {h : aH} {a : Nat} (hH : HS h a) : hk_ h (a + 4) = (100, 7) := hH.2.2.2.2.1
theorem hs_k5 {h : aH} {a : Nat} (hH : HS h a) : hk_ h (a + 5) = (100, 4) := hH.2.2.2.2.2.1
theorem hs_k6 {h : aH} {a : Nat} (hH : HS h a) : hk_ h (a + 6) = (7, 0) := hH.2.2.2.2.2.2.1
theorem hs_k7 {h : aH} {a : Nat} (hH : HS h a) : hk_ h (a + 7) = (100, 9) := hH.2.2.2.2.2.2.2.1
theorem hs_p53 {h : aH} {a : Nat} (hH : HS h a) : hp_ h a 53 = some (a + 1) := hH.2.2.2.2.2.2.2.2.1
theorem hs_p54 {h : aH} {a : Nat} (hH : HS h a) : hp_ h a 54 = some (a + 2) := hH.2.2.2.2.2.2.2.2.2.1
theorem hs_p55 {h : aH} {a : Nat} (hH : HS h a) : hp_ h a 55 = some (a + 3) := hH.2.2.2.2.2.2.2.2.2.2.1
theorem hs_p61 {h : aH} {a : Nat} (hH : HS h a) : hp_ h a 61 = some (a + 4) := hH.2.2.2.2.2.2.2.2.2.2.2.1
theorem hs_p62 {h : aH} {a : Nat} (hH : HS h a) : hp_ h a 62 = some (a + 5) := hH.2.2.2.2.2.2.2.2.2.2.2.2.1
theorem hs_p63 {h : aH} {a : Nat} (hH : HS h a) : hp_ h a 63 = some (a + 6) := hH.2.2.2.2.2.2.2.2.2.2.2.2.2.1
theorem hs_p64 {h : aH} {a : Nat} (hH : HS h a) : hp_ h (a + 6) 64 = some (a + 7) := hH.2.2.2.2.2.2.2.2.2.2.2.2.2.2
def xKL : List (Nat × Nat × Nat) := [(64, 0, 0), (65, 1, 0), (66, 2, 0), (67, 110, 21), (68, 101, 2000), (69, 101, 2001), (70, 102, 2001), (71, 102, 2001), (72, 102, 2001), (73, 3, 0), (94, 113, 40), (95, 113, 3), (120, 8, 0), (121, 9, 0), (122, 103, 3), (123, 115, 4), (124, 100, 128), (125, 100, 128), (126, 100, 128), (127, 100, 128), (128, 115, 5), (129, 100, 128), (130, 100, 128), (131, 100, 128), (132, 100, 128), (133, 100, 128), (134, 103, 128), (135, 100, 128), (136, 100, 20), (137, 103, 20)]
def xPL : List (Nat × Nat × Nat) := [(64, 0, 65), (64, 1, 66), (64, 2, 73), (64, 7, 78), (64, 8, 86), (64, 9, 94), (64, 10, 95), (64, 11, 120), (64, 12, 121), (64, 13, 122), (64, 14, 123), (64, 15, 128), (64, 16, 134), (64, 17, 135), (64, 19, 136), (64, 20, 137), (66, 29, 67), (66, 30, 68), (66, 32, 69), (66, 33, 70), (66, 34, 71), (66, 35, 72), (73, 37, 66), (73, 38, 65)]
def aWs (k : Nat) : Nat := ([2, 3, 4, 5, 6, 7, 8, 9, 10, 11, 12, 13, 14, 15, 16, 17, 18, 19, 20, 21, 22] : List Nat).getD k 0
/-- X's cells -/
def XS (h : aH) : Prop := (∀ q ∈ xKL, hk_ h q.1 = q.2) ∧ (∀ q ∈ xPL, hp_ h q.1 q.2.1 = some q.2.2) ∧ HS h 78 ∧ HS h 86 ∧ (∀ k, k < 40 → HS h (138 + 8 * k) ∧ hp_ h 94 k = some (138 + 8 * k)) ∧ (∀ k, k < 3 → HS h (96 + 8 * k) ∧ hp_ h 95 k = some (96 + 8 * k)) ∧ (∀ k, k < 4 → hp_ h 123 k = some (124 + k)) ∧ (∀ k, k < 5 → hp_ h 128 k = some (129 + k)) ∧ (∀ k, k < 21 → hp_ h 67 k = some (aWs k))
theorem xk_64 {h : aH} (hX : XS h) : hk_ h 64 = (0, 0) := hX.1 (64, 0, 0) (by decide)
theorem xk_65 {h : aH} (hX : XS h) : hk_ h 65 = (1, 0) := hX.1 (65, 1, 0) (by decide)
theorem xk_66 {h : aH} (hX : XS h) : hk_ h 66 = (2, 0) := hX.1 (66, 2, 0) (by decide)
theorem xk_67 {h : aH} (hX : XS h) : hk_ h 67 = (110, 21) := hX.1 (67, 110, 21) (by decide)
theorem xk_68 {h : aH} (hX : XS h) : hk_ h 68 = (101, 2000) := hX.1 (68, 101, 2000) (by decide)
theorem xk_69 {h : aH} (hX : XS h) : hk_ h 69 = (101, 2001) := hX.1 (69, 101, 2001) (by decide)
theorem xk_70 {h : aH} (hX : XS h) : hk_ h 70 = (102, 2001) := hX.1 (70, 102, 2001) (by decide)
theorem xk_71 {h : aH} (hX : XS h) : hk_ h 71 = (102, 2001) := hX.1 (71, 102, 2001) (by decide)
theorem xk_72 {h : aH} (hX : XS h) : hk_ h 72 = (102, 2001) := hX.1 (72, 102, 2001) (by decide)
theorem xk_73 {h : aH} (hX : XS h) : hk_ h 73 = (3, 0) := hX.1 (73, 3, 0) (by decide)
theorem xk_94 {h : aH} (hX : XS h) : hk_ h 94 = (113, 40) := hX.1 (94, 113, 40) (by decide)
theorem xk_95 {h : aH} (hX : XS h) : hk_ h 95 = (113, 3) := hX.1 (95, 113, 3) (by decide)
theorem xk_120 {h : aH} (hX : XS h) : hk_ h 120 = (8, 0) := hX.1 (120, 8, 0) (by decide)
theorem xk_121 {h : aH} (hX : XS h) : hk_ h 121 = (9, 0) := hX.1 (121, 9, 0) (by decide)
theorem xk_122 {h : aH} (hX : XS h) : hk_ h 122 = (103, 3) := hX.1 (122, 103, 3) (by decide)
theorem xk_123 {h : aH} (hX : XS h) : hk_ h 123 = (115, 4) := hX.1 (123, 115, 4) (by decide)
theorem xk_124 {h : aH} (hX : XS h) : hk_ h 124 = (100, 128) := hX.1 (124, 100, 128) (by decide)
theorem xk_125 {h : aH} (hX : XS h) : hk_ h 125 = (100, 128) := hX.1 (125, 100, 128) (by decide)
theorem xk_126 {h : aH} (hX : XS h) : hk_ h 126 = (100, 128) := hX.1 (126, 100, 128) (by decide)
theorem xk_127 {h : aH} (hX : XS h) : hk_ h 127 = (100, 128) := hX.1 (127, 100, 128) (by decide)
theorem xk_128 {h : aH} (hX : XS h) : hk_ h 128 = (115, 5) := hX.1 (128, 115, 5) (by decide)
theorem xk_129 {h : aH} (hX : XS h) : hk_ h 129 = (100, 128) := hX.1 (129, 100, 128) (by decide)
theorem xk_130 {h : aH} (hX : XS h) : hk_ h 130 = (100, 128) := hX.1 (130, 100, 128) (by decide)
theorem xk_131 {h : aH} (hX : XS h) : hk_ h 131 = (100, 128) := hX.1 (131, 100, 128) (by decide)
theorem xk_132 {h : aH} (hX : XS h) : hk_ h 132 = (100, 128) := hX.1 (132, 100, 128) (by decide)
theorem xk_133 {h : aH} (hX : XS h) : hk_ h 133 = (100, 128) := hX.1 (133, 100, 128) (by decide)
theorem xk_134 {h : aH} (hX : XS h) : hk_ h 134 = (103, 128) := hX.1 (134, 103, 128) (by decide)
theorem xk_135 {h : aH} (hX : XS h) : hk_ h 135 = (100, 128) := hX.1 (135, 100, 128) (by decide)
theorem xk_136 {h : aH} (hX : XS h) : hk_ h 136 = (100, 20) := hX.1 (136, 100, 20) (by decide)
theorem xk_137 {h : aH} (hX : XS h) : hk_ h 137 = (103, 20) := hX.1 (137, 103, 20) (by decide)
theorem xp_0 {h : aH} (hX : XS h) : hp_ h 64 0 = some 65 := hX.2.1 (64, 0, 65) (by decide)
theorem xp_1 {h : aH} (hX : XS h) : hp_ h 64 1 = some 66 := hX.2.1 (64, 1, 66) (by decide)
theorem xp_2 {h : aH} (hX : XS h) : hp_ h 64 2 = some 73 := hX.2.1 (64, 2, 73) (by decide)
theorem xp_7 {h : aH} (hX : XS h) : hp_ h 64 7 = some 78 := hX.2.1 (64, 7, 78) (by decide)
theorem xp_8 {h : aH} (hX : XS h) : hp_ h 64 8 = some 86 := hX.2.1 (64, 8, 86) (by decide)
theorem xp_9 {h : aH} (hX : XS h) : hp_ h 64 9 = some 94 := hX.2.1 (64, 9, 94) (by decide)
theorem xp_10 {h : aH} (hX : XS h) : hp_ h 64 10 = some 95 := hX.2.1 (64, 10, 95) (by decide)
theorem xp_11 {h : aH} (hX : XS h) : hp_ h 64 11 = some 120 := hX.2.1 (64, 11, 120) (by decide)
theorem xp_12 {h : aH} (hX : XS h) : hp_ h 64 12 = some 121 := hX.2.1 (64, 12, 121) (by decide)
theorem xp_13 {h : aH} (hX : XS h) : hp_ h 64 13 = some 122 := hX.2.1 (64, 13, 122) (by decide)
theorem xp_14 {h : aH} (hX : XS h) : hp_ h 64 14 = some 123 := hX.2.1 (64, 14, 123) (by decide)
theorem xp_15 {h : aH} (hX : XS h) : hp_ h 64 15 = some 128 := hX.2.1 (64, 15, 128) (by decide)
theorem xp_16 {h : aH} (hX : XS h) : hp_ h 64 16 = some 134 := hX.2.1 (64, 16, 134) (by decide)
theorem xp_17 {h : aH} (hX : XS h) : hp_ h 64 17 = some 135 := hX.2.1 (64, 17, 135) (by decide)
theorem xp_19 {h : aH} (hX : XS h) : hp_ h 64 19 = some 136 := hX.2.1 (64, 19, 136) (by decide)
theorem xp_20 {h : aH} (hX : XS h) : hp_ h 64 20 = some 137 := hX.2.1 (64, 20, 137) (by decide)
theorem xp_29 {h : aH} (hX : XS h) : hp_ h 66 29 = some 67 := hX.2.1 (66, 29, 67) (by decide)
theorem xp_30 {h : aH} (hX : XS h) : hp_ h 66 30 = some 68 := hX.2.1 (66, 30, 68) (by decide)
theorem xp_32 {h : aH} (hX : XS h) : hp_ h 66 32 = some 69 := hX.2.1 (66, 32, 69) (by decide)
theorem xp_33 {h : aH} (hX : XS h) : hp_ h 66 33 = some 70 := hX.2.1 (66, 33, 70) (by decide)
theorem xp_34 {h : aH} (hX : XS h) : hp_ h 66 34 = some 71 := hX.2.1 (66, 34, 71) (by decide)
theorem xp_35 {h : aH} (hX : XS h) : hp_ h 66 35 = some 72 := hX.2.1 (66, 35, 72) (by decide)
theorem xp_37 {h : aH} (hX : XS h) : hp_ h 73 37 = some 66 := hX.2.1 (73, 37, 66) (by decide)
theorem xp_38 {h : aH} (hX : XS h) : hp_ h 73 38 = some 65 := hX.2.1 (73, 38, 65) (by decide)
theorem xs_house {h : aH} (hX : XS h) : HS h 78 := hX.2.2.1
theorem xs_trial {h : aH} (hX : XS h) : HS h 86 := hX.2.2.2.1
theorem xs_past {h : aH} (hX : XS h) {k : Nat} (hk : k < 40) : HS h (138 + 8 * k) := (hX.2.2.2.2.1 k hk).1
theorem xp_past {h : aH} (hX : XS h) {k : Nat} (hk : k < 40) : hp_ h 94 k = some (138 + 8 * k) := (hX.2.2.2.2.1 k hk).2
theorem xs_slot {h : aH} (hX : XS h) {k : Nat} (hk : k < 3) : HS h (96 + 8 * k) := (hX.2.2.2.2.2.1 k hk).1
theorem xp_slot {h : aH} (hX : XS h) {k : Nat} (hk : k < 3) : hp_ h 95 k = some (96 + 8 * k) := (hX.2.2.2.2.2.1 k hk).2
theorem xp_pay {h : aH} (hX : XS h) {k : Nat} (hk : k < 4) : hp_ h 123 k = some (124 + k) := hX.2.2.2.2.2.2.1 k hk
theorem xp_most {h : aH} (hX : XS h) {k : Nat} (hk : k < 5) : hp_ h 128 k = some (129 + k) := hX.2.2.2.2.2.2.2.1 k hk
theorem xp_words {h : aH} (hX : XS h) {k : Nat} (hk : k < 21) : hp_ h 67 k = some (aWs k) := hX.2.2.2.2.2.2.2.2 k hk
