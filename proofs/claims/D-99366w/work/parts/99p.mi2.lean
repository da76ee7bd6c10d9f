set_option maxRecDepth 100000
/-! M's constructor (2): words; whole -/
def appE (v c : Nat) : Nat := if c = 0 then v else 27 * v + (c - 96)
theorem m_appE {d v c : Nat} {h : aH} (hc : c = 0 ∨ isL c = true) : (run (d) 149 0 [.long (lN v), aU, .int (nI c)] [] h) = some (.returned (some (.long (lN (appE v c)))), h) := by
  by_cases q : c = 0
  · subst q
    have e : appE v 0 = v := rfl
    rw [e]
    simp only [e149_0, e149_1, e149_4, e149_5, e149_8, e149_11, e149_12, e149_13, e149_14, e149_16, e149_17, e149_18, e149_19, e149_20, e149_21, ↓reduceIte, Nat.reduceAdd, Nat.reduceLeDiff, Nat.reduceLT, Nat.reduceEqDiff, not_false_eq_true, false_or, true_or, or_true, or_false, n0_e, n1_ne, n1_11, bI_z, bI_1, bI_fo, va_rf_some, aBk_1, aBk_0, nI_add, nI_mul, hk_si, hp_si, hl_si, hk_sp, hk_sl, hk_cp, hp_cp]
  · have e : appE v c = 27 * v + (c - 96) := if_neg q
    rw [e]
    exact m_appends (hc.resolve_left q)
theorem m_wordE {d a b c e f g i : Nat} {h : aH} (h1 : a = 0 ∨ isL a = true) (h2 : b = 0 ∨ isL b = true) (h3 : c = 0 ∨ isL c = true) (h4 : e = 0 ∨ isL e = true) (h5 : f = 0 ∨ isL f = true) (h6 : g = 0 ∨ isL g = true) (h7 : i = 0 ∨ isL i = true) : (run (d + 1) 148 0 [.int (nI a), .int (nI b), .int (nI c), .int (nI e), .int (nI f), .int (nI g), .int (nI i)] [] h) = some (.returned (some (.long (lN (appE (appE (appE (appE (appE (appE (appE 0 a) b) c) e) f) g) i)))), h) := by
  simp only [e148_0, e148_1, e148_2, e148_5, e148_6, e148_9, e148_10, e148_13, e148_14, e148_17, e148_19, e148_22, e148_24, e148_27, e148_29, e148_32, ↓reduceIte, Nat.reduceAdd, Nat.reduceLeDiff, Nat.reduceLT, Nat.reduceEqDiff, not_false_eq_true, false_or, true_or, or_true, or_false, n0_e, n1_ne, n1_11, bI_z, bI_1, bI_fo, va_rf_some, aBk_1, aBk_0, nI_add, nI_mul, hk_si, hp_si, hl_si, hk_sp, hk_sl, hk_cp, hp_cp, m_appE h1, m_appE h2, m_appE h3, m_appE h4, m_appE h5, m_appE h6, m_appE h7]
def KYk (h : aH) (k : Nat) : Prop := ∀ i, i < k → hl_ h 465 i = mKy i
theorem mw_0 {d : Nat} {h : aH} (hM : MS h) : run (d + 2) 146 391 [.ref 458] [] h = run (d + 2) 146 413 [.ref 458] [] (sl_ h 465 0 (mKy 0)) := by
  have w := fun d => m_wordE (d := d) (h := h) (a := 115) (b := 117) (c := 110) (e := 100) (f := 97) (g := 121) (i := 0) (by decide) (by decide) (by decide) (by decide) (by decide) (by decide) (by decide)
  have ev : lN (appE (appE (appE (appE (appE (appE (appE 0 115) 117) 110) 100) 97) 121) 0) = mKy 0 := by decide
  rw [ev] at w
  simp only [e146_391, e146_392, e146_395, e146_396, e146_398, e146_400, e146_402, e146_404, e146_406, e146_408, e146_409, e146_412, mk_458 hM, mp_67 hM, mk_459 hM, mp_69 hM, mk_460 hM, mp_71 hM, mk_461 hM, mp_72 hM, mk_462 hM, mp_73 hM, mk_463 hM, mp_74 hM, mk_464 hM, mp_75 hM, mk_465 hM, mp_87 hM, mk_466 hM, mp_88 hM, mk_467 hM, mp_89 hM, mk_468 hM, mp_90 hM, mk_469 hM, mp_91 hM, mk_470 hM, mp_92 hM, mk_471 hM, mp_93 hM, mk_472 hM, mp_94 hM, mk_473 hM, mp_95 hM, mk_474 hM, mp_96 hM, mk_475 hM, mp_97 hM, mk_476 hM, mp_98 hM, mk_477 hM, mp_99 hM, mk_478 hM, mp_100 hM, mk_479 hM, mp_101 hM, mk_480 hM, mp_103 hM, mk_481 hM, mp_104 hM, mk_482 hM, mp_105 hM, mk_483 hM, mp_106 hM, mk_484 hM, mp_107 hM, mk_485 hM, mp_109 hM, mk_486 hM, mp_110 hM, mk_487 hM, mp_111 hM, mk_488 hM, mp_113 hM, mk_489 hM, mp_114 hM, mk_490 hM, mp_116 hM, mk_491 hM, mp_117 hM, mk_492 hM, mp_120 hM, mk_493 hM, mp_121 hM, mk_494 hM, mp_123 hM, mk_495 hM, mp_124 hM, mk_496 hM, mp_125 hM, mk_497 hM, mp_126 hM, mk_498 hM, mp_127 hM, mk_499 hM, mp_129 hM, mk_500 hM, mp_130 hM, mk_501 hM, mp_131 hM, mk_502 hM, mp_132 hM, mk_503 hM, ↓reduceIte, Nat.reduceAdd, Nat.reduceLeDiff, Nat.reduceLT, Nat.reduceEqDiff, not_false_eq_true, false_or, true_or, or_true, or_false, n0_e, n1_ne, n1_11, bI_z, bI_1, bI_fo, va_rf_some, aBk_1, aBk_0, nI_add, nI_mul, hk_si, hp_si, hl_si, hk_sp, hk_sl, hk_cp, hp_cp, w]
theorem mw_1 {d : Nat} {h : aH} (hM : MS h) : run (d + 2) 146 413 [.ref 458] [] h = run (d + 2) 146 434 [.ref 458] [] (sl_ h 465 1 (mKy 1)) := by
  have w := fun d => m_wordE (d := d) (h := h) (a := 103) (b := 117) (c := 101) (e := 115) (f := 116) (g := 0) (i := 0) (by decide) (by decide) (by decide) (by decide) (by decide) (by decide) (by decide)
  have ev : lN (appE (appE (appE (appE (appE (appE (appE 0 103) 117) 101) 115) 116) 0) 0) = mKy 1 := by decide
  rw [ev] at w
  simp only [e146_413, e146_414, e146_417, e146_418, e146_420, e146_422, e146_424, e146_426, e146_428, e146_429, e146_430, e146_433, mk_458 hM, mp_67 hM, mk_459 hM, mp_69 hM, mk_460 hM, mp_71 hM, mk_461 hM, mp_72 hM, mk_462 hM, mp_73 hM, mk_463 hM, mp_74 hM, mk_464 hM, mp_75 hM, mk_465 hM, mp_87 hM, mk_466 hM, mp_88 hM, mk_467 hM, mp_89 hM, mk_468 hM, mp_90 hM, mk_469 hM, mp_91 hM, mk_470 hM, mp_92 hM, mk_471 hM, mp_93 hM, mk_472 hM, mp_94 hM, mk_473 hM, mp_95 hM, mk_474 hM, mp_96 hM, mk_475 hM, mp_97 hM, mk_476 hM, mp_98 hM, mk_477 hM, mp_99 hM, mk_478 hM, mp_100 hM, mk_479 hM, mp_101 hM, mk_480 hM, mp_103 hM, mk_481 hM, mp_104 hM, mk_482 hM, mp_105 hM, mk_483 hM, mp_106 hM, mk_484 hM, mp_107 hM, mk_485 hM, mp_109 hM, mk_486 hM, mp_110 hM, mk_487 hM, mp_111 hM, mk_488 hM, mp_113 hM, mk_489 hM, mp_114 hM, mk_490 hM, mp_116 hM, mk_491 hM, mp_117 hM, mk_492 hM, mp_120 hM, mk_493 hM, mp_121 hM, mk_494 hM, mp_123 hM, mk_495 hM, mp_124 hM, mk_496 hM, mp_125 hM, mk_497 hM, mp_126 hM, mk_498 hM, mp_127 hM, mk_499 hM, mp_129 hM, mk_500 hM, mp_130 hM, mk_501 hM, mp_131 hM, mk_502 hM, mp_132 hM, mk_503 hM, ↓reduceIte, Nat.reduceAdd, Nat.reduceLeDiff, Nat.reduceLT, Nat.reduceEqDiff, not_false_eq_true, false_or, true_or, or_true, or_false, n0_e, n1_ne, n1_11, bI_z, bI_1, bI_fo, va_rf_some, aBk_1, aBk_0, nI_add, nI_mul, hk_si, hp_si, hl_si, hk_sp, hk_sl, hk_cp, hp_cp, w]
theorem mw_2 {d : Nat} {h : aH} (hM : MS h) : run (d + 2) 146 434 [.ref 458] [] h = run (d + 2) 146 454 [.ref 458] [] (sl_ h 465 2 (mKy 2)) := by
  have w := fun d => m_wordE (d := d) (h := h) (a := 102) (b := 111) (c := 101) (e := 115) (f := 0) (g := 0) (i := 0) (by decide) (by decide) (by decide) (by decide) (by decide) (by decide) (by decide)
  have ev : lN (appE (appE (appE (appE (appE (appE (appE 0 102) 111) 101) 115) 0) 0) 0) = mKy 2 := by decide
  rw [ev] at w
  simp only [e146_434, e146_435, e146_438, e146_439, e146_441, e146_443, e146_445, e146_447, e146_448, e146_449, e146_450, e146_453, mk_458 hM, mp_67 hM, mk_459 hM, mp_69 hM, mk_460 hM, mp_71 hM, mk_461 hM, mp_72 hM, mk_462 hM, mp_73 hM, mk_463 hM, mp_74 hM, mk_464 hM, mp_75 hM, mk_465 hM, mp_87 hM, mk_466 hM, mp_88 hM, mk_467 hM, mp_89 hM, mk_468 hM, mp_90 hM, mk_469 hM, mp_91 hM, mk_470 hM, mp_92 hM, mk_471 hM, mp_93 hM, mk_472 hM, mp_94 hM, mk_473 hM, mp_95 hM, mk_474 hM, mp_96 hM, mk_475 hM, mp_97 hM, mk_476 hM, mp_98 hM, mk_477 hM, mp_99 hM, mk_478 hM, mp_100 hM, mk_479 hM, mp_101 hM, mk_480 hM, mp_103 hM, mk_481 hM, mp_104 hM, mk_482 hM, mp_105 hM, mk_483 hM, mp_106 hM, mk_484 hM, mp_107 hM, mk_485 hM, mp_109 hM, mk_486 hM, mp_110 hM, mk_487 hM, mp_111 hM, mk_488 hM, mp_113 hM, mk_489 hM, mp_114 hM, mk_490 hM, mp_116 hM, mk_491 hM, mp_117 hM, mk_492 hM, mp_120 hM, mk_493 hM, mp_121 hM, mk_494 hM, mp_123 hM, mk_495 hM, mp_124 hM, mk_496 hM, mp_125 hM, mk_497 hM, mp_126 hM, mk_498 hM, mp_127 hM, mk_499 hM, mp_129 hM, mk_500 hM, mp_130 hM, mk_501 hM, mp_131 hM, mk_502 hM, mp_132 hM, mk_503 hM, ↓reduceIte, Nat.reduceAdd, Nat.reduceLeDiff, Nat.reduceLT, Nat.reduceEqDiff, not_false_eq_true, false_or, true_or, or_true, or_false, n0_e, n1_ne, n1_11, bI_z, bI_1, bI_fo, va_rf_some, aBk_1, aBk_0, nI_add, nI_mul, hk_si, hp_si, hl_si, hk_sp, hk_sl, hk_cp, hp_cp, w]
theorem mw_3 {d : Nat} {h : aH} (hM : MS h) : run (d + 2) 146 454 [.ref 458] [] h = run (d + 2) 146 474 [.ref 458] [] (sl_ h 465 3 (mKy 3)) := by
  have w := fun d => m_wordE (d := d) (h := h) (a := 112) (b := 97) (c := 121) (e := 115) (f := 0) (g := 0) (i := 0) (by decide) (by decide) (by decide) (by decide) (by decide) (by decide) (by decide)
  have ev : lN (appE (appE (appE (appE (appE (appE (appE 0 112) 97) 121) 115) 0) 0) 0) = mKy 3 := by decide
  rw [ev] at w
  simp only [e146_454, e146_455, e146_458, e146_459, e146_461, e146_463, e146_465, e146_467, e146_468, e146_469, e146_470, e146_473, mk_458 hM, mp_67 hM, mk_459 hM, mp_69 hM, mk_460 hM, mp_71 hM, mk_461 hM, mp_72 hM, mk_462 hM, mp_73 hM, mk_463 hM, mp_74 hM, mk_464 hM, mp_75 hM, mk_465 hM, mp_87 hM, mk_466 hM, mp_88 hM, mk_467 hM, mp_89 hM, mk_468 hM, mp_90 hM, mk_469 hM, mp_91 hM, mk_470 hM, mp_92 hM, mk_471 hM, mp_93 hM, mk_472 hM, mp_94 hM, mk_473 hM, mp_95 hM, mk_474 hM, mp_96 hM, mk_475 hM, mp_97 hM, mk_476 hM, mp_98 hM, mk_477 hM, mp_99 hM, mk_478 hM, mp_100 hM, mk_479 hM, mp_101 hM, mk_480 hM, mp_103 hM, mk_481 hM, mp_104 hM, mk_482 hM, mp_105 hM, mk_483 hM, mp_106 hM, mk_484 hM, mp_107 hM, mk_485 hM, mp_109 hM, mk_486 hM, mp_110 hM, mk_487 hM, mp_111 hM, mk_488 hM, mp_113 hM, mk_489 hM, mp_114 hM, mk_490 hM, mp_116 hM, mk_491 hM, mp_117 hM, mk_492 hM, mp_120 hM, mk_493 hM, mp_121 hM, mk_494 hM, mp_123 hM, mk_495 hM, mp_124 hM, mk_496 hM, mp_125 hM, mk_497 hM, mp_126 hM, mk_498 hM, mp_127 hM, mk_499 hM, mp_129 hM, mk_500 hM, mp_130 hM, mk_501 hM, mp_131 hM, mk_502 hM, mp_132 hM, mk_503 hM, ↓reduceIte, Nat.reduceAdd, Nat.reduceLeDiff, Nat.reduceLT, Nat.reduceEqDiff, not_false_eq_true, false_or, true_or, or_true, or_false, n0_e, n1_ne, n1_11, bI_z, bI_1, bI_fo, va_rf_some, aBk_1, aBk_0, nI_add, nI_mul, hk_si, hp_si, hl_si, hk_sp, hk_sl, hk_cp, hp_cp, w]
theorem mw_4 {d : Nat} {h : aH} (hM : MS h) : run (d + 2) 146 474 [.ref 458] [] h = run (d + 2) 146 495 [.ref 458] [] (sl_ h 465 4 (mKy 4)) := by
  have w := fun d => m_wordE (d := d) (h := h) (a := 114) (b := 101) (c := 115) (e := 116) (f := 115) (g := 0) (i := 0) (by decide) (by decide) (by decide) (by decide) (by decide) (by decide) (by decide)
  have ev : lN (appE (appE (appE (appE (appE (appE (appE 0 114) 101) 115) 116) 115) 0) 0) = mKy 4 := by decide
  rw [ev] at w
  simp only [e146_474, e146_475, e146_478, e146_479, e146_481, e146_483, e146_485, e146_487, e146_489, e146_490, e146_491, e146_494, mk_458 hM, mp_67 hM, mk_459 hM, mp_69 hM, mk_460 hM, mp_71 hM, mk_461 hM, mp_72 hM, mk_462 hM, mp_73 hM, mk_463 hM, mp_74 hM, mk_464 hM, mp_75 hM, mk_465 hM, mp_87 hM, mk_466 hM, mp_88 hM, mk_467 hM, mp_89 hM, mk_468 hM, mp_90 hM, mk_469 hM, mp_91 hM, mk_470 hM, mp_92 hM, mk_471 hM, mp_93 hM, mk_472 hM, mp_94 hM, mk_473 hM, mp_95 hM, mk_474 hM, mp_96 hM, mk_475 hM, mp_97 hM, mk_476 hM, mp_98 hM, mk_477 hM, mp_99 hM, mk_478 hM, mp_100 hM, mk_479 hM, mp_101 hM, mk_480 hM, mp_103 hM, mk_481 hM, mp_104 hM, mk_482 hM, mp_105 hM, mk_483 hM, mp_106 hM, mk_484 hM, mp_107 hM, mk_485 hM, mp_109 hM, mk_486 hM, mp_110 hM, mk_487 hM, mp_111 hM, mk_488 hM, mp_113 hM, mk_489 hM, mp_114 hM, mk_490 hM, mp_116 hM, mk_491 hM, mp_117 hM, mk_492 hM, mp_120 hM, mk_493 hM, mp_121 hM, mk_494 hM, mp_123 hM, mk_495 hM, mp_124 hM, mk_496 hM, mp_125 hM, mk_497 hM, mp_126 hM, mk_498 hM, mp_127 hM, mk_499 hM, mp_129 hM, mk_500 hM, mp_130 hM, mk_501 hM, mp_131 hM, mk_502 hM, mp_132 hM, mk_503 hM, ↓reduceIte, Nat.reduceAdd, Nat.reduceLeDiff, Nat.reduceLT, Nat.reduceEqDiff, not_false_eq_true, false_or, true_or, or_true, or_false, n0_e, n1_ne, n1_11, bI_z, bI_1, bI_fo, va_rf_some, aBk_1, aBk_0, nI_add, nI_mul, hk_si, hp_si, hl_si, hk_sp, hk_sl, hk_cp, hp_cp, w]
theorem mw_5 {d : Nat} {h : aH} (hM : MS h) : run (d + 2) 146 495 [.ref 458] [] h = run (d + 2) 146 516 [.ref 458] [] (sl_ h 465 5 (mKy 5)) := by
  have w := fun d => m_wordE (d := d) (h := h) (a := 119) (b := 101) (c := 97) (e := 114) (f := 115) (g := 0) (i := 0) (by decide) (by decide) (by decide) (by decide) (by decide) (by decide) (by decide)
  have ev : lN (appE (appE (appE (appE (appE (appE (appE 0 119) 101) 97) 114) 115) 0) 0) = mKy 5 := by decide
  rw [ev] at w
  simp only [e146_495, e146_496, e146_499, e146_500, e146_502, e146_504, e146_506, e146_508, e146_510, e146_511, e146_512, e146_515, mk_458 hM, mp_67 hM, mk_459 hM, mp_69 hM, mk_460 hM, mp_71 hM, mk_461 hM, mp_72 hM, mk_462 hM, mp_73 hM, mk_463 hM, mp_74 hM, mk_464 hM, mp_75 hM, mk_465 hM, mp_87 hM, mk_466 hM, mp_88 hM, mk_467 hM, mp_89 hM, mk_468 hM, mp_90 hM, mk_469 hM, mp_91 hM, mk_470 hM, mp_92 hM, mk_471 hM, mp_93 hM, mk_472 hM, mp_94 hM, mk_473 hM, mp_95 hM, mk_474 hM, mp_96 hM, mk_475 hM, mp_97 hM, mk_476 hM, mp_98 hM, mk_477 hM, mp_99 hM, mk_478 hM, mp_100 hM, mk_479 hM, mp_101 hM, mk_480 hM, mp_103 hM, mk_481 hM, mp_104 hM, mk_482 hM, mp_105 hM, mk_483 hM, mp_106 hM, mk_484 hM, mp_107 hM, mk_485 hM, mp_109 hM, mk_486 hM, mp_110 hM, mk_487 hM, mp_111 hM, mk_488 hM, mp_113 hM, mk_489 hM, mp_114 hM, mk_490 hM, mp_116 hM, mk_491 hM, mp_117 hM, mk_492 hM, mp_120 hM, mk_493 hM, mp_121 hM, mk_494 hM, mp_123 hM, mk_495 hM, mp_124 hM, mk_496 hM, mp_125 hM, mk_497 hM, mp_126 hM, mk_498 hM, mp_127 hM, mk_499 hM, mp_129 hM, mk_500 hM, mp_130 hM, mk_501 hM, mp_131 hM, mk_502 hM, mp_132 hM, mk_503 hM, ↓reduceIte, Nat.reduceAdd, Nat.reduceLeDiff, Nat.reduceLT, Nat.reduceEqDiff, not_false_eq_true, false_or, true_or, or_true, or_false, n0_e, n1_ne, n1_11, bI_z, bI_1, bI_fo, va_rf_some, aBk_1, aBk_0, nI_add, nI_mul, hk_si, hp_si, hl_si, hk_sp, hk_sl, hk_cp, hp_cp, w]
theorem mw_6 {d : Nat} {h : aH} (hM : MS h) : run (d + 2) 146 516 [.ref 458] [] h = run (d + 2) 146 538 [.ref 458] [] (sl_ h 465 6 (mKy 6)) := by
  have w := fun d => m_wordE (d := d) (h := h) (a := 115) (b := 101) (c := 108) (e := 108) (f := 115) (g := 0) (i := 0) (by decide) (by decide) (by decide) (by decide) (by decide) (by decide) (by decide)
  have ev : lN (appE (appE (appE (appE (appE (appE (appE 0 115) 101) 108) 108) 115) 0) 0) = mKy 6 := by decide
  rw [ev] at w
  simp only [e146_516, e146_517, e146_520, e146_522, e146_524, e146_526, e146_528, e146_530, e146_532, e146_533, e146_534, e146_537, mk_458 hM, mp_67 hM, mk_459 hM, mp_69 hM, mk_460 hM, mp_71 hM, mk_461 hM, mp_72 hM, mk_462 hM, mp_73 hM, mk_463 hM, mp_74 hM, mk_464 hM, mp_75 hM, mk_465 hM, mp_87 hM, mk_466 hM, mp_88 hM, mk_467 hM, mp_89 hM, mk_468 hM, mp_90 hM, mk_469 hM, mp_91 hM, mk_470 hM, mp_92 hM, mk_471 hM, mp_93 hM, mk_472 hM, mp_94 hM, mk_473 hM, mp_95 hM, mk_474 hM, mp_96 hM, mk_475 hM, mp_97 hM, mk_476 hM, mp_98 hM, mk_477 hM, mp_99 hM, mk_478 hM, mp_100 hM, mk_479 hM, mp_101 hM, mk_480 hM, mp_103 hM, mk_481 hM, mp_104 hM, mk_482 hM, mp_105 hM, mk_483 hM, mp_106 hM, mk_484 hM, mp_107 hM, mk_485 hM, mp_109 hM, mk_486 hM, mp_110 hM, mk_487 hM, mp_111 hM, mk_488 hM, mp_113 hM, mk_489 hM, mp_114 hM, mk_490 hM, mp_116 hM, mk_491 hM, mp_117 hM, mk_492 hM, mp_120 hM, mk_493 hM, mp_121 hM, mk_494 hM, mp_123 hM, mk_495 hM, mp_124 hM, mk_496 hM, mp_125 hM, mk_497 hM, mp_126 hM, mk_498 hM, mp_127 hM, mk_499 hM, mp_129 hM, mk_500 hM, mp_130 hM, mk_501 hM, mp_131 hM, mk_502 hM, mp_132 hM, mk_503 hM, ↓reduceIte, Nat.reduceAdd, Nat.reduceLeDiff, Nat.reduceLT, Nat.reduceEqDiff, not_false_eq_true, false_or, true_or, or_true, or_false, n0_e, n1_ne, n1_11, bI_z, bI_1, bI_fo, va_rf_some, aBk_1, aBk_0, nI_add, nI_mul, hk_si, hp_si, hl_si, hk_sp, hk_sl, hk_cp, hp_cp, w]
theorem mw_7 {d : Nat} {h : aH} (hM : MS h) : run (d + 2) 146 538 [.ref 458] [] h = run (d + 2) 146 560 [.ref 458] [] (sl_ h 465 7 (mKy 7)) := by
  have w := fun d => m_wordE (d := d) (h := h) (a := 100) (b := 101) (c := 97) (e := 116) (f := 104) (g := 0) (i := 0) (by decide) (by decide) (by decide) (by decide) (by decide) (by decide) (by decide)
  have ev : lN (appE (appE (appE (appE (appE (appE (appE 0 100) 101) 97) 116) 104) 0) 0) = mKy 7 := by decide
  rw [ev] at w
  simp only [e146_538, e146_539, e146_542, e146_544, e146_546, e146_548, e146_550, e146_552, e146_554, e146_555, e146_556, e146_559, mk_458 hM, mp_67 hM, mk_459 hM, mp_69 hM, mk_460 hM, mp_71 hM, mk_461 hM, mp_72 hM, mk_462 hM, mp_73 hM, mk_463 hM, mp_74 hM, mk_464 hM, mp_75 hM, mk_465 hM, mp_87 hM, mk_466 hM, mp_88 hM, mk_467 hM, mp_89 hM, mk_468 hM, mp_90 hM, mk_469 hM, mp_91 hM, mk_470 hM, mp_92 hM, mk_471 hM, mp_93 hM, mk_472 hM, mp_94 hM, mk_473 hM, mp_95 hM, mk_474 hM, mp_96 hM, mk_475 hM, mp_97 hM, mk_476 hM, mp_98 hM, mk_477 hM, mp_99 hM, mk_478 hM, mp_100 hM, mk_479 hM, mp_101 hM, mk_480 hM, mp_103 hM, mk_481 hM, mp_104 hM, mk_482 hM, mp_105 hM, mk_483 hM, mp_106 hM, mk_484 hM, mp_107 hM, mk_485 hM, mp_109 hM, mk_486 hM, mp_110 hM, mk_487 hM, mp_111 hM, mk_488 hM, mp_113 hM, mk_489 hM, mp_114 hM, mk_490 hM, mp_116 hM, mk_491 hM, mp_117 hM, mk_492 hM, mp_120 hM, mk_493 hM, mp_121 hM, mk_494 hM, mp_123 hM, mk_495 hM, mp_124 hM, mk_496 hM, mp_125 hM, mk_497 hM, mp_126 hM, mk_498 hM, mp_127 hM, mk_499 hM, mp_129 hM, mk_500 hM, mp_130 hM, mk_501 hM, mp_131 hM, mk_502 hM, mp_132 hM, mk_503 hM, ↓reduceIte, Nat.reduceAdd, Nat.reduceLeDiff, Nat.reduceLT, Nat.reduceEqDiff, not_false_eq_true, false_or, true_or, or_true, or_false, n0_e, n1_ne, n1_11, bI_z, bI_1, bI_fo, va_rf_some, aBk_1, aBk_0, nI_add, nI_mul, hk_si, hp_si, hl_si, hk_sp, hk_sl, hk_cp, hp_cp, w]
theorem mw_8 {d : Nat} {h : aH} (hM : MS h) : run (d + 2) 146 560 [.ref 458] [] h = run (d + 2) 146 581 [.ref 458] [] (sl_ h 465 8 (mKy 8)) := by
  have w := fun d => m_wordE (d := d) (h := h) (a := 115) (b := 101) (c := 101) (e := 100) (f := 0) (g := 0) (i := 0) (by decide) (by decide) (by decide) (by decide) (by decide) (by decide) (by decide)
  have ev : lN (appE (appE (appE (appE (appE (appE (appE 0 115) 101) 101) 100) 0) 0) 0) = mKy 8 := by decide
  rw [ev] at w
  simp only [e146_560, e146_561, e146_564, e146_566, e146_568, e146_570, e146_572, e146_574, e146_575, e146_576, e146_577, e146_580, mk_458 hM, mp_67 hM, mk_459 hM, mp_69 hM, mk_460 hM, mp_71 hM, mk_461 hM, mp_72 hM, mk_462 hM, mp_73 hM, mk_463 hM, mp_74 hM, mk_464 hM, mp_75 hM, mk_465 hM, mp_87 hM, mk_466 hM, mp_88 hM, mk_467 hM, mp_89 hM, mk_468 hM, mp_90 hM, mk_469 hM, mp_91 hM, mk_470 hM, mp_92 hM, mk_471 hM, mp_93 hM, mk_472 hM, mp_94 hM, mk_473 hM, mp_95 hM, mk_474 hM, mp_96 hM, mk_475 hM, mp_97 hM, mk_476 hM, mp_98 hM, mk_477 hM, mp_99 hM, mk_478 hM, mp_100 hM, mk_479 hM, mp_101 hM, mk_480 hM, mp_103 hM, mk_481 hM, mp_104 hM, mk_482 hM, mp_105 hM, mk_483 hM, mp_106 hM, mk_484 hM, mp_107 hM, mk_485 hM, mp_109 hM, mk_486 hM, mp_110 hM, mk_487 hM, mp_111 hM, mk_488 hM, mp_113 hM, mk_489 hM, mp_114 hM, mk_490 hM, mp_116 hM, mk_491 hM, mp_117 hM, mk_492 hM, mp_120 hM, mk_493 hM, mp_121 hM, mk_494 hM, mp_123 hM, mk_495 hM, mp_124 hM, mk_496 hM, mp_125 hM, mk_497 hM, mp_126 hM, mk_498 hM, mp_127 hM, mk_499 hM, mp_129 hM, mk_500 hM, mp_130 hM, mk_501 hM, mp_131 hM, mk_502 hM, mp_132 hM, mk_503 hM, ↓reduceIte, Nat.reduceAdd, Nat.reduceLeDiff, Nat.reduceLT, Nat.reduceEqDiff, not_false_eq_true, false_or, true_or, or_true, or_false, n0_e, n1_ne, n1_11, bI_z, bI_1, bI_fo, va_rf_some, aBk_1, aBk_0, nI_add, nI_mul, hk_si, hp_si, hl_si, hk_sp, hk_sl, hk_cp, hp_cp, w]
theorem mw_9 {d : Nat} {h : aH} (hM : MS h) : run (d + 2) 146 581 [.ref 458] [] h = run (d + 2) 146 600 [.ref 458] [] (sl_ h 465 9 (mKy 9)) := by
  have w := fun d => m_wordE (d := d) (h := h) (a := 105) (b := 102) (c := 0) (e := 0) (f := 0) (g := 0) (i := 0) (by decide) (by decide) (by decide) (by decide) (by decide) (by decide) (by decide)
  have ev : lN (appE (appE (appE (appE (appE (appE (appE 0 105) 102) 0) 0) 0) 0) 0) = mKy 9 := by decide
  rw [ev] at w
  simp only [e146_581, e146_582, e146_585, e146_587, e146_589, e146_591, e146_592, e146_593, e146_594, e146_595, e146_596, e146_599, mk_458 hM, mp_67 hM, mk_459 hM, mp_69 hM, mk_460 hM, mp_71 hM, mk_461 hM, mp_72 hM, mk_462 hM, mp_73 hM, mk_463 hM, mp_74 hM, mk_464 hM, mp_75 hM, mk_465 hM, mp_87 hM, mk_466 hM, mp_88 hM, mk_467 hM, mp_89 hM, mk_468 hM, mp_90 hM, mk_469 hM, mp_91 hM, mk_470 hM, mp_92 hM, mk_471 hM, mp_93 hM, mk_472 hM, mp_94 hM, mk_473 hM, mp_95 hM, mk_474 hM, mp_96 hM, mk_475 hM, mp_97 hM, mk_476 hM, mp_98 hM, mk_477 hM, mp_99 hM, mk_478 hM, mp_100 hM, mk_479 hM, mp_101 hM, mk_480 hM, mp_103 hM, mk_481 hM, mp_104 hM, mk_482 hM, mp_105 hM, mk_483 hM, mp_106 hM, mk_484 hM, mp_107 hM, mk_485 hM, mp_109 hM, mk_486 hM, mp_110 hM, mk_487 hM, mp_111 hM, mk_488 hM, mp_113 hM, mk_489 hM, mp_114 hM, mk_490 hM, mp_116 hM, mk_491 hM, mp_117 hM, mk_492 hM, mp_120 hM, mk_493 hM, mp_121 hM, mk_494 hM, mp_123 hM, mk_495 hM, mp_124 hM, mk_496 hM, mp_125 hM, mk_497 hM, mp_126 hM, mk_498 hM, mp_127 hM, mk_499 hM, mp_129 hM, mk_500 hM, mp_130 hM, mk_501 hM, mp_131 hM, mk_502 hM, mp_132 hM, mk_503 hM, ↓reduceIte, Nat.reduceAdd, Nat.reduceLeDiff, Nat.reduceLT, Nat.reduceEqDiff, not_false_eq_true, false_or, true_or, or_true, or_false, n0_e, n1_ne, n1_11, bI_z, bI_1, bI_fo, va_rf_some, aBk_1, aBk_0, nI_add, nI_mul, hk_si, hp_si, hl_si, hk_sp, hk_sl, hk_cp, hp_cp, w]
theorem mw_10 {d : Nat} {h : aH} (hM : MS h) : run (d + 2) 146 600 [.ref 458] [] h = run (d + 2) 146 621 [.ref 458] [] (sl_ h 465 10 (mKy 10)) := by
  have w := fun d => m_wordE (d := d) (h := h) (a := 116) (b := 104) (c := 101) (e := 110) (f := 0) (g := 0) (i := 0) (by decide) (by decide) (by decide) (by decide) (by decide) (by decide) (by decide)
  have ev : lN (appE (appE (appE (appE (appE (appE (appE 0 116) 104) 101) 110) 0) 0) 0) = mKy 10 := by decide
  rw [ev] at w
  simp only [e146_600, e146_601, e146_604, e146_606, e146_608, e146_610, e146_612, e146_614, e146_615, e146_616, e146_617, e146_620, mk_458 hM, mp_67 hM, mk_459 hM, mp_69 hM, mk_460 hM, mp_71 hM, mk_461 hM, mp_72 hM, mk_462 hM, mp_73 hM, mk_463 hM, mp_74 hM, mk_464 hM, mp_75 hM, mk_465 hM, mp_87 hM, mk_466 hM, mp_88 hM, mk_467 hM, mp_89 hM, mk_468 hM, mp_90 hM, mk_469 hM, mp_91 hM, mk_470 hM, mp_92 hM, mk_471 hM, mp_93 hM, mk_472 hM, mp_94 hM, mk_473 hM, mp_95 hM, mk_474 hM, mp_96 hM, mk_475 hM, mp_97 hM, mk_476 hM, mp_98 hM, mk_477 hM, mp_99 hM, mk_478 hM, mp_100 hM, mk_479 hM, mp_101 hM, mk_480 hM, mp_103 hM, mk_481 hM, mp_104 hM, mk_482 hM, mp_105 hM, mk_483 hM, mp_106 hM, mk_484 hM, mp_107 hM, mk_485 hM, mp_109 hM, mk_486 hM, mp_110 hM, mk_487 hM, mp_111 hM, mk_488 hM, mp_113 hM, mk_489 hM, mp_114 hM, mk_490 hM, mp_116 hM, mk_491 hM, mp_117 hM, mk_492 hM, mp_120 hM, mk_493 hM, mp_121 hM, mk_494 hM, mp_123 hM, mk_495 hM, mp_124 hM, mk_496 hM, mp_125 hM, mk_497 hM, mp_126 hM, mk_498 hM, mp_127 hM, mk_499 hM, mp_129 hM, mk_500 hM, mp_130 hM, mk_501 hM, mp_131 hM, mk_502 hM, mp_132 hM, mk_503 hM, ↓reduceIte, Nat.reduceAdd, Nat.reduceLeDiff, Nat.reduceLT, Nat.reduceEqDiff, not_false_eq_true, false_or, true_or, or_true, or_false, n0_e, n1_ne, n1_11, bI_z, bI_1, bI_fo, va_rf_some, aBk_1, aBk_0, nI_add, nI_mul, hk_si, hp_si, hl_si, hk_sp, hk_sl, hk_cp, hp_cp, w]
theorem mw_11 {d : Nat} {h : aH} (hM : MS h) : run (d + 2) 146 621 [.ref 458] [] h = run (d + 2) 146 642 [.ref 458] [] (sl_ h 465 11 (mKy 11)) := by
  have w := fun d => m_wordE (d := d) (h := h) (a := 101) (b := 108) (c := 115) (e := 101) (f := 0) (g := 0) (i := 0) (by decide) (by decide) (by decide) (by decide) (by decide) (by decide) (by decide)
  have ev : lN (appE (appE (appE (appE (appE (appE (appE 0 101) 108) 115) 101) 0) 0) 0) = mKy 11 := by decide
  rw [ev] at w
  simp only [e146_621, e146_622, e146_625, e146_627, e146_629, e146_631, e146_633, e146_635, e146_636, e146_637, e146_638, e146_641, mk_458 hM, mp_67 hM, mk_459 hM, mp_69 hM, mk_460 hM, mp_71 hM, mk_461 hM, mp_72 hM, mk_462 hM, mp_73 hM, mk_463 hM, mp_74 hM, mk_464 hM, mp_75 hM, mk_465 hM, mp_87 hM, mk_466 hM, mp_88 hM, mk_467 hM, mp_89 hM, mk_468 hM, mp_90 hM, mk_469 hM, mp_91 hM, mk_470 hM, mp_92 hM, mk_471 hM, mp_93 hM, mk_472 hM, mp_94 hM, mk_473 hM, mp_95 hM, mk_474 hM, mp_96 hM, mk_475 hM, mp_97 hM, mk_476 hM, mp_98 hM, mk_477 hM, mp_99 hM, mk_478 hM, mp_100 hM, mk_479 hM, mp_101 hM, mk_480 hM, mp_103 hM, mk_481 hM, mp_104 hM, mk_482 hM, mp_105 hM, mk_483 hM, mp_106 hM, mk_484 hM, mp_107 hM, mk_485 hM, mp_109 hM, mk_486 hM, mp_110 hM, mk_487 hM, mp_111 hM, mk_488 hM, mp_113 hM, mk_489 hM, mp_114 hM, mk_490 hM, mp_116 hM, mk_491 hM, mp_117 hM, mk_492 hM, mp_120 hM, mk_493 hM, mp_121 hM, mk_494 hM, mp_123 hM, mk_495 hM, mp_124 hM, mk_496 hM, mp_125 hM, mk_497 hM, mp_126 hM, mk_498 hM, mp_127 hM, mk_499 hM, mp_129 hM, mk_500 hM, mp_130 hM, mk_501 hM, mp_131 hM, mk_502 hM, mp_132 hM, mk_503 hM, ↓reduceIte, Nat.reduceAdd, Nat.reduceLeDiff, Nat.reduceLT, Nat.reduceEqDiff, not_false_eq_true, false_or, true_or, or_true, or_false, n0_e, n1_ne, n1_11, bI_z, bI_1, bI_fo, va_rf_some, aBk_1, aBk_0, nI_add, nI_mul, hk_si, hp_si, hl_si, hk_sp, hk_sl, hk_cp, hp_cp, w]
theorem mw_12 {d : Nat} {h : aH} (hM : MS h) : run (d + 2) 146 642 [.ref 458] [] h = run (d + 2) 146 662 [.ref 458] [] (sl_ h 465 12 (mKy 12)) := by
  have w := fun d => m_wordE (d := d) (h := h) (a := 102) (b := 101) (c := 101) (e := 0) (f := 0) (g := 0) (i := 0) (by decide) (by decide) (by decide) (by decide) (by decide) (by decide) (by decide)
  have ev : lN (appE (appE (appE (appE (appE (appE (appE 0 102) 101) 101) 0) 0) 0) 0) = mKy 12 := by decide
  rw [ev] at w
  simp only [e146_642, e146_643, e146_646, e146_648, e146_650, e146_652, e146_654, e146_655, e146_656, e146_657, e146_658, e146_661, mk_458 hM, mp_67 hM, mk_459 hM, mp_69 hM, mk_460 hM, mp_71 hM, mk_461 hM, mp_72 hM, mk_462 hM, mp_73 hM, mk_463 hM, mp_74 hM, mk_464 hM, mp_75 hM, mk_465 hM, mp_87 hM, mk_466 hM, mp_88 hM, mk_467 hM, mp_89 hM, mk_468 hM, mp_90 hM, mk_469 hM, mp_91 hM, mk_470 hM, mp_92 hM, mk_471 hM, mp_93 hM, mk_472 hM, mp_94 hM, mk_473 hM, mp_95 hM, mk_474 hM, mp_96 hM, mk_475 hM, mp_97 hM, mk_476 hM, mp_98 hM, mk_477 hM, mp_99 hM, mk_478 hM, mp_100 hM, mk_479 hM, mp_101 hM, mk_480 hM, mp_103 hM, mk_481 hM, mp_104 hM, mk_482 hM, mp_105 hM, mk_483 hM, mp_106 hM, mk_484 hM, mp_107 hM, mk_485 hM, mp_109 hM, mk_486 hM, mp_110 hM, mk_487 hM, mp_111 hM, mk_488 hM, mp_113 hM, mk_489 hM, mp_114 hM, mk_490 hM, mp_116 hM, mk_491 hM, mp_117 hM, mk_492 hM, mp_120 hM, mk_493 hM, mp_121 hM, mk_494 hM, mp_123 hM, mk_495 hM, mp_124 hM, mk_496 hM, mp_125 hM, mk_497 hM, mp_126 hM, mk_498 hM, mp_127 hM, mk_499 hM, mp_129 hM, mk_500 hM, mp_130 hM, mk_501 hM, mp_131 hM, mk_502 hM, mp_132 hM, mk_503 hM, ↓reduceIte, Nat.reduceAdd, Nat.reduceLeDiff, Nat.reduceLT, Nat.reduceEqDiff, not_false_eq_true, false_or, true_or, or_true, or_false, n0_e, n1_ne, n1_11, bI_z, bI_1, bI_fo, va_rf_some, aBk_1, aBk_0, nI_add, nI_mul, hk_si, hp_si, hl_si, hk_sp, hk_sl, hk_cp, hp_cp, w]
theorem mw_13 {d : Nat} {h : aH} (hM : MS h) : run (d + 2) 146 662 [.ref 458] [] h = run (d + 2) 146 684 [.ref 458] [] (sl_ h 465 13 (mKy 13)) := by
  have w := fun d => m_wordE (d := d) (h := h) (a := 104) (b := 111) (c := 117) (e := 114) (f := 115) (g := 0) (i := 0) (by decide) (by decide) (by decide) (by decide) (by decide) (by decide) (by decide)
  have ev : lN (appE (appE (appE (appE (appE (appE (appE 0 104) 111) 117) 114) 115) 0) 0) = mKy 13 := by decide
  rw [ev] at w
  simp only [e146_662, e146_663, e146_666, e146_668, e146_670, e146_672, e146_674, e146_676, e146_678, e146_679, e146_680, e146_683, mk_458 hM, mp_67 hM, mk_459 hM, mp_69 hM, mk_460 hM, mp_71 hM, mk_461 hM, mp_72 hM, mk_462 hM, mp_73 hM, mk_463 hM, mp_74 hM, mk_464 hM, mp_75 hM, mk_465 hM, mp_87 hM, mk_466 hM, mp_88 hM, mk_467 hM, mp_89 hM, mk_468 hM, mp_90 hM, mk_469 hM, mp_91 hM, mk_470 hM, mp_92 hM, mk_471 hM, mp_93 hM, mk_472 hM, mp_94 hM, mk_473 hM, mp_95 hM, mk_474 hM, mp_96 hM, mk_475 hM, mp_97 hM, mk_476 hM, mp_98 hM, mk_477 hM, mp_99 hM, mk_478 hM, mp_100 hM, mk_479 hM, mp_101 hM, mk_480 hM, mp_103 hM, mk_481 hM, mp_104 hM, mk_482 hM, mp_105 hM, mk_483 hM, mp_106 hM, mk_484 hM, mp_107 hM, mk_485 hM, mp_109 hM, mk_486 hM, mp_110 hM, mk_487 hM, mp_111 hM, mk_488 hM, mp_113 hM, mk_489 hM, mp_114 hM, mk_490 hM, mp_116 hM, mk_491 hM, mp_117 hM, mk_492 hM, mp_120 hM, mk_493 hM, mp_121 hM, mk_494 hM, mp_123 hM, mk_495 hM, mp_124 hM, mk_496 hM, mp_125 hM, mk_497 hM, mp_126 hM, mk_498 hM, mp_127 hM, mk_499 hM, mp_129 hM, mk_500 hM, mp_130 hM, mk_501 hM, mp_131 hM, mk_502 hM, mp_132 hM, mk_503 hM, ↓reduceIte, Nat.reduceAdd, Nat.reduceLeDiff, Nat.reduceLT, Nat.reduceEqDiff, not_false_eq_true, false_or, true_or, or_true, or_false, n0_e, n1_ne, n1_11, bI_z, bI_1, bI_fo, va_rf_some, aBk_1, aBk_0, nI_add, nI_mul, hk_si, hp_si, hl_si, hk_sp, hk_sl, hk_cp, hp_cp, w]
theorem mw_14 {d : Nat} {h : aH} (hM : MS h) : run (d + 2) 146 684 [.ref 458] [] h = run (d + 2) 146 705 [.ref 458] [] (sl_ h 465 14 (mKy 14)) := by
  have w := fun d => m_wordE (d := d) (h := h) (a := 104) (b := 111) (c := 117) (e := 114) (f := 0) (g := 0) (i := 0) (by decide) (by decide) (by decide) (by decide) (by decide) (by decide) (by decide)
  have ev : lN (appE (appE (appE (appE (appE (appE (appE 0 104) 111) 117) 114) 0) 0) 0) = mKy 14 := by decide
  rw [ev] at w
  simp only [e146_684, e146_685, e146_688, e146_690, e146_692, e146_694, e146_696, e146_698, e146_699, e146_700, e146_701, e146_704, mk_458 hM, mp_67 hM, mk_459 hM, mp_69 hM, mk_460 hM, mp_71 hM, mk_461 hM, mp_72 hM, mk_462 hM, mp_73 hM, mk_463 hM, mp_74 hM, mk_464 hM, mp_75 hM, mk_465 hM, mp_87 hM, mk_466 hM, mp_88 hM, mk_467 hM, mp_89 hM, mk_468 hM, mp_90 hM, mk_469 hM, mp_91 hM, mk_470 hM, mp_92 hM, mk_471 hM, mp_93 hM, mk_472 hM, mp_94 hM, mk_473 hM, mp_95 hM, mk_474 hM, mp_96 hM, mk_475 hM, mp_97 hM, mk_476 hM, mp_98 hM, mk_477 hM, mp_99 hM, mk_478 hM, mp_100 hM, mk_479 hM, mp_101 hM, mk_480 hM, mp_103 hM, mk_481 hM, mp_104 hM, mk_482 hM, mp_105 hM, mk_483 hM, mp_106 hM, mk_484 hM, mp_107 hM, mk_485 hM, mp_109 hM, mk_486 hM, mp_110 hM, mk_487 hM, mp_111 hM, mk_488 hM, mp_113 hM, mk_489 hM, mp_114 hM, mk_490 hM, mp_116 hM, mk_491 hM, mp_117 hM, mk_492 hM, mp_120 hM, mk_493 hM, mp_121 hM, mk_494 hM, mp_123 hM, mk_495 hM, mp_124 hM, mk_496 hM, mp_125 hM, mk_497 hM, mp_126 hM, mk_498 hM, mp_127 hM, mk_499 hM, mp_129 hM, mk_500 hM, mp_130 hM, mk_501 hM, mp_131 hM, mk_502 hM, mp_132 hM, mk_503 hM, ↓reduceIte, Nat.reduceAdd, Nat.reduceLeDiff, Nat.reduceLT, Nat.reduceEqDiff, not_false_eq_true, false_or, true_or, or_true, or_false, n0_e, n1_ne, n1_11, bI_z, bI_1, bI_fo, va_rf_some, aBk_1, aBk_0, nI_add, nI_mul, hk_si, hp_si, hl_si, hk_sp, hk_sl, hk_cp, hp_cp, w]
theorem mw_15 {d : Nat} {h : aH} (hM : MS h) : run (d + 2) 146 705 [.ref 458] [] h = run (d + 2) 146 728 [.ref 458] [] (sl_ h 465 15 (mKy 15)) := by
  have w := fun d => m_wordE (d := d) (h := h) (a := 114) (b := 101) (c := 115) (e := 116) (f := 101) (g := 100) (i := 0) (by decide) (by decide) (by decide) (by decide) (by decide) (by decide) (by decide)
  have ev : lN (appE (appE (appE (appE (appE (appE (appE 0 114) 101) 115) 116) 101) 100) 0) = mKy 15 := by decide
  rw [ev] at w
  simp only [e146_705, e146_706, e146_709, e146_711, e146_713, e146_715, e146_717, e146_719, e146_721, e146_723, e146_724, e146_727, mk_458 hM, mp_67 hM, mk_459 hM, mp_69 hM, mk_460 hM, mp_71 hM, mk_461 hM, mp_72 hM, mk_462 hM, mp_73 hM, mk_463 hM, mp_74 hM, mk_464 hM, mp_75 hM, mk_465 hM, mp_87 hM, mk_466 hM, mp_88 hM, mk_467 hM, mp_89 hM, mk_468 hM, mp_90 hM, mk_469 hM, mp_91 hM, mk_470 hM, mp_92 hM, mk_471 hM, mp_93 hM, mk_472 hM, mp_94 hM, mk_473 hM, mp_95 hM, mk_474 hM, mp_96 hM, mk_475 hM, mp_97 hM, mk_476 hM, mp_98 hM, mk_477 hM, mp_99 hM, mk_478 hM, mp_100 hM, mk_479 hM, mp_101 hM, mk_480 hM, mp_103 hM, mk_481 hM, mp_104 hM, mk_482 hM, mp_105 hM, mk_483 hM, mp_106 hM, mk_484 hM, mp_107 hM, mk_485 hM, mp_109 hM, mk_486 hM, mp_110 hM, mk_487 hM, mp_111 hM, mk_488 hM, mp_113 hM, mk_489 hM, mp_114 hM, mk_490 hM, mp_116 hM, mk_491 hM, mp_117 hM, mk_492 hM, mp_120 hM, mk_493 hM, mp_121 hM, mk_494 hM, mp_123 hM, mk_495 hM, mp_124 hM, mk_496 hM, mp_125 hM, mk_497 hM, mp_126 hM, mk_498 hM, mp_127 hM, mk_499 hM, mp_129 hM, mk_500 hM, mp_130 hM, mk_501 hM, mp_131 hM, mk_502 hM, mp_132 hM, mk_503 hM, ↓reduceIte, Nat.reduceAdd, Nat.reduceLeDiff, Nat.reduceLT, Nat.reduceEqDiff, not_false_eq_true, false_or, true_or, or_true, or_false, n0_e, n1_ne, n1_11, bI_z, bI_1, bI_fo, va_rf_some, aBk_1, aBk_0, nI_add, nI_mul, hk_si, hp_si, hl_si, hk_sp, hk_sl, hk_cp, hp_cp, w]
theorem mw_16 {d : Nat} {h : aH} (hM : MS h) : run (d + 2) 146 728 [.ref 458] [] h = run (d + 2) 146 749 [.ref 458] [] (sl_ h 465 16 (mKy 16)) := by
  have w := fun d => m_wordE (d := d) (h := h) (a := 119) (b := 111) (c := 114) (e := 110) (f := 0) (g := 0) (i := 0) (by decide) (by decide) (by decide) (by decide) (by decide) (by decide) (by decide)
  have ev : lN (appE (appE (appE (appE (appE (appE (appE 0 119) 111) 114) 110) 0) 0) 0) = mKy 16 := by decide
  rw [ev] at w
  simp only [e146_728, e146_729, e146_732, e146_734, e146_736, e146_738, e146_740, e146_742, e146_743, e146_744, e146_745, e146_748, mk_458 hM, mp_67 hM, mk_459 hM, mp_69 hM, mk_460 hM, mp_71 hM, mk_461 hM, mp_72 hM, mk_462 hM, mp_73 hM, mk_463 hM, mp_74 hM, mk_464 hM, mp_75 hM, mk_465 hM, mp_87 hM, mk_466 hM, mp_88 hM, mk_467 hM, mp_89 hM, mk_468 hM, mp_90 hM, mk_469 hM, mp_91 hM, mk_470 hM, mp_92 hM, mk_471 hM, mp_93 hM, mk_472 hM, mp_94 hM, mk_473 hM, mp_95 hM, mk_474 hM, mp_96 hM, mk_475 hM, mp_97 hM, mk_476 hM, mp_98 hM, mk_477 hM, mp_99 hM, mk_478 hM, mp_100 hM, mk_479 hM, mp_101 hM, mk_480 hM, mp_103 hM, mk_481 hM, mp_104 hM, mk_482 hM, mp_105 hM, mk_483 hM, mp_106 hM, mk_484 hM, mp_107 hM, mk_485 hM, mp_109 hM, mk_486 hM, mp_110 hM, mk_487 hM, mp_111 hM, mk_488 hM, mp_113 hM, mk_489 hM, mp_114 hM, mk_490 hM, mp_116 hM, mk_491 hM, mp_117 hM, mk_492 hM, mp_120 hM, mk_493 hM, mp_121 hM, mk_494 hM, mp_123 hM, mk_495 hM, mp_124 hM, mk_496 hM, mp_125 hM, mk_497 hM, mp_126 hM, mk_498 hM, mp_127 hM, mk_499 hM, mp_129 hM, mk_500 hM, mp_130 hM, mk_501 hM, mp_131 hM, mk_502 hM, mp_132 hM, mk_503 hM, ↓reduceIte, Nat.reduceAdd, Nat.reduceLeDiff, Nat.reduceLT, Nat.reduceEqDiff, not_false_eq_true, false_or, true_or, or_true, or_false, n0_e, n1_ne, n1_11, bI_z, bI_1, bI_fo, va_rf_some, aBk_1, aBk_0, nI_add, nI_mul, hk_si, hp_si, hl_si, hk_sp, hk_sl, hk_cp, hp_cp, w]
theorem mw_17 {d : Nat} {h : aH} (hM : MS h) : run (d + 2) 146 749 [.ref 458] [] h = run (d + 2) 146 771 [.ref 458] [] (sl_ h 465 17 (mKy 17)) := by
  have w := fun d => m_wordE (d := d) (h := h) (a := 119) (b := 111) (c := 114) (e := 116) (f := 104) (g := 0) (i := 0) (by decide) (by decide) (by decide) (by decide) (by decide) (by decide) (by decide)
  have ev : lN (appE (appE (appE (appE (appE (appE (appE 0 119) 111) 114) 116) 104) 0) 0) = mKy 17 := by decide
  rw [ev] at w
  simp only [e146_749, e146_750, e146_753, e146_755, e146_757, e146_759, e146_761, e146_763, e146_765, e146_766, e146_767, e146_770, mk_458 hM, mp_67 hM, mk_459 hM, mp_69 hM, mk_460 hM, mp_71 hM, mk_461 hM, mp_72 hM, mk_462 hM, mp_73 hM, mk_463 hM, mp_74 hM, mk_464 hM, mp_75 hM, mk_465 hM, mp_87 hM, mk_466 hM, mp_88 hM, mk_467 hM, mp_89 hM, mk_468 hM, mp_90 hM, mk_469 hM, mp_91 hM, mk_470 hM, mp_92 hM, mk_471 hM, mp_93 hM, mk_472 hM, mp_94 hM, mk_473 hM, mp_95 hM, mk_474 hM, mp_96 hM, mk_475 hM, mp_97 hM, mk_476 hM, mp_98 hM, mk_477 hM, mp_99 hM, mk_478 hM, mp_100 hM, mk_479 hM, mp_101 hM, mk_480 hM, mp_103 hM, mk_481 hM, mp_104 hM, mk_482 hM, mp_105 hM, mk_483 hM, mp_106 hM, mk_484 hM, mp_107 hM, mk_485 hM, mp_109 hM, mk_486 hM, mp_110 hM, mk_487 hM, mp_111 hM, mk_488 hM, mp_113 hM, mk_489 hM, mp_114 hM, mk_490 hM, mp_116 hM, mk_491 hM, mp_117 hM, mk_492 hM, mp_120 hM, mk_493 hM, mp_121 hM, mk_494 hM, mp_123 hM, mk_495 hM, mp_124 hM, mk_496 hM, mp_125 hM, mk_497 hM, mp_126 hM, mk_498 hM, mp_127 hM, mk_499 hM, mp_129 hM, mk_500 hM, mp_130 hM, mk_501 hM, mp_131 hM, mk_502 hM, mp_132 hM, mk_503 hM, ↓reduceIte, Nat.reduceAdd, Nat.reduceLeDiff, Nat.reduceLT, Nat.reduceEqDiff, not_false_eq_true, false_or, true_or, or_true, or_false, n0_e, n1_ne, n1_11, bI_z, bI_1, bI_fo, va_rf_some, aBk_1, aBk_0, nI_add, nI_mul, hk_si, hp_si, hl_si, hk_sp, hk_sl, hk_cp, hp_cp, w]
theorem mw_18 {d : Nat} {h : aH} (hM : MS h) : run (d + 2) 146 771 [.ref 458] [] h = run (d + 2) 146 792 [.ref 458] [] (sl_ h 465 18 (mKy 18)) := by
  have w := fun d => m_wordE (d := d) (h := h) (a := 119) (b := 101) (c := 101) (e := 107) (f := 0) (g := 0) (i := 0) (by decide) (by decide) (by decide) (by decide) (by decide) (by decide) (by decide)
  have ev : lN (appE (appE (appE (appE (appE (appE (appE 0 119) 101) 101) 107) 0) 0) 0) = mKy 18 := by decide
  rw [ev] at w
  simp only [e146_771, e146_772, e146_775, e146_777, e146_779, e146_781, e146_783, e146_785, e146_786, e146_787, e146_788, e146_791, mk_458 hM, mp_67 hM, mk_459 hM, mp_69 hM, mk_460 hM, mp_71 hM, mk_461 hM, mp_72 hM, mk_462 hM, mp_73 hM, mk_463 hM, mp_74 hM, mk_464 hM, mp_75 hM, mk_465 hM, mp_87 hM, mk_466 hM, mp_88 hM, mk_467 hM, mp_89 hM, mk_468 hM, mp_90 hM, mk_469 hM, mp_91 hM, mk_470 hM, mp_92 hM, mk_471 hM, mp_93 hM, mk_472 hM, mp_94 hM, mk_473 hM, mp_95 hM, mk_474 hM, mp_96 hM, mk_475 hM, mp_97 hM, mk_476 hM, mp_98 hM, mk_477 hM, mp_99 hM, mk_478 hM, mp_100 hM, mk_479 hM, mp_101 hM, mk_480 hM, mp_103 hM, mk_481 hM, mp_104 hM, mk_482 hM, mp_105 hM, mk_483 hM, mp_106 hM, mk_484 hM, mp_107 hM, mk_485 hM, mp_109 hM, mk_486 hM, mp_110 hM, mk_487 hM, mp_111 hM, mk_488 hM, mp_113 hM, mk_489 hM, mp_114 hM, mk_490 hM, mp_116 hM, mk_491 hM, mp_117 hM, mk_492 hM, mp_120 hM, mk_493 hM, mp_121 hM, mk_494 hM, mp_123 hM, mk_495 hM, mp_124 hM, mk_496 hM, mp_125 hM, mk_497 hM, mp_126 hM, mk_498 hM, mp_127 hM, mk_499 hM, mp_129 hM, mk_500 hM, mp_130 hM, mk_501 hM, mp_131 hM, mk_502 hM, mp_132 hM, mk_503 hM, ↓reduceIte, Nat.reduceAdd, Nat.reduceLeDiff, Nat.reduceLT, Nat.reduceEqDiff, not_false_eq_true, false_or, true_or, or_true, or_false, n0_e, n1_ne, n1_11, bI_z, bI_1, bI_fo, va_rf_some, aBk_1, aBk_0, nI_add, nI_mul, hk_si, hp_si, hl_si, hk_sp, hk_sl, hk_cp, hp_cp, w]
theorem mw_19 {d : Nat} {h : aH} (hM : MS h) : run (d + 2) 146 792 [.ref 458] [] h = run (d + 2) 146 814 [.ref 458] [] (sl_ h 465 19 (mKy 19)) := by
  have w := fun d => m_wordE (d := d) (h := h) (a := 119) (b := 104) (c := 105) (e := 99) (f := 104) (g := 0) (i := 0) (by decide) (by decide) (by decide) (by decide) (by decide) (by decide) (by decide)
  have ev : lN (appE (appE (appE (appE (appE (appE (appE 0 119) 104) 105) 99) 104) 0) 0) = mKy 19 := by decide
  rw [ev] at w
  simp only [e146_792, e146_793, e146_796, e146_798, e146_800, e146_802, e146_804, e146_806, e146_808, e146_809, e146_810, e146_813, mk_458 hM, mp_67 hM, mk_459 hM, mp_69 hM, mk_460 hM, mp_71 hM, mk_461 hM, mp_72 hM, mk_462 hM, mp_73 hM, mk_463 hM, mp_74 hM, mk_464 hM, mp_75 hM, mk_465 hM, mp_87 hM, mk_466 hM, mp_88 hM, mk_467 hM, mp_89 hM, mk_468 hM, mp_90 hM, mk_469 hM, mp_91 hM, mk_470 hM, mp_92 hM, mk_471 hM, mp_93 hM, mk_472 hM, mp_94 hM, mk_473 hM, mp_95 hM, mk_474 hM, mp_96 hM, mk_475 hM, mp_97 hM, mk_476 hM, mp_98 hM, mk_477 hM, mp_99 hM, mk_478 hM, mp_100 hM, mk_479 hM, mp_101 hM, mk_480 hM, mp_103 hM, mk_481 hM, mp_104 hM, mk_482 hM, mp_105 hM, mk_483 hM, mp_106 hM, mk_484 hM, mp_107 hM, mk_485 hM, mp_109 hM, mk_486 hM, mp_110 hM, mk_487 hM, mp_111 hM, mk_488 hM, mp_113 hM, mk_489 hM, mp_114 hM, mk_490 hM, mp_116 hM, mk_491 hM, mp_117 hM, mk_492 hM, mp_120 hM, mk_493 hM, mp_121 hM, mk_494 hM, mp_123 hM, mk_495 hM, mp_124 hM, mk_496 hM, mp_125 hM, mk_497 hM, mp_126 hM, mk_498 hM, mp_127 hM, mk_499 hM, mp_129 hM, mk_500 hM, mp_130 hM, mk_501 hM, mp_131 hM, mk_502 hM, mp_132 hM, mk_503 hM, ↓reduceIte, Nat.reduceAdd, Nat.reduceLeDiff, Nat.reduceLT, Nat.reduceEqDiff, not_false_eq_true, false_or, true_or, or_true, or_false, n0_e, n1_ne, n1_11, bI_z, bI_1, bI_fo, va_rf_some, aBk_1, aBk_0, nI_add, nI_mul, hk_si, hp_si, hl_si, hk_sp, hk_sl, hk_cp, hp_cp, w]
theorem mw_20 {d : Nat} {h : aH} (hM : MS h) : run (d + 2) 146 814 [.ref 458] [] h = run (d + 2) 146 837 [.ref 458] [] (sl_ h 465 20 (mKy 20)) := by
  have w := fun d => m_wordE (d := d) (h := h) (a := 111) (b := 116) (c := 104) (e := 101) (f := 114) (g := 115) (i := 0) (by decide) (by decide) (by decide) (by decide) (by decide) (by decide) (by decide)
  have ev : lN (appE (appE (appE (appE (appE (appE (appE 0 111) 116) 104) 101) 114) 115) 0) = mKy 20 := by decide
  rw [ev] at w
  simp only [e146_814, e146_815, e146_818, e146_820, e146_822, e146_824, e146_826, e146_828, e146_830, e146_832, e146_833, e146_836, mk_458 hM, mp_67 hM, mk_459 hM, mp_69 hM, mk_460 hM, mp_71 hM, mk_461 hM, mp_72 hM, mk_462 hM, mp_73 hM, mk_463 hM, mp_74 hM, mk_464 hM, mp_75 hM, mk_465 hM, mp_87 hM, mk_466 hM, mp_88 hM, mk_467 hM, mp_89 hM, mk_468 hM, mp_90 hM, mk_469 hM, mp_91 hM, mk_470 hM, mp_92 hM, mk_471 hM, mp_93 hM, mk_472 hM, mp_94 hM, mk_473 hM, mp_95 hM, mk_474 hM, mp_96 hM, mk_475 hM, mp_97 hM, mk_476 hM, mp_98 hM, mk_477 hM, mp_99 hM, mk_478 hM, mp_100 hM, mk_479 hM, mp_101 hM, mk_480 hM, mp_103 hM, mk_481 hM, mp_104 hM, mk_482 hM, mp_105 hM, mk_483 hM, mp_106 hM, mk_484 hM, mp_107 hM, mk_485 hM, mp_109 hM, mk_486 hM, mp_110 hM, mk_487 hM, mp_111 hM, mk_488 hM, mp_113 hM, mk_489 hM, mp_114 hM, mk_490 hM, mp_116 hM, mk_491 hM, mp_117 hM, mk_492 hM, mp_120 hM, mk_493 hM, mp_121 hM, mk_494 hM, mp_123 hM, mk_495 hM, mp_124 hM, mk_496 hM, mp_125 hM, mk_497 hM, mp_126 hM, mk_498 hM, mp_127 hM, mk_499 hM, mp_129 hM, mk_500 hM, mp_130 hM, mk_501 hM, mp_131 hM, mk_502 hM, mp_132 hM, mk_503 hM, ↓reduceIte, Nat.reduceAdd, Nat.reduceLeDiff, Nat.reduceLT, Nat.reduceEqDiff, not_false_eq_true, false_or, true_or, or_true, or_false, n0_e, n1_ne, n1_11, bI_z, bI_1, bI_fo, va_rf_some, aBk_1, aBk_0, nI_add, nI_mul, hk_si, hp_si, hl_si, hk_sp, hk_sl, hk_cp, hp_cp, w]
theorem MS.sl {h : aH} {a f : Nat} {v : Int64} (hM : MS h) : MS (sl_ h a f v) := hM.ol (OL.sl (S := fun _ _ => False) (L := fun x => x = a) rfl)
theorem KYk.nx {h : aH} {k : Nat} (hK : KYk h k) : KYk (sl_ h 465 k (mKy k)) (k + 1) := fun i hi => by
  rw [hl_sl]
  by_cases q : i = k
  · rw [if_pos ⟨rfl, q⟩, q]
  · rw [if_neg (fun z => q z.2)]; exact hK i (by omega)
def LKy (a : Nat) : Prop := a = 465
theorem mw_all {h : aH} (hM : MS h) : ∃ h', (∀ d, run (d + 2) 146 391 [.ref 458] [] h = run (d + 2) 146 837 [.ref 458] [] h') ∧ OL (fun _ _ => False) LKy h h' ∧ KYk h' 21 := by
  have M0 := hM
  have Y0 : KYk h 0 := fun i hi => absurd hi (Nat.not_lt_zero i)
  have O0 : OL (fun _ _ => False) LKy h h := OL.refl
  have E0 : ∀ d, run (d + 2) 146 391 [.ref 458] [] h = run (d + 2) 146 391 [.ref 458] [] h := fun _ => rfl
  have M1 : MS (sl_ h 465 0 (mKy 0)) := M0.sl
  have Y1 : KYk (sl_ h 465 0 (mKy 0)) 1 := Y0.nx
  have O1 : OL (fun _ _ => False) LKy h (sl_ h 465 0 (mKy 0)) := O0.trans (OL.sl rfl)
  have E1 := fun d => (E0 d).trans (mw_0 (d := d) M0)
  generalize sl_ h 465 0 (mKy 0) = g1 at M1 Y1 O1 E1
  clear M0 Y0 O0 E0
  have M2 : MS (sl_ g1 465 1 (mKy 1)) := M1.sl
  have Y2 : KYk (sl_ g1 465 1 (mKy 1)) 2 := Y1.nx
  have O2 : OL (fun _ _ => False) LKy h (sl_ g1 465 1 (mKy 1)) := O1.trans (OL.sl rfl)
  have E2 := fun d => (E1 d).trans (mw_1 (d := d) M1)
  generalize sl_ g1 465 1 (mKy 1) = g2 at M2 Y2 O2 E2
  clear M1 Y1 O1 E1
  have M3 : MS (sl_ g2 465 2 (mKy 2)) := M2.sl
  have Y3 : KYk (sl_ g2 465 2 (mKy 2)) 3 := Y2.nx
  have O3 : OL (fun _ _ => False) LKy h (sl_ g2 465 2 (mKy 2)) := O2.trans (OL.sl rfl)
  have E3 := fun d => (E2 d).trans (mw_2 (d := d) M2)
  generalize sl_ g2 465 2 (mKy 2) = g3 at M3 Y3 O3 E3
  clear M2 Y2 O2 E2
  have M4 : MS (sl_ g3 465 3 (mKy 3)) := M3.sl
  have Y4 : KYk (sl_ g3 465 3 (mKy 3)) 4 := Y3.nx
  have O4 : OL (fun _ _ => False) LKy h (sl_ g3 465 3 (mKy 3)) := O3.trans (OL.sl rfl)
  have E4 := fun d => (E3 d).trans (mw_3 (d := d) M3)
  generalize sl_ g3 465 3 (mKy 3) = g4 at M4 Y4 O4 E4
  clear M3 Y3 O3 E3
  have M5 : MS (sl_ g4 465 4 (mKy 4)) := M4.sl
  have Y5 : KYk (sl_ g4 465 4 (mKy 4)) 5 := Y4.nx
  have O5 : OL (fun _ _ => False) LKy h (sl_ g4 465 4 (mKy 4)) := O4.trans (OL.sl rfl)
  have E5 := fun d => (E4 d).trans (mw_4 (d := d) M4)
  generalize sl_ g4 465 4 (mKy 4) = g5 at M5 Y5 O5 E5
  clear M4 Y4 O4 E4
  have M6 : MS (sl_ g5 465 5 (mKy 5)) := M5.sl
  have Y6 : KYk (sl_ g5 465 5 (mKy 5)) 6 := Y5.nx
  have O6 : OL (fun _ _ => False) LKy h (sl_ g5 465 5 (mKy 5)) := O5.trans (OL.sl rfl)
  have E6 := fun d => (E5 d).trans (mw_5 (d := d) M5)
  generalize sl_ g5 465 5 (mKy 5) = g6 at M6 Y6 O6 E6
  clear M5 Y5 O5 E5
  have M7 : MS (sl_ g6 465 6 (mKy 6)) := M6.sl
  have Y7 : KYk (sl_ g6 465 6 (mKy 6)) 7 := Y6.nx
  have O7 : OL (fun _ _ => False) LKy h (sl_ g6 465 6 (mKy 6)) := O6.trans (OL.sl rfl)
  have E7 := fun d => (E6 d).trans (mw_6 (d := d) M6)
  generalize sl_ g6 465 6 (mKy 6) = g7 at M7 Y7 O7 E7
  clear M6 Y6 O6 E6
  have M8 : MS (sl_ g7 465 7 (mKy 7)) := M7.sl
  have Y8 : KYk (sl_ g7 465 7 (mKy 7)) 8 := Y7.nx
  have O8 : OL (fun _ _ => False) LKy h (sl_ g7 465 7 (mKy 7)) := O7.trans (OL.sl rfl)
  have E8 := fun d => (E7 d).trans (mw_7 (d := d) M7)
  generalize sl_ g7 465 7 (mKy 7) = g8 at M8 Y8 O8 E8
  clear M7 Y7 O7 E7
  have M9 : MS (sl_ g8 465 8 (mKy 8)) := M8.sl
  have Y9 : KYk (sl_ g8 465 8 (mKy 8)) 9 := Y8.nx
  have O9 : OL (fun _ _ => False) LKy h (sl_ g8 465 8 (mKy 8)) := O8.trans (OL.sl rfl)
  have E9 := fun d => (E8 d).trans (mw_8 (d := d) M8)
  generalize sl_ g8 465 8 (mKy 8) = g9 at M9 Y9 O9 E9
  clear M8 Y8 O8 E8
  have M10 : MS (sl_ g9 465 9 (mKy 9)) := M9.sl
  have Y10 : KYk (sl_ g9 465 9 (mKy 9)) 10 := Y9.nx
  have O10 : OL (fun _ _ => False) LKy h (sl_ g9 465 9 (mKy 9)) := O9.trans (OL.sl rfl)
  have E10 := fun d => (E9 d).trans (mw_9 (d := d) M9)
  generalize sl_ g9 465 9 (mKy 9) = g10 at M10 Y10 O10 E10
  clear M9 Y9 O9 E9
  have M11 : MS (sl_ g10 465 10 (mKy 10)) := M10.sl
  have Y11 : KYk (sl_ g10 465 10 (mKy 10)) 11 := Y10.nx
  have O11 : OL (fun _ _ => False) LKy h (sl_ g10 465 10 (mKy 10)) := O10.trans (OL.sl rfl)
  have E11 := fun d => (E10 d).trans (mw_10 (d := d) M10)
  generalize sl_ g10 465 10 (mKy 10) = g11 at M11 Y11 O11 E11
  clear M10 Y10 O10 E10
  have M12 : MS (sl_ g11 465 11 (mKy 11)) := M11.sl
  have Y12 : KYk (sl_ g11 465 11 (mKy 11)) 12 := Y11.nx
  have O12 : OL (fun _ _ => False) LKy h (sl_ g11 465 11 (mKy 11)) := O11.trans (OL.sl rfl)
  have E12 := fun d => (E11 d).trans (mw_11 (d := d) M11)
  generalize sl_ g11 465 11 (mKy 11) = g12 at M12 Y12 O12 E12
  clear M11 Y11 O11 E11
  have M13 : MS (sl_ g12 465 12 (mKy 12)) := M12.sl
  have Y13 : KYk (sl_ g12 465 12 (mKy 12)) 13 := Y12.nx
  have O13 : OL (fun _ _ => False) LKy h (sl_ g12 465 12 (mKy 12)) := O12.trans (OL.sl rfl)
  have E13 := fun d => (E12 d).trans (mw_12 (d := d) M12)
  generalize sl_ g12 465 12 (mKy 12) = g13 at M13 Y13 O13 E13
  clear M12 Y12 O12 E12
  have M14 : MS (sl_ g13 465 13 (mKy 13)) := M13.sl
  have Y14 : KYk (sl_ g13 465 13 (mKy 13)) 14 := Y13.nx
  have O14 : OL (fun _ _ => False) LKy h (sl_ g13 465 13 (mKy 13)) := O13.trans (OL.sl rfl)
  have E14 := fun d => (E13 d).trans (mw_13 (d := d) M13)
  generalize sl_ g13 465 13 (mKy 13) = g14 at M14 Y14 O14 E14
  clear M13 Y13 O13 E13
  have M15 : MS (sl_ g14 465 14 (mKy 14)) := M14.sl
  have Y15 : KYk (sl_ g14 465 14 (mKy 14)) 15 := Y14.nx
  have O15 : OL (fun _ _ => False) LKy h (sl_ g14 465 14 (mKy 14)) := O14.trans (OL.sl rfl)
  have E15 := fun d => (E14 d).trans (mw_14 (d := d) M14)
  generalize sl_ g14 465 14 (mKy 14) = g15 at M15 Y15 O15 E15
  clear M14 Y14 O14 E14
  have M16 : MS (sl_ g15 465 15 (mKy 15)) := M15.sl
  have Y16 : KYk (sl_ g15 465 15 (mKy 15)) 16 := Y15.nx
  have O16 : OL (fun _ _ => False) LKy h (sl_ g15 465 15 (mKy 15)) := O15.trans (OL.sl rfl)
  have E16 := fun d => (E15 d).trans (mw_15 (d := d) M15)
  generalize sl_ g15 465 15 (mKy 15) = g16 at M16 Y16 O16 E16
  clear M15 Y15 O15 E15
  have M17 : MS (sl_ g16 465 16 (mKy 16)) := M16.sl
  have Y17 : KYk (sl_ g16 465 16 (mKy 16)) 17 := Y16.nx
  have O17 : OL (fun _ _ => False) LKy h (sl_ g16 465 16 (mKy 16)) := O16.trans (OL.sl rfl)
  have E17 := fun d => (E16 d).trans (mw_16 (d := d) M16)
  generalize sl_ g16 465 16 (mKy 16) = g17 at M17 Y17 O17 E17
  clear M16 Y16 O16 E16
  have M18 : MS (sl_ g17 465 17 (mKy 17)) := M17.sl
  have Y18 : KYk (sl_ g17 465 17 (mKy 17)) 18 := Y17.nx
  have O18 : OL (fun _ _ => False) LKy h (sl_ g17 465 17 (mKy 17)) := O17.trans (OL.sl rfl)
  have E18 := fun d => (E17 d).trans (mw_17 (d := d) M17)
  generalize sl_ g17 465 17 (mKy 17) = g18 at M18 Y18 O18 E18
  clear M17 Y17 O17 E17
  have M19 : MS (sl_ g18 465 18 (mKy 18)) := M18.sl
  have Y19 : KYk (sl_ g18 465 18 (mKy 18)) 19 := Y18.nx
  have O19 : OL (fun _ _ => False) LKy h (sl_ g18 465 18 (mKy 18)) := O18.trans (OL.sl rfl)
  have E19 := fun d => (E18 d).trans (mw_18 (d := d) M18)
  generalize sl_ g18 465 18 (mKy 18) = g19 at M19 Y19 O19 E19
  clear M18 Y18 O18 E18
  have M20 : MS (sl_ g19 465 19 (mKy 19)) := M19.sl
  have Y20 : KYk (sl_ g19 465 19 (mKy 19)) 20 := Y19.nx
  have O20 : OL (fun _ _ => False) LKy h (sl_ g19 465 19 (mKy 19)) := O19.trans (OL.sl rfl)
  have E20 := fun d => (E19 d).trans (mw_19 (d := d) M19)
  generalize sl_ g19 465 19 (mKy 19) = g20 at M20 Y20 O20 E20
  clear M19 Y19 O19 E19
  have M21 : MS (sl_ g20 465 20 (mKy 20)) := M20.sl
  have Y21 : KYk (sl_ g20 465 20 (mKy 20)) 21 := Y20.nx
  have O21 : OL (fun _ _ => False) LKy h (sl_ g20 465 20 (mKy 20)) := O20.trans (OL.sl rfl)
  have E21 := fun d => (E20 d).trans (mw_20 (d := d) M20)
  generalize sl_ g20 465 20 (mKy 20) = g21 at M21 Y21 O21 E21
  clear M20 Y20 O20 E20
  exact ⟨g21, E21, O21, Y21⟩
theorem mPL_i : ∀ j, j < 67 → (mPL.getD j none).isSome = true → ∃ i, i < 45 ∧ 66 + j = mAF i ∧ mPL.getD j none = some (459 + i) := by decide
theorem mKL_i : ∀ i, i < 45 → mAR i = mKL.getD (i + 1) (0, 0) := by decide
theorem MLk.MS {h : aH} (hM : MLk h 45) : MS h := by
  obtain ⟨h1, h2, h3, h4, h5⟩ := hM
  refine ⟨fun i hi => ?_, fun j hj hs => ?_⟩
  · cases i with
    | zero => exact h3
    | succ i => rw [show 458 + (i + 1) = 459 + i by omega, (h4 i (by omega)).1]; exact mKL_i i (by omega)
  · obtain ⟨i, w1, w2, w3⟩ := mPL_i j hj hs
    rw [w2, w3]; exact (h4 i w1).2
/-- the first state -/
def Ω0 : aSg := (T0, w0, (0, fun _ _ => 0), (fun _ => false, fun _ _ => 0), (0, fun _ => 0, fun _ => false), (0, fun _ => 0), -1)
