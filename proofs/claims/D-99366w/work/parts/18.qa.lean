set_option maxRecDepth 100000
/-! THE ANSWERS: plain functions; numbers that are asked -/
def kk (x : Int32) : Nat := x.toNatClampNeg
theorem kk_n {k : Nat} (h : k < 2147483648) : kk (nI k) = k := nI_clamp h
theorem in_n {x : Int32} {n : Nat} (hn : n < 2147483648) (q : in_ x (nI 0) (nI n) = true) : ∃ k, k ≤ n ∧ x = nI k := by
  unfold in_ at q
  simp only [Bool.and_eq_true, decide_eq_true_eq] at q
  exact nI_of2 (nI_toInt hn) (by rw [← nI_0]; exact Int32.not_lt.mpr q.1) q.2
theorem in_t {k n : Nat} (hk : k ≤ n) (hn : n < 2147483648) : in_ (nI k) (nI 0) (nI n) = true := by
  unfold in_
  rw [decide_eq_true (by rw [nI_leL (by omega) (by omega)]; omega), decide_eq_true (by rw [nI_leL (by omega) (by omega)]; omega)]
  rfl
theorem in_m {x : Int32} {n : Nat} (hn : n < 2147483648) (q : in_ x (nI 0) (nI n - nI 1) = true) : ∃ k, k < n ∧ x = nI k := by
  cases n with
  | zero =>
    exfalso
    unfold in_ at q
    simp only [Bool.and_eq_true, decide_eq_true_eq] at q
    have h1 := Int32.le_iff_toInt_le.mp (Int32.le_trans q.1 q.2)
    revert h1
    decide
  | succ n =>
    rw [nI_s1] at q
    obtain ⟨k, h1, h2⟩ := in_n (by omega) q
    exact ⟨k, by omega, h2⟩
theorem in_mt {k n : Nat} (hk : k < n) (hn : n < 2147483648) : in_ (nI k) (nI 0) (nI n - nI 1) = true := by
  cases n with
  | zero => omega
  | succ n => rw [nI_s1]; exact in_t (by omega) (by omega)
section QA
variable {T : aTx} {w : Nat → Int32}
theorem isS_n (hV : TV T) {s : Int32} (q : isS T s = true) : ∃ k, k < ns_ T ∧ s = nI k := in_m (by have := hV.1; omega) q
theorem isG_n (hV : TV T) {g : Int32} (q : isG T g = true) : ∃ k, k < ng_ T ∧ g = nI k := in_m (by have := hV.2.1; omega) q
theorem isS_t (hV : TV T) {k : Nat} (hk : k < ns_ T) : isS T (nI k) = true := in_mt hk (by have := hV.1; omega)
theorem isG_t (hV : TV T) {k : Nat} (hk : k < ng_ T) : isG T (nI k) = true := in_mt hk (by have := hV.2.1; omega)
/-- a switch over 0 .. n -/
def swf (n : Nat) (x : Int32) (f : Nat → Int32) : Int32 := if in_ x (nI 0) (nI n) = true then f (kk x) else -1
theorem swf_n {n c : Nat} {f : Nat → Int32} (hc : c ≤ n) (hn : n < 2147483648) : swf n (nI c) f = f c := by
  unfold swf
  rw [if_pos (in_t hc hn), kk_n (by omega)]
theorem sw_cases (n : Nat) (N : Int) (hN : N = n) (hn : n < 2147483648) (x : Int32) (f : Nat → Int32) : ((x.toInt < 0 ∨ N < x.toInt) ∧ swf n x f = -1) ∨ ∃ c, c ≤ n ∧ x = nI c := by
  cases q : in_ x (nI 0) (nI n) with
  | true => exact Or.inr (in_n hn q)
  | false =>
    refine Or.inl ⟨?_, ?_⟩
    · unfold in_ at q
      rw [Bool.and_eq_false_iff, decide_eq_false_iff_not, decide_eq_false_iff_not, Int32.le_iff_toInt_le, Int32.le_iff_toInt_le, nI_toInt (by omega), nI_toInt hn] at q
      rw [hN]
      omega
    · unfold swf
      rw [if_neg (by rw [q]; decide)]
/-! questions -/
def qSunF (T : aTx) (w : Nat → Int32) (k : Nat) : Nat → Int32
  | 0 => lo_ T k
  | 1 => wo_ T k
  | 2 => w (21 + k)
  | 3 => w (25 + k)
  | 4 => nI (gB_ T w (nI k))
  | 5 => wO_ T w k
  | _ => sO_ T w k
def qSun (T : aTx) (w : Nat → Int32) (s what : Int32) : Int32 := if isS T s = true then swf 6 what (qSunF T w (kk s)) else -1
def qGueF (T : aTx) (w : Nat → Int32) (g : Nat) : Nat → Int32
  | 0 => hr_ T g
  | 1 => hs_ T g
  | 2 => fe_ T g
  | 3 => w g
  | 4 => w (7 + g)
  | 5 => w (14 + g)
  | 6 => pO_ T w g
  | _ => rO_ T w g
def qGue (T : aTx) (w : Nat → Int32) (g what : Int32) : Int32 := if isG T g = true then swf 7 what (qGueF T w (kk g)) else -1
def qAt (T : aTx) (w : Nat → Int32) (s h : Int32) : Int32 := if isS T s = true ∧ in_ h (nI 0) (lo_ T (kk s) - nI 1) = true then who_ T w s h else -1
def fB_ (T : aTx) (w : Nat → Int32) (g : Nat) : Nat := orN (ns_ T) (fun s => fit_ T w g s)
def qFit (T : aTx) (w : Nat → Int32) (g : Int32) : Int32 := if isG T g = true then nI (fB_ T w (kk g)) else -1
def qRiv (T : aTx) (g : Int32) : Int32 := if isG T g = true then nI (cB_ T (kk g)) else -1
/-- may one go in -/
def mgi_ (T : aTx) (w : Nat → Int32) (g s : Nat) : Bool := decide (w (14 + g) = 0) && fit_ T w g s && decide (gB_ T w (nI s) &&& cB_ T g = 0)
def rm_ (T : aTx) (w : Nat → Int32) (g : Nat) : Nat := orN (ns_ T) (mgi_ T w g)
def qRoom (T : aTx) (w : Nat → Int32) (g : Int32) : Int32 := if isG T g = true then nI (rm_ T (up_ w (kk g) (-2)) (kk g)) else -1
def qChg (T : aTx) (w : Nat → Int32) (g o : Int32) : Int32 := if isG T g = true ∧ isG T o = true ∧ 0 ≤ w (kk g) ∧ 0 ≤ w (kk o) ∧ ¬ w (kk g) = w (kk o) then
    bI (mgi_ T (up_ (up_ w (kk g) (-2)) (kk o) (-2)) (kk g) (kk (w (kk o))) && mgi_ T (up_ (up_ w (kk g) (-2)) (kk o) (-2)) (kk o) (kk (w (kk g)))) else -1
def pyr_ (T : aTx) (w : Nat → Int32) : Int32 := itn (ng_ T) (fun g b => if 0 ≤ w g ∧ (b < 0 ∨ pO_ T w (kk b) < pO_ T w g) then nI g else b) (-2)
def qPyr (T : aTx) (w : Nat → Int32) (what : Int32) : Int32 := if in_ what (nI 0) (nI 1) = true then (if pyr_ T w < 0 ∨ what = nI 0 then pyr_ T w else pO_ T w (kk (pyr_ T w))) else -1
def qIdl (T : aTx) (w : Nat → Int32) : Int32 := itn (ns_ T) (fun s a => if w (25 + s) = 0 then a + (lo_ T s - hT_ T w (nI s)) else a) (nI 0)
/-- best, most, n over the hours -/
def gpF (T : aTx) (w : Nat → Int32) (s : Int32) (h : Nat) (q : Int32 × Int32 × Int32) : Int32 × Int32 × Int32 :=
  let n := if who_ T w s (nI h) < 0 then q.2.2 + nI 1 else nI 0
  if n ≤ q.2.1 then (q.1, q.2.1, n) else (nI h - n + nI 1, n, n)
def gp_ (T : aTx) (w : Nat → Int32) (s : Int32) : Int32 × Int32 × Int32 := itn (kk (lo_ T (kk s))) (gpF T w s) (-2, nI 0, nI 0)
def qGap (T : aTx) (w : Nat → Int32) (s what : Int32) : Int32 := if isS T s = true ∧ in_ what (nI 0) (nI 1) = true then (if what = nI 0 then (gp_ T w s).2.1 else (gp_ T w s).1) else -1
/-- weeks ahead: nobody dies -/
def ah_ (T : aTx) (w : Nat → Int32) (n : Nat) : Nat → Int32 := wks_ T true (se_ T) n w
def dr_ (T : aTx) (w : Nat → Int32) (n : Nat) : Nat → Int32 := wks_ T false (se_ T) n w
def fnI (o : Option Nat) : Int32 := match o with
  | some k => nI k
  | none => -2
def qUsd (T : aTx) (w : Nat → Int32) (s v : Int32) : Int32 := if isS T s = true ∧ in_ v (nI 1) (nI 99) = true then fnI (fnd (fun n => decide (v ≤ ah_ T w n (21 + kk s))) 101 0) else -1
def qWry (T : aTx) (w : Nat → Int32) (g : Int32) : Int32 := if isG T g = true then fnI (fnd (fun n => decide (de_ T ≤ ah_ T w n (7 + kk g))) 101 0) else -1
/-- in week n the first who is weary -/
def fw_ (T : aTx) (w : Nat → Int32) (n : Nat) : Option Nat := fnd (fun g => decide (ah_ T w n (14 + g) = 0) && decide (de_ T ≤ ah_ T w n (7 + g))) (ng_ T) 0
def qFstM (T : aTx) (w : Nat → Int32) (what : Int32) : Int32 := if in_ what (nI 0) (nI 1) = true then (match fnd (fun n => (fw_ T w n).isSome) 101 0 with
  | some n => if what = nI 0 then nI n else fnI (fw_ T w n)
  | none => -2) else -1
def sale_ (T : aTx) (w : Nat → Int32) (s : Int32) : Bool := isS T s && decide (w (25 + kk s) = 0)
def lng_ (n : Int32) : Bool := in_ n (nI 0) (nI 40)
def qPri (T : aTx) (w : Nat → Int32) (s n : Int32) : Int32 := if sale_ T w s = true ∧ lng_ n = true then sO_ T (ah_ T w (kk n)) (kk s) else -1
def bsF (T : aTx) (w : Nat → Int32) (s : Nat) (k : Nat) (q : Int32 × Int32) : Int32 × Int32 := if sO_ T (ah_ T w k) s ≤ q.2 then q else (nI k, sO_ T (ah_ T w k) s)
def bs_ (T : aTx) (w : Nat → Int32) (s n : Nat) (b : Int32) : Int32 × Int32 := itn (n + 1) (bsF T w s) (b, -1)
def qBstM (T : aTx) (w : Nat → Int32) (s n what : Int32) : Int32 := if sale_ T w s = true ∧ lng_ n = true ∧ in_ what (nI 0) (nI 1) = true then (if what = nI 0 then (bs_ T w (kk s) (kk n) (-1)).1 else (bs_ T w (kk s) (kk n) (-1)).2) else -1
def qErn (T : aTx) (w : Nat → Int32) (n : Int32) : Int32 := if lng_ n = true then ah_ T w (kk n) 30 - w 30 else -1
def qThn (T : aTx) (w : Nat → Int32) (g n what : Int32) : Int32 := if isG T g = true ∧ lng_ n = true ∧ in_ what (nI 0) (nI 2) = true then dr_ T w (kk n) (7 * kk what + kk g) else -1
def qWrn (T : aTx) (w : Nat → Int32) (s n : Int32) : Int32 := if isS T s = true ∧ lng_ n = true then dr_ T w (kk n) (21 + kk s) else -1
def qYrF (T : aTx) (w : Nat → Int32) (g n k : Nat) : Bool := decide (wks_ T false (se_ T + nI k) n w (14 + g) = 0)
def qYr (T : aTx) (w : Nat → Int32) (g n s : Int32) : Int32 := if isG T g = true ∧ lng_ n = true ∧ in_ s (nI 1) (nI 20) = true then nI (itn (kk s) (fun k a => bif qYrF T w (kk g) (kk n) k then a + 1 else a) 0) else -1
/-- who is there as told: m tellings th, ts -/
def wB_ (T : aTx) (th : Nat → Int32) (ts : Nat → Bool) (k : Nat) : Nat := orN (ng_ T) (fun g => itn k (fun i b => b && (th_ T g (th i) == ts i)) true)
def qWho (T : aTx) (th : Nat → Int32) (ts : Nat → Bool) (m : Nat) (k what : Int32) : Int32 := if in_ k (nI 0) (nI m) = true ∧ in_ what (nI 0) (nI 1) = true then (if what = nI 0 then bc_ (nI (wB_ T th ts (kk k))) else nI (wB_ T th ts (kk k))) else -1
/-- of a set who is there at an hour, counted -/
def lkN (T : aTx) (set h : Nat) : Nat := itn (ng_ T) (fun g a => bif set.testBit g && th_ T g (nI h) then a + 1 else a) 0
def lkW (T : aTx) (set h : Nat) : Int32 := let n := nI (lkN T set h); let b := bc_ (nI set); if n ≤ b - n then b - n else n
def lkF (T : aTx) (set : Nat) (h : Nat) (q : Int32 × Int32) : Int32 × Int32 := if 0 ≤ q.1 ∧ q.2 ≤ lkW T set h then q else (nI h, lkW T set h)
def qLkM (T : aTx) (th : Nat → Int32) (ts : Nat → Bool) (m : Nat) (k : Int32) : Int32 := if in_ k (nI 0) (nI m) = true then (if wB_ T th ts (kk k) = 0 then -2 else (itn 24 (lkF T (wB_ T th ts (kk k))) (-2, nI 0)).1) else -1
/-- rows: hours at which one begins -/
def rwO (T : aTx) (w : Nat → Int32) (s : Int32) (h : Nat) : Bool := !(decide (who_ T w s (nI h) < 0)) && decide (hr_ T (kk (who_ T w s (nI h))) = nI h)
def rwC (T : aTx) (w : Nat → Int32) (s : Int32) (h : Nat) : Nat := itn h (fun j a => bif rwO T w s j then a + 1 else a) 0
def qRowM (T : aTx) (w : Nat → Int32) (s i : Int32) : Int32 := if isS T s = true ∧ 0 ≤ i then (match fnd (fun h => rwO T w s h && decide (nI (rwC T w s h) = i)) 24 0 with
  | some h => who_ T w s (nI h)
  | none => -1) else -1
theorem who_c (x y : Int32) : who_ T w x y = -2 ∨ ∃ g, g < ng_ T ∧ who_ T w x y = nI g := by
  unfold who_
  cases hf : fnd (fun g => decide (w g = x) && th_ T g y) (ng_ T) 0 with
  | none => exact Or.inl rfl
  | some g => exact Or.inr ⟨g, by have := (fnd_some _ _ _ hf).2.1; omega, rfl⟩
def sumF (w : Nat → Int32) (p n : Nat) : Int32 := itn n (fun k a => a + w (p + k)) (nI 0)
/-- counts, as M has them -/
def qCntF (T : aTx) (w : Nat → Int32) (n u m : Nat) (b : Nat → Bool) : Nat → Int32
  | 0 => nI (ns_ T)
  | 1 => nI (ng_ T)
  | 2 => w 29
  | 3 => w 30
  | 4 => nI (orN (ng_ T) (fun g => decide (0 ≤ w g)))
  | 5 => nI (orN (ng_ T) (fun g => !decide (w (14 + g) = 0)))
  | 6 => nI (orN (ns_ T) (fun s => !decide (w (25 + s) = 0)))
  | 7 => due_ T w
  | 8 => nI n
  | 9 => nI u
  | 10 => nI m
  | 11 => bI (b 0) + bI (b 1) + bI (b 2)
  | 12 => sumF w 21 4
  | 13 => sumF w 7 7
  | 14 => itn (ng_ T) (fun g a => a + bc_ (nI (cB_ T g))) (nI 0) / nI 2
  | 15 => nI (orN (ns_ T) (fun s => !decide (gB_ T w (nI s) = 0)))
  | 16 => nI (orN (ng_ T) (fun g => !decide (fB_ T w g = 0)))
  | 17 => itn (ns_ T) (fun s a => if w (25 + s) = 0 then a + lo_ T s else a) (nI 0)
  | _ => itn (ng_ T) (fun g a => if w (14 + g) = 0 then a + fe_ T g else a) (nI 0)
def qCnt (T : aTx) (w : Nat → Int32) (n u m : Nat) (b : Nat → Bool) (what : Int32) : Int32 := swf 18 what (qCntF T w n u m b)
end QA
