set_option maxRecDepth 100000
/-! THE STATE that both sides hold, and what actions make of it -/
/-- text; row now; undos; slots; told; tape; place -/
abbrev aSg : Type := aTx × (Nat → Int32) × (Nat × (Nat → Nat → Int32)) × ((Nat → Bool) × (Nat → Nat → Int32)) × (Nat × (Nat → Int32) × (Nat → Bool)) × (Nat × (Nat → Int32)) × Int32
def gT (Ω : aSg) : aTx := Ω.1
def gw (Ω : aSg) : Nat → Int32 := Ω.2.1
def gu (Ω : aSg) : Nat := Ω.2.2.1.1
def gh (Ω : aSg) : Nat → Nat → Int32 := Ω.2.2.1.2
def gb (Ω : aSg) : Nat → Bool := Ω.2.2.2.1.1
def gr (Ω : aSg) : Nat → Nat → Int32 := Ω.2.2.2.1.2
def gm (Ω : aSg) : Nat := Ω.2.2.2.2.1.1
def gth (Ω : aSg) : Nat → Int32 := Ω.2.2.2.2.1.2.1
def gts (Ω : aSg) : Nat → Bool := Ω.2.2.2.2.1.2.2
def gn (Ω : aSg) : Nat := Ω.2.2.2.2.2.1.1
def gtp (Ω : aSg) : Nat → Int32 := Ω.2.2.2.2.2.1.2
def gp (Ω : aSg) : Int32 := Ω.2.2.2.2.2.2
/-- undos with one more -/
def pu (u : Nat) : Nat := if u = 40 then 40 else u + 1
def ph (u : Nat) (H : Nat → Nat → Int32) (w : Nat → Int32) : Nat → Nat → Int32 := fun i => if u = 40 then (if i < 39 then H (i + 1) else w) else (if i < u then H i else w)
/-- something was done: the row is r -/
def gDo (Ω : aSg) (r : Nat → Int32) : aSg := (gT Ω, r, (pu (gu Ω), ph (gu Ω) (gh Ω) (gw Ω)), Ω.2.2.2)
def byt (x : Int32) (j : Nat) : Int32 := (shr_ x (nI (24 - 8 * j))).toInt8.toInt32
def ext (tp : Nat → Int32) (n : Nat) (x : Int32) : Nat → Int32 := fun i => if i < n then tp i else byt x (i - n)
def gTape (Ω : aSg) (n : Nat) (tp : Nat → Int32) : aSg := (gT Ω, gw Ω, Ω.2.2.1, Ω.2.2.2.1, Ω.2.2.2.2.1, (n, tp), gp Ω)
def gTold (Ω : aSg) (m : Nat) (th : Nat → Int32) (ts : Nat → Bool) : aSg := (gT Ω, gw Ω, Ω.2.2.1, Ω.2.2.2.1, (m, th, ts), Ω.2.2.2.2.2)
def gSlot (Ω : aSg) (b : Nat → Bool) (r : Nat → Nat → Int32) : aSg := (gT Ω, gw Ω, Ω.2.2.1, (b, r), Ω.2.2.2.2)
def gBack (Ω : aSg) (w : Nat → Int32) (u : Nat) : aSg := (gT Ω, w, (u, gh Ω), Ω.2.2.2)
/-- what stands behind each action, and its answer -/
def aFeed (Ω : aSg) (a b c d e : Int32) : aSg × Int32 := if gn Ω + 20 ≤ 2000 then (gTape Ω (gn Ω + 20) (ext (ext (ext (ext (ext (gtp Ω) (gn Ω) a) (gn Ω + 4) b) (gn Ω + 8) c) (gn Ω + 12) d) (gn Ω + 16) e), nI (gn Ω + 20)) else (Ω, -1)
def aBack (Ω : aSg) (n : Int32) : aSg × Int32 := if in_ n (nI 0) (nI (gn Ω)) = true then (gTape Ω (gn Ω - kk n) (gtp Ω), nI (gn Ω - kk n)) else (Ω, -1)
def aLet (Ω : aSg) (g s : Int32) : aSg × Int32 := if isG (gT Ω) g = true ∧ isS (gT Ω) s = true ∧ gw Ω (kk g) < 0 ∧ mgi_ (gT Ω) (gw Ω) (kk g) (kk s) = true then (gDo Ω (up_ (gw Ω) (kk g) s), nI 1) else (Ω, nI 0)
def aPut (Ω : aSg) (g : Int32) : aSg × Int32 := if isG (gT Ω) g = true ∧ 0 ≤ gw Ω (kk g) then (gDo Ω (up_ (gw Ω) (kk g) (-2)), nI 1) else (Ω, nI 0)
def aSel (Ω : aSg) (s : Int32) : aSg × Int32 := if isS (gT Ω) s = true ∧ ¬ gw Ω (25 + kk s) = nI 1 ∧ gB_ (gT Ω) (gw Ω) s = 0 then
  (gDo Ω (up_ (up_ (gw Ω) (25 + kk s) (nI 1)) 30 (gw Ω 30 + sO_ (gT Ω) (gw Ω) (kk s))), sO_ (gT Ω) (gw Ω) (kk s)) else (Ω, -1)
def aAir (Ω : aSg) (s : Int32) : aSg × Int32 := if isS (gT Ω) s = true ∧ ¬ gw Ω (25 + kk s) = nI 1 ∧ ¬ gw Ω (21 + kk s) = 0 ∧ gB_ (gT Ω) (gw Ω) s = 0 then
  (gDo Ω (up_ (up_ (gw Ω) (21 + kk s) (nI 0)) 30 (if gw Ω 30 ≤ 0 then gw Ω 30 else gw Ω 30 - nI 1)), nI 1) else (Ω, nI 0)
def aWks (Ω : aSg) (n : Int32) : aSg × Int32 := if lng_ n = true then (if n = 0 then (Ω, gw Ω 29) else (gDo Ω (dr_ (gT Ω) (gw Ω) (kk n)), dr_ (gT Ω) (gw Ω) (kk n) 29)) else (Ω, -1)
def aUnd (Ω : aSg) : aSg × Int32 := if gu Ω = 0 then (Ω, nI 0) else (gBack Ω (gh Ω (gu Ω - 1)) (gu Ω - 1), nI 1)
def aHld (Ω : aSg) (s : Int32) : aSg × Int32 := if in_ s (nI 0) (nI 2) = true then (gSlot Ω (fun i => if i = kk s then true else gb Ω i) (fun i => if i = kk s then gw Ω else gr Ω i), nI 1) else (Ω, nI 0)
def aRsr (Ω : aSg) (s : Int32) : aSg × Int32 := if in_ s (nI 0) (nI 2) = true ∧ gb Ω (kk s) = true then (gBack Ω (gr Ω (kk s)) 0, nI 1) else (Ω, nI 0)
def aTel (Ω : aSg) (x : Int32) (b : Bool) : aSg × Int32 := if in_ x (nI 0) (nI 23) = true ∧ ¬ gm Ω = 20 then (gTold Ω (gm Ω + 1) (fun i => if i = gm Ω then x else gth Ω i) (fun i => if i = gm Ω then b else gts Ω i), nI (gm Ω)) else (Ω, -1)
def aFgt (Ω : aSg) : aSg × Int32 := (gTold Ω 0 (gth Ω) (gts Ω), nI (gm Ω))
/-- M's places -/
def MP (a _f : Nat) : Prop := 458 ≤ a ∧ a ≤ 503
/-- M's words -/
def mKy (k : Nat) : Int64 := ([lN 284068024, lN 4137608, lN 129187, lN 316351, lN 9678763, lN 12322792, lN 10204885, lN 2225456, lN 377761, lN 249, lN 399641, lN 107681, lN 4514, lN 4562587, lN 168984, lN 261326227, lN 464144, lN 12532058, lN 456500, lN 12387257, lN 226024039] : List Int64).getD k 0
/-- what M holds -/
def MI (h : aH) (lv : Nat) (Ω : aSg) : Prop := MT h (gT Ω) lv ∧ RA h 491 (gw Ω) ∧ (gu Ω ≤ 40 ∧ hi_ h 458 122 = nI (gu Ω) ∧ ∀ i, i < gu Ω → ∀ k, k < 31 → hi_ h 495 (31 * i + k) = gh Ω i k) ∧
  (∀ i, i < 3 → hi_ h 502 i = bI (gb Ω i) ∧ (gb Ω i = true → ∀ k, k < 31 → hi_ h 503 (31 * i + k) = gr Ω i k)) ∧
  (gm Ω ≤ 20 ∧ hi_ h 458 128 = nI (gm Ω) ∧ ∀ i, i < gm Ω → hi_ h 500 i = gth Ω i ∧ hi_ h 501 i = bI (gts Ω i)) ∧
  (gn Ω ≤ 2000 ∧ hi_ h 458 68 = nI (gn Ω) ∧ ∀ i, i < gn Ω → hi_ h 459 i = gtp Ω i) ∧ hi_ h 458 83 = gp Ω ∧ ∀ k, k < 21 → hl_ h 465 k = mKy k
section ST
variable {lv : Nat} {h h' : aH} {Ω : aSg} {S : Nat → Nat → Prop}
theorem MI.T (hI : MI h lv Ω) : MT h (gT Ω) lv := hI.1
theorem MI.w (hI : MI h lv Ω) : RA h 491 (gw Ω) := hI.2.1
theorem MI.u4 (hI : MI h lv Ω) : gu Ω ≤ 40 := hI.2.2.1.1
theorem MI.u (hI : MI h lv Ω) : hi_ h 458 122 = nI (gu Ω) := hI.2.2.1.2.1
theorem MI.hs (hI : MI h lv Ω) : ∀ i, i < gu Ω → ∀ k, k < 31 → hi_ h 495 (31 * i + k) = gh Ω i k := hI.2.2.1.2.2
theorem MI.sl (hI : MI h lv Ω) : ∀ i, i < 3 → hi_ h 502 i = bI (gb Ω i) ∧ (gb Ω i = true → ∀ k, k < 31 → hi_ h 503 (31 * i + k) = gr Ω i k) := hI.2.2.2.1
theorem MI.m20 (hI : MI h lv Ω) : gm Ω ≤ 20 := hI.2.2.2.2.1.1
theorem MI.mm (hI : MI h lv Ω) : hi_ h 458 128 = nI (gm Ω) := hI.2.2.2.2.1.2.1
theorem MI.tl (hI : MI h lv Ω) : ∀ i, i < gm Ω → hi_ h 500 i = gth Ω i ∧ hi_ h 501 i = bI (gts Ω i) := hI.2.2.2.2.1.2.2
theorem MI.n2 (hI : MI h lv Ω) : gn Ω ≤ 2000 := hI.2.2.2.2.2.1.1
theorem MI.nn (hI : MI h lv Ω) : hi_ h 458 68 = nI (gn Ω) := hI.2.2.2.2.2.1.2.1
theorem MI.tp (hI : MI h lv Ω) : ∀ i, i < gn Ω → hi_ h 459 i = gtp Ω i := hI.2.2.2.2.2.1.2.2
theorem MI.p (hI : MI h lv Ω) : hi_ h 458 83 = gp Ω := hI.2.2.2.2.2.2.1
theorem MI.ky (hI : MI h lv Ω) : ∀ k, k < 21 → hl_ h 465 k = mKy k := hI.2.2.2.2.2.2.2
theorem WP.M {a f : Nat} (q : WP a f) : MP a f := by
  unfold WP VP EP PP at q; unfold MP; omega
/-- a question leaves all as it is -/
theorem MI.onW (hI : MI h lv Ω) (o : On WP h h') : MI h' lv Ω := by
  have e : ∀ {a f : Nat}, ¬ WP a f → hi_ h' a f = hi_ h a f := fun q => o.i q
  have n1 : ∀ {a f : Nat}, (a = 495 ∨ a = 502 ∨ a = 503 ∨ a = 500 ∨ a = 501 ∨ a = 459 ∨ (a = 458 ∧ (f = 122 ∨ f = 128 ∨ f = 68 ∨ f = 83))) → ¬ WP a f := fun q z => by
    unfold WP VP EP PP at z; omega
  exact ⟨hI.T.onW o, hI.w.now o, ⟨hI.u4, (e (n1 (by omega))).trans hI.u, fun i hi k hk => (e (n1 (by omega))).trans (hI.hs i hi k hk)⟩,
    fun i hi => ⟨(e (n1 (by omega))).trans (hI.sl i hi).1, fun hb k hk => (e (n1 (by omega))).trans ((hI.sl i hi).2 hb k hk)⟩,
    ⟨hI.m20, (e (n1 (by omega))).trans hI.mm, fun i hi => ⟨(e (n1 (by omega))).trans (hI.tl i hi).1, (e (n1 (by omega))).trans (hI.tl i hi).2⟩⟩,
    ⟨hI.n2, (e (n1 (by omega))).trans hI.nn, fun i hi => (e (n1 (by omega))).trans (hI.tp i hi)⟩, (e (n1 (by omega))).trans hI.p, fun k hk => (o.l _ _).trans (hI.ky k hk)⟩
end ST
