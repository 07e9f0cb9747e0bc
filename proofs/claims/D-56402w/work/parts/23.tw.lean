/-! THE TWIN's WORLD: its object and eight arrays -/
/-- m, many, lastNumber, xs, ys, tolerances, cache, held, clock, hit, missed, drawnMany, thrown, places, lefts, lows -/
abbrev TS : Type := (Nat → Int) × Int × Int × (Nat → Int) × (Nat → Int) × (Nat → Int) × (Nat → Int) × Int × Int × Int × Int × Int × Int × (Nat → Int) × (Nat → Int) × (Nat → Int)
abbrev uM (t : TS) : Nat → Int := t.1
abbrev uN (t : TS) : Int := t.2.1
abbrev uL (t : TS) : Int := t.2.2.1
abbrev uX (t : TS) : Nat → Int := t.2.2.2.1
abbrev uY (t : TS) : Nat → Int := t.2.2.2.2.1
abbrev uT (t : TS) : Nat → Int := t.2.2.2.2.2.1
abbrev uC (t : TS) : Nat → Int := t.2.2.2.2.2.2.1
abbrev uH (t : TS) : Int := t.2.2.2.2.2.2.2.1
abbrev uK (t : TS) : Int := t.2.2.2.2.2.2.2.2.1
abbrev uHi (t : TS) : Int := t.2.2.2.2.2.2.2.2.2.1
abbrev uMi (t : TS) : Int := t.2.2.2.2.2.2.2.2.2.2.1
abbrev uD (t : TS) : Int := t.2.2.2.2.2.2.2.2.2.2.2.1
abbrev uTh (t : TS) : Int := t.2.2.2.2.2.2.2.2.2.2.2.2.1
abbrev uP (t : TS) : Nat → Int := t.2.2.2.2.2.2.2.2.2.2.2.2.2.1
abbrev uLe (t : TS) : Nat → Int := t.2.2.2.2.2.2.2.2.2.2.2.2.2.2.1
abbrev uLo (t : TS) : Nat → Int := t.2.2.2.2.2.2.2.2.2.2.2.2.2.2.2
/-- the nine cells: the object, m, xs, ys, tolerances, cache, places, lefts, lows -/
abbrev TA : Type := Nat × Nat × Nat × Nat × Nat × Nat × Nat × Nat × Nat
abbrev aO (a : TA) : Nat := a.1
abbrev aM (a : TA) : Nat := a.2.1
abbrev aX (a : TA) : Nat := a.2.2.1
abbrev aY (a : TA) : Nat := a.2.2.2.1
abbrev aT (a : TA) : Nat := a.2.2.2.2.1
abbrev aC (a : TA) : Nat := a.2.2.2.2.2.1
abbrev aP (a : TA) : Nat := a.2.2.2.2.2.2.1
abbrev aLe (a : TA) : Nat := a.2.2.2.2.2.2.2.1
abbrev aLo (a : TA) : Nat := a.2.2.2.2.2.2.2.2
abbrev TW (g : GD) (a : TA) (t : TS) : va_W := [(aO a, .inr (10, [.ref (aM a), .int (zi (uN t)), .int (zi (uL t)), .ref (aX a), .ref (aY a), .ref (aT a), .ref (aC a), .int (zi (uH t)), .int (zi (uK t)), .int (zi (uHi t)), .int (zi (uMi t)), .long (zl (uD t)), .int (zi (uTh t)), .ref (aP a), .ref (aLe a), .ref (aLo a)])), (aM a, .inl (gI g, 84, .inl (iz (uM t)))), (aX a, .inl (gI g, 108, .inl (iz (uX t)))), (aY a, .inl (gI g, 108, .inl (iz (uY t)))), (aT a, .inl (gI g, 4, .inl (iz (uT t)))), (aC a, .inl (gI g, 20, .inl (iz (uC t)))), (aP a, .inl (gC g, 12, .inl (iz (uP t)))), (aLe a, .inl (gI g, 12, .inl (iz (uLe t)))), (aLo a, .inl (gI g, 12, .inl (iz (uLo t))))]
/-- a shape's row in the twin -/
def TRs (t : TS) (s : Nat) (h : Sh) : Prop := uM t (7 * s) = sNum h ∧ uM t (7 * s + 1) = bi (sAr h) ∧ uM t (7 * s + 2) = ((sPts h).length : Int) ∧ uM t (7 * s + 3) = sRe h ∧ uM t (7 * s + 4) = sCu h ∧ uM t (7 * s + 5) = sWi h ∧ uM t (7 * s + 6) = sRa h ∧ ∀ k, k < (sPts h).length → uX t (9 * s + k) = pX (sPts h) k ∧ uY t (9 * s + k) = pY (sPts h) k
def TRc (t : TS) (k : Nat) (c : Ti) : Prop := uC t (4 * k) = tLv c ∧ uC t (4 * k + 1) = tCo c ∧ uC t (4 * k + 2) = tRo c ∧ uC t (4 * k + 3) = tWh c
/-- the twin holds the state σ -/
def TR (σ : Sg) (t : TS) : Prop := WF σ ∧ uN t = ((gSh σ).length : Int) ∧ (∀ (s : Nat) (h : Sh), (gSh σ)[s]? = some h → TRs t s h) ∧ uL t = gLa σ ∧ (∀ j, j < 4 → uT t j = gTo σ j) ∧ uH t = ((gCa σ).length : Int) ∧ (∀ (k : Nat) (c : Ti), (gCa σ)[k]? = some c → TRc t k c) ∧ uK t = gCl σ ∧ uHi t = gHi σ ∧ uMi t = gMi σ ∧ uD t = gDr σ
theorem TR.wf {σ : Sg} {t : TS} (h : TR σ t) : WF σ := h.1
theorem TR.n {σ : Sg} {t : TS} (h : TR σ t) : uN t = ((gSh σ).length : Int) := h.2.1
theorem TR.s {σ : Sg} {t : TS} (h : TR σ t) {s : Nat} {x : Sh} (q : (gSh σ)[s]? = some x) : TRs t s x := h.2.2.1 s x q
theorem TR.la {σ : Sg} {t : TS} (h : TR σ t) : uL t = gLa σ := h.2.2.2.1
theorem TR.to {σ : Sg} {t : TS} (h : TR σ t) {j : Nat} (q : j < 4) : uT t j = gTo σ j := h.2.2.2.2.1 j q
theorem TR.h {σ : Sg} {t : TS} (h : TR σ t) : uH t = ((gCa σ).length : Int) := h.2.2.2.2.2.1
theorem TR.c {σ : Sg} {t : TS} (h : TR σ t) {k : Nat} {x : Ti} (q : (gCa σ)[k]? = some x) : TRc t k x := h.2.2.2.2.2.2.1 k x q
theorem TR.k {σ : Sg} {t : TS} (h : TR σ t) : uK t = gCl σ := h.2.2.2.2.2.2.2.1
theorem TR.hi {σ : Sg} {t : TS} (h : TR σ t) : uHi t = gHi σ := h.2.2.2.2.2.2.2.2.1
theorem TR.mi {σ : Sg} {t : TS} (h : TR σ t) : uMi t = gMi σ := h.2.2.2.2.2.2.2.2.2.1
theorem TR.d {σ : Sg} {t : TS} (h : TR σ t) : uD t = gDr σ := h.2.2.2.2.2.2.2.2.2.2
theorem TR.n12 {σ : Sg} {t : TS} (h : TR σ t) : (gSh σ).length ≤ 12 := h.1.1
theorem TR.ws {σ : Sg} {t : TS} (h : TR σ t) {s : Nat} {x : Sh} (q : (gSh σ)[s]? = some x) : wfS x := h.1.2.1 s x q
theorem TR.c5 {σ : Sg} {t : TS} (h : TR σ t) : (gCa σ).length ≤ 5 := h.1.2.2.1
theorem TR.wt {σ : Sg} {t : TS} (h : TR σ t) {k : Nat} {x : Ti} (q : (gCa σ)[k]? = some x) : wfT x := h.1.2.2.2.1 k x q
theorem TR.wto {σ : Sg} {t : TS} (h : TR σ t) {j : Nat} (q : j < 4) : 0 ≤ gTo σ j ∧ gTo σ j ≤ 9 := h.1.2.2.2.2.1 j q
theorem idx_lt {α : Type} {l : List α} {s : Nat} {x : α} (h : l[s]? = some x) : s < l.length := (List.getElem?_eq_some_iff.mp h).1
