/-! THE VALUES: shapes, tiles, the server's state -/
/-- number, area?, points, reach, cut, label width, rank -/
abbrev Sh : Type := Int × Bool × List (Int × Int) × Int × Int × Int × Int
abbrev sNum (h : Sh) : Int := h.1
abbrev sAr (h : Sh) : Bool := h.2.1
abbrev sPts (h : Sh) : List (Int × Int) := h.2.2.1
abbrev sRe (h : Sh) : Int := h.2.2.2.1
abbrev sCu (h : Sh) : Int := h.2.2.2.2.1
abbrev sWi (h : Sh) : Int := h.2.2.2.2.2.1
abbrev sRa (h : Sh) : Int := h.2.2.2.2.2.2
/-- level, column, row, when -/
abbrev Ti : Type := Int × Int × Int × Int
abbrev tLv (t : Ti) : Int := t.1
abbrev tCo (t : Ti) : Int := t.2.1
abbrev tRo (t : Ti) : Int := t.2.2.1
abbrev tWh (t : Ti) : Int := t.2.2.2
/-- shapes, cache, tolerances, last number, clock, hits, misses, drawn -/
abbrev Sg : Type := List Sh × List Ti × (Nat → Int) × Int × Int × Int × Int × Int
abbrev gSh (σ : Sg) : List Sh := σ.1
abbrev gCa (σ : Sg) : List Ti := σ.2.1
abbrev gTo (σ : Sg) : Nat → Int := σ.2.2.1
abbrev gLa (σ : Sg) : Int := σ.2.2.2.1
abbrev gCl (σ : Sg) : Int := σ.2.2.2.2.1
abbrev gHi (σ : Sg) : Int := σ.2.2.2.2.2.1
abbrev gMi (σ : Sg) : Int := σ.2.2.2.2.2.2.1
abbrev gDr (σ : Sg) : Int := σ.2.2.2.2.2.2.2
def pX (q : List (Int × Int)) (k : Nat) : Int := (q.getD k (0, 0)).1
def pY (q : List (Int × Int)) (k : Nat) : Int := (q.getD k (0, 0)).2
/-- the side of a cell, the tiles in a row -/
def cs (l : Int) : Int := if l = 0 then 8 else if l = 1 then 4 else if l = 2 then 2 else 1
def pw (l : Int) : Int := if l = 0 then 1 else if l = 1 then 2 else if l = 2 then 4 else 8
theorem lv_cases {l : Int} (h0 : 0 ≤ l) (h3 : l ≤ 3) : (l = 0 ∧ cs l = 8 ∧ pw l = 1) ∨ (l = 1 ∧ cs l = 4 ∧ pw l = 2) ∨ (l = 2 ∧ cs l = 2 ∧ pw l = 4) ∨ (l = 3 ∧ cs l = 1 ∧ pw l = 8) := by
  rcases (show l = 0 ∨ l = 1 ∨ l = 2 ∨ l = 3 by omega) with rfl | rfl | rfl | rfl
  · exact Or.inl ⟨rfl, rfl, rfl⟩
  · exact Or.inr (Or.inl ⟨rfl, rfl, rfl⟩)
  · exact Or.inr (Or.inr (Or.inl ⟨rfl, rfl, rfl⟩))
  · exact Or.inr (Or.inr (Or.inr ⟨rfl, rfl, rfl⟩))
def wfP (q : List (Int × Int)) : Prop := ∀ k, k < q.length → (0 ≤ pX q k ∧ pX q k ≤ 64) ∧ (0 ≤ pY q k ∧ pY q k ≤ 64)
def wfS (h : Sh) : Prop := wfP (sPts h) ∧ (sPts h).length ≤ 9 ∧ ((sAr h = true ∧ (sPts h).length = 1 ∧ 1 ≤ sRe h ∧ sRe h ≤ 20 ∧ sRe h ≤ sCu h ∧ sCu h ≤ 2 * sRe h) ∨ (sAr h = false ∧ 2 ≤ (sPts h).length ∧ sRe h = 0 ∧ sCu h = 0)) ∧ (0 ≤ sWi h ∧ sWi h ≤ 8) ∧ (0 ≤ sRa h ∧ sRa h ≤ 9) ∧ 1 ≤ sNum h ∧ sNum h ≤ 1000
def wfT (t : Ti) : Prop := (0 ≤ tLv t ∧ tLv t ≤ 3) ∧ (0 ≤ tCo t ∧ tCo t ≤ pw (tLv t) - 1) ∧ (0 ≤ tRo t ∧ tRo t ≤ pw (tLv t) - 1) ∧ 0 ≤ tWh t ∧ tWh t ≤ 100000
def WF (σ : Sg) : Prop := (gSh σ).length ≤ 12 ∧ (∀ (s : Nat) (h : Sh), (gSh σ)[s]? = some h → wfS h) ∧ (gCa σ).length ≤ 5 ∧ (∀ (k : Nat) (t : Ti), (gCa σ)[k]? = some t → wfT t) ∧ (∀ j, j < 4 → 0 ≤ gTo σ j ∧ gTo σ j ≤ 9) ∧ (0 ≤ gLa σ ∧ gLa σ ≤ 999) ∧ (0 ≤ gCl σ ∧ gCl σ ≤ 99900) ∧ (0 ≤ gHi σ ∧ gHi σ ≤ 999) ∧ (0 ≤ gMi σ ∧ gMi σ ≤ 999) ∧ (0 ≤ gDr σ ∧ gDr σ ≤ 1000000)
/-- twice the signed area of a triangle -/
def crs (ax ay bx bY x y : Int) : Int := (bx - ax) * (y - ay) - (bY - ay) * (x - ax)
theorem shl_pw {l : Int} (h0 : 0 ≤ l) (h3 : l ≤ 3) : zi 1 <<< (zi l &&& 31) = zi (pw l) := by
  rcases (show l = 0 ∨ l = 1 ∨ l = 2 ∨ l = 3 by omega) with rfl | rfl | rfl | rfl <;> decide +kernel
theorem shr_64 {l : Int} (h0 : 0 ≤ l) (h3 : l ≤ 3) : zi 64 >>> (zi l &&& 31) = zi (8 * cs l) := by
  rcases (show l = 0 ∨ l = 1 ∨ l = 2 ∨ l = 3 by omega) with rfl | rfl | rfl | rfl <;> decide +kernel
theorem shr_8 {l : Int} (h0 : 0 ≤ l) (h3 : l ≤ 3) : zi 8 >>> (zi l &&& 31) = zi (cs l) := by
  rcases (show l = 0 ∨ l = 1 ∨ l = 2 ∨ l = 3 by omega) with rfl | rfl | rfl | rfl <;> decide +kernel
theorem pw_b {l : Int} (h0 : 0 ≤ l) (h3 : l ≤ 3) : 1 ≤ pw l ∧ pw l ≤ 8 := by
  rcases lv_cases h0 h3 with ⟨-, -, h⟩ | ⟨-, -, h⟩ | ⟨-, -, h⟩ | ⟨-, -, h⟩ <;> omega
theorem cs_b {l : Int} (h0 : 0 ≤ l) (h3 : l ≤ 3) : 1 ≤ cs l ∧ cs l ≤ 8 := by
  rcases lv_cases h0 h3 with ⟨-, h, -⟩ | ⟨-, h, -⟩ | ⟨-, h, -⟩ | ⟨-, h, -⟩ <;> omega
/-- a tile's place -/
abbrev isTi (l c r : Int) : Prop := (0 ≤ l ∧ l ≤ 3) ∧ (0 ≤ c ∧ c ≤ pw l - 1) ∧ (0 ≤ r ∧ r ≤ pw l - 1)
/-- the first shape of a number -/
def slotF (q : List Sh) (n : Int) : Nat → Option Nat
  | 0 => none
  | k + 1 => match slotF q n k with
    | some s => some s
    | none => match q[k]? with
      | some h => if sNum h = n then some k else none
      | none => none
def slotO (q : List Sh) (n : Int) : Option Nat := slotF q n q.length
def optZ (o : Option Nat) : Int := match o with
  | none => -1
  | some k => (k : Int)
theorem slotF_none {q : List Sh} {n : Int} : ∀ {k : Nat}, slotF q n k = none → ∀ {j : Nat} {h : Sh}, j < k → q[j]? = some h → sNum h ≠ n
  | 0, _, j, h, hj, _ => absurd hj (by omega)
  | k + 1, e, j, h, hj, hq => by
    unfold slotF at e
    cases e1 : slotF q n k with
    | some s => rw [e1] at e; cases e
    | none =>
      rw [e1] at e
      by_cases hk : j = k
      · subst hk
        rw [hq] at e
        intro z
        simp [z] at e
      · exact slotF_none e1 (by omega) hq
theorem slotF_some {q : List Sh} {n : Int} : ∀ {k s : Nat}, slotF q n k = some s → s < k ∧ slotF q n s = none ∧ ∃ h, q[s]? = some h ∧ sNum h = n
  | 0, s, e => by cases e
  | k + 1, s, e => by
    unfold slotF at e
    cases e1 : slotF q n k with
    | some s' =>
      rw [e1] at e
      cases e
      obtain ⟨h1, h2⟩ := slotF_some e1
      exact ⟨by omega, h2⟩
    | none =>
      rw [e1] at e
      cases hq : q[k]? with
      | none => rw [hq] at e; cases e
      | some h =>
        rw [hq] at e
        by_cases hn : sNum h = n
        · simp only [hn, if_true] at e
          cases e
          exact ⟨by omega, e1, h, hq, hn⟩
        · simp only [hn, if_false] at e
          cases e
theorem slotF_hit {q : List Sh} {n : Int} {k : Nat} {h : Sh} (e : slotF q n k = none) (hq : q[k]? = some h) (hn : sNum h = n) : ∀ m, k < m → slotF q n m = some k
  | 0, hm => absurd hm (by omega)
  | m + 1, hm => by
    unfold slotF
    by_cases hk : k = m
    · subst hk
      rw [e, hq]
      simp [hn]
    · rw [slotF_hit e hq hn m (by omega)]
theorem slotF_miss {q : List Sh} {n : Int} {k : Nat} {h : Sh} (e : slotF q n k = none) (hq : q[k]? = some h) (hn : sNum h ≠ n) : slotF q n (k + 1) = none := by
  unfold slotF
  rw [e, hq]
  simp [hn]
theorem slotO_some {q : List Sh} {n : Int} {s : Nat} (e : slotO q n = some s) : ∃ h, q[s]? = some h ∧ sNum h = n := (slotF_some e).2.2
/-- the tile's place in the cache -/
abbrev tiAt (t : Ti) (l c r : Int) : Prop := tLv t = l ∧ tCo t = c ∧ tRo t = r
def heldF (q : List Ti) (l c r : Int) : Nat → Option Nat
  | 0 => none
  | k + 1 => match heldF q l c r k with
    | some s => some s
    | none => match q[k]? with
      | some h => if tiAt h l c r then some k else none
      | none => none
def heldO (q : List Ti) (l c r : Int) : Option Nat := heldF q l c r q.length
theorem heldF_none {q : List Ti} {l c r : Int} : ∀ {k : Nat}, heldF q l c r k = none → ∀ {j : Nat} {h : Ti}, j < k → q[j]? = some h → ¬ tiAt h l c r
  | 0, _, j, h, hj, _ => absurd hj (by omega)
  | k + 1, e, j, h, hj, hq => by
    unfold heldF at e
    cases e1 : heldF q l c r k with
    | some s => rw [e1] at e; cases e
    | none =>
      rw [e1] at e
      by_cases hk : j = k
      · subst hk
        rw [hq] at e
        intro z
        have e : (if tiAt h l c r then some j else none) = none := e
        rw [if_pos z] at e
        cases e
      · exact heldF_none e1 (by omega) hq
theorem heldF_some {q : List Ti} {l c r : Int} : ∀ {k s : Nat}, heldF q l c r k = some s → s < k ∧ heldF q l c r s = none ∧ ∃ h, q[s]? = some h ∧ tiAt h l c r
  | 0, s, e => by cases e
  | k + 1, s, e => by
    unfold heldF at e
    cases e1 : heldF q l c r k with
    | some s' =>
      rw [e1] at e
      cases e
      obtain ⟨h1, h2⟩ := heldF_some e1
      exact ⟨by omega, h2⟩
    | none =>
      rw [e1] at e
      cases hq : q[k]? with
      | none => rw [hq] at e; cases e
      | some h =>
        rw [hq] at e
        by_cases hn : tiAt h l c r
        · have e : (if tiAt h l c r then some k else none) = some s := e
          rw [if_pos hn] at e
          cases e
          exact ⟨by omega, e1, h, hq, hn⟩
        · have e : (if tiAt h l c r then some k else none) = some s := e
          rw [if_neg hn] at e
          cases e
theorem heldF_hit {q : List Ti} {l c r : Int} {k : Nat} {h : Ti} (e : heldF q l c r k = none) (hq : q[k]? = some h) (hn : tiAt h l c r) : ∀ m, k < m → heldF q l c r m = some k
  | 0, hm => absurd hm (by omega)
  | m + 1, hm => by
    unfold heldF
    by_cases hk : k = m
    · subst hk
      rw [e, hq]
      exact if_pos hn
    · rw [heldF_hit e hq hn m (by omega)]
theorem heldF_miss {q : List Ti} {l c r : Int} {k : Nat} {h : Ti} (e : heldF q l c r k = none) (hq : q[k]? = some h) (hn : ¬ tiAt h l c r) : heldF q l c r (k + 1) = none := by
  unfold heldF
  rw [e, hq]
  exact if_neg hn
theorem get_lt {α : Type} {l : List α} {k : Nat} (h : k < l.length) : ∃ x, l[k]? = some x := ⟨l[k], List.getElem?_eq_getElem h⟩
