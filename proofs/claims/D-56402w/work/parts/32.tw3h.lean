/-! THE TWIN's WORLD, moved -/
theorem bi_tt {b : Bool} (h : b = true) : (1 : Int) = bi b := by rw [h]; rfl
theorem bi_ff {b : Bool} (h : b = false) : (0 : Int) = bi b := by rw [h]; rfl
abbrev fpT (a : TA) : List Nat := [aO a, aM a, aX a, aY a, aT a, aC a, aP a, aLe a, aLo a]
theorem nodup_get {l : List Nat} (h : l.Nodup) {i j a : Nat} (h1 : l[i]? = some a) (h2 : l[j]? = some a) : i = j := by
  obtain ⟨l1, e1⟩ := List.getElem?_eq_some_iff.mp h1
  obtain ⟨l2, e2⟩ := List.getElem?_eq_some_iff.mp h2
  have hp := List.pairwise_iff_getElem.mp h
  rcases Nat.lt_trichotomy i j with q | q | q
  · exact absurd (e1.trans e2.symm) (hp i j l1 l2 q)
  · exact q
  · exact absurd (e2.trans e1.symm) (hp j i l2 l1 q)
theorem w_D {A : Nat → Prop} {ws : va_W} {L : List Nat} (hL : ws.map (·.1) = L) (hN : L.Nodup) (hA : ∀ q ∈ L, A q) : va_D A ws := by
  subst hL
  have key : ∀ (k : Nat) (q : Nat × va_E), ws[k]? = some q → (ws.map (·.1))[k]? = some q.1 := fun k q h => by rw [List.getElem?_map, h]; rfl
  refine ⟨fun i j p q hi hj e => ?_, fun k q h => hA _ (List.mem_of_getElem? (key k q h))⟩
  have h1 := key i p hi
  rw [e] at h1
  exact nodup_get hN h1 (key j q hj)
theorem tw_D {g : GD} {A : Nat → Prop} {ad : TA} (t : TS) (hN : (fpT ad).Nodup) (hA : ∀ q ∈ fpT ad, A q) : va_D A (TW g ad t) := w_D rfl hN hA
theorem nA_sub {L L' : List Nat} {n n' : Nat} (hL : ∀ q ∈ L', q ∈ L) (hn : n ≤ n') : ∀ q, nA L' n' q → nA L n q := fun q h => h.elim (fun z => Or.inl (hL q z)) (fun z => Or.inr (Nat.le_trans hn z))
abbrev sTh (t : TS) (z : Int) : TS := (uM t, uN t, uL t, uX t, uY t, uT t, uC t, uH t, uK t, uHi t, uMi t, uD t, z, uP t, uLe t, uLo t)
abbrev setCa (σ : Sg) (q : List Ti) : Sg := (gSh σ, q, gTo σ, gLa σ, gCl σ, gHi σ, gMi σ, gDr σ)
/-- the cache of the twin becomes another -/
theorem TR.cache {σ : Sg} {fm fx fy ft fc : Nat → Int} {n la h k hi mi d th : Int} {fp fle flo : Nat → Int} (hT : TR σ (fm, n, la, fx, fy, ft, fc, h, k, hi, mi, d, th, fp, fle, flo)) {q : List Ti} {fc' : Nat → Int} {h' th' : Int} {fp' fle' flo' : Nat → Int} (h5 : q.length ≤ 5) (hw : ∀ (j : Nat) (t : Ti), q[j]? = some t → wfT t) (hl : h' = (q.length : Int)) (hc : ∀ (j : Nat) (c : Ti), q[j]? = some c → fc' (4 * j) = tLv c ∧ fc' (4 * j + 1) = tCo c ∧ fc' (4 * j + 2) = tRo c ∧ fc' (4 * j + 3) = tWh c) : TR (setCa σ q) (fm, n, la, fx, fy, ft, fc', h', k, hi, mi, d, th', fp', fle', flo') := by
  obtain ⟨⟨w1, w2, w3, w4, w5⟩, h1, h2, h3, h4, h6, h7, h8⟩ := hT
  exact ⟨⟨w1, w2, h5, hw, w5⟩, h1, h2, h3, h4, hl, hc, h8⟩
/-- 1: no such shape; 2: not a line -/
def lineT (q : List Sh) (v : Int) : Int := match slotO q v with
  | none => 1
  | some k => match q[k]? with
    | some h => if sAr h = true then 2 else 0
    | none => 1
def areaT (q : List Sh) (v : Int) : Int := match slotO q v with
  | none => 1
  | some k => match q[k]? with
    | some h => if sAr h = true then 0 else 2
    | none => 1
theorem lineT_1 {q : List Sh} {v : Int} (h : slotO q v = none) : lineT q v = 1 := by unfold lineT; rw [h]
theorem lineT_2 {q : List Sh} {v : Int} {k : Nat} {x : Sh} (h : slotO q v = some k) (hx : q[k]? = some x) (ha : sAr x = true) : lineT q v = 2 := by
  unfold lineT
  rw [h]
  show (match q[k]? with | some h => if sAr h = true then 2 else 0 | none => 1) = (2 : Int)
  rw [hx]
  exact if_pos ha
theorem lineT_0 {q : List Sh} {v : Int} {k : Nat} {x : Sh} (h : slotO q v = some k) (hx : q[k]? = some x) (ha : sAr x = false) : lineT q v = 0 := by
  unfold lineT
  rw [h]
  show (match q[k]? with | some h => if sAr h = true then 2 else 0 | none => 1) = (0 : Int)
  rw [hx]
  exact if_neg (by rw [ha]; decide)
theorem areaT_1 {q : List Sh} {v : Int} (h : slotO q v = none) : areaT q v = 1 := by unfold areaT; rw [h]
theorem areaT_2 {q : List Sh} {v : Int} {k : Nat} {x : Sh} (h : slotO q v = some k) (hx : q[k]? = some x) (ha : sAr x = false) : areaT q v = 2 := by
  unfold areaT
  rw [h]
  show (match q[k]? with | some h => if sAr h = true then 0 else 2 | none => 1) = (2 : Int)
  rw [hx]
  exact if_neg (by rw [ha]; decide)
theorem areaT_0 {q : List Sh} {v : Int} {k : Nat} {x : Sh} (h : slotO q v = some k) (hx : q[k]? = some x) (ha : sAr x = true) : areaT q v = 0 := by
  unfold areaT
  rw [h]
  show (match q[k]? with | some h => if sAr h = true then 0 else 2 | none => 1) = (0 : Int)
  rw [hx]
  exact if_pos ha
theorem lineT_c (q : List Sh) (v : Int) : (lineT q v = 1 ∧ slotO q v = none) ∨ (lineT q v = 2 ∧ ∃ k x, slotO q v = some k ∧ q[k]? = some x ∧ sAr x = true) ∨ (lineT q v = 0 ∧ ∃ k x, slotO q v = some k ∧ q[k]? = some x ∧ sAr x = false) := by
  cases e : slotO q v with
  | none => exact Or.inl ⟨lineT_1 e, rfl⟩
  | some k =>
    obtain ⟨x, hx, -⟩ := slotO_some e
    cases ha : sAr x with
    | true => exact Or.inr (Or.inl ⟨lineT_2 e hx ha, k, x, rfl, hx, ha⟩)
    | false => exact Or.inr (Or.inr ⟨lineT_0 e hx ha, k, x, rfl, hx, ha⟩)
theorem areaT_c (q : List Sh) (v : Int) : (areaT q v = 1 ∧ slotO q v = none) ∨ (areaT q v = 2 ∧ ∃ k x, slotO q v = some k ∧ q[k]? = some x ∧ sAr x = false) ∨ (areaT q v = 0 ∧ ∃ k x, slotO q v = some k ∧ q[k]? = some x ∧ sAr x = true) := by
  cases e : slotO q v with
  | none => exact Or.inl ⟨areaT_1 e, rfl⟩
  | some k =>
    obtain ⟨x, hx, -⟩ := slotO_some e
    cases ha : sAr x with
    | false => exact Or.inr (Or.inl ⟨areaT_2 e hx ha, k, x, rfl, hx, ha⟩)
    | true => exact Or.inr (Or.inr ⟨areaT_0 e hx ha, k, x, rfl, hx, ha⟩)
/-- 3: no such point -/
def pointT (q : List Sh) (v ix : Int) : Int := match slotO q v with
  | none => 1
  | some k => match q[k]? with
    | some h => if sAr h = true then 2 else if 0 ≤ ix ∧ ix ≤ ((sPts h).length : Int) - 1 then 0 else 3
    | none => 1
theorem pointT_n {q : List Sh} {v ix : Int} (h : lineT q v ≠ 0) : pointT q v ix = lineT q v := by
  rcases lineT_c q v with ⟨e, e1⟩ | ⟨e, k, x, e1, e2, e3⟩ | ⟨e, -⟩
  · rw [e]; unfold pointT; rw [e1]
  · rw [e]
    unfold pointT
    rw [e1]
    show (match q[k]? with | some h => if sAr h = true then 2 else if 0 ≤ ix ∧ ix ≤ ((sPts h).length : Int) - 1 then 0 else 3 | none => 1) = (2 : Int)
    rw [e2]
    exact if_pos e3
  · exact absurd e h
theorem pointT_y {q : List Sh} {v ix : Int} {k : Nat} {x : Sh} (h : slotO q v = some k) (hx : q[k]? = some x) (ha : sAr x = false) : pointT q v ix = if 0 ≤ ix ∧ ix ≤ ((sPts x).length : Int) - 1 then 0 else 3 := by
  unfold pointT
  rw [h]
  show (match q[k]? with | some h => if sAr h = true then 2 else if 0 ≤ ix ∧ ix ≤ ((sPts h).length : Int) - 1 then 0 else 3 | none => 1) = (_ : Int)
  rw [hx]
  exact if_neg (by rw [ha]; decide)
/-- in an area, by sixths -/
def isInB (h : Sh) (x y : Int) : Bool := decide (iabs (x - 6 * pX (sPts h) 0) < 6 * sRe h) && decide (iabs (y - 6 * pY (sPts h) 0) < 6 * sRe h) && decide (iabs (x - 6 * pX (sPts h) 0) + iabs (y - 6 * pY (sPts h) 0) < 6 * sCu h)
