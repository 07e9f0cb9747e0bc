/-! WHAT THE CALLS DO: what is thrown (0: nothing), the answer, the state behind -/
abbrev okC (x y : Int) : Prop := (0 ≤ x ∧ x ≤ 64) ∧ (0 ≤ y ∧ y ≤ 64)
def opR (thr res : Int) (σ' σ : Sg) : Int × Int × Sg := if thr = 0 then (0, res, σ') else (thr, -1, σ)
theorem opR_y {thr res : Int} {σ' σ : Sg} (h : thr = 0) : opR thr res σ' σ = (0, res, σ') := if_pos h
theorem opR_n {thr res : Int} {σ' σ : Sg} (h : thr ≠ 0) : opR thr res σ' σ = (thr, -1, σ) := if_neg h
/-- the place and the shape of a number -/
def slD (q : List Sh) (v : Int) : Nat := (slotO q v).getD 0
def shD (q : List Sh) (v : Int) : Sh := q.getD (slD q v) (0, false, [], 0, 0, 0, 0)
theorem slD_eq {q : List Sh} {v : Int} {k : Nat} (h : slotO q v = some k) : slD q v = k := by unfold slD; rw [h]; rfl
theorem shD_eq {q : List Sh} {v : Int} {k : Nat} {x : Sh} (h : slotO q v = some k) (hx : q[k]? = some x) : shD q v = x := by
  unfold shD
  rw [slD_eq h, List.getD_eq_getElem?_getD, hx]
  rfl
abbrev addSh (σ : Sg) (h : Sh) : Sg := (gSh σ ++ [h], stay (metSh h) (gCa σ), gTo σ, gLa σ + 1, gCl σ, gHi σ, gMi σ, gDr σ)
abbrev setSh (σ : Sg) (q : List Sh) (c : List Ti) : Sg := (q, c, gTo σ, gLa σ, gCl σ, gHi σ, gMi σ, gDr σ)
abbrev withP (h : Sh) (p : List (Int × Int)) : Sh := (sNum h, sAr h, p, sRe h, sCu h, sWi h, sRa h)
abbrev withL (h : Sh) (w r : Int) : Sh := (sNum h, sAr h, sPts h, sRe h, sCu h, w, r)
def addT (ok : Bool) (n : Nat) : Int := if ok = false then 1 else if n = 12 then 2 else 0
def extT (q : List Sh) (v x y : Int) : Int := if lineT q v ≠ 0 then lineT q v else if ¬ okC x y then 3 else if (sPts (shD q v)).length = 9 then 4 else 0
def movT (q : List Sh) (v ix x y : Int) : Int := if pointT q v ix ≠ 0 then pointT q v ix else if okC x y then 0 else 4
def drpT (q : List Sh) (v ix : Int) : Int := if pointT q v ix ≠ 0 then pointT q v ix else if 2 < (sPts (shD q v)).length then 0 else 4
abbrev okA (x y re cu : Int) : Prop := okC x y ∧ (1 ≤ re ∧ re ≤ 20) ∧ (re ≤ cu ∧ cu ≤ 2 * re)
def movAT (q : List Sh) (v dx dy : Int) : Int := if areaT q v ≠ 0 then areaT q v else if okC (pX (sPts (shD q v)) 0 + dx) (pY (sPts (shD q v)) 0 + dy) then 0 else 3
def remT (q : List Sh) (v : Int) : Int := if slotO q v = none then 1 else 0
def labT (q : List Sh) (v w r : Int) : Int := if slotO q v = none then 1 else if ¬ ((0 ≤ w ∧ w ≤ 8) ∧ (1 ≤ r ∧ r ≤ 9)) then 2 else 0
def tolT (lv to : Int) : Int := if ¬ (0 ≤ lv ∧ lv ≤ 3) then 1 else if ¬ (0 ≤ to ∧ to ≤ 9) then 2 else 0
def pasT (tk : Int) : Int := if 1 ≤ tk ∧ tk ≤ 99 then 0 else 1
abbrev okL (x1 y1 x2 y2 : Int) : Prop := okC x1 y1 ∧ okC x2 y2
def lineS (n x1 y1 x2 y2 : Int) : Sh := (n, false, [(x1, y1), (x2, y2)], 0, 0, 0, 0)
def areaS (n x y re cu : Int) : Sh := (n, true, [(x, y)], re, cu, 0, 0)
def opAddLine (σ : Sg) (x1 y1 x2 y2 : Int) : Int × Int × Sg := opR (addT (decide (okL x1 y1 x2 y2)) (gSh σ).length) (gLa σ + 1) (addSh σ (lineS (gLa σ + 1) x1 y1 x2 y2)) σ
def opAddArea (σ : Sg) (x y re cu : Int) : Int × Int × Sg := opR (addT (decide (okA x y re cu)) (gSh σ).length) (gLa σ + 1) (addSh σ (areaS (gLa σ + 1) x y re cu)) σ
def extS (h : Sh) (x y : Int) : Sh := withP h (sPts h ++ [(x, y)])
def opExtend (σ : Sg) (v x y : Int) : Int × Int × Sg := opR (extT (gSh σ) v x y) ((sPts (shD (gSh σ) v)).length + 1) (setSh σ ((gSh σ).set (slD (gSh σ) v) (extS (shD (gSh σ) v) x y)) (stay (metSh (extS (shD (gSh σ) v) x y)) (gCa σ))) σ
/-- a shape changes: what met it before or meets it then leaves -/
def chg (σ : Sg) (v : Int) (h' : Sh) : Int × Sg := (((gCa σ).length : Int) - ((stay (metSh h') (stay (metSh (shD (gSh σ) v)) (gCa σ))).length : Int), setSh σ ((gSh σ).set (slD (gSh σ) v) h') (stay (metSh h') (stay (metSh (shD (gSh σ) v)) (gCa σ))))
def movS (h : Sh) (ix x y : Int) : Sh := withP h ((sPts h).set ix.toNat (x, y))
def opMove (σ : Sg) (v ix x y : Int) : Int × Int × Sg := opR (movT (gSh σ) v ix x y) (chg σ v (movS (shD (gSh σ) v) ix x y)).1 (chg σ v (movS (shD (gSh σ) v) ix x y)).2 σ
def drpS (h : Sh) (ix : Int) : Sh := withP h ((sPts h).eraseIdx ix.toNat)
def opDrop (σ : Sg) (v ix : Int) : Int × Int × Sg := opR (drpT (gSh σ) v ix) ((sPts (shD (gSh σ) v)).length - 1) (setSh σ ((gSh σ).set (slD (gSh σ) v) (drpS (shD (gSh σ) v) ix)) (stay (metSh (shD (gSh σ) v)) (gCa σ))) σ
def movA (h : Sh) (dx dy : Int) : Sh := withP h [(pX (sPts h) 0 + dx, pY (sPts h) 0 + dy)]
def opMoveA (σ : Sg) (v dx dy : Int) : Int × Int × Sg := opR (movAT (gSh σ) v dx dy) (chg σ v (movA (shD (gSh σ) v) dx dy)).1 (chg σ v (movA (shD (gSh σ) v) dx dy)).2 σ
def opRemove (σ : Sg) (v : Int) : Int × Int × Sg := opR (remT (gSh σ) v) ((gSh σ).length - 1) (setSh σ ((gSh σ).eraseIdx (slD (gSh σ) v)) (stay (metSh (shD (gSh σ) v)) (gCa σ))) σ
def opLabel (σ : Sg) (v w r : Int) : Int × Int × Sg := opR (labT (gSh σ) v w r) (sWi (shD (gSh σ) v)) (setSh σ ((gSh σ).set (slD (gSh σ) v) (withL (shD (gSh σ) v) w r)) (gCa σ)) σ
def opTol (σ : Sg) (lv to : Int) : Int × Int × Sg := opR (tolT lv to) (gTo σ lv.toNat) (gSh σ, stay (fun t => decide (tLv t = lv)) (gCa σ), va_up (gTo σ) lv.toNat to, gLa σ, gCl σ, gHi σ, gMi σ, gDr σ) σ
def oldB (cl : Int) (t : Ti) : Bool := decide (20 ≤ cl - tWh t)
def opPass (σ : Sg) (tk : Int) : Int × Int × Sg := opR (pasT tk) (((gCa σ).length : Int) - ((stay (oldB (gCl σ + tk)) (gCa σ)).length : Int)) (gSh σ, stay (oldB (gCl σ + tk)) (gCa σ), gTo σ, gLa σ, gCl σ + tk, gHi σ, gMi σ, gDr σ) σ
/-- room for one call more -/
def RMs (σ : Sg) : Prop := gLa σ ≤ 900 ∧ gCl σ ≤ 90000 ∧ gHi σ ≤ 900 ∧ gMi σ ≤ 900 ∧ gDr σ ≤ 900000
theorem pX_app {p : List (Int × Int)} {x : Int × Int} {k : Nat} (h : k < p.length) : pX (p ++ [x]) k = pX p k ∧ pY (p ++ [x]) k = pY p k := by
  unfold pX pY
  rw [List.getD_eq_getElem?_getD, List.getElem?_append_left h, List.getD_eq_getElem?_getD]
  exact ⟨rfl, rfl⟩
theorem pX_last {p : List (Int × Int)} {x : Int × Int} : pX (p ++ [x]) p.length = x.1 ∧ pY (p ++ [x]) p.length = x.2 := by
  unfold pX pY
  rw [List.getD_eq_getElem?_getD, List.getElem?_append_right (Nat.le_refl _), Nat.sub_self]
  exact ⟨rfl, rfl⟩
theorem pX_set {p : List (Int × Int)} {x : Int × Int} {i k : Nat} (h : i < p.length) : pX (p.set i x) k = (if k = i then x.1 else pX p k) ∧ pY (p.set i x) k = (if k = i then x.2 else pY p k) := by
  unfold pX pY
  rw [List.getD_eq_getElem?_getD, List.getD_eq_getElem?_getD, List.getElem?_set]
  by_cases e : k = i
  · subst e
    rw [if_pos rfl, if_pos h, if_pos rfl, if_pos rfl]
    exact ⟨rfl, rfl⟩
  · rw [if_neg (Ne.symm e), if_neg e, if_neg e]
    exact ⟨rfl, rfl⟩
theorem pX_er {p : List (Int × Int)} {i k : Nat} : pX (p.eraseIdx i) k = pX p (if k < i then k else k + 1) ∧ pY (p.eraseIdx i) k = pY p (if k < i then k else k + 1) := by
  unfold pX pY
  rw [List.getD_eq_getElem?_getD, List.getD_eq_getElem?_getD, List.getElem?_eraseIdx]
  by_cases e : k < i
  · rw [if_pos e, if_pos e]; exact ⟨rfl, rfl⟩
  · rw [if_neg e, if_neg e]; exact ⟨rfl, rfl⟩
/-- the shapes of the twin become others -/
theorem TR.shapes {σ : Sg} {fm fx fy ft fc : Nat → Int} {n la h k hi mi d th : Int} {fp fle flo : Nat → Int} (hT : TR σ (fm, n, la, fx, fy, ft, fc, h, k, hi, mi, d, th, fp, fle, flo)) {q : List Sh} {fm' fx' fy' : Nat → Int} {n' th' : Int} {fp' fle' flo' : Nat → Int} (h12 : q.length ≤ 12) (hw : ∀ (s : Nat) (h : Sh), q[s]? = some h → wfS h) (hn : n' = (q.length : Int)) (hr : ∀ (s : Nat) (x : Sh), q[s]? = some x → TRs (fm', n', la, fx', fy', ft, fc, h, k, hi, mi, d, th', fp', fle', flo') s x) : TR (setSh σ q (gCa σ)) (fm', n', la, fx', fy', ft, fc, h, k, hi, mi, d, th', fp', fle', flo') := by
  obtain ⟨⟨w1, w2, w3⟩, h1, h2, h3⟩ := hT
  exact ⟨⟨h12, hw, w3⟩, hn, hr, h3⟩
theorem set_at {q : List Sh} {k s : Nat} {x y : Sh} (h : (q.set k x)[s]? = some y) : (s = k ∧ y = x) ∨ (s ≠ k ∧ q[s]? = some y) := by
  rw [List.getElem?_set] at h
  by_cases e : k = s
  · rw [if_pos e] at h
    by_cases e2 : k < q.length
    · rw [if_pos e2] at h; cases h; exact Or.inl ⟨e.symm, rfl⟩
    · rw [if_neg e2] at h; cases h
  · rw [if_neg e] at h
    exact Or.inr ⟨fun z => e z.symm, h⟩
theorem set_wf {q : List Sh} {k : Nat} {x : Sh} (h : ∀ (s : Nat) (h : Sh), q[s]? = some h → wfS h) (hx : wfS x) : ∀ (s : Nat) (h : Sh), (q.set k x)[s]? = some h → wfS h := by
  intro s y hy
  rcases set_at hy with ⟨-, e⟩ | ⟨-, e⟩
  · rw [e]; exact hx
  · exact h s y e
theorem appS_wf {q : List Sh} {x : Sh} (h : ∀ (k : Nat) (t : Sh), q[k]? = some t → wfS t) (hx : wfS x) : ∀ (j : Nat) (t : Sh), (q ++ [x])[j]? = some t → wfS t := by
  intro j t hj
  rcases app_last hj with ⟨-, e⟩ | ⟨-, e⟩
  · exact h j t e
  · rw [e]; exact hx
theorem erS_wf {q : List Sh} {k : Nat} (h : ∀ (k : Nat) (t : Sh), q[k]? = some t → wfS t) : ∀ (j : Nat) (t : Sh), (q.eraseIdx k)[j]? = some t → wfS t := fun j t hj => h _ t (er_at hj)
theorem wfP_set {h : Sh} (hw : wfP (sPts h)) {i : Nat} {x y : Int} (hi : i < (sPts h).length) (hx : okC x y) : wfP ((sPts h).set i (x, y)) := by
  intro k hk
  rw [List.length_set] at hk
  rw [(pX_set hi).1, (pX_set hi).2]
  by_cases e : k = i
  · rw [if_pos e, if_pos e]; exact hx
  · rw [if_neg e, if_neg e]; exact hw k hk
theorem extS_wf {h : Sh} {x y : Int} (hw : wfS h) (hl : sAr h = false) (h9 : (sPts h).length ≠ 9) (hx : okC x y) : wfS (extS h x y) := by
  obtain ⟨w1, w2, w3, w4⟩ := hw
  have h2 : 2 ≤ (sPts h).length ∧ sRe h = 0 ∧ sCu h = 0 := by
    rcases w3 with ⟨q, -⟩ | ⟨-, q⟩
    · rw [hl] at q; cases q
    · exact q
  refine ⟨?_, ?_, Or.inr ⟨hl, ?_, h2.2.1, h2.2.2⟩, w4⟩
  · intro k hk
    have hk : k < (sPts h ++ [(x, y)]).length := hk
    rw [List.length_append] at hk
    show (0 ≤ pX (sPts h ++ [(x, y)]) k ∧ pX (sPts h ++ [(x, y)]) k ≤ 64) ∧ (0 ≤ pY (sPts h ++ [(x, y)]) k ∧ pY (sPts h ++ [(x, y)]) k ≤ 64)
    by_cases e : k < (sPts h).length
    · rw [(pX_app e).1, (pX_app e).2]; exact w1 k e
    · have e2 : k = (sPts h).length := by
        have : [(x, y)].length = 1 := rfl
        omega
      subst e2
      rw [pX_last.1, pX_last.2]
      exact hx
  · show (sPts h ++ [(x, y)]).length ≤ 9
    rw [List.length_append]
    show (sPts h).length + 1 ≤ 9
    omega
  · show 2 ≤ (sPts h ++ [(x, y)]).length
    rw [List.length_append]
    omega
theorem movS_wf {h : Sh} {ix x y : Int} (hw : wfS h) (hi : ix.toNat < (sPts h).length) (hx : okC x y) : wfS (movS h ix x y) := by
  obtain ⟨w1, w2, w3, w4⟩ := hw
  have hl : ((sPts h).set ix.toNat (x, y)).length = (sPts h).length := List.length_set
  refine ⟨wfP_set w1 hi hx, ?_, ?_, w4⟩
  · show ((sPts h).set ix.toNat (x, y)).length ≤ 9
    omega
  · show (sAr h = true ∧ ((sPts h).set ix.toNat (x, y)).length = 1 ∧ _) ∨ (sAr h = false ∧ 2 ≤ ((sPts h).set ix.toNat (x, y)).length ∧ _)
    rw [hl]
    exact w3
theorem drpS_wf {h : Sh} {ix : Int} (hw : wfS h) (hl : sAr h = false) (hi : ix.toNat < (sPts h).length) (h2 : 2 < (sPts h).length) : wfS (drpS h ix) := by
  obtain ⟨w1, w2, w3, w4⟩ := hw
  have hn : ((sPts h).eraseIdx ix.toNat).length = (sPts h).length - 1 := List.length_eraseIdx_of_lt hi
  have h3 : sRe h = 0 ∧ sCu h = 0 := by
    rcases w3 with ⟨q, -⟩ | ⟨-, -, q⟩
    · rw [hl] at q; cases q
    · exact q
  refine ⟨?_, ?_, Or.inr ⟨hl, ?_, h3⟩, w4⟩
  · intro k hk
    have hk : k < ((sPts h).eraseIdx ix.toNat).length := hk
    show (0 ≤ pX ((sPts h).eraseIdx ix.toNat) k ∧ pX ((sPts h).eraseIdx ix.toNat) k ≤ 64) ∧ (0 ≤ pY ((sPts h).eraseIdx ix.toNat) k ∧ pY ((sPts h).eraseIdx ix.toNat) k ≤ 64)
    rw [pX_er.1, pX_er.2]
    by_cases e : k < ix.toNat
    · rw [if_pos e]; exact w1 k (by omega)
    · rw [if_neg e]; exact w1 (k + 1) (by omega)
  · show ((sPts h).eraseIdx ix.toNat).length ≤ 9
    omega
  · show 2 ≤ ((sPts h).eraseIdx ix.toNat).length
    omega
theorem pX_1 (a : Int × Int) : pX [a] 0 = a.1 ∧ pY [a] 0 = a.2 := ⟨rfl, rfl⟩
theorem movA_wf {h : Sh} {dx dy : Int} (hw : wfS h) (hl : sAr h = true) (hx : okC (pX (sPts h) 0 + dx) (pY (sPts h) 0 + dy)) : wfS (movA h dx dy) := by
  obtain ⟨w1, w2, w3, w4⟩ := hw
  have h3 : 1 ≤ sRe h ∧ sRe h ≤ 20 ∧ sRe h ≤ sCu h ∧ sCu h ≤ 2 * sRe h := by
    rcases w3 with ⟨-, -, q⟩ | ⟨q, -⟩
    · exact q
    · rw [hl] at q; cases q
  refine ⟨?_, by show 1 ≤ 9; decide, Or.inl ⟨hl, rfl, h3⟩, w4⟩
  intro k hk
  have hk : k < 1 := hk
  have e : k = 0 := by omega
  subst e
  exact hx
theorem lineS_wf {n x1 y1 x2 y2 : Int} (hn : 1 ≤ n ∧ n ≤ 1000) (h : okL x1 y1 x2 y2) : wfS (lineS n x1 y1 x2 y2) := by
  refine ⟨?_, by show 2 ≤ 9; decide, Or.inr ⟨rfl, Nat.le_refl 2, rfl, rfl⟩, ⟨by show (0 : Int) ≤ 0; decide, by show (0 : Int) ≤ 8; decide⟩, ⟨by show (0 : Int) ≤ 0; decide, by show (0 : Int) ≤ 9; decide⟩, hn⟩
  intro k hk
  have hk : k < 2 := hk
  rcases (show k = 0 ∨ k = 1 by omega) with e | e <;> subst e
  · exact h.1
  · exact h.2
theorem areaS_wf {n x y re cu : Int} (hn : 1 ≤ n ∧ n ≤ 1000) (h : okA x y re cu) : wfS (areaS n x y re cu) := by
  refine ⟨?_, by show 1 ≤ 9; decide, Or.inl ⟨rfl, rfl, h.2.1.1, h.2.1.2, h.2.2.1, h.2.2.2⟩, ⟨by show (0 : Int) ≤ 0; decide, by show (0 : Int) ≤ 8; decide⟩, ⟨by show (0 : Int) ≤ 0; decide, by show (0 : Int) ≤ 9; decide⟩, hn⟩
  intro k hk
  have hk : k < 1 := hk
  have e : k = 0 := by omega
  subst e
  exact h.1
theorem withL_wf {h : Sh} {w r : Int} (hw : wfS h) (h1 : 0 ≤ w ∧ w ≤ 8) (h2 : 1 ≤ r ∧ r ≤ 9) : wfS (withL h w r) := by
  obtain ⟨w1, w2, w3, w4, w5, w6⟩ := hw
  exact ⟨w1, w2, w3, h1, ⟨by have := h2.1; show 0 ≤ r; omega, h2.2⟩, w6⟩
