/-! THE TWIN: rows of shapes -/
theorem TRs.keep {t t' : TS} {s : Nat} {h : Sh} (h0 : TRs t s h) (h9 : (sPts h).length ≤ 9) (h1 : ∀ r, r < 7 → uM t' (7 * s + r) = uM t (7 * s + r)) (h2 : ∀ k, k < 9 → uX t' (9 * s + k) = uX t (9 * s + k) ∧ uY t' (9 * s + k) = uY t (9 * s + k)) : TRs t' s h := by
  obtain ⟨a0, a1, a2, a3, a4, a5, a6, a7⟩ := h0
  refine ⟨(h1 0 (by decide)).trans a0, (h1 1 (by decide)).trans a1, (h1 2 (by decide)).trans a2, (h1 3 (by decide)).trans a3, (h1 4 (by decide)).trans a4, (h1 5 (by decide)).trans a5, (h1 6 (by decide)).trans a6, fun k hk => ?_⟩
  obtain ⟨b1, b2⟩ := h2 k (by omega)
  exact ⟨b1.trans (a7 k hk).1, b2.trans (a7 k hk).2⟩
theorem bgM_out {f : Nat → Int} {N i : Nat} {la ar re cu : Int} (h : i < 7 * N) : bgM f N la ar re cu i = f i := by
  unfold bgM
  rw [va_up_n _ _ (by omega), va_up_n _ _ (by omega), va_up_n _ _ (by omega), va_up_n _ _ (by omega), va_up_n _ _ (by omega), va_up_n _ _ (by omega), va_up_n _ _ (by omega)]
theorem bgM_0 {f : Nat → Int} {N : Nat} {la ar re cu : Int} : bgM f N la ar re cu (7 * N) = la := by
  unfold bgM
  rw [va_up_n _ _ (by omega), va_up_n _ _ (by omega), va_up_n _ _ (by omega), va_up_n _ _ (by omega), va_up_n _ _ (by omega), va_up_n _ _ (by omega), va_up_s]
theorem bgM_1 {f : Nat → Int} {N : Nat} {la ar re cu : Int} : bgM f N la ar re cu (7 * N + 1) = ar := by
  unfold bgM
  rw [va_up_n _ _ (by omega), va_up_n _ _ (by omega), va_up_n _ _ (by omega), va_up_n _ _ (by omega), va_up_n _ _ (by omega), va_up_s]
theorem bgM_2 {f : Nat → Int} {N : Nat} {la ar re cu : Int} : bgM f N la ar re cu (7 * N + 2) = 1 := by
  unfold bgM
  rw [va_up_n _ _ (by omega), va_up_n _ _ (by omega), va_up_n _ _ (by omega), va_up_n _ _ (by omega), va_up_s]
theorem bgM_3 {f : Nat → Int} {N : Nat} {la ar re cu : Int} : bgM f N la ar re cu (7 * N + 3) = re := by
  unfold bgM
  rw [va_up_n _ _ (by omega), va_up_n _ _ (by omega), va_up_n _ _ (by omega), va_up_s]
theorem bgM_4 {f : Nat → Int} {N : Nat} {la ar re cu : Int} : bgM f N la ar re cu (7 * N + 4) = cu := by
  unfold bgM
  rw [va_up_n _ _ (by omega), va_up_n _ _ (by omega), va_up_s]
theorem bgM_5 {f : Nat → Int} {N : Nat} {la ar re cu : Int} : bgM f N la ar re cu (7 * N + 5) = 0 := by
  unfold bgM
  rw [va_up_n _ _ (by omega), va_up_s]
theorem bgM_6 {f : Nat → Int} {N : Nat} {la ar re cu : Int} : bgM f N la ar re cu (7 * N + 6) = 0 := by
  unfold bgM
  rw [va_up_s]
abbrev addS0 (σ : Sg) (x : Sh) : Sg := (gSh σ ++ [x], gCa σ, gTo σ, gLa σ + 1, gCl σ, gHi σ, gMi σ, gDr σ)
theorem TR.add0 {σ : Sg} {fm fx fy ft fc : Nat → Int} {n la h k hi mi d th : Int} {fp fle flo : Nat → Int} (hT : TR σ (fm, n, la, fx, fy, ft, fc, h, k, hi, mi, d, th, fp, fle, flo)) {x : Sh} {fm' fx' fy' : Nat → Int} {th' : Int} (h12 : (gSh σ).length < 12) (hx : wfS x) (hla : gLa σ + 1 ≤ 999)
    (hk : ∀ i, i < 7 * (gSh σ).length → fm' i = fm i) (hk2 : ∀ i, i < 9 * (gSh σ).length → fx' i = fx i ∧ fy' i = fy i) (hr : TRs (fm', n + 1, la + 1, fx', fy', ft, fc, h, k, hi, mi, d, th', fp, fle, flo) (gSh σ).length x) : TR (addS0 σ x) (fm', n + 1, la + 1, fx', fy', ft, fc, h, k, hi, mi, d, th', fp, fle, flo) := by
  obtain ⟨⟨w1, w2, w3, w4, w5, w6, w7⟩, h1, h2, h3, h4⟩ := hT
  have h1 : n = ((gSh σ).length : Int) := h1
  have h3 : la = gLa σ := h3
  have hl : (gSh (addS0 σ x)).length = (gSh σ).length + 1 := List.length_append
  refine ⟨⟨by omega, appS_wf w2 hx, w3, w4, w5, ⟨by have := w6.1; show 0 ≤ gLa σ + 1; omega, hla⟩, w7⟩, ?_, ?_, ?_, h4⟩
  · show n + 1 = ((gSh (addS0 σ x)).length : Int)
    omega
  · intro s y hy
    rcases app_last hy with ⟨e1, e2⟩ | ⟨e1, e2⟩
    · refine TRs.keep (h2 s y e2) (w2 s y e2).2.1 (fun r hr9 => hk _ (by omega)) (fun j hj => hk2 _ (by omega))
    · rw [e1, e2]; exact hr
  · show la + 1 = gLa σ + 1
    omega
theorem line_rows {σ : Sg} {fm fx fy : Nat → Int} {N : Nat} {la x1 y1 x2 y2 n k2 h k hi mi d th : Int} {ft fc fp fle flo : Nat → Int} (hk : k2 = 2) : TRs (va_up (bgM fm N la 0 0 0) (7 * N + 2) k2, n, la, va_up (va_up fx (9 * N) x1) (9 * N + 1) x2, va_up (va_up fy (9 * N) y1) (9 * N + 1) y2, ft, fc, h, k, hi, mi, d, th, fp, fle, flo) N (lineS la x1 y1 x2 y2) := by
  refine ⟨?_, ?_, ?_, ?_, ?_, ?_, ?_, fun j hj => ?_⟩
  · show va_up (bgM fm N la 0 0 0) (7 * N + 2) k2 (7 * N) = la
    rw [va_up_n _ _ (by omega), bgM_0]
  · show va_up (bgM fm N la 0 0 0) (7 * N + 2) k2 (7 * N + 1) = 0
    rw [va_up_n _ _ (by omega), bgM_1]
  · show va_up (bgM fm N la 0 0 0) (7 * N + 2) k2 (7 * N + 2) = 2
    rw [va_up_s, hk]
  · show va_up (bgM fm N la 0 0 0) (7 * N + 2) k2 (7 * N + 3) = 0
    rw [va_up_n _ _ (by omega), bgM_3]
  · show va_up (bgM fm N la 0 0 0) (7 * N + 2) k2 (7 * N + 4) = 0
    rw [va_up_n _ _ (by omega), bgM_4]
  · show va_up (bgM fm N la 0 0 0) (7 * N + 2) k2 (7 * N + 5) = 0
    rw [va_up_n _ _ (by omega), bgM_5]
  · show va_up (bgM fm N la 0 0 0) (7 * N + 2) k2 (7 * N + 6) = 0
    rw [va_up_n _ _ (by omega), bgM_6]
  · have hj : j < 2 := hj
    show va_up (va_up fx (9 * N) x1) (9 * N + 1) x2 (9 * N + j) = _ ∧ va_up (va_up fy (9 * N) y1) (9 * N + 1) y2 (9 * N + j) = _
    rcases (show j = 0 ∨ j = 1 by omega) with e | e <;> subst e
    · exact ⟨(va_up_n _ _ (by omega)).trans (va_up_s ..), (va_up_n _ _ (by omega)).trans (va_up_s ..)⟩
    · rw [va_up_s, va_up_s]; exact ⟨rfl, rfl⟩
theorem area_rows {fm fx fy : Nat → Int} {N : Nat} {la x y re cu n h k hi mi d th : Int} {ft fc fp fle flo : Nat → Int} : TRs (bgM fm N la 1 re cu, n, la, va_up fx (9 * N) x, va_up fy (9 * N) y, ft, fc, h, k, hi, mi, d, th, fp, fle, flo) N (areaS la x y re cu) := by
  refine ⟨bgM_0, bgM_1, bgM_2, bgM_3, bgM_4, bgM_5, bgM_6, fun j hj => ?_⟩
  have hj : j < 1 := hj
  have e : j = 0 := by omega
  subst e
  exact ⟨va_up_s .., va_up_s ..⟩
theorem addT_b (b : Bool) (n : Nat) : 0 ≤ addT b n ∧ addT b n ≤ 2 := by
  unfold addT
  by_cases h : b = false
  · rw [if_pos h]; decide
  · rw [if_neg h]
    by_cases e : n = 12
    · rw [if_pos e]; decide
    · rw [if_neg e]; decide
theorem addT_0 {b : Bool} {n : Nat} (h : addT b n ≤ 0) : addT b n = 0 ∧ b = true ∧ n ≠ 12 := by
  cases b
  · have h : (1 : Int) ≤ 0 := h
    exact absurd h (by decide)
  · by_cases e : n = 12
    · have e1 : addT true n = 2 := by unfold addT; rw [if_neg (by decide), if_pos e]
      rw [e1] at h; exact absurd h (by decide)
    · have e1 : addT true n = 0 := by unfold addT; rw [if_neg (by decide), if_neg e]
      exact ⟨e1, rfl, e⟩
/-- one row of shapes changes -/
theorem TR.set1 {σ : Sg} {fm fx fy ft fc : Nat → Int} {n la h k hi mi d th : Int} {fp fle flo : Nat → Int} (hT : TR σ (fm, n, la, fx, fy, ft, fc, h, k, hi, mi, d, th, fp, fle, flo)) {si : Nat} {x : Sh} {fm' fx' fy' : Nat → Int} {th' : Int} (hx : wfS x)
    (hk : ∀ i, (i < 7 * si ∨ 7 * si + 7 ≤ i) → fm' i = fm i) (hk2 : ∀ i, (i < 9 * si ∨ 9 * si + 9 ≤ i) → fx' i = fx i ∧ fy' i = fy i) (hr : TRs (fm', n, la, fx', fy', ft, fc, h, k, hi, mi, d, th', fp, fle, flo) si x) : TR (setSh σ ((gSh σ).set si x) (gCa σ)) (fm', n, la, fx', fy', ft, fc, h, k, hi, mi, d, th', fp, fle, flo) := by
  refine hT.shapes (by rw [List.length_set]; exact hT.1.1) (set_wf hT.1.2.1 hx) (by rw [List.length_set]; exact hT.2.1) (fun s y hy => ?_)
  rcases set_at hy with ⟨e1, e2⟩ | ⟨e1, e2⟩
  · rw [e1, e2]; exact hr
  · exact TRs.keep (hT.2.2.1 s y e2) (hT.1.2.1 s y e2).2.1 (fun r hr9 => hk _ (by omega)) (fun j hj => hk2 _ (by omega))
theorem ext_rows {fm fx fy : Nat → Int} {si : Nat} {sh : Sh} {x y n la h k hi mi d th n' la' h' k' hi' mi' d' th' kk : Int} {ft fc fp fle flo ft' fc' fp' fle' flo' : Nat → Int} (hr : TRs (fm, n, la, fx, fy, ft, fc, h, k, hi, mi, d, th, fp, fle, flo) si sh) (hkk : kk = ((sPts sh).length : Int) + 1) : TRs (va_up fm (7 * si + 2) kk, n', la', va_up fx (9 * si + (sPts sh).length) x, va_up fy (9 * si + (sPts sh).length) y, ft', fc', h', k', hi', mi', d', th', fp', fle', flo') si (extS sh x y) := by
  obtain ⟨a0, a1, a2, a3, a4, a5, a6, a7⟩ := hr
  refine ⟨(va_up_n _ _ (by omega)).trans a0, (va_up_n _ _ (by omega)).trans a1, ?_, (va_up_n _ _ (by omega)).trans a3, (va_up_n _ _ (by omega)).trans a4, (va_up_n _ _ (by omega)).trans a5, (va_up_n _ _ (by omega)).trans a6, fun j hj => ?_⟩
  · show va_up fm (7 * si + 2) kk (7 * si + 2) = ((sPts sh ++ [(x, y)]).length : Int)
    rw [va_up_s, List.length_append, hkk]
    rfl
  · have hj : j < (sPts sh ++ [(x, y)]).length := hj
    rw [List.length_append] at hj
    have hj : j < (sPts sh).length + 1 := hj
    show va_up fx (9 * si + (sPts sh).length) x (9 * si + j) = pX (sPts sh ++ [(x, y)]) j ∧ va_up fy (9 * si + (sPts sh).length) y (9 * si + j) = pY (sPts sh ++ [(x, y)]) j
    by_cases e : j < (sPts sh).length
    · rw [va_up_n _ _ (by omega), va_up_n _ _ (by omega), (pX_app e).1, (pX_app e).2]; exact a7 j e
    · have e2 : j = (sPts sh).length := by omega
      subst e2
      rw [va_up_s, va_up_s, pX_last.1, pX_last.2]
      exact ⟨rfl, rfl⟩
theorem mov_rows {fm fx fy : Nat → Int} {si i : Nat} {sh : Sh} {x y n la h k hi mi d th n' la' h' k' hi' mi' d' th' : Int} {ft fc fp fle flo ft' fc' fp' fle' flo' : Nat → Int} (hr : TRs (fm, n, la, fx, fy, ft, fc, h, k, hi, mi, d, th, fp, fle, flo) si sh) (hi9 : i < (sPts sh).length) : TRs (fm, n', la', va_up fx (9 * si + i) x, va_up fy (9 * si + i) y, ft', fc', h', k', hi', mi', d', th', fp', fle', flo') si (withP sh ((sPts sh).set i (x, y))) := by
  obtain ⟨a0, a1, a2, a3, a4, a5, a6, a7⟩ := hr
  refine ⟨a0, a1, ?_, a3, a4, a5, a6, fun j hj => ?_⟩
  · show fm (7 * si + 2) = ((((sPts sh).set i (x, y)).length : Nat) : Int)
    rw [List.length_set]; exact a2
  · have hj : j < ((sPts sh).set i (x, y)).length := hj
    rw [List.length_set] at hj
    show va_up fx (9 * si + i) x (9 * si + j) = pX ((sPts sh).set i (x, y)) j ∧ va_up fy (9 * si + i) y (9 * si + j) = pY ((sPts sh).set i (x, y)) j
    rw [(pX_set hi9).1, (pX_set hi9).2]
    by_cases e : j = i
    · subst e
      rw [va_up_s, va_up_s, if_pos rfl, if_pos rfl]; exact ⟨rfl, rfl⟩
    · rw [va_up_n _ _ (by omega), va_up_n _ _ (by omega), if_neg e, if_neg e]; exact a7 j hj
theorem pointT_0 {q : List Sh} {v ix : Int} (h : pointT q v ix = 0) : ∃ k x, slotO q v = some k ∧ q[k]? = some x ∧ sAr x = false ∧ 0 ≤ ix ∧ ix ≤ ((sPts x).length : Int) - 1 := by
  rcases lineT_c q v with ⟨e, -⟩ | ⟨e, -⟩ | ⟨-, k, x, e1, e2, e3⟩
  · rw [pointT_n (by rw [e]; decide), e] at h; cases h
  · rw [pointT_n (by rw [e]; decide), e] at h; cases h
  · rw [pointT_y e1 e2 e3] at h
    by_cases g : 0 ≤ ix ∧ ix ≤ ((sPts x).length : Int) - 1
    · exact ⟨k, x, e1, e2, e3, g.1, g.2⟩
    · rw [if_neg g] at h; cases h
theorem lineT_z {q : List Sh} {v : Int} (h : lineT q v = 0) : ∃ k x, slotO q v = some k ∧ q[k]? = some x ∧ sAr x = false := by
  rcases lineT_c q v with ⟨e, -⟩ | ⟨e, -⟩ | ⟨-, e⟩
  · rw [e] at h; cases h
  · rw [e] at h; cases h
  · exact e
theorem areaT_z {q : List Sh} {v : Int} (h : areaT q v = 0) : ∃ k x, slotO q v = some k ∧ q[k]? = some x ∧ sAr x = true := by
  rcases areaT_c q v with ⟨e, -⟩ | ⟨e, -⟩ | ⟨-, e⟩
  · rw [e] at h; cases h
  · rw [e] at h; cases h
  · exact e
theorem lineT_b (q : List Sh) (v : Int) : 0 ≤ lineT q v ∧ lineT q v ≤ 2 := by rcases lineT_c q v with ⟨e, -⟩ | ⟨e, -⟩ | ⟨e, -⟩ <;> rw [e] <;> decide
theorem areaT_b (q : List Sh) (v : Int) : 0 ≤ areaT q v ∧ areaT q v ≤ 2 := by rcases areaT_c q v with ⟨e, -⟩ | ⟨e, -⟩ | ⟨e, -⟩ <;> rw [e] <;> decide
theorem pointT_b (q : List Sh) (v ix : Int) : 0 ≤ pointT q v ix ∧ pointT q v ix ≤ 3 := by
  by_cases h : lineT q v = 0
  · obtain ⟨k, x, e1, e2, e3⟩ := lineT_z h
    rw [pointT_y e1 e2 e3]
    split <;> decide
  · rw [pointT_n h]; have := lineT_b q v; omega
theorem ite4 {P : Prop} [Decidable P] {a b : Int} (ha : 0 ≤ a ∧ a ≤ 4) (hb : 0 ≤ b ∧ b ≤ 4) : 0 ≤ (if P then a else b) ∧ (if P then a else b) ≤ 4 := by
  by_cases h : P
  · rw [if_pos h]; exact ha
  · rw [if_neg h]; exact hb
