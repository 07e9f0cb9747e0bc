/-! THE TWIN: what leaves -/
theorem stay_app {P : Ti → Bool} {a b : List Ti} : stay P (a ++ b) = stay P a ++ stay P b := List.filter_append ..
theorem scan_wf {σ : Sg} {P : Ti → Bool} {pre suf : List Ti} (h : WF σ) (e : gCa σ = pre ++ suf) : (pre ++ stay P suf).length ≤ 5 := by
  have h1 := h.2.2.1
  rw [e, List.length_append] at h1
  have h2 := stay_len P suf
  rw [List.length_append]
  omega
theorem pointT_fit (q : List Sh) (v ix : Int) : fit (pointT q v ix) := by
  by_cases h : lineT q v = 0
  · rcases lineT_c q v with ⟨e, -⟩ | ⟨e, -⟩ | ⟨-, k, x, e1, e2, e3⟩
    · rw [e] at h; cases h
    · rw [e] at h; cases h
    · rw [pointT_y e1 e2 e3]
      split <;> exact ⟨by decide, by decide⟩
  · rw [pointT_n h]; exact lineT_fit q v
/-- what is thrown, and where labels are, isn't told of -/
theorem TR.thr {σ : Sg} {fm fx fy ft fc : Nat → Int} {n la h k hi mi d th : Int} {fp fle flo : Nat → Int} (hT : TR σ (fm, n, la, fx, fy, ft, fc, h, k, hi, mi, d, th, fp, fle, flo)) {th' : Int} {fp' fle' flo' : Nat → Int} : TR σ (fm, n, la, fx, fy, ft, fc, h, k, hi, mi, d, th', fp', fle', flo') := hT
