/-! THE TWIN: rows put in and taken out -/
theorem TR.caB {σ : Sg} {t : TS} (hT : TR σ t) : 0 ≤ uH t ∧ uH t ≤ 5 := by
  rw [hT.h]; have := hT.c5; omega
/-- what drops leaves of the rows -/
theorem drops_rows {q : List Ti} {fc f : Nat → Int} {k : Nat} (hk : k < q.length) (hc : ∀ (j : Nat) (c : Ti), q[j]? = some c → fc (4 * j) = tLv c ∧ fc (4 * j + 1) = tCo c ∧ fc (4 * j + 2) = tRo c ∧ fc (4 * j + 3) = tWh c) (hf : ∀ i, f i = if 4 * k ≤ i ∧ i < 4 * (q.length - 1) then fc (i + 4) else fc i) : ∀ (j : Nat) (c : Ti), (q.eraseIdx k)[j]? = some c → f (4 * j) = tLv c ∧ f (4 * j + 1) = tCo c ∧ f (4 * j + 2) = tRo c ∧ f (4 * j + 3) = tWh c := by
  intro j c h
  have hl : j < q.length - 1 := by
    have := idx_lt h
    rw [List.length_eraseIdx_of_lt hk] at this
    exact this
  have h2 := er_at h
  by_cases g : j < k
  · rw [if_pos g] at h2
    have h3 := hc j c h2
    rw [hf, hf, hf, hf, if_neg (by omega), if_neg (by omega), if_neg (by omega), if_neg (by omega)]
    exact h3
  · rw [if_neg g] at h2
    have h3 := hc (j + 1) c h2
    rw [hf, hf, hf, hf, if_pos (by omega), if_pos (by omega), if_pos (by omega), if_pos (by omega)]
    exact h3
theorem er_wf {q : List Ti} {k : Nat} (h : ∀ (k : Nat) (t : Ti), q[k]? = some t → wfT t) : ∀ (j : Nat) (t : Ti), (q.eraseIdx k)[j]? = some t → wfT t := fun j t hj => h _ t (er_at hj)
theorem app_wf {q : List Ti} {x : Ti} (h : ∀ (k : Nat) (t : Ti), q[k]? = some t → wfT t) (hx : wfT x) : ∀ (j : Nat) (t : Ti), (q ++ [x])[j]? = some t → wfT t := by
  intro j t hj
  rcases List.mem_append.mp (List.mem_of_getElem? hj) with m | m
  · obtain ⟨i, hi⟩ := List.getElem?_of_mem m
    exact h i t hi
  · rw [List.mem_singleton.mp m]; exact hx
theorem app_last {α : Type} {q : List α} {x t : α} {j : Nat} (h : (q ++ [x])[j]? = some t) : (j < q.length ∧ q[j]? = some t) ∨ (j = q.length ∧ t = x) := by
  by_cases hj : j < q.length
  · rw [List.getElem?_append_left hj] at h
    exact Or.inl ⟨hj, h⟩
  · rw [List.getElem?_append_right (by omega)] at h
    have hz : j - q.length < 1 := (List.getElem?_eq_some_iff.mp h).1
    have e : j = q.length := by omega
    rw [show j - q.length = 0 by omega] at h
    cases h
    exact Or.inr ⟨e, rfl⟩
theorem drops_f {fc f : Nat → Int} {k x : Nat} (hf : ∀ i, f i = if 4 * k ≤ i ∧ i < x then fc (i + 4) else fc i) (h1 : 4 * k ≤ x) (i : Nat) : va_up f x (f (x + 4)) i = if 4 * k ≤ i ∧ i < x + 1 then fc (i + 4) else fc i := by
  by_cases e : i = x
  · subst e
    rw [va_up_s, if_pos ⟨h1, by omega⟩, hf, if_neg (by omega)]
  · rw [va_up_n _ _ e, hf]
    by_cases g : 4 * k ≤ i ∧ i < x
    · rw [if_pos g, if_pos ⟨g.1, by omega⟩]
    · rw [if_neg g, if_neg (fun q => g ⟨q.1, by omega⟩)]
theorem holds_rows {q : List Ti} {fc : Nat → Int} {L : Nat} {lv co ro wh : Int} (hL : q.length = L) (hc : ∀ (j : Nat) (c : Ti), q[j]? = some c → fc (4 * j) = tLv c ∧ fc (4 * j + 1) = tCo c ∧ fc (4 * j + 2) = tRo c ∧ fc (4 * j + 3) = tWh c) {j : Nat} {c : Ti} (h : (q ++ [(lv, co, ro, wh)])[j]? = some c) : va_up (va_up (va_up (va_up fc (4 * L) lv) (4 * L + 1) co) (4 * L + 2) ro) (4 * L + 3) wh (4 * j) = tLv c ∧ va_up (va_up (va_up (va_up fc (4 * L) lv) (4 * L + 1) co) (4 * L + 2) ro) (4 * L + 3) wh (4 * j + 1) = tCo c ∧ va_up (va_up (va_up (va_up fc (4 * L) lv) (4 * L + 1) co) (4 * L + 2) ro) (4 * L + 3) wh (4 * j + 2) = tRo c ∧ va_up (va_up (va_up (va_up fc (4 * L) lv) (4 * L + 1) co) (4 * L + 2) ro) (4 * L + 3) wh (4 * j + 3) = tWh c := by
  rcases app_last h with ⟨h1, h2⟩ | ⟨h1, h2⟩
  · obtain ⟨c1, c2, c3, c4⟩ := hc j c h2
    refine ⟨?_, ?_, ?_, ?_⟩ <;> rw [va_up_n _ _ (by omega), va_up_n _ _ (by omega), va_up_n _ _ (by omega), va_up_n _ _ (by omega)] <;> assumption
  · rw [hL] at h1
    subst h1 h2
    refine ⟨?_, ?_, ?_, ?_⟩
    · rw [va_up_n _ _ (by omega), va_up_n _ _ (by omega), va_up_n _ _ (by omega), va_up_s]
    · rw [va_up_n _ _ (by omega), va_up_n _ _ (by omega), va_up_s]
    · rw [va_up_n _ _ (by omega), va_up_s]
    · rw [va_up_s]
theorem ifc {P Q : Prop} [Decidable P] [Decidable Q] {a b : Int} (h : P ↔ Q) : (if P then a else b) = if Q then a else b := by
  by_cases q : Q
  · rw [if_pos q, if_pos (h.mpr q)]
  · rw [if_neg q, if_neg (fun z => q (h.mp z))]
def bgM (f : Nat → Int) (N : Nat) (la ar re cu : Int) : Nat → Int := va_up (va_up (va_up (va_up (va_up (va_up (va_up f (7 * N) la) (7 * N + 1) ar) (7 * N + 2) 1) (7 * N + 3) re) (7 * N + 4) cu) (7 * N + 5) 0) (7 * N + 6) 0
theorem lineT_fit (q : List Sh) (v : Int) : fit (lineT q v) := by rcases lineT_c q v with ⟨e, -⟩ | ⟨e, -⟩ | ⟨e, -⟩ <;> rw [e] <;> exact ⟨by decide, by decide⟩
theorem areaT_fit (q : List Sh) (v : Int) : fit (areaT q v) := by rcases areaT_c q v with ⟨e, -⟩ | ⟨e, -⟩ | ⟨e, -⟩ <;> rw [e] <;> exact ⟨by decide, by decide⟩
theorem bi_n1 {b : Bool} (h : bi b ≠ 1) : b = false := by cases b; rfl; exact absurd rfl h
