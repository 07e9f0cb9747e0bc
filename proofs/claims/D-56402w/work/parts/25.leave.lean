/-! SMALLEST RECTANGLES; tiles that leave -/
def mnF (f : Nat → Int) : Nat → Int
  | 0 => f 0
  | k + 1 => min (mnF f k) (f (k + 1))
def mxF (f : Nat → Int) : Nat → Int
  | 0 => f 0
  | k + 1 => max (mxF f k) (f (k + 1))
theorem mnF_b {f : Nat → Int} {lo hi : Int} : ∀ n, (∀ k, k ≤ n → lo ≤ f k ∧ f k ≤ hi) → lo ≤ mnF f n ∧ mnF f n ≤ hi
  | 0, h => h 0 (Nat.le_refl 0)
  | n + 1, h => by
    have h1 := mnF_b n (fun k hk => h k (by omega))
    have h2 := h (n + 1) (Nat.le_refl _)
    show lo ≤ min _ _ ∧ min _ _ ≤ hi
    omega
theorem mxF_b {f : Nat → Int} {lo hi : Int} : ∀ n, (∀ k, k ≤ n → lo ≤ f k ∧ f k ≤ hi) → lo ≤ mxF f n ∧ mxF f n ≤ hi
  | 0, h => h 0 (Nat.le_refl 0)
  | n + 1, h => by
    have h1 := mxF_b n (fun k hk => h k (by omega))
    have h2 := h (n + 1) (Nat.le_refl _)
    show lo ≤ max _ _ ∧ max _ _ ≤ hi
    omega
/-- the rectangle around a shape -/
abbrev bxL (h : Sh) : Int := mnF (pX (sPts h)) ((sPts h).length - 1) - sRe h
abbrev bxLo (h : Sh) : Int := mnF (pY (sPts h)) ((sPts h).length - 1) - sRe h
abbrev bxR (h : Sh) : Int := mxF (pX (sPts h)) ((sPts h).length - 1) + sRe h
abbrev bxHi (h : Sh) : Int := mxF (pY (sPts h)) ((sPts h).length - 1) + sRe h
/-- a rectangle and a tile have a point in common -/
def metTi (t : Ti) (l lo r hi : Int) : Bool := (decide (tCo t * (8 * cs (tLv t)) ≤ r) && decide (l ≤ tCo t * (8 * cs (tLv t)) + 8 * cs (tLv t))) && (decide (tRo t * (8 * cs (tLv t)) ≤ hi) && decide (lo ≤ tRo t * (8 * cs (tLv t)) + 8 * cs (tLv t)))
def metSh (h : Sh) (t : Ti) : Bool := metTi t (bxL h) (bxLo h) (bxR h) (bxHi h)
/-- the tiles that stay -/
def stay (P : Ti → Bool) (q : List Ti) : List Ti := q.filter (fun t => !P t)
theorem tile_b {t : Ti} (h : wfT t) : (0 ≤ tCo t * (8 * cs (tLv t)) ∧ tCo t * (8 * cs (tLv t)) + 8 * cs (tLv t) ≤ 64) ∧ (0 ≤ tRo t * (8 * cs (tLv t)) ∧ tRo t * (8 * cs (tLv t)) + 8 * cs (tLv t) ≤ 64) ∧ 8 ≤ 8 * cs (tLv t) ∧ 8 * cs (tLv t) ≤ 64 := by
  obtain ⟨⟨h0, h3⟩, hc, hr, -⟩ := h
  rcases lv_cases h0 h3 with ⟨-, h, k⟩ | ⟨-, h, k⟩ | ⟨-, h, k⟩ | ⟨-, h, k⟩ <;> rw [h] <;> rw [k] at hc hr <;> omega
theorem stay_wf {P : Ti → Bool} {q : List Ti} (h : ∀ (k : Nat) (t : Ti), q[k]? = some t → wfT t) : ∀ (k : Nat) (t : Ti), (stay P q)[k]? = some t → wfT t := by
  intro k t hk
  have := (List.mem_filter.mp (List.mem_of_getElem? hk)).1
  obtain ⟨j, hj⟩ := List.getElem?_of_mem this
  exact h j t hj
theorem stay_len (P : Ti → Bool) (q : List Ti) : (stay P q).length ≤ q.length := List.length_filter_le _ _
theorem stay_y {P : Ti → Bool} {x : Ti} {q : List Ti} (h : P x = true) : stay P (x :: q) = stay P q := by
  unfold stay
  rw [List.filter_cons, h]
  rfl
theorem stay_n {P : Ti → Bool} {x : Ti} {q : List Ti} (h : P x = false) : stay P (x :: q) = x :: stay P q := by
  unfold stay
  rw [List.filter_cons, h]
  rfl
theorem app_at {α : Type} (a : List α) (x : α) (b : List α) : (a ++ x :: b)[a.length]? = some x := by
  rw [List.getElem?_append_right (Nat.le_refl _), Nat.sub_self]
  rfl
theorem app_er {α : Type} (a : List α) (x : α) (b : List α) : (a ++ x :: b).eraseIdx a.length = a ++ b := by
  rw [List.eraseIdx_append_of_length_le (Nat.le_refl _), Nat.sub_self]
  rfl
theorem last_of {α : Type} {q : List α} {n : Nat} (h : q.length = n + 1) : ∃ a x, q = a ++ [x] ∧ a.length = n := by
  rcases List.eq_nil_or_concat q with e | ⟨a, x, e⟩
  · rw [e] at h; cases h
  · refine ⟨a, x, by rw [e, List.concat_eq_append], ?_⟩
    rw [e, List.length_concat] at h
    omega
theorem er_at {α : Type} {q : List α} {k j : Nat} {x : α} (h : (q.eraseIdx k)[j]? = some x) : q[if j < k then j else j + 1]? = some x := by
  rw [List.getElem?_eraseIdx] at h
  by_cases c : j < k
  · rw [if_pos c] at h ⊢; exact h
  · rw [if_neg c] at h ⊢; exact h
