/-! KEPT POINTS, segments and rectangles -/
theorem mul_b {u v A B : Int} (hu : -A ≤ u ∧ u ≤ A) (hv : -B ≤ v ∧ v ≤ B) : -(A * B) ≤ u * v ∧ u * v ≤ A * B := by
  have h1 : (u * v).natAbs = u.natAbs * v.natAbs := Int.natAbs_mul u v
  have h2 : u.natAbs * v.natAbs ≤ A.toNat * B.toNat := Nat.mul_le_mul (by omega) (by omega)
  have h3 : ((A.toNat * B.toNat : Nat) : Int) = A * B := by rw [Int.natCast_mul, Int.toNat_of_nonneg (by omega), Int.toNat_of_nonneg (by omega)]
  omega
theorem crs_b {ax ay bx bY x y : Int} (h1 : 0 ≤ ax ∧ ax ≤ 64) (h2 : 0 ≤ ay ∧ ay ≤ 64) (h3 : 0 ≤ bx ∧ bx ≤ 64) (h4 : 0 ≤ bY ∧ bY ≤ 64) (h5 : 0 ≤ x ∧ x ≤ 64) (h6 : 0 ≤ y ∧ y ≤ 64) : -8192 ≤ crs ax ay bx bY x y ∧ crs ax ay bx bY x y ≤ 8192 := by
  unfold crs
  have e1 := mul_b (u := bx - ax) (v := y - ay) (A := 64) (B := 64) (by omega) (by omega)
  have e2 := mul_b (u := bY - ay) (v := x - ax) (A := 64) (B := 64) (by omega) (by omega)
  omega
theorem iabs_b {z A : Int} (h : -A ≤ z ∧ z ≤ A) : 0 ≤ iabs z ∧ iabs z ≤ A := by
  unfold iabs
  by_cases q : 0 ≤ z
  · rw [if_pos q]; omega
  · rw [if_neg q]; omega
theorem bi_b (b : Bool) : 0 ≤ bi b ∧ bi b ≤ 1 := by cases b <;> exact ⟨by decide, by decide⟩
def sqd (q : List (Int × Int)) (a b : Nat) : Int := (pX q a - pX q b) * (pX q a - pX q b) + (pY q a - pY q b) * (pY q a - pY q b)
def crsP (q : List (Int × Int)) (a b : Nat) (x y : Int) : Int := crs (pX q a) (pY q a) (pX q b) (pY q b) x y
def far (q : List (Int × Int)) (a b k : Nat) : Int := if sqd q a b = 0 then sqd q k a else iabs (crsP q a b (pX q k) (pY q k))
theorem sq_b {u : Int} (h : -64 ≤ u ∧ u ≤ 64) : 0 ≤ u * u ∧ u * u ≤ 4096 := by
  have h1 := mul_b (u := u) (v := u) (A := 64) (B := 64) (by omega) (by omega)
  refine ⟨?_, by omega⟩
  rcases Int.le_total 0 u with h2 | h2
  · exact Int.mul_nonneg h2 h2
  · have := Int.mul_nonneg (a := -u) (b := -u) (by omega) (by omega)
    rw [Int.neg_mul_neg] at this
    exact this
theorem sqd_b {q : List (Int × Int)} (h : wfP q) {a b : Nat} (ha : a < q.length) (hb : b < q.length) : 0 ≤ sqd q a b ∧ sqd q a b ≤ 8192 := by
  unfold sqd
  obtain ⟨a1, a2⟩ := h a ha
  obtain ⟨b1, b2⟩ := h b hb
  have e1 := sq_b (u := pX q a - pX q b) (by omega)
  have e2 := sq_b (u := pY q a - pY q b) (by omega)
  omega
theorem far_b {q : List (Int × Int)} (h : wfP q) {a b k : Nat} (ha : a < q.length) (hb : b < q.length) (hk : k < q.length) : 0 ≤ far q a b k ∧ far q a b k ≤ 8192 := by
  unfold far
  by_cases e : sqd q a b = 0
  · rw [if_pos e]; exact sqd_b h hk ha
  · rw [if_neg e]
    exact iabs_b (crs_b (h a ha).1 (h a ha).2 (h b hb).1 (h b hb).2 (h k hk).1 (h k hk).2)
def bestF (q : List (Int × Int)) (a b : Nat) : Nat → Option Nat × Int
  | 0 => (none, -1)
  | j + 1 => (if (bestF q a b j).2 < far q a b (a + 1 + j) then some (a + 1 + j) else (bestF q a b j).1, max (bestF q a b j).2 (far q a b (a + 1 + j)))
theorem bestF_b {q : List (Int × Int)} (h : wfP q) {a b : Nat} (ha : a < q.length) (hb : b < q.length) : ∀ j, a + 1 + j ≤ q.length → -1 ≤ (bestF q a b j).2 ∧ (bestF q a b j).2 ≤ 8192
  | 0, _ => ⟨by show (-1 : Int) ≤ -1; decide, by show (-1 : Int) ≤ 8192; decide⟩
  | j + 1, hj => by
    have h1 := bestF_b h ha hb j (by omega)
    have h2 := far_b h ha hb (k := a + 1 + j) (by omega)
    show -1 ≤ max _ _ ∧ max _ _ ≤ 8192
    omega
theorem bestF_in {q : List (Int × Int)} {a b : Nat} : ∀ j k, (bestF q a b j).1 = some k → a < k ∧ k ≤ a + j
  | 0, k, e => by cases e
  | j + 1, k, e => by
    have e' : (if (bestF q a b j).2 < far q a b (a + 1 + j) then some (a + 1 + j) else (bestF q a b j).1) = some k := e
    by_cases h : (bestF q a b j).2 < far q a b (a + 1 + j)
    · rw [if_pos h] at e'
      cases e'
      omega
    · rw [if_neg h] at e'
      have := bestF_in j k e'
      omega
def isFarB (len most tol : Int) : Bool := if len = 0 then decide (tol * tol < most) else decide (tol * tol * len < most * most)
def farO (q : List (Int × Int)) (a b : Nat) (tol : Int) : Option Nat := match (bestF q a b (b - a - 1)).1 with
  | none => none
  | some k => if isFarB (sqd q a b) (bestF q a b (b - a - 1)).2 tol = true then some k else none
theorem optZ_neg {o : Option Nat} : optZ o = -1 ↔ o = none := by
  cases o with
  | none => exact ⟨fun _ => rfl, fun _ => rfl⟩
  | some k => exact ⟨fun h => absurd (show (k : Int) = -1 from h) (by omega), fun h => by cases h⟩
theorem optZ_b {o : Option Nat} {n : Nat} (h : ∀ k, o = some k → k < n) : -1 ≤ optZ o ∧ optZ o < n + 1 := by
  cases o with
  | none => exact ⟨by decide, by show (-1 : Int) < n + 1; omega⟩
  | some k =>
    have := h k rfl
    exact ⟨by show (-1 : Int) ≤ k; omega, by show (k : Int) < n + 1; omega⟩
theorem farO_1 {q : List (Int × Int)} {a b : Nat} {tol : Int} (h : optZ (bestF q a b (b - a - 1)).1 = -1) : farO q a b tol = none := by
  unfold farO
  rw [optZ_neg.mp h]
theorem farO_2 {q : List (Int × Int)} {a b : Nat} {tol : Int} (h : isFarB (sqd q a b) (bestF q a b (b - a - 1)).2 tol = false) : farO q a b tol = none := by
  unfold farO
  cases e : (bestF q a b (b - a - 1)).1 with
  | none => rfl
  | some k => show (if isFarB (sqd q a b) (bestF q a b (b - a - 1)).2 tol = true then some k else none) = none; rw [h]; rfl
theorem farO_3 {q : List (Int × Int)} {a b : Nat} {tol : Int} (h : isFarB (sqd q a b) (bestF q a b (b - a - 1)).2 tol = true) : farO q a b tol = (bestF q a b (b - a - 1)).1 := by
  unfold farO
  cases e : (bestF q a b (b - a - 1)).1 with
  | none => rfl
  | some k => show (if isFarB (sqd q a b) (bestF q a b (b - a - 1)).2 tol = true then some k else none) = some k; rw [h]; rfl
theorem farO_in {q : List (Int × Int)} {a b k : Nat} {tol : Int} (h : farO q a b tol = some k) : a < k ∧ k < b := by
  unfold farO at h
  cases e : (bestF q a b (b - a - 1)).1 with
  | none => rw [e] at h; cases h
  | some k' =>
    rw [e] at h
    have h' : (if isFarB (sqd q a b) (bestF q a b (b - a - 1)).2 tol = true then some k' else none) = some k := h
    by_cases g : isFarB (sqd q a b) (bestF q a b (b - a - 1)).2 tol = true
    · rw [if_pos g] at h'
      cases h'
      have := bestF_in _ _ e
      omega
    · rw [if_neg g] at h'
      cases h'
/-- the points that are kept strictly between two kept ones -/
def inD (q : List (Int × Int)) (tol : Int) : Nat → Nat → Nat → Nat → Bool
  | 0, _, _, _ => false
  | f + 1, a, b, j => match farO q a b tol with
    | none => false
    | some k => j == k || inD q tol f a k j || inD q tol f k b j
theorem inD_fuel {q : List (Int × Int)} {tol : Int} : ∀ (f a b j : Nat), b - a ≤ f → inD q tol (f + 1) a b j = inD q tol f a b j
  | 0, a, b, j, h => by
    show (match farO q a b tol with | none => false | some k => j == k || inD q tol 0 a k j || inD q tol 0 k b j) = false
    cases e : farO q a b tol with
    | none => rfl
    | some k => have := farO_in e; omega
  | f + 1, a, b, j, h => by
    show (match farO q a b tol with | none => false | some k => j == k || inD q tol (f + 1) a k j || inD q tol (f + 1) k b j) = (match farO q a b tol with | none => false | some k => j == k || inD q tol f a k j || inD q tol f k b j)
    cases e : farO q a b tol with
    | none => rfl
    | some k =>
      have := farO_in e
      show (j == k || inD q tol (f + 1) a k j || inD q tol (f + 1) k b j) = (j == k || inD q tol f a k j || inD q tol f k b j)
      rw [inD_fuel f a k j (by omega), inD_fuel f k b j (by omega)]
def dD (q : List (Int × Int)) (tol : Int) (a b j : Nat) : Bool := inD q tol 16 a b j
theorem dD_none {q : List (Int × Int)} {tol : Int} {a b : Nat} (e : farO q a b tol = none) (j : Nat) : dD q tol a b j = false := by
  show (match farO q a b tol with | none => false | some k => j == k || inD q tol 15 a k j || inD q tol 15 k b j) = false
  rw [e]
theorem dD_some {q : List (Int × Int)} {tol : Int} {a b k : Nat} (hb : b - a ≤ 15) (e : farO q a b tol = some k) (j : Nat) : dD q tol a b j = (j == k || dD q tol a k j || dD q tol k b j) := by
  have hk := farO_in e
  show (match farO q a b tol with | none => false | some k => j == k || inD q tol 15 a k j || inD q tol 15 k b j) = (j == k || inD q tol 16 a k j || inD q tol 16 k b j)
  rw [e, inD_fuel 15 a k j (by omega), inD_fuel 15 k b j (by omega)]
theorem dD_in {q : List (Int × Int)} {tol : Int} : ∀ (n a b j : Nat), b - a ≤ n → n ≤ 15 → dD q tol a b j = true → a < j ∧ j < b
  | n, a, b, j, hn, h15, h => by
    cases e : farO q a b tol with
    | none => rw [dD_none e] at h; cases h
    | some k =>
      have hk := farO_in e
      rw [dD_some (by omega) e] at h
      simp only [Bool.or_eq_true, beq_iff_eq] at h
      match n, hn, h15 with
      | 0, hn, _ => omega
      | n + 1, hn, h15 =>
        rcases h with (h | h) | h
        · omega
        · have := dD_in n a k j (by omega) (by omega) h; omega
        · have := dD_in n k b j (by omega) (by omega) h; omega
/-- the kept points of a line -/
def keptB (q : List (Int × Int)) (tol : Int) (j : Nat) : Bool := j == 0 || j == q.length - 1 || dD q tol 0 (q.length - 1) j
def kl (q : List (Int × Int)) (tol : Int) : List Nat := (List.range q.length).filter (keptB q tol)
/-- a segment meets a rectangle -/
def mtB (ax ay bx bY l lo r hi : Int) : Bool := (decide (min ax bx ≤ r) && decide (l ≤ max ax bx)) && (decide (min ay bY ≤ hi) && decide (lo ≤ max ay bY)) && !(decide (0 < crs ax ay bx bY l lo) && decide (0 < crs ax ay bx bY r lo) && decide (0 < crs ax ay bx bY l hi) && decide (0 < crs ax ay bx bY r hi)) && !(decide (crs ax ay bx bY l lo < 0) && decide (crs ax ay bx bY r lo < 0) && decide (crs ax ay bx bY l hi < 0) && decide (crs ax ay bx bY r hi < 0))
def mtP (q : List (Int × Int)) (l lo r hi : Int) (a b : Nat) : Bool := mtB (pX q a) (pY q a) (pX q b) (pY q b) l lo r hi
/-- how many neighbours do -/
def segC (f : Nat → Nat → Bool) : List Nat → Int
  | [] => 0
  | [_] => 0
  | a :: b :: r => bi (f a b) + segC f (b :: r)
def metC (q : List (Int × Int)) (tol l lo r hi : Int) : Int := segC (mtP q l lo r hi) (kl q tol)
theorem segC_b (f : Nat → Nat → Bool) : ∀ L : List Nat, 0 ≤ segC f L ∧ segC f L ≤ L.length
  | [] => ⟨Int.le_refl 0, Int.le_refl 0⟩
  | [_] => ⟨Int.le_refl 0, by show (0 : Int) ≤ 1; decide⟩
  | a :: b :: r => by
    have h1 := segC_b f (b :: r)
    have h2 := bi_b (f a b)
    show 0 ≤ bi (f a b) + segC f (b :: r) ∧ bi (f a b) + segC f (b :: r) ≤ ((a :: b :: r).length : Int)
    simp only [List.length_cons] at h1 ⊢
    omega
theorem kl_len (q : List (Int × Int)) (tol : Int) : (kl q tol).length ≤ q.length := by
  have := List.length_filter_le (keptB q tol) (List.range q.length)
  rw [List.length_range] at this
  exact this
theorem metC_b (q : List (Int × Int)) (tol l lo r hi : Int) : 0 ≤ metC q tol l lo r hi ∧ metC q tol l lo r hi ≤ q.length := by
  have h1 := segC_b (mtP q l lo r hi) (kl q tol)
  have h2 := kl_len q tol
  unfold metC
  omega
-- bits
theorem or_nI (a b : Nat) : zi (a : Int) ||| zi (b : Int) = zi ((a ||| b : Nat) : Int) := by
  show Int32.ofNat a ||| Int32.ofNat b = Int32.ofNat (a ||| b)
  apply Int32.toBitVec.inj
  rw [Int32.toBitVec_or]
  show BitVec.ofNat 32 a ||| BitVec.ofNat 32 b = BitVec.ofNat 32 (a ||| b)
  rw [BitVec.ofNat_or]
theorem sh31 {k : Nat} (h : k < 16) : ((zi (k : Int) &&& 31).toBitVec.smod 32).toNat = k := by
  have : ∀ k : Nat, k < 16 → ((zi (k : Int) &&& 31).toBitVec.smod 32).toNat = k := by decide +kernel
  exact this k h
theorem shl_1 {k : Nat} (h : k < 16) : zi 1 <<< (zi (k : Int) &&& 31) = zi ((2 ^ k : Nat) : Int) := by
  have := pk_shlN (n := 1) (zi (k : Int) &&& 31) k (sh31 h) (by have := Nat.pow_lt_pow_right (a := 2) (by decide) (show k < 32 by omega); omega)
  rw [Nat.one_mul] at this
  exact this
theorem bit_at {N k : Nat} (hN : N < 2147483648) (h : k < 16) : (zi (N : Int) >>> (zi (k : Int) &&& 31)) = zi ((N / 2 ^ k : Nat) : Int) := pk_shrN (by omega) _ k (sh31 h)
theorem bit_and (N k : Nat) (hN : N < 2147483648) : zi ((N / 2 ^ k : Nat) : Int) &&& zi 1 = zi (bi (N.testBit k)) := by
  have h1 : N / 2 ^ k ≤ N := Nat.div_le_self N (2 ^ k)
  have := pk_andN (n := N / 2 ^ k) (by omega) (m := zi 1) 1 (by decide +kernel)
  refine Eq.trans this ?_
  rw [Nat.testBit_eq_decide_div_mod_eq]
  by_cases h : N / 2 ^ k % 2 = 1
  · rw [decide_eq_true h, Nat.pow_one, h]; rfl
  · rw [decide_eq_false h, Nat.pow_one, show N / 2 ^ k % 2 = 0 by omega]; rfl
theorem or_bit {N k : Nat} (hN : N < 512) (hk : k < 9) : N ||| 2 ^ k < 512 ∧ ∀ j, (N ||| 2 ^ k).testBit j = (N.testBit j || j == k) := by
  refine ⟨Nat.or_lt_two_pow (n := 9) hN (Nat.pow_lt_pow_right (by decide) hk), fun j => ?_⟩
  rw [Nat.testBit_or, Nat.testBit_two_pow]
  congr 1
  by_cases h : k = j
  · subst h; simp
  · rw [decide_eq_false h]
    symm
    simp only [beq_eq_false_iff_ne, ne_eq]
    omega
theorem tol2 {t : Int} (h : 0 ≤ t ∧ t ≤ 9) : fit (t * t) := by
  have := mul_b (u := t) (v := t) (A := 9) (B := 9) (by omega) (by omega)
  exact ⟨by omega, by omega⟩
theorem tol3 {t d : Int} (h : 0 ≤ t ∧ t ≤ 9) (hd : 0 ≤ d ∧ d ≤ 8192) : fit (t * t * d) := by
  have h1 := mul_b (u := t) (v := t) (A := 9) (B := 9) (by omega) (by omega)
  have := mul_b (u := t * t) (v := d) (A := 81) (B := 8192) (by omega) (by omega)
  exact ⟨by omega, by omega⟩
theorem most2 {d : Int} (hd : -1 ≤ d ∧ d ≤ 8192) : fit (d * d) := by
  have := mul_b (u := d) (v := d) (A := 8192) (B := 8192) (by omega) (by omega)
  exact ⟨by omega, by omega⟩
theorem best_fit {o : Option Nat} {n : Nat} (h : ∀ k, o = some k → k ≤ n) (hn : n ≤ 1000000) : fit (optZ o) := by
  have := optZ_b (n := n + 1) (fun k hk => by have := h k hk; omega)
  exact ⟨by omega, by omega⟩
theorem fit8k {z : Int} (h : -8192 ≤ z ∧ z ≤ 8192) : fit z := ⟨by omega, by omega⟩
theorem bestF_y {q : List (Int × Int)} {a b j : Nat} (h : (bestF q a b j).2 < far q a b (a + 1 + j)) : optZ (bestF q a b (j + 1)).1 = ((a + 1 + j : Nat) : Int) := by
  show optZ (if (bestF q a b j).2 < far q a b (a + 1 + j) then some (a + 1 + j) else (bestF q a b j).1) = _
  rw [if_pos h]
  rfl
theorem bestF_n {q : List (Int × Int)} {a b j : Nat} (h : far q a b (a + 1 + j) ≤ (bestF q a b j).2) : optZ (bestF q a b (j + 1)).1 = optZ (bestF q a b j).1 := by
  show optZ (if (bestF q a b j).2 < far q a b (a + 1 + j) then some (a + 1 + j) else (bestF q a b j).1) = _
  rw [if_neg (by omega)]
theorem dD_out {q : List (Int × Int)} {tol : Int} {a b j : Nat} (h : b - a ≤ 15) (hj : ¬ (a < j ∧ j < b)) : dD q tol a b j = false := by
  cases e : dD q tol a b j with
  | false => rfl
  | true => exact absurd (dD_in 15 a b j h (Nat.le_refl _) e) hj
theorem bit1 (j : Nat) : (1 : Nat).testBit j = (j == 0) := by
  have := Nat.testBit_two_pow (n := 0) (m := j)
  rw [Nat.pow_zero] at this
  rw [this]
  by_cases h : 0 = j
  · subst h; rfl
  · rw [decide_eq_false h]
    symm
    exact beq_false_of_ne (by omega)
theorem bi_ne {b : Bool} (h : bi b ≠ 0) : b = true := by cases b; exact absurd rfl h; rfl
theorem bi_eq {b : Bool} (h : bi b = 0) : b = false := by cases b; rfl; cases h
theorem sum4 (b1 b2 b3 b4 : Bool) : 0 + bi b1 + bi b2 + bi b3 + bi b4 < 4 ↔ (b1 && b2 && b3 && b4) = false := by cases b1 <;> cases b2 <;> cases b3 <;> cases b4 <;> decide
-- the kept points in their order
def SufK (q : List (Int × Int)) (tol : Int) (a : Nat) (suf : List Nat) : Prop := (a :: suf).Pairwise (· < ·) ∧ ∀ j, a < j → (j ∈ suf ↔ j < q.length ∧ keptB q tol j = true)
theorem keptB_0 (q : List (Int × Int)) (tol : Int) : keptB q tol 0 = true := rfl
theorem keptB_last (q : List (Int × Int)) (tol : Int) : keptB q tol (q.length - 1) = true := by unfold keptB; simp
theorem SufK_0 {q : List (Int × Int)} {tol : Int} (h : 0 < q.length) : ∃ suf, kl q tol = 0 :: suf ∧ SufK q tol 0 suf := by
  obtain ⟨n, hn⟩ : ∃ n, q.length = n + 1 := ⟨q.length - 1, by omega⟩
  have e : kl q tol = 0 :: ((List.range' 1 n).filter (keptB q tol)) := by
    unfold kl
    rw [hn, List.range_eq_range', List.range'_succ, List.filter_cons]
    rw [if_pos (keptB_0 q tol)]
  refine ⟨_, e, ?_, fun j hj => ?_⟩
  · rw [← e]
    exact List.Pairwise.filter _ List.pairwise_lt_range
  · rw [List.mem_filter, List.mem_range'_1]
    constructor
    · intro ⟨h1, h2⟩; exact ⟨by omega, h2⟩
    · intro ⟨h1, h2⟩; exact ⟨by omega, h2⟩
theorem SufK_next {q : List (Int × Int)} {tol : Int} {a : Nat} {suf : List Nat} (h : SufK q tol a suf) (ha : a < q.length - 1) : ∃ b r, suf = b :: r ∧ a < b ∧ b < q.length ∧ keptB q tol b = true ∧ (∀ j, a < j → j < b → keptB q tol j = false) ∧ SufK q tol b r := by
  obtain ⟨h1, h2⟩ := h
  cases suf with
  | nil =>
    have := (h2 (q.length - 1) ha).mpr ⟨by omega, keptB_last q tol⟩
    exact absurd this List.not_mem_nil
  | cons b r =>
    have h3 := List.pairwise_cons.mp h1
    have h4 := List.pairwise_cons.mp h3.2
    have hab := h3.1 b List.mem_cons_self
    have hb := (h2 b hab).mp List.mem_cons_self
    refine ⟨b, r, rfl, hab, hb.1, hb.2, fun j g1 g2 => ?_, h3.2, fun j hj => ?_⟩
    · cases e : keptB q tol j with
      | false => rfl
      | true =>
        have hm := (h2 j g1).mpr ⟨by omega, e⟩
        rcases List.mem_cons.mp hm with q | q
        · omega
        · have := h4.1 j q; omega
    · rw [← h2 j (by omega), List.mem_cons]
      constructor
      · exact Or.inr
      · intro q
        rcases q with q | q
        · omega
        · exact q
theorem SufK_end {q : List (Int × Int)} {tol : Int} {a : Nat} {suf : List Nat} (h : SufK q tol a suf) (ha : q.length - 1 ≤ a) : suf = [] := by
  obtain ⟨h1, h2⟩ := h
  cases suf with
  | nil => rfl
  | cons b r =>
    have hab := (List.pairwise_cons.mp h1).1 b List.mem_cons_self
    have := (h2 b hab).mp List.mem_cons_self
    omega
theorem segC_1 (f : Nat → Nat → Bool) (a b : Nat) (r : List Nat) : segC f (a :: b :: r) = bi (f a b) + segC f (b :: r) := rfl
def rchB (u v lo hi : Int) : Bool := decide (min u v ≤ hi) && decide (lo ≤ max u v)
theorem rch_1 {u v lo hi : Int} (h1 : min u v ≤ hi) (h2 : lo ≤ max u v) : rchB u v lo hi = true := by unfold rchB; rw [decide_eq_true h1, decide_eq_true h2]; rfl
theorem rch_2 {u v lo hi : Int} (h1 : hi < min u v) : rchB u v lo hi = false := by unfold rchB; rw [decide_eq_false (by omega)]; rfl
theorem rch_3 {u v lo hi : Int} (h1 : max u v < lo) : rchB u v lo hi = false := by unfold rchB; rw [decide_eq_false (p := lo ≤ max u v) (by omega), Bool.and_false]
theorem mtB_eq (ax ay bx bY l lo r hi : Int) : mtB ax ay bx bY l lo r hi = ((rchB ax bx l r && rchB ay bY lo hi) && !(decide (0 < crs ax ay bx bY l lo) && decide (0 < crs ax ay bx bY r lo) && decide (0 < crs ax ay bx bY l hi) && decide (0 < crs ax ay bx bY r hi)) && !(decide (crs ax ay bx bY l lo < 0) && decide (crs ax ay bx bY r lo < 0) && decide (crs ax ay bx bY l hi < 0) && decide (crs ax ay bx bY r hi < 0))) := rfl
def btw (v lo hi : Int) : Int := max 0 (max (lo - v) (v - hi))
/-- a shape shows in a rectangle -/
def shwB (h : Sh) (tol l lo r hi : Int) : Bool := if sAr h = true then decide (btw (pX (sPts h) 0) l r < sRe h) && decide (btw (pY (sPts h) 0) lo hi < sRe h) && decide (btw (pX (sPts h) 0) l r + btw (pY (sPts h) 0) lo hi < sCu h) else decide (0 < metC (sPts h) tol l lo r hi)
/-- what shows in a cell: the last of the shapes that do -/
def drw (q : List Sh) (tol l lo r hi : Int) : Nat → Int
  | 0 => 0
  | k + 1 => match q[k]? with
    | some h => if shwB h tol l lo r hi = true then sNum h else drw q tol l lo r hi k
    | none => drw q tol l lo r hi k
theorem drw_y {q : List Sh} {tol l lo r hi : Int} {k : Nat} {h : Sh} (e : q[k]? = some h) (hs : shwB h tol l lo r hi = true) : drw q tol l lo r hi (k + 1) = sNum h := by
  show (match q[k]? with | some h => if shwB h tol l lo r hi = true then sNum h else drw q tol l lo r hi k | none => drw q tol l lo r hi k) = _
  rw [e]
  exact if_pos hs
theorem drw_n {q : List Sh} {tol l lo r hi : Int} {k : Nat} {h : Sh} (e : q[k]? = some h) (hs : shwB h tol l lo r hi = false) : drw q tol l lo r hi (k + 1) = drw q tol l lo r hi k := by
  show (match q[k]? with | some h => if shwB h tol l lo r hi = true then sNum h else drw q tol l lo r hi k | none => drw q tol l lo r hi k) = _
  rw [e]
  show (if shwB h tol l lo r hi = true then sNum h else drw q tol l lo r hi k) = _
  rw [hs]
  rfl
/-- the number in a cell of a tile -/
def cellZ (q : List Sh) (tol lv co ro x y : Int) : Int := drw q tol ((8 * co + x) * cs lv) ((8 * ro + y) * cs lv) ((8 * co + x) * cs lv + cs lv) ((8 * ro + y) * cs lv + cs lv) q.length
theorem cell_b {lv co x : Int} (h0 : 0 ≤ lv) (h3 : lv ≤ 3) (hc : 0 ≤ co ∧ co ≤ pw lv - 1) (hx : 0 ≤ x ∧ x ≤ 7) : 0 ≤ (8 * co + x) * cs lv ∧ (8 * co + x) * cs lv + cs lv ≤ 64 ∧ 1 ≤ cs lv ∧ cs lv ≤ 8 := by
  rcases lv_cases h0 h3 with ⟨-, h, k⟩ | ⟨-, h, k⟩ | ⟨-, h, k⟩ | ⟨-, h, k⟩ <;> rw [h] <;> rw [k] at hc <;> omega
theorem btw_b {v lo hi : Int} (hv : 0 ≤ v ∧ v ≤ 64) (hl : 0 ≤ lo ∧ lo ≤ 64) (hh : 0 ≤ hi ∧ hi ≤ 64) : 0 ≤ btw v lo hi ∧ btw v lo hi ≤ 64 := by unfold btw; omega
theorem ba1 (x p y : Bool) (h : p = true) : (0 : Int) = bi (x && !p && !y) := by rw [h]; cases x <;> rfl
theorem ba2 (x p y : Bool) (h : y = true) : (0 : Int) = bi (x && !p && !y) := by rw [h]; cases x <;> cases p <;> rfl
