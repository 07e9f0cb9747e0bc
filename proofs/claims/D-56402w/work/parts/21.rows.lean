/-! ROWS over whole numbers -/
def iz (f : Nat → Int) : Nat → Int32 := fun j => zi (f j)
def bz (f : Nat → Bool) : Nat → Int32 := fun j => zi (bi (f j))
theorem iz_up (f : Nat → Int) (k : Nat) (v : Int) : upd (iz f) k (zi v) = iz (va_up f k v) := by
  funext j
  show (if j = k then zi v else zi (f j)) = zi (if j = k then v else f j)
  by_cases h : j = k
  · rw [if_pos h, if_pos h]
  · rw [if_neg h, if_neg h]
theorem bz_up (f : Nat → Bool) (k : Nat) (v : Bool) : upd (bz f) k (zi (bi v)) = bz (va_up f k v) := by
  funext j
  show (if j = k then zi (bi v) else zi (bi (f j))) = zi (bi (if j = k then v else f j))
  by_cases h : j = k
  · rw [if_pos h, if_pos h]
  · rw [if_neg h, if_neg h]
theorem bi_vnar (v : Bool) : vp_nar .boolean (zi (bi v)) = zi (bi v) := by cases v <;> decide +kernel
theorem va_up_s {α : Type} (f : Nat → α) (k : Nat) (v : α) : va_up f k v k = v := if_pos rfl
theorem va_up_n {α : Type} (f : Nat → α) {k j : Nat} (v : α) (h : j ≠ k) : va_up f k v j = f j := if_neg h
theorem bi_t {P : Prop} [Decidable P] (h : P) : (1 : Int) = bi (decide P) := by rw [decide_eq_true h]; rfl
theorem bi_f {P : Prop} [Decidable P] (h : ¬ P) : (0 : Int) = bi (decide P) := by rw [decide_eq_false h]; rfl
def iabs (z : Int) : Int := if 0 ≤ z then z else 0 - z
theorem zi_abs {z : Int} (h : fit z) : (if 0 ≤ zi z then zi z else 0 - zi z) = zi (iabs z) := by
  unfold iabs
  by_cases q : 0 ≤ z
  · rw [if_pos q, if_pos (show (0 : Int32) ≤ zi z from (zi_le ⟨by decide, by decide⟩ h).mpr q)]
  · rw [if_neg q, if_neg (show ¬ (0 : Int32) ≤ zi z from fun k => q ((zi_le ⟨by decide, by decide⟩ h).mp k))]
    exact zi_sub 0 z
theorem zi_min (a b : Int) (ha : fit a) (hb : fit b) : (if zi b < zi a then zi b else zi a) = zi (min a b) := by
  by_cases h : b < a
  · rw [if_pos ((zi_lt hb ha).mpr h), Int.min_eq_right (Int.le_of_lt h)]
  · rw [if_neg (fun q => h ((zi_lt hb ha).mp q)), Int.min_eq_left (by omega)]
def zl (z : Int) : Int64 := Int64.ofInt z
def fit8 (z : Int) : Prop := -9223372036854775808 ≤ z ∧ z ≤ 9223372036854775807
theorem zl_toInt {z : Int} (h : fit8 z) : (zl z).toInt = z := Int64.toInt_ofInt_of_le (by have := h.1; omega) (by have := h.2; omega)
theorem zl_add (a b : Int) : zl a + zl b = zl (a + b) := (Int64.ofInt_add a b).symm
theorem zl_mul (a b : Int) : zl a * zl b = zl (a * b) := (Int64.ofInt_mul a b).symm
theorem zl_i2l {z : Int} (h : fit z) : (zi z).toInt64 = zl z := by
  apply Int64.toInt_inj.mp
  rw [Int32.toInt_toInt64, zi_toInt h, zl_toInt ⟨by have := h.1; omega, by have := h.2; omega⟩]
theorem zl_inj {a b : Int} (ha : fit8 a) (hb : fit8 b) : zl a = zl b ↔ a = b := by
  constructor
  · intro h
    have h1 := congrArg Int64.toInt h
    rw [zl_toInt ha, zl_toInt hb] at h1
    exact h1
  · intro h
    rw [h]
theorem zl_lt {a b : Int} (ha : fit8 a) (hb : fit8 b) : zl a < zl b ↔ a < b := by
  rw [Int64.lt_iff_toInt_lt, zl_toInt ha, zl_toInt hb]
def icmp (a b : Int) : Int := if b < a then 1 else if a = b then 0 else -1
theorem icmp_c (a b : Int) : (b < a ∧ icmp a b = 1) ∨ (a = b ∧ icmp a b = 0) ∨ (a < b ∧ icmp a b = -1) := by
  unfold icmp
  by_cases h : b < a
  · rw [if_pos h]; exact Or.inl ⟨h, rfl⟩
  · rw [if_neg h]
    by_cases h2 : a = b
    · rw [if_pos h2]; exact Or.inr (Or.inl ⟨h2, rfl⟩)
    · rw [if_neg h2]; exact Or.inr (Or.inr ⟨by omega, rfl⟩)
theorem icmp_fit (a b : Int) : fit (icmp a b) := by rcases icmp_c a b with ⟨-, h⟩ | ⟨-, h⟩ | ⟨-, h⟩ <;> rw [h] <;> exact ⟨by decide, by decide⟩
theorem icmp_lt {a b : Int} : icmp a b < 0 ↔ a < b := by rcases icmp_c a b with ⟨q, h⟩ | ⟨q, h⟩ | ⟨q, h⟩ <;> omega
theorem icmp_gt {a b : Int} : 0 < icmp a b ↔ b < a := by rcases icmp_c a b with ⟨q, h⟩ | ⟨q, h⟩ | ⟨q, h⟩ <;> omega
theorem icmp_eq {a b : Int} : icmp a b = 0 ↔ a = b := by rcases icmp_c a b with ⟨q, h⟩ | ⟨q, h⟩ | ⟨q, h⟩ <;> omega
section RZ
variable {p : Program} {l : Launch} {e : Env} {R : Room} {s : State} {m : MethodId} {args : Array Value} {below : List Frame} {meth : Method} {c : Code} {H : Heap} {locs : List Loc} {cells slots : Nat} {Q : State → Prop}
variable {cc : ByteArray} {pc : Nat} {ls : Array Slot} {rest : List Value}
theorem r_c (hx : p.tables.exec = Jvm.exec) (hb : c.code = cc) {n : Int} (d : decode cc pc = .ok (.iconst n, 1)) (k : W p l e R s m args below meth c H locs cells slots Q (F0 m (pc + 1) ls (.int (zi n) :: rest))) : W p l e R s m args below meth c H locs cells slots Q (F0 m pc ls rest) := lv_iconst (v := zi n) hx hb d rfl k
theorem r_bip (hx : p.tables.exec = Jvm.exec) (hb : c.code = cc) {n : Int} (d : decode cc pc = .ok (.bipush n, 2)) (hv : (Int8.ofInt n).toInt32 = zi n) (k : W p l e R s m args below meth c H locs cells slots Q (F0 m (pc + 2) ls (.int (zi n) :: rest))) : W p l e R s m args below meth c H locs cells slots Q (F0 m pc ls rest) := lv_bipush (v := zi n) hx hb d hv k
theorem r_sip (hx : p.tables.exec = Jvm.exec) (hb : c.code = cc) {n : Int} (d : decode cc pc = .ok (.sipush n, 3)) (hv : (Int16.ofInt n).toInt32 = zi n) (k : W p l e R s m args below meth c H locs cells slots Q (F0 m (pc + 3) ls (.int (zi n) :: rest))) : W p l e R s m args below meth c H locs cells slots Q (F0 m pc ls rest) := lv_sipush (v := zi n) hx hb d hv k
theorem r_add (hx : p.tables.exec = Jvm.exec) (hb : c.code = cc) {a b z : Int} (d : decode cc pc = .ok (.iadd, 1)) (hz : a + b = z) (k : W p l e R s m args below meth c H locs cells slots Q (F0 m (pc + 1) ls (.int (zi z) :: rest))) : W p l e R s m args below meth c H locs cells slots Q (F0 m pc ls (.int (zi b) :: .int (zi a) :: rest)) := lv_iadd hx hb d (by rw [zi_add, hz]; exact k)
theorem r_sub (hx : p.tables.exec = Jvm.exec) (hb : c.code = cc) {a b z : Int} (d : decode cc pc = .ok (.isub, 1)) (hz : a - b = z) (k : W p l e R s m args below meth c H locs cells slots Q (F0 m (pc + 1) ls (.int (zi z) :: rest))) : W p l e R s m args below meth c H locs cells slots Q (F0 m pc ls (.int (zi b) :: .int (zi a) :: rest)) := lv_isub hx hb d (by rw [zi_sub, hz]; exact k)
theorem r_mul (hx : p.tables.exec = Jvm.exec) (hb : c.code = cc) {a b z : Int} (d : decode cc pc = .ok (.imul, 1)) (hz : a * b = z) (k : W p l e R s m args below meth c H locs cells slots Q (F0 m (pc + 1) ls (.int (zi z) :: rest))) : W p l e R s m args below meth c H locs cells slots Q (F0 m pc ls (.int (zi b) :: .int (zi a) :: rest)) := lv_imul hx hb d (by rw [zi_mul, hz]; exact k)
theorem r_neg (hx : p.tables.exec = Jvm.exec) (hb : c.code = cc) {a z : Int} (d : decode cc pc = .ok (.ineg, 1)) (hz : -a = z) (k : W p l e R s m args below meth c H locs cells slots Q (F0 m (pc + 1) ls (.int (zi z) :: rest))) : W p l e R s m args below meth c H locs cells slots Q (F0 m pc ls (.int (zi a) :: rest)) := lv_ineg hx hb d (by rw [zi_neg, hz]; exact k)
theorem r_div (hx : p.tables.exec = Jvm.exec) (hb : c.code = cc) {a b z : Int} (d : decode cc pc = .ok (.idiv, 1)) (hne : ¬ zi b = 0) (hz : zi a / zi b = zi z) (k : W p l e R s m args below meth c H locs cells slots Q (F0 m (pc + 1) ls (.int (zi z) :: rest))) : W p l e R s m args below meth c H locs cells slots Q (F0 m pc ls (.int (zi b) :: .int (zi a) :: rest)) := lv_idiv hx hb d hne (by rw [hz]; exact k)
theorem r_rem (hx : p.tables.exec = Jvm.exec) (hb : c.code = cc) {a b z : Int} (d : decode cc pc = .ok (.irem, 1)) (hne : ¬ zi b = 0) (hz : zi a - zi a / zi b * zi b = zi z) (k : W p l e R s m args below meth c H locs cells slots Q (F0 m (pc + 1) ls (.int (zi z) :: rest))) : W p l e R s m args below meth c H locs cells slots Q (F0 m pc ls (.int (zi b) :: .int (zi a) :: rest)) := lv_irem hx hb d hne (by rw [hz]; exact k)
theorem r_shr (hx : p.tables.exec = Jvm.exec) (hb : c.code = cc) {a b z : Int} (d : decode cc pc = .ok (.ishr, 1)) (hz : zi a >>> (zi b &&& 31) = zi z) (k : W p l e R s m args below meth c H locs cells slots Q (F0 m (pc + 1) ls (.int (zi z) :: rest))) : W p l e R s m args below meth c H locs cells slots Q (F0 m pc ls (.int (zi b) :: .int (zi a) :: rest)) := lv_ishr hx hb d (by rw [hz]; exact k)
theorem r_shl (hx : p.tables.exec = Jvm.exec) (hb : c.code = cc) {a b z : Int} (d : decode cc pc = .ok (.ishl, 1)) (hz : zi a <<< (zi b &&& 31) = zi z) (k : W p l e R s m args below meth c H locs cells slots Q (F0 m (pc + 1) ls (.int (zi z) :: rest))) : W p l e R s m args below meth c H locs cells slots Q (F0 m pc ls (.int (zi b) :: .int (zi a) :: rest)) := lv_ishl hx hb d (by rw [hz]; exact k)
theorem r_and (hx : p.tables.exec = Jvm.exec) (hb : c.code = cc) {a b z : Int} (d : decode cc pc = .ok (.iand, 1)) (hz : zi a &&& zi b = zi z) (k : W p l e R s m args below meth c H locs cells slots Q (F0 m (pc + 1) ls (.int (zi z) :: rest))) : W p l e R s m args below meth c H locs cells slots Q (F0 m pc ls (.int (zi b) :: .int (zi a) :: rest)) := lv_iand hx hb d (by rw [hz]; exact k)
theorem r_or (hx : p.tables.exec = Jvm.exec) (hb : c.code = cc) {a b z : Int} (d : decode cc pc = .ok (.ior, 1)) (hz : zi a ||| zi b = zi z) (k : W p l e R s m args below meth c H locs cells slots Q (F0 m (pc + 1) ls (.int (zi z) :: rest))) : W p l e R s m args below meth c H locs cells slots Q (F0 m pc ls (.int (zi b) :: .int (zi a) :: rest)) := lv_ior hx hb d (by rw [hz]; exact k)
theorem r_int {a z : Int} (hz : a = z) (k : W p l e R s m args below meth c H locs cells slots Q (F0 m pc ls (.int (zi z) :: rest))) : W p l e R s m args below meth c H locs cells slots Q (F0 m pc ls (.int (zi a) :: rest)) := by rw [hz]; exact k
theorem r_raw {x : Int32} {z : Int} (hz : x = zi z) (k : W p l e R s m args below meth c H locs cells slots Q (F0 m pc ls (.int (zi z) :: rest))) : W p l e R s m args below meth c H locs cells slots Q (F0 m pc ls (.int x :: rest)) := by rw [hz]; exact k
theorem r_iinc (hx : p.tables.exec = Jvm.exec) (hb : c.code = cc) {i nL k : Nat} {n a z : Int} {lv lv' : List (Nat × Value)} (d : decode cc pc = .ok (.iinc i n, 3)) (h : lv_has ls nL lv) (hk : lv[k]? = some (i, .int (zi a))) (hz : a + n = z) (hn : i < nL) (hl : (i, Value.int (zi z)) :: lv.filter (fun q => !(q.1 == i) && !(q.1 + 1 == i && q.2.category == 2)) = lv')
    (kk : ∀ ls' : Array Slot, lv_has ls' nL lv' → W p l e R s m args below meth c H locs cells slots Q (F0 m (pc + 3) ls' rest)) : W p l e R s m args below meth c H locs cells slots Q (F0 m pc ls rest) := lv_iinc (v := zi z) hx hb d h hk (by rw [← hz]; exact zi_add a n) hn hl kk
theorem r_lt (hx : p.tables.exec = Jvm.exec) (hb : c.code = cc) {a b : Int} {off : Int} {tgt : Nat} (d : decode cc pc = .ok (.if_icmp .lt off, 3)) (ht : (pc : Int) + off = (tgt : Int)) (ha : fit a) (hb' : fit b)
    (kt : a < b → W p l e R s m args below meth c H locs cells slots Q (F0 m tgt ls rest)) (kf : b ≤ a → W p l e R s m args below meth c H locs cells slots Q (F0 m (pc + 3) ls rest)) : W p l e R s m args below meth c H locs cells slots Q (F0 m pc ls (.int (zi b) :: .int (zi a) :: rest)) := lv_icmp_lt hx hb d ht (fun h => kt ((zi_lt ha hb').mp h)) (fun h => kf (Int.not_lt.mp (fun q => h ((zi_lt ha hb').mpr q))))
theorem r_ge (hx : p.tables.exec = Jvm.exec) (hb : c.code = cc) {a b : Int} {off : Int} {tgt : Nat} (d : decode cc pc = .ok (.if_icmp .ge off, 3)) (ht : (pc : Int) + off = (tgt : Int)) (ha : fit a) (hb' : fit b)
    (kt : b ≤ a → W p l e R s m args below meth c H locs cells slots Q (F0 m tgt ls rest)) (kf : a < b → W p l e R s m args below meth c H locs cells slots Q (F0 m (pc + 3) ls rest)) : W p l e R s m args below meth c H locs cells slots Q (F0 m pc ls (.int (zi b) :: .int (zi a) :: rest)) := lv_icmp_ge hx hb d ht (fun h => kt ((zi_le hb' ha).mp h)) (fun h => kf (Int.not_le.mp (fun q => h ((zi_le hb' ha).mpr q))))
theorem r_gt (hx : p.tables.exec = Jvm.exec) (hb : c.code = cc) {a b : Int} {off : Int} {tgt : Nat} (d : decode cc pc = .ok (.if_icmp .gt off, 3)) (ht : (pc : Int) + off = (tgt : Int)) (ha : fit a) (hb' : fit b)
    (kt : b < a → W p l e R s m args below meth c H locs cells slots Q (F0 m tgt ls rest)) (kf : a ≤ b → W p l e R s m args below meth c H locs cells slots Q (F0 m (pc + 3) ls rest)) : W p l e R s m args below meth c H locs cells slots Q (F0 m pc ls (.int (zi b) :: .int (zi a) :: rest)) := lv_icmp_gt hx hb d ht (fun h => kt ((zi_lt hb' ha).mp h)) (fun h => kf (Int.not_lt.mp (fun q => h ((zi_lt hb' ha).mpr q))))
theorem r_le (hx : p.tables.exec = Jvm.exec) (hb : c.code = cc) {a b : Int} {off : Int} {tgt : Nat} (d : decode cc pc = .ok (.if_icmp .le off, 3)) (ht : (pc : Int) + off = (tgt : Int)) (ha : fit a) (hb' : fit b)
    (kt : a ≤ b → W p l e R s m args below meth c H locs cells slots Q (F0 m tgt ls rest)) (kf : b < a → W p l e R s m args below meth c H locs cells slots Q (F0 m (pc + 3) ls rest)) : W p l e R s m args below meth c H locs cells slots Q (F0 m pc ls (.int (zi b) :: .int (zi a) :: rest)) := lv_icmp_le hx hb d ht (fun h => kt ((zi_le ha hb').mp h)) (fun h => kf (Int.not_le.mp (fun q => h ((zi_le ha hb').mpr q))))
theorem r_eq (hx : p.tables.exec = Jvm.exec) (hb : c.code = cc) {a b : Int} {off : Int} {tgt : Nat} (d : decode cc pc = .ok (.if_icmp .eq off, 3)) (ht : (pc : Int) + off = (tgt : Int)) (ha : fit a) (hb' : fit b)
    (kt : a = b → W p l e R s m args below meth c H locs cells slots Q (F0 m tgt ls rest)) (kf : a ≠ b → W p l e R s m args below meth c H locs cells slots Q (F0 m (pc + 3) ls rest)) : W p l e R s m args below meth c H locs cells slots Q (F0 m pc ls (.int (zi b) :: .int (zi a) :: rest)) := lv_icmp_eq hx hb d ht (fun h => kt ((zi_inj ha hb').mp h)) (fun h => kf (fun q => h ((zi_inj ha hb').mpr q)))
theorem r_ne (hx : p.tables.exec = Jvm.exec) (hb : c.code = cc) {a b : Int} {off : Int} {tgt : Nat} (d : decode cc pc = .ok (.if_icmp .ne off, 3)) (ht : (pc : Int) + off = (tgt : Int)) (ha : fit a) (hb' : fit b)
    (kt : a ≠ b → W p l e R s m args below meth c H locs cells slots Q (F0 m tgt ls rest)) (kf : a = b → W p l e R s m args below meth c H locs cells slots Q (F0 m (pc + 3) ls rest)) : W p l e R s m args below meth c H locs cells slots Q (F0 m pc ls (.int (zi b) :: .int (zi a) :: rest)) := lv_icmp_ne hx hb d ht (fun h => kt (fun q => h ((zi_inj ha hb').mpr q))) (fun h => kf ((zi_inj ha hb').mp h))
theorem fit0 : fit 0 := ⟨by decide, by decide⟩
theorem r_lt0 (hx : p.tables.exec = Jvm.exec) (hb : c.code = cc) {a : Int} {off : Int} {tgt : Nat} (d : decode cc pc = .ok (.ifCond .lt off, 3)) (ht : (pc : Int) + off = (tgt : Int)) (ha : fit a)
    (kt : a < 0 → W p l e R s m args below meth c H locs cells slots Q (F0 m tgt ls rest)) (kf : 0 ≤ a → W p l e R s m args below meth c H locs cells slots Q (F0 m (pc + 3) ls rest)) : W p l e R s m args below meth c H locs cells slots Q (F0 m pc ls (.int (zi a) :: rest)) := lv_if_lt hx hb d ht (fun h => kt ((zi_lt ha fit0).mp h)) (fun h => kf (Int.not_lt.mp (fun q => h ((zi_lt ha fit0).mpr q))))
theorem r_ge0 (hx : p.tables.exec = Jvm.exec) (hb : c.code = cc) {a : Int} {off : Int} {tgt : Nat} (d : decode cc pc = .ok (.ifCond .ge off, 3)) (ht : (pc : Int) + off = (tgt : Int)) (ha : fit a)
    (kt : 0 ≤ a → W p l e R s m args below meth c H locs cells slots Q (F0 m tgt ls rest)) (kf : a < 0 → W p l e R s m args below meth c H locs cells slots Q (F0 m (pc + 3) ls rest)) : W p l e R s m args below meth c H locs cells slots Q (F0 m pc ls (.int (zi a) :: rest)) := lv_if_ge hx hb d ht (fun h => kt ((zi_le fit0 ha).mp h)) (fun h => kf (Int.not_le.mp (fun q => h ((zi_le fit0 ha).mpr q))))
theorem r_gt0 (hx : p.tables.exec = Jvm.exec) (hb : c.code = cc) {a : Int} {off : Int} {tgt : Nat} (d : decode cc pc = .ok (.ifCond .gt off, 3)) (ht : (pc : Int) + off = (tgt : Int)) (ha : fit a)
    (kt : 0 < a → W p l e R s m args below meth c H locs cells slots Q (F0 m tgt ls rest)) (kf : a ≤ 0 → W p l e R s m args below meth c H locs cells slots Q (F0 m (pc + 3) ls rest)) : W p l e R s m args below meth c H locs cells slots Q (F0 m pc ls (.int (zi a) :: rest)) := lv_if_gt hx hb d ht (fun h => kt ((zi_lt fit0 ha).mp h)) (fun h => kf (Int.not_lt.mp (fun q => h ((zi_lt fit0 ha).mpr q))))
theorem r_le0 (hx : p.tables.exec = Jvm.exec) (hb : c.code = cc) {a : Int} {off : Int} {tgt : Nat} (d : decode cc pc = .ok (.ifCond .le off, 3)) (ht : (pc : Int) + off = (tgt : Int)) (ha : fit a)
    (kt : a ≤ 0 → W p l e R s m args below meth c H locs cells slots Q (F0 m tgt ls rest)) (kf : 0 < a → W p l e R s m args below meth c H locs cells slots Q (F0 m (pc + 3) ls rest)) : W p l e R s m args below meth c H locs cells slots Q (F0 m pc ls (.int (zi a) :: rest)) := lv_if_le hx hb d ht (fun h => kt ((zi_le ha fit0).mp h)) (fun h => kf (Int.not_le.mp (fun q => h ((zi_le ha fit0).mpr q))))
theorem r_eq0 (hx : p.tables.exec = Jvm.exec) (hb : c.code = cc) {a : Int} {off : Int} {tgt : Nat} (d : decode cc pc = .ok (.ifCond .eq off, 3)) (ht : (pc : Int) + off = (tgt : Int)) (ha : fit a)
    (kt : a = 0 → W p l e R s m args below meth c H locs cells slots Q (F0 m tgt ls rest)) (kf : a ≠ 0 → W p l e R s m args below meth c H locs cells slots Q (F0 m (pc + 3) ls rest)) : W p l e R s m args below meth c H locs cells slots Q (F0 m pc ls (.int (zi a) :: rest)) := lv_if_eq hx hb d ht (fun h => kt ((zi_inj ha fit0).mp h)) (fun h => kf (fun q => h ((zi_inj ha fit0).mpr q)))
theorem r_ne0 (hx : p.tables.exec = Jvm.exec) (hb : c.code = cc) {a : Int} {off : Int} {tgt : Nat} (d : decode cc pc = .ok (.ifCond .ne off, 3)) (ht : (pc : Int) + off = (tgt : Int)) (ha : fit a)
    (kt : a ≠ 0 → W p l e R s m args below meth c H locs cells slots Q (F0 m tgt ls rest)) (kf : a = 0 → W p l e R s m args below meth c H locs cells slots Q (F0 m (pc + 3) ls rest)) : W p l e R s m args below meth c H locs cells slots Q (F0 m pc ls (.int (zi a) :: rest)) := lv_if_ne hx hb d ht (fun h => kt (fun q => h ((zi_inj ha fit0).mpr q))) (fun h => kf ((zi_inj ha fit0).mp h))
theorem r_beq0 (hx : p.tables.exec = Jvm.exec) (hb : c.code = cc) {b : Bool} {off : Int} {tgt : Nat} (d : decode cc pc = .ok (.ifCond .eq off, 3)) (ht : (pc : Int) + off = (tgt : Int))
    (kt : b = false → W p l e R s m args below meth c H locs cells slots Q (F0 m tgt ls rest)) (kf : b = true → W p l e R s m args below meth c H locs cells slots Q (F0 m (pc + 3) ls rest)) : W p l e R s m args below meth c H locs cells slots Q (F0 m pc ls (.int (zi (bi b)) :: rest)) := r_eq0 hx hb d ht (bi_fit b) (fun h => kt (by cases b; rfl; exact absurd h (by decide))) (fun h => kf (by cases b; exact absurd rfl h; rfl))
theorem r_bne0 (hx : p.tables.exec = Jvm.exec) (hb : c.code = cc) {b : Bool} {off : Int} {tgt : Nat} (d : decode cc pc = .ok (.ifCond .ne off, 3)) (ht : (pc : Int) + off = (tgt : Int))
    (kt : b = true → W p l e R s m args below meth c H locs cells slots Q (F0 m tgt ls rest)) (kf : b = false → W p l e R s m args below meth c H locs cells slots Q (F0 m (pc + 3) ls rest)) : W p l e R s m args below meth c H locs cells slots Q (F0 m pc ls (.int (zi (bi b)) :: rest)) := r_ne0 hx hb d ht (bi_fit b) (fun h => kt (by cases b; exact absurd rfl h; rfl)) (fun h => kf (by cases b; rfl; exact absurd h (by decide)))
theorem r_peq0 (hx : p.tables.exec = Jvm.exec) (hb : c.code = cc) {P : Prop} [Decidable P] {off : Int} {tgt : Nat} (d : decode cc pc = .ok (.ifCond .eq off, 3)) (ht : (pc : Int) + off = (tgt : Int))
    (kt : ¬ P → W p l e R s m args below meth c H locs cells slots Q (F0 m tgt ls rest)) (kf : P → W p l e R s m args below meth c H locs cells slots Q (F0 m (pc + 3) ls rest)) : W p l e R s m args below meth c H locs cells slots Q (F0 m pc ls (.int (zi (bi (decide P))) :: rest)) := r_beq0 hx hb d ht (fun h => kt (of_decide_eq_false h)) (fun h => kf (of_decide_eq_true h))
theorem r_pne0 (hx : p.tables.exec = Jvm.exec) (hb : c.code = cc) {P : Prop} [Decidable P] {off : Int} {tgt : Nat} (d : decode cc pc = .ok (.ifCond .ne off, 3)) (ht : (pc : Int) + off = (tgt : Int))
    (kt : P → W p l e R s m args below meth c H locs cells slots Q (F0 m tgt ls rest)) (kf : ¬ P → W p l e R s m args below meth c H locs cells slots Q (F0 m (pc + 3) ls rest)) : W p l e R s m args below meth c H locs cells slots Q (F0 m pc ls (.int (zi (bi (decide P))) :: rest)) := r_bne0 hx hb d ht (fun h => kt (of_decide_eq_true h)) (fun h => kf (of_decide_eq_false h))
theorem r_i2l (hx : p.tables.exec = Jvm.exec) (hb : c.code = cc) {a : Int} (h : fit a) (d : decode cc pc = .ok (.i2l, 1)) (k : W p l e R s m args below meth c H locs cells slots Q (F0 m (pc + 1) ls (.long (zl a) :: rest))) : W p l e R s m args below meth c H locs cells slots Q (F0 m pc ls (.int (zi a) :: rest)) := lv_i2l (v := zl a) hx hb d (zl_i2l h) k
theorem r_ladd (hx : p.tables.exec = Jvm.exec) (hb : c.code = cc) {a b z : Int} (d : decode cc pc = .ok (.ladd, 1)) (hz : a + b = z) (k : W p l e R s m args below meth c H locs cells slots Q (F0 m (pc + 1) ls (.long (zl z) :: rest))) : W p l e R s m args below meth c H locs cells slots Q (F0 m pc ls (.long (zl b) :: .long (zl a) :: rest)) := lv_ladd hx hb d (by rw [zl_add, hz]; exact k)
theorem r_lmul (hx : p.tables.exec = Jvm.exec) (hb : c.code = cc) {a b z : Int} (d : decode cc pc = .ok (.lmul, 1)) (hz : a * b = z) (k : W p l e R s m args below meth c H locs cells slots Q (F0 m (pc + 1) ls (.long (zl z) :: rest))) : W p l e R s m args below meth c H locs cells slots Q (F0 m pc ls (.long (zl b) :: .long (zl a) :: rest)) := lv_lmul hx hb d (by rw [zl_mul, hz]; exact k)
theorem r_lcmp (hx : p.tables.exec = Jvm.exec) (hb : c.code = cc) {a b : Int} (ha : fit8 a) (hb' : fit8 b) (d : decode cc pc = .ok (.lcmp, 1)) (k : W p l e R s m args below meth c H locs cells slots Q (F0 m (pc + 1) ls (.int (zi (icmp a b)) :: rest))) : W p l e R s m args below meth c H locs cells slots Q (F0 m pc ls (.long (zl b) :: .long (zl a) :: rest)) := W.lcmp hx hb d (by
  have e : lg_cmp (zl a) (zl b) = zi (icmp a b) := by
    unfold lg_cmp icmp
    by_cases h : b < a
    · rw [if_pos h, if_pos (show zl b < zl a from (zl_lt hb' ha).mpr h)]; rfl
    · rw [if_neg h, if_neg (show ¬ zl b < zl a from fun q => h ((zl_lt hb' ha).mp q))]
      by_cases h2 : a = b
      · rw [if_pos h2, if_pos ((zl_inj ha hb').mpr h2)]; rfl
      · rw [if_neg h2, if_neg (fun q => h2 ((zl_inj ha hb').mp q))]; rfl
  rw [e]; exact k)
-- fields and arrays
variable {D : va_G} {cl : List vw_C} {A : Nat → Prop} {a : Nat} {tys : List (ClassId × FieldType)} {ws : va_W} {H0 : Heap}
theorem r_iald (hx : p.tables.exec = Jvm.exec) (hb : c.code = cc) (hK : va_K D cl tys s) (hP : va_P D cl ws H) (q0 t0 : Nat) {cA : ClassId} {n : Nat} {f : Nat → Int} (ha : ws[q0]? = some (a, .inl (cA, n, .inl (iz f)))) (ht : tys[t0]? = some (cA, .int)) {z v : Int} (k : Nat) (hz : z = (k : Int)) (hk : k < n) (hn : n < 2147483648) (hv : f k = v) (d : decode cc pc = .ok (.iaload, 1))
    (kk : W p l e R s m args below meth c H locs cells slots Q (F0 m (pc + 1) ls (.int (zi v) :: rest))) : W p l e R s m args below meth c H locs cells slots Q (F0 m pc ls (.int (zi z) :: .ref a :: rest)) := by
  subst hz
  refine va_iald hx hb hK hP q0 t0 ha ht (zi_in hk hn) d ?_
  rw [show (zi (k : Int)).toNatClampNeg = k from nI_clamp (by omega)]
  show W p l e R s m args below meth c H locs cells slots Q (F0 m (pc + 1) ls (.int (zi (f k)) :: rest))
  rw [hv]
  exact kk
theorem r_zald (hx : p.tables.exec = Jvm.exec) (hb : c.code = cc) (hK : va_K D cl tys s) (hP : va_P D cl ws H) (q0 t0 : Nat) {cA : ClassId} {n : Nat} {f : Nat → Bool} (ha : ws[q0]? = some (a, .inl (cA, n, .inl (bz f)))) (ht : tys[t0]? = some (cA, .boolean)) {z : Int} {v : Bool} (k : Nat) (hz : z = (k : Int)) (hk : k < n) (hn : n < 2147483648) (hv : f k = v) (d : decode cc pc = .ok (.baload, 1))
    (kk : W p l e R s m args below meth c H locs cells slots Q (F0 m (pc + 1) ls (.int (zi (bi v)) :: rest))) : W p l e R s m args below meth c H locs cells slots Q (F0 m pc ls (.int (zi z) :: .ref a :: rest)) := by
  subst hz
  refine va_zald hx hb hK hP q0 t0 ha ht (zi_in hk hn) d ?_
  rw [show (zi (k : Int)).toNatClampNeg = k from nI_clamp (by omega)]
  show W p l e R s m args below meth c H locs cells slots Q (F0 m (pc + 1) ls (.int (zi (bi (f k))) :: rest))
  rw [hv]
  exact kk
theorem r_cald (hx : p.tables.exec = Jvm.exec) (hb : c.code = cc) (hK : va_K D cl tys s) (hP : va_P D cl ws H) (q0 t0 : Nat) {cA : ClassId} {n : Nat} {f : Nat → Int} (ha : ws[q0]? = some (a, .inl (cA, n, .inl (iz f)))) (ht : tys[t0]? = some (cA, .char)) {z v : Int} (k : Nat) (hz : z = (k : Int)) (hk : k < n) (hn : n < 2147483648) (hv : f k = v) (d : decode cc pc = .ok (.caload, 1))
    (kk : W p l e R s m args below meth c H locs cells slots Q (F0 m (pc + 1) ls (.int (zi v) :: rest))) : W p l e R s m args below meth c H locs cells slots Q (F0 m pc ls (.int (zi z) :: .ref a :: rest)) := by
  subst hz
  refine va_cald hx hb hK hP q0 t0 ha ht (zi_in hk hn) d ?_
  rw [show (zi (k : Int)).toNatClampNeg = k from nI_clamp (by omega)]
  show W p l e R s m args below meth c H locs cells slots Q (F0 m (pc + 1) ls (.int (zi (f k)) :: rest))
  rw [hv]
  exact kk
theorem r_aald (hx : p.tables.exec = Jvm.exec) (hb : c.code = cc) (hK : va_K D cl tys s) (hP : va_P D cl ws H) (q0 t0 : Nat) {cA : ClassId} {C : String} {n : Nat} {f : Nat → Option Nat} (ha : ws[q0]? = some (a, .inl (cA, n, .inr (.inr (.inr (.inr f)))))) (ht : tys[t0]? = some (cA, .object C)) {z : Int} (k : Nat) (hz : z = (k : Int)) (hk : k < n) (hn : n < 2147483648) {v : Option Nat} (hv : f k = v) (d : decode cc pc = .ok (.aaload, 1))
    (kk : W p l e R s m args below meth c H locs cells slots Q (F0 m (pc + 1) ls (va_rf v :: rest))) : W p l e R s m args below meth c H locs cells slots Q (F0 m pc ls (.int (zi z) :: .ref a :: rest)) := by
  subst hz
  refine va_aldq hx hb hK hP q0 t0 ha ht (zi_in hk hn) d ?_
  rw [show (zi (k : Int)).toNatClampNeg = k from nI_clamp (by omega), hv]
  exact kk
theorem r_iast (hx : p.tables.exec = Jvm.exec) (hb : c.code = cc) (hK : va_K D cl tys s) (hP : va_P D cl ws H) (hD : va_D A ws) (hS : va_S A H0 H locs) (q0 t0 : Nat) {cA : ClassId} {n : Nat} {f : Nat → Int} (ha : ws[q0]? = some (a, .inl (cA, n, .inl (iz f)))) (ht : tys[t0]? = some (cA, .int)) {z v : Int} (k : Nat) (hz : z = (k : Int)) (hk : k < n) (hn : n < 2147483648) (d : decode cc pc = .ok (.iastore, 1))
    (kk : ∀ (H1 : Heap) (locs1 : List Loc), va_P D cl (ws.set q0 (a, .inl (cA, n, .inl (iz (va_up f k v))))) H1 → va_D A (ws.set q0 (a, .inl (cA, n, .inl (iz (va_up f k v))))) → va_S A H0 H1 locs1 → W p l e R s m args below meth c H1 locs1 cells slots Q (F0 m (pc + 1) ls rest)) : W p l e R s m args below meth c H locs cells slots Q (F0 m pc ls (.int (zi v) :: .int (zi z) :: .ref a :: rest)) := by
  subst hz
  refine va_iast hx hb hK hP hD hS q0 t0 ha ht (zi_in hk hn) d ?_
  rw [show (zi (k : Int)).toNatClampNeg = k from nI_clamp (by omega), iz_up]
  exact kk
theorem r_zast (hx : p.tables.exec = Jvm.exec) (hb : c.code = cc) (hK : va_K D cl tys s) (hP : va_P D cl ws H) (hD : va_D A ws) (hS : va_S A H0 H locs) (q0 t0 : Nat) {cA : ClassId} {n : Nat} {f : Nat → Bool} (ha : ws[q0]? = some (a, .inl (cA, n, .inl (bz f)))) (ht : tys[t0]? = some (cA, .boolean)) {z : Int} {v : Bool} (k : Nat) (hz : z = (k : Int)) (hk : k < n) (hn : n < 2147483648) (d : decode cc pc = .ok (.bastore, 1))
    (kk : ∀ (H1 : Heap) (locs1 : List Loc), va_P D cl (ws.set q0 (a, .inl (cA, n, .inl (bz (va_up f k v))))) H1 → va_D A (ws.set q0 (a, .inl (cA, n, .inl (bz (va_up f k v))))) → va_S A H0 H1 locs1 → W p l e R s m args below meth c H1 locs1 cells slots Q (F0 m (pc + 1) ls rest)) : W p l e R s m args below meth c H locs cells slots Q (F0 m pc ls (.int (zi (bi v)) :: .int (zi z) :: .ref a :: rest)) := by
  subst hz
  refine va_zast hx hb hK hP hD hS q0 t0 ha ht (zi_in hk hn) d ?_
  rw [show (zi (k : Int)).toNatClampNeg = k from nI_clamp (by omega), bi_vnar, bz_up]
  exact kk
theorem r_cast (hx : p.tables.exec = Jvm.exec) (hb : c.code = cc) (hK : va_K D cl tys s) (hP : va_P D cl ws H) (hD : va_D A ws) (hS : va_S A H0 H locs) (q0 t0 : Nat) {cA : ClassId} {n : Nat} {f : Nat → Int} (ha : ws[q0]? = some (a, .inl (cA, n, .inl (iz f)))) (ht : tys[t0]? = some (cA, .char)) {z v : Int} (k : Nat) (hz : z = (k : Int)) (hk : k < n) (hn : n < 2147483648) (hv : vp_nar .char (zi v) = zi v) (d : decode cc pc = .ok (.castore, 1))
    (kk : ∀ (H1 : Heap) (locs1 : List Loc), va_P D cl (ws.set q0 (a, .inl (cA, n, .inl (iz (va_up f k v))))) H1 → va_D A (ws.set q0 (a, .inl (cA, n, .inl (iz (va_up f k v))))) → va_S A H0 H1 locs1 → W p l e R s m args below meth c H1 locs1 cells slots Q (F0 m (pc + 1) ls rest)) : W p l e R s m args below meth c H locs cells slots Q (F0 m pc ls (.int (zi v) :: .int (zi z) :: .ref a :: rest)) := by
  subst hz
  refine va_cast hx hb hK hP hD hS q0 t0 ha ht (zi_in hk hn) d ?_
  rw [show (zi (k : Int)).toNatClampNeg = k from nI_clamp (by omega), hv, iz_up]
  exact kk
theorem r_alen (hx : p.tables.exec = Jvm.exec) (hb : c.code = cc) (hK : va_K D cl tys s) (hP : va_P D cl ws H) (q0 t0 : Nat) {cA : ClassId} {x : vp_A} {ty : FieldType} (ha : ws[q0]? = some (a, .inl (cA, x))) (ht : tys[t0]? = some (cA, ty)) (d : decode cc pc = .ok (.arraylength, 1))
    (kk : W p l e R s m args below meth c H locs cells slots Q (F0 m (pc + 1) ls (.int (zi (x.1 : Int)) :: rest))) : W p l e R s m args below meth c H locs cells slots Q (F0 m pc ls (.ref a :: rest)) := va_alen (v := zi (x.1 : Int)) hx hb hK hP q0 t0 ha ht rfl d kk
-- calls
variable {mc ms : Nat} {free : Addr → Prop} {args' : Array Value} {st0 : List Value} {A0 A1 : Nat → Prop} {locs0 : List Loc}
theorem r_q {post : Option Value → Prop} (hr : va_Run p l e R s m args below meth c H locs cells slots 0 0 (F0 m pc ls st0) rest (qS post args') noA)
    (kk : ∀ v, post v → W p l e R s m args below meth c H locs cells slots Q (F0 m (pc + 3) ls (v.toList ++ rest))) : W p l e R s m args below meth c H locs cells slots Q (F0 m pc ls st0) := by
  intro T hT X
  obtain ⟨v, st₀, t, T', L, h0, X', hL, e1, e2, ⟨v', hv, hp, hh⟩, st⟩ := hr T hT X
  cases hv
  have hL0 : L = [] := by
    cases L with
    | nil => rfl
    | cons q L => exact absurd (hL q List.mem_cons_self) id
  subst hL0
  rw [List.append_nil] at X'
  obtain ⟨t2, a1, b1⟩ := kk v hp T' (by rw [e1, hh, h0]) X'
  exact ⟨t2, st t2 a1, b1⟩
theorem r_q5 {post : Option Value → Prop} (hr : va_Run5 p l e R s m args below meth c H locs cells slots 0 0 (F0 m pc ls st0) rest (qS post args') noA)
    (kk : ∀ v, post v → W p l e R s m args below meth c H locs cells slots Q (F0 m (pc + 5) ls (v.toList ++ rest))) : W p l e R s m args below meth c H locs cells slots Q (F0 m pc ls st0) := by
  intro T hT X
  obtain ⟨v, st₀, t, T', L, h0, X', hL, e1, e2, ⟨v', hv, hp, hh⟩, st⟩ := hr T hT X
  cases hv
  have hL0 : L = [] := by
    cases L with
    | nil => rfl
    | cons q L => exact absurd (hL q List.mem_cons_self) id
  subst hL0
  rw [List.append_nil] at X'
  obtain ⟨t2, a1, b1⟩ := kk v hp T' (by rw [e1, hh, h0]) X'
  exact ⟨t2, st t2 a1, b1⟩
theorem r_qi {z : Int} (hr : va_Run p l e R s m args below meth c H locs cells slots 0 0 (F0 m pc ls st0) rest (qSi z args') noA) (kk : W p l e R s m args below meth c H locs cells slots Q (F0 m (pc + 3) ls (.int (zi z) :: rest))) : W p l e R s m args below meth c H locs cells slots Q (F0 m pc ls st0) := r_q hr (fun v hv => by subst hv; exact kk)
theorem r_qa {z : Nat} (hr : va_Run p l e R s m args below meth c H locs cells slots 0 0 (F0 m pc ls st0) rest (qSa z args') noA) (kk : W p l e R s m args below meth c H locs cells slots Q (F0 m (pc + 3) ls (.ref z :: rest))) : W p l e R s m args below meth c H locs cells slots Q (F0 m pc ls st0) := r_q hr (fun v hv => by subst hv; exact kk)
theorem r_qq {z : Option Nat} (hr : va_Run p l e R s m args below meth c H locs cells slots 0 0 (F0 m pc ls st0) rest (qSq z args') noA) (kk : W p l e R s m args below meth c H locs cells slots Q (F0 m (pc + 3) ls (va_rf z :: rest))) : W p l e R s m args below meth c H locs cells slots Q (F0 m pc ls st0) := r_q hr (fun v hv => by subst hv; exact kk)
theorem r_qv (hr : va_Run p l e R s m args below meth c H locs cells slots 0 0 (F0 m pc ls st0) rest (qSv args') noA) (kk : W p l e R s m args below meth c H locs cells slots Q (F0 m (pc + 3) ls rest)) : W p l e R s m args below meth c H locs cells slots Q (F0 m pc ls st0) := r_q hr (fun v hv => by subst hv; exact kk)
theorem r_q5i {z : Int} (hr : va_Run5 p l e R s m args below meth c H locs cells slots 0 0 (F0 m pc ls st0) rest (qSi z args') noA) (kk : W p l e R s m args below meth c H locs cells slots Q (F0 m (pc + 5) ls (.int (zi z) :: rest))) : W p l e R s m args below meth c H locs cells slots Q (F0 m pc ls st0) := r_q5 hr (fun v hv => by subst hv; exact kk)
theorem r_q5a {z : Nat} (hr : va_Run5 p l e R s m args below meth c H locs cells slots 0 0 (F0 m pc ls st0) rest (qSa z args') noA) (kk : W p l e R s m args below meth c H locs cells slots Q (F0 m (pc + 5) ls (.ref z :: rest))) : W p l e R s m args below meth c H locs cells slots Q (F0 m pc ls st0) := r_q5 hr (fun v hv => by subst hv; exact kk)
theorem r_r {post : Option Value → Heap → Prop} (hr : va_Run p l e R s m args below meth c H locs cells slots mc ms (F0 m pc ls st0) rest (qR A1 post args') free) (hS : va_S A0 H0 H locs) (hA : ∀ q, q < H.size → A1 q → A0 q) (hf : ∀ q, free q → A0 q)
    (kk : ∀ (v : Option Value) (H1 : Heap) (locs1 : List Loc), post v H1 → H.size ≤ H1.size → (∀ q : Nat, q < H.size → ¬ A1 q → H1[q]? = H[q]?) → va_S A0 H0 H1 locs1 → W p l e R s m args below meth c H1 locs1 (cells + mc) (slots + ms) Q (F0 m (pc + 3) ls (v.toList ++ rest))) : W p l e R s m args below meth c H locs cells slots Q (F0 m pc ls st0) := by
  intro T hT X
  obtain ⟨v, st₀, t, T', L, h0, X', hL, e1, e2, ⟨v', hv, hp, hF⟩, st⟩ := hr T hT X
  cases hv
  obtain ⟨k1, k2, k3⟩ := vx_keep h0 e1 hS hA hf hL hF
  obtain ⟨t2, a1, b1⟩ := kk v T'.heap (locs ++ L) (by rw [e1]; exact hp) k1 k2 k3 T' rfl X'
  exact ⟨t2, st t2 a1, b1⟩
theorem r_r5 {post : Option Value → Heap → Prop} (hr : va_Run5 p l e R s m args below meth c H locs cells slots mc ms (F0 m pc ls st0) rest (qR A1 post args') free) (hS : va_S A0 H0 H locs) (hA : ∀ q, q < H.size → A1 q → A0 q) (hf : ∀ q, free q → A0 q)
    (kk : ∀ (v : Option Value) (H1 : Heap) (locs1 : List Loc), post v H1 → H.size ≤ H1.size → (∀ q : Nat, q < H.size → ¬ A1 q → H1[q]? = H[q]?) → va_S A0 H0 H1 locs1 → W p l e R s m args below meth c H1 locs1 (cells + mc) (slots + ms) Q (F0 m (pc + 5) ls (v.toList ++ rest))) : W p l e R s m args below meth c H locs cells slots Q (F0 m pc ls st0) := by
  intro T hT X
  obtain ⟨v, st₀, t, T', L, h0, X', hL, e1, e2, ⟨v', hv, hp, hF⟩, st⟩ := hr T hT X
  cases hv
  obtain ⟨k1, k2, k3⟩ := vx_keep h0 e1 hS hA hf hL hF
  obtain ⟨t2, a1, b1⟩ := kk v T'.heap (locs ++ L) (by rw [e1]; exact hp) k1 k2 k3 T' rfl X'
  exact ⟨t2, st t2 a1, b1⟩
theorem r_st1 {x : Value} (k : W p l e R s m args below meth c H locs cells slots Q (F0 m pc ls (x :: rest))) : W p l e R s m args below meth c H locs cells slots Q (F0 m pc ls ((some x).toList ++ rest)) := k
theorem r_st0 (k : W p l e R s m args below meth c H locs cells slots Q (F0 m pc ls rest)) : W p l e R s m args below meth c H locs cells slots Q (F0 m pc ls ((none : Option Value).toList ++ rest)) := k
-- ends
variable {Qc : Array Value → State → Outcome → State → Prop}
theorem r_iret {v : Int32} {ty : FieldType} (hx : p.tables.exec = Jvm.exec) (hb : c.code = cc) (hr : meth.sig.returnType = some ty) (hlocks : meth.locks = false) (hn : narrow ty (.int v) = .int v) (hc : cells ≤ mc) (hs : slots ≤ ms) (hf : ∀ q ∈ locs, free q.base) (d : decode cc pc = .ok (.ireturn, 1))
    (hq : ∀ t : State, t.heap = H → Qc args s (.returned (some (.int v))) t) : W p l e R s m args below meth c H locs cells slots (MQ below Qc args s mc ms free) (F0 m pc ls [.int v]) := by
  refine W.widen hc hs ?_
  exact W.zret (v := v) hx hb hr hn (fun t ht _ => hq t ht) hf d hlocks
theorem r_aret {v : Value} {ty : FieldType} (hx : p.tables.exec = Jvm.exec) (hb : c.code = cc) (hr : meth.sig.returnType = some ty) (hlocks : meth.locks = false) (hrt : (∃ n, ty = .object n) ∨ ∃ t, ty = .array t) (hv : v = .null ∨ ∃ a, v = .ref a) (hc : cells ≤ mc) (hs : slots ≤ ms) (hf : ∀ q ∈ locs, free q.base) (d : decode cc pc = .ok (.areturn, 1))
    (hq : ∀ t : State, t.heap = H → Qc args s (.returned (some v)) t) : W p l e R s m args below meth c H locs cells slots (MQ below Qc args s mc ms free) (F0 m pc ls [v]) := by
  refine W.widen hc hs ?_
  exact W.aret (v := v) hx hb hr hrt hv (fun t ht _ => hq t ht) hf d hlocks
theorem r_vret (hx : p.tables.exec = Jvm.exec) (hb : c.code = cc) (hr : meth.sig.returnType = none) (hlocks : meth.locks = false) (hc : cells ≤ mc) (hs : slots ≤ ms) (hf : ∀ q ∈ locs, free q.base) (d : decode cc pc = .ok (.return_, 1))
    (hq : ∀ t : State, t.heap = H → Qc args s (.returned none) t) : W p l e R s m args below meth c H locs cells slots (MQ below Qc args s mc ms free) (F0 m pc ls []) := by
  refine W.widen hc hs ?_
  exact W.vret hx hb hr (fun t ht _ => hq t ht) hf d hlocks
theorem noLocs {P : Loc → Prop} : ∀ q ∈ ([] : List Loc), P q := fun q h => absurd h List.not_mem_nil
/-- the answer of a body that changes nothing -/
theorem r_qret {z : Int} {ty : FieldType} (hx : p.tables.exec = Jvm.exec) (hb : c.code = cc) (hr : meth.sig.returnType = some ty) (hlocks : meth.locks = false) (hn : narrow ty (.int (zi z)) = .int (zi z)) (d : decode cc pc = .ok (.ireturn, 1)) {v : Int} (hv : z = v) : W p l e R s m args below meth c s.heap [] 0 0 (MQ below (qSi v) args s 0 0 noA) (F0 m pc ls [.int (zi z)]) :=
  r_iret hx hb hr hlocks hn (Nat.le_refl 0) (Nat.le_refl 0) noLocs d (fun t ht => ⟨_, rfl, by rw [hv], ht⟩)
theorem r_qaret {a : Nat} {ty : FieldType} (hx : p.tables.exec = Jvm.exec) (hb : c.code = cc) (hr : meth.sig.returnType = some ty) (hlocks : meth.locks = false) (hrt : (∃ n, ty = .object n) ∨ ∃ t, ty = .array t) (d : decode cc pc = .ok (.areturn, 1)) : W p l e R s m args below meth c s.heap [] 0 0 (MQ below (qSa a) args s 0 0 noA) (F0 m pc ls [.ref a]) :=
  r_aret hx hb hr hlocks hrt (Or.inr ⟨a, rfl⟩) (Nat.le_refl 0) (Nat.le_refl 0) noLocs d (fun t ht => ⟨_, rfl, rfl, ht⟩)
end RZ
