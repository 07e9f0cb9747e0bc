/-! BASE: numbers, the tables' facts, contracts, rows -/
def zi (z : Int) : Int32 := Int32.ofInt z
def bi (b : Bool) : Int := if b then 1 else 0
def fit (z : Int) : Prop := -2147483648 ≤ z ∧ z ≤ 2147483647
theorem zi_add (a b : Int) : zi a + zi b = zi (a + b) := (Int32.ofInt_add a b).symm
theorem zi_sub (a b : Int) : zi a - zi b = zi (a - b) := (Int32.ofInt_sub a b).symm
theorem zi_mul (a b : Int) : zi a * zi b = zi (a * b) := (Int32.ofInt_mul a b).symm
theorem zi_neg (a : Int) : -zi a = zi (-a) := (Int32.ofInt_neg a).symm
theorem zi_toInt {z : Int} (h : fit z) : (zi z).toInt = z := Int32.toInt_ofInt_of_le (by have := h.1; omega) (by have := h.2; omega)
theorem zi_of (x : Int32) : zi x.toInt = x := Int32.ofInt_toInt x
theorem zi_fit (x : Int32) : fit x.toInt := ⟨by have := Int32.le_toInt x; omega, by have := Int32.toInt_lt x; omega⟩
theorem zi_lt {a b : Int} (ha : fit a) (hb : fit b) : zi a < zi b ↔ a < b := by
  rw [Int32.lt_iff_toInt_lt, zi_toInt ha, zi_toInt hb]
theorem zi_le {a b : Int} (ha : fit a) (hb : fit b) : zi a ≤ zi b ↔ a ≤ b := by
  rw [Int32.le_iff_toInt_le, zi_toInt ha, zi_toInt hb]
theorem zi_inj {a b : Int} (ha : fit a) (hb : fit b) : zi a = zi b ↔ a = b := by
  constructor
  · intro h
    have h1 := congrArg Int32.toInt h
    rw [zi_toInt ha, zi_toInt hb] at h1
    exact h1
  · intro h
    rw [h]
theorem zi_nat (n : Nat) : zi (n : Int) = nI n := rfl
theorem zi_clamp {z : Int} (h : fit z) : (zi z).toNatClampNeg = z.toNat := by
  show (zi z).toInt.toNat = z.toNat
  rw [zi_toInt h]
theorem zi_in {k n : Nat} (h : k < n) (hn : n < 2147483648) : vp_in (zi (k : Int)) n := by
  unfold vp_in
  intro q
  rcases q with q | q
  · rw [show (0 : Int32) = zi 0 from rfl, zi_lt ⟨by omega, by omega⟩ ⟨by decide, by decide⟩] at q
    omega
  · rw [zi_clamp ⟨by omega, by omega⟩] at q
    omega
theorem zi_div {a b : Int} (ha : fit a) (hb : 0 < b ∧ b ≤ 2147483647) : zi a / zi b = zi (a.tdiv b) := by
  apply Int32.toInt_inj.mp
  have h1 : zi b ≠ -1 := by
    intro h
    rw [show (-1 : Int32) = zi (-1) from rfl, zi_inj ⟨by omega, by omega⟩ ⟨by decide, by decide⟩] at h
    omega
  rw [Int32.toInt_div_of_ne_right _ _ h1, zi_toInt ha, zi_toInt ⟨by omega, by omega⟩, zi_toInt]
  obtain ⟨h2, h3⟩ := ha
  constructor
  · rcases Int.le_total 0 a with h | h
    · have := Int.tdiv_nonneg h (Int.le_of_lt hb.1); omega
    · have e : a.tdiv b = -((-a).tdiv b) := by rw [Int.neg_tdiv, Int.neg_neg]
      rw [e]
      have := Int.tdiv_le_self (b := b) (a := -a) (by omega)
      omega
  · rcases Int.le_total 0 a with h | h
    · have := Int.tdiv_le_self (b := b) h; omega
    · have e : a.tdiv b = -((-a).tdiv b) := by rw [Int.neg_tdiv, Int.neg_neg]
      rw [e]
      have := Int.tdiv_nonneg (a := -a) (b := b) (by omega) (Int.le_of_lt hb.1)
      omega
theorem zi_ne0 {b : Int} (hb : fit b) (h : b ≠ 0) : ¬ zi b = 0 := by
  rw [show (0 : Int32) = zi 0 from rfl, zi_inj hb ⟨by decide, by decide⟩]
  exact h
theorem bi_nar (b : Bool) : narrow .boolean (.int (zi (bi b))) = .int (zi (bi b)) := by cases b <;> decide +kernel
theorem bi_fit (b : Bool) : fit (bi b) := by cases b <;> exact ⟨by decide, by decide⟩
theorem bi_1 : bi true = 1 := rfl
theorem bi_0 : bi false = 0 := rfl
theorem zi_max (a b : Int) (ha : fit a) (hb : fit b) : (if zi a < zi b then zi b else zi a) = zi (max a b) := by
  by_cases h : a < b
  · rw [if_pos ((zi_lt ha hb).mpr h), Int.max_eq_right (Int.le_of_lt h)]
  · rw [if_neg (fun q => h ((zi_lt ha hb).mp q)), Int.max_eq_left (by omega)]
-- the classes whose objects are followed
abbrev vwCl : List vw_C := [(RX1, TX1, 10), (RX3, TX3, 4), (RX6, TX6, 4), (RX7, TX7, 7), (RX10, TX10, 2), (RX12, TX12, 2), (RX11, TX11, 6), (RX13, TX13, 3), (RJ2, TJ2, 3), (RJ14, TJ14, 4), (RX4, TX4, 16)]
/-- the numbers of the run: classes, array classes, the constants' cells -/
abbrev GD : Type := va_G × (ClassId × ClassId × ClassId × ClassId × ClassId × ClassId × ClassId) × (Nat × Nat × Nat × (Nat → Nat))
abbrev gI (g : GD) : ClassId := g.2.1.1
abbrev gZ (g : GD) : ClassId := g.2.1.2.1
abbrev gC (g : GD) : ClassId := g.2.1.2.2.1
abbrev gJ (g : GD) : ClassId := g.2.1.2.2.2.1
abbrev gDb (g : GD) : ClassId := g.2.1.2.2.2.2.1
abbrev gO (g : GD) : ClassId := g.2.1.2.2.2.2.2.1
abbrev gW (g : GD) : ClassId := g.2.1.2.2.2.2.2.2
/-- the empty array that new lists share; the mirror of Object[]; the array of the ways; the ways -/
abbrev gE (g : GD) : Nat := g.2.2.1
abbrev gM (g : GD) : Nat := g.2.2.2.1
abbrev gV (g : GD) : Nat := g.2.2.2.2.1
abbrev gY (g : GD) : Nat → Nat := g.2.2.2.2.2
abbrev tysOf (g : GD) : List (ClassId × FieldType) := [(gI g, .int), (gZ g, .boolean), (gC g, .char), (gJ g, .long), (gDb g, .double), (gO g, .object "java/lang/Object"), (gW g, .object "TileServer$Way")]
def nwOK : Cond → Bool
  | .fieldLinkNest _ _ _ _ _ _ => true
  | .methodLinkNest _ _ _ _ => true
  | .castable _ _ => true
  | .declares _ => true
  | _ => false
/-- words of the tables that don't ride in lw_all -/
def NW (U : State) : Prop := ∀ w ∈ lw_tbl, nwOK w = true → va_Nw w U
theorem nwOK_tab {w : Cond} (h : nwOK w = true) : w.onTables = true := by
  cases w <;> first | rfl | exact absurd h (by simp [nwOK])
theorem NW.same {u U : State} (hvm : u.vm = U.vm) (h : NW u) : NW U := fun w hw hk => (h w hw hk).same (nwOK_tab hk) hvm
theorem NW.warm {s U : State} (hW : s.WarmedH U.vm) (h : NW s) : NW U := by
  intro w hw hk
  have h0 := h w hw hk
  cases w <;> first
    | exact va_Nw.warmF hW h0
    | exact va_Nw.warmM hW h0
    | exact va_Nw.warmC hW h0
    | exact va_Nw.warmD hW h0
    | exact absurd hk (by simp [nwOK])
abbrev yL_size : MethodName := ⟨"java/util/List", "size", "()I"⟩
abbrev yL_iterator : MethodName := ⟨"java/util/List", "iterator", "()Ljava/util/Iterator;"⟩
abbrev yL_get : MethodName := ⟨"java/util/List", "get", "(I)Ljava/lang/Object;"⟩
abbrev yL_add : MethodName := ⟨"java/util/List", "add", "(Ljava/lang/Object;)Z"⟩
abbrev yL_remove : MethodName := ⟨"java/util/List", "remove", "(I)Ljava/lang/Object;"⟩
abbrev yL_remove_2 : MethodName := ⟨"java/util/List", "remove", "(Ljava/lang/Object;)Z"⟩
abbrev yL_add_3 : MethodName := ⟨"java/util/List", "add", "(ILjava/lang/Object;)V"⟩
abbrev yI_hasNext : MethodName := ⟨"java/util/Iterator", "hasNext", "()Z"⟩
abbrev yI_next : MethodName := ⟨"java/util/Iterator", "next", "()Ljava/lang/Object;"⟩
/-- the calls through interfaces -/
abbrev fwl : List (String × MethodName × MethodName) := [(RJ2, yL_size, yJ2_size), (RJ2, yL_iterator, yJ2_iterator), (RJ2, yL_get, yJ2_get), (RJ2, yL_add, yJ2_add), (RJ2, yL_remove, yJ2_remove), (RJ2, yL_remove_2, yJ2_remove_2), (RJ2, yL_add_3, yJ2_add_3), (RJ14, yI_hasNext, yJ14_hasNext), (RJ14, yI_next, yJ14_next)]
theorem fwl_ok : ∀ q ∈ fwl, q.2.1.cls ≠ "java/lang/invoke/MethodHandle" ∧ q.2.1.cls ≠ "java/lang/invoke/VarHandle" := by decide +kernel
/-- pairs of classes of which the first is not of the second's kind -/
abbrev ncl : List (String × String) := [(RX7, RX6), (RX6, RX7), ("java/lang/IllegalStateException", "java/lang/IllegalArgumentException"), ("java/lang/UnsupportedOperationException", "java/util/NoSuchElementException"), ("java/lang/IllegalArgumentException", "java/util/NoSuchElementException"), ("java/lang/IllegalArgumentException", "java/lang/UnsupportedOperationException"), ("java/lang/IllegalStateException", "java/util/NoSuchElementException"), ("java/lang/IllegalStateException", "java/lang/UnsupportedOperationException"), ("java/lang/IndexOutOfBoundsException", "java/util/NoSuchElementException"), ("java/lang/IndexOutOfBoundsException", "java/lang/UnsupportedOperationException"), ("java/lang/IllegalArgumentException", "java/lang/IndexOutOfBoundsException"), ("java/lang/IllegalStateException", "java/lang/IndexOutOfBoundsException"), ("java/lang/IndexOutOfBoundsException", "java/lang/IllegalStateException"), ("java/util/NoSuchElementException", "java/lang/IndexOutOfBoundsException"), ("java/lang/ArithmeticException", "java/lang/IndexOutOfBoundsException")]
/-- what the tables say, all through a run -/
def KT (g : GD) (U : State) : Prop := va_K g.1 vwCl (tysOf g) U ∧ NW U ∧ (∀ q ∈ fwl, va_Fw q.1 q.2.1 q.2.2 U) ∧ (∀ q ∈ ncl, va_Nc q.1 q.2 U) ∧ va_AO "java/lang/Object" U ∧ va_AO "TileServer$Way" U ∧ va_Mi "[Ljava/lang/Object;" (gM g) U ∧ va_Dc U
theorem KT.warm {g : GD} {s U : State} (hW : s.WarmedH U.vm) (h : KT g s) : KT g U := by
  obtain ⟨h1, h2, h3, h4, h5, h6, h7, h8⟩ := h
  exact ⟨va_K.moved hW.alike h1, h2.warm hW, fun q hq => va_Fw.moved (fwl_ok q hq) hW.alike (h3 q hq), fun q hq => va_Nc.moved hW.alike (h4 q hq), va_AO.moved hW.alike h5, va_AO.moved hW.alike h6, va_Mi.moved hW.alike h7, va_Dc.moved hW.alike h8⟩
theorem KT.same {g : GD} {u U : State} (hvm : u.vm = U.vm) (h : KT g u) : KT g U := by
  obtain ⟨h1, h2, h3, h4, h5, h6, h7, h8⟩ := h
  have ha : u.vm.Alike U.vm := by rw [hvm]; exact Vm.Alike.refl _
  exact ⟨va_K.moved ha h1, h2.same hvm, fun q hq => va_Fw.moved (fwl_ok q hq) ha (h3 q hq), fun q hq => va_Nc.moved ha (h4 q hq), va_AO.moved ha h5, va_AO.moved ha h6, va_Mi.moved ha h7, va_Dc.moved ha h8⟩
theorem KT.k {g : GD} {U : State} (h : KT g U) : va_K g.1 vwCl (tysOf g) U := h.1
theorem KT.nw {g : GD} {U : State} (h : KT g U) : NW U := h.2.1
theorem KT.fw {g : GD} {U : State} (h : KT g U) : ∀ q ∈ fwl, va_Fw q.1 q.2.1 q.2.2 U := h.2.2.1
theorem KT.nc {g : GD} {U : State} (h : KT g U) : ∀ q ∈ ncl, va_Nc q.1 q.2 U := h.2.2.2.1
theorem KT.aoO {g : GD} {U : State} (h : KT g U) : va_AO "java/lang/Object" U := h.2.2.2.2.1
theorem KT.aoW {g : GD} {U : State} (h : KT g U) : va_AO "TileServer$Way" U := h.2.2.2.2.2.1
theorem KT.mi {g : GD} {U : State} (h : KT g U) : va_Mi "[Ljava/lang/Object;" (gM g) U := h.2.2.2.2.2.2.1
theorem KT.dc {g : GD} {U : State} (h : KT g U) : va_Dc U := h.2.2.2.2.2.2.2
abbrev wayC : Nat → String
  | 0 => RX14
  | 1 => RX15
  | 2 => RX16
  | _ => RX17
abbrev wayL : Nat → Int
  | 0 => 114
  | 1 => 108
  | 2 => 97
  | _ => 98
/-- what the constants' cells hold; none of them is in A -/
def KS (g : GD) (A : Nat → Prop) (U : State) (H : Heap) : Prop :=
  va_Z "java/util/ArrayList" "DEFAULTCAPACITY_EMPTY_ELEMENTDATA" "[Ljava/lang/Object;" (.ref (gE g)) A U H ∧
  (H[gE g]? = some (vp_cell (gO g) (0, .inr (.inr (.inr (.inr (fun _ => none)))))) ∧ ¬ A (gE g)) ∧
  vx_Zq Bundle.tN "UNASSIGNED_STACK" Bundle.steD A U H ∧ vx_Zq Bundle.tN "SUPPRESSED_SENTINEL" Bundle.listD A U H ∧
  va_Z "TileServer$Way" "$VALUES" "[LTileServer$Way;" (.ref (gV g)) A U H ∧
  (H[gV g]? = some (vp_cell (gW g) (4, .inr (.inr (.inr (.inr (fun j => if j < 4 then some (gY g j) else none)))))) ∧ ¬ A (gV g)) ∧
  (∀ i, i < 4 → va_O (wayC i) (gY g i) A U H) ∧ (∀ i, i < 4 → va_OF "TileServer$Way" "letter" "C" (.int (zi (wayL i))) (gY g i) A U H)
theorem va_O.moved9 {E : String} {t : Nat} {A : Nat → Prop} {u U : State} {H : Heap} (hvm : u.vm.Alike U.vm) (h : va_O E t A u H) : va_O E t A U H := by
  obtain ⟨cell, h1, h2, h3, h4⟩ := h
  exact ⟨cell, h1, h2, by rw [hvm.findClass]; exact h3, h4⟩
theorem va_O.kept9 {E : String} {t : Nat} {A : Nat → Prop} {U : State} {H H1 : Heap} (h : va_O E t A U H) (hq : ∀ a : Nat, a < H.size → ¬ A a → H1[a]? = H[a]?) : va_O E t A U H1 := by
  obtain ⟨cell, h1, h2, h3, h4⟩ := h
  exact ⟨cell, by rw [hq t (Array.getElem?_eq_some_iff.mp h1).1 h4]; exact h1, h2, h3, h4⟩
theorem va_O.narrow9 {E : String} {t : Nat} {A B : Nat → Prop} {U : State} {H : Heap} (h : va_O E t A U H) (hAB : ∀ q, B q → A q) : va_O E t B U H := by
  obtain ⟨cell, h1, h2, h3, h4⟩ := h
  exact ⟨cell, h1, h2, h3, fun z => h4 (hAB t z)⟩
theorem va_OF.moved9 {o n d : String} {v : Value} {t : Nat} {A : Nat → Prop} {u U : State} {H : Heap} (hvm : u.vm.Alike U.vm) (h : va_OF o n d v t A u H) : va_OF o n d v t A U H := by
  obtain ⟨cf, k, i, f, cell, h1, h2⟩ := h
  obtain ⟨k', hi', he⟩ := State.fieldFound?_setVm hvm h1
  exact ⟨cf, k', i, f, cell, hi', h2⟩
theorem va_OF.kept9 {o n d : String} {v : Value} {t : Nat} {A : Nat → Prop} {U : State} {H H1 : Heap} (h : va_OF o n d v t A U H) (hq : ∀ a : Nat, a < H.size → ¬ A a → H1[a]? = H[a]?) : va_OF o n d v t A U H1 := by
  obtain ⟨cf, k, i, f, cell, h1, h2, h3, h4, h5, h6⟩ := h
  exact ⟨cf, k, i, f, cell, h1, h2, by rw [hq t (Array.getElem?_eq_some_iff.mp h3).1 h6]; exact h3, h4, h5, h6⟩
theorem va_OF.narrow9 {o n d : String} {v : Value} {t : Nat} {A B : Nat → Prop} {U : State} {H : Heap} (h : va_OF o n d v t A U H) (hAB : ∀ q, B q → A q) : va_OF o n d v t B U H := by
  obtain ⟨cf, k, i, f, cell, h1, h2, h3, h4, h5, h6⟩ := h
  exact ⟨cf, k, i, f, cell, h1, h2, h3, h4, h5, fun z => h6 (hAB t z)⟩
theorem KS.moved {g : GD} {A : Nat → Prop} {u U : State} {H : Heap} (hvm : u.vm.Alike U.vm) (h : KS g A u H) : KS g A U H := by
  obtain ⟨h1, h2, h3, h4, h5, h6, h7, h8⟩ := h
  exact ⟨va_Z.moved hvm h1, h2, vx_Zq.moved hvm h3, vx_Zq.moved hvm h4, va_Z.moved hvm h5, h6, fun i hi => (h7 i hi).moved9 hvm, fun i hi => (h8 i hi).moved9 hvm⟩
theorem KS.kept {g : GD} {A : Nat → Prop} {U : State} {H H1 : Heap} (h : KS g A U H) (hq : ∀ a : Nat, a < H.size → ¬ A a → H1[a]? = H[a]?) : KS g A U H1 := by
  obtain ⟨h1, ⟨h2, h2'⟩, h3, h4, h5, ⟨h6, h6'⟩, h7, h8⟩ := h
  exact ⟨h1.kept hq, ⟨by rw [hq _ (Array.getElem?_eq_some_iff.mp h2).1 h2']; exact h2, h2'⟩, h3.kept hq, h4.kept hq, h5.kept hq, ⟨by rw [hq _ (Array.getElem?_eq_some_iff.mp h6).1 h6']; exact h6, h6'⟩, fun i hi => (h7 i hi).kept9 hq, fun i hi => (h8 i hi).kept9 hq⟩
theorem KS.narrow {g : GD} {A B : Nat → Prop} {U : State} {H : Heap} (h : KS g A U H) (hAB : ∀ q, B q → A q) : KS g B U H := by
  obtain ⟨h1, ⟨h2, h2'⟩, h3, h4, h5, ⟨h6, h6'⟩, h7, h8⟩ := h
  exact ⟨h1.narrow hAB, ⟨h2, fun z => h2' (hAB _ z)⟩, h3.narrow hAB, h4.narrow hAB, h5.narrow hAB, ⟨h6, fun z => h6' (hAB _ z)⟩, fun i hi => (h7 i hi).narrow9 hAB, fun i hi => (h8 i hi).narrow9 hAB⟩
def KH (g : GD) (A : Nat → Prop) (U : State) (H : Heap) : Prop := KT g U ∧ KS g A U H
theorem KH.k {g : GD} {A : Nat → Prop} {U : State} {H : Heap} (h : KH g A U H) : va_K g.1 vwCl (tysOf g) U := h.1.1
theorem KH.kept {g : GD} {A : Nat → Prop} {U : State} {H H1 : Heap} (h : KH g A U H) (hq : ∀ a : Nat, a < H.size → ¬ A a → H1[a]? = H[a]?) : KH g A U H1 := ⟨h.1, h.2.kept hq⟩
theorem KH.narrow {g : GD} {A B : Nat → Prop} {U : State} {H : Heap} (h : KH g A U H) (hAB : ∀ q, B q → A q) : KH g B U H := ⟨h.1, h.2.narrow hAB⟩
theorem KH.at {g : GD} {A : Nat → Prop} {s : State} {H : Heap} {locs : List Loc} (h : KH g A s s.heap) (hS : va_S A s.heap H locs) : KH g A s H := h.kept hS.2.1
/-- a contract's start: the arguments, the tables and constants, what the heap must hold -/
def pcs (g : GD) (av : List Value) (A : Nat → Prop) (F : Heap → Prop) : Array Value → State → Prop := fun v U => v = av.toArray ∧ KH g A U U.heap ∧ F U.heap
theorem pcs_blind {g : GD} {av : List Value} {A : Nat → Prop} {F : Heap → Prop} : FrameBlind (pcs g av A F) := by
  intro a U fr mk h
  obtain ⟨h1, h2, h3⟩ := h
  exact ⟨h1, ⟨KT.same (u := U) rfl h2.1, KS.moved (u := U) (Vm.Alike.refl U.vm) h2.2⟩, h3⟩
theorem pcs_pre {g : GD} {av : List Value} {A : Nat → Prop} {F : Heap → Prop} {s : State} {H : Heap} (hK : KH g A s H) (hF : F H) : ∀ U : State, U.heap = H → s.WarmedH U.vm → pcs g av A F av.toArray U := by
  intro U hU hW
  subst hU
  exact ⟨rfl, ⟨hK.1.warm hW, KS.moved hW.alike hK.2⟩, hF⟩
theorem pcs_V {g : GD} {As : List Value} {A : Nat → Prop} {F : Heap → Prop} {s : State} {H : Heap} {C : String} {b : Nat} (hr : ∃ cell : Cell, H[b]? = some cell ∧ cell.vm.isStatics = false ∧ s.vm.findClass C = some cell.cls) (hK : KH g A s H) (hF : F H) : PreV s H C b (pcs g (.ref b :: As) A F) As := ⟨pcs_blind, hr, pcs_pre hK hF⟩
theorem pcs_S {g : GD} {As : List Value} {A : Nat → Prop} {F : Heap → Prop} {s : State} {H : Heap} (hK : KH g A s H) (hF : F H) : PreS s H (pcs g As A F) As := ⟨pcs_blind, pcs_pre hK hF⟩
/-- ends: the heap as it was -/
def qS (post : Option Value → Prop) : Array Value → State → Outcome → State → Prop := fun _ st oc t => ∃ v, oc = .returned v ∧ post v ∧ t.heap = st.heap
abbrev qSi (z : Int) : Array Value → State → Outcome → State → Prop := qS (fun v => v = some (.int (zi z)))
abbrev qSa (a : Nat) : Array Value → State → Outcome → State → Prop := qS (fun v => v = some (.ref a))
abbrev qSv : Array Value → State → Outcome → State → Prop := qS (fun v => v = none)
abbrev qSq (a : Option Nat) : Array Value → State → Outcome → State → Prop := qS (fun v => v = some (va_rf a))
/-- ends: what is not in A stays -/
def qR (A : Nat → Prop) (post : Option Value → Heap → Prop) : Array Value → State → Outcome → State → Prop := fun _ st oc t => ∃ v, oc = .returned v ∧ post v t.heap ∧ va_F A st t
abbrev qRi (A : Nat → Prop) (z : Int) (post : Heap → Prop) : Array Value → State → Outcome → State → Prop := qR A (fun v h => v = some (.int (zi z)) ∧ post h)
abbrev qRa (A : Nat → Prop) (post : Nat → Heap → Prop) : Array Value → State → Outcome → State → Prop := qR A (fun v h => ∃ a, v = some (.ref a) ∧ post a h)
abbrev qRq (A : Nat → Prop) (post : Option Nat → Heap → Prop) : Array Value → State → Outcome → State → Prop := qR A (fun v h => ∃ a, v = some (va_rf a) ∧ post a h)
abbrev qRv (A : Nat → Prop) (post : Heap → Prop) : Array Value → State → Outcome → State → Prop := qR A (fun v h => v = none ∧ post h)
/-- what a method may change: the cells L, and what it makes -/
def nA (L : List Nat) (sz : Nat) : Nat → Prop := fun q => q ∈ L ∨ sz ≤ q
theorem nA_new {L : List Nat} {sz q : Nat} (h : sz ≤ q) : nA L sz q := Or.inr h
theorem nA_in {L : List Nat} {sz q : Nat} (h : q ∈ L) : nA L sz q := Or.inl h
theorem nA_nil {sz q : Nat} (h : nA [] sz q) : sz ≤ q := h.elim (fun z => absurd z List.not_mem_nil) id
theorem nA_not {sz q : Nat} (h : q < sz) : ¬ nA [] sz q := fun z => absurd (nA_nil z) (by omega)
abbrev noA : Nat → Prop := fun _ => False
/-- what throws leaves old cells alone -/
def xC (px : String → Prop) : String → State → State → Prop := fun E st t => px E ∧ va_F (fun q => st.heap.size ≤ q) st t
section GO
variable {l : Launch} {y : MethodName} {cc : ByteArray} {maxL : Nat} {ret : Option FieldType} {rm : Room} {g : GD} {av : List Value} {A : Nat → Prop} {F : Heap → Prop} {Qc : Array Value → State → Outcome → State → Prop} {mc ms : Nat} {free : Addr → Prop}
theorem Met.go (hy : plainName y.cls = true) (hmax : (lg_sl av).length ≤ maxL)
    (body : ∀ (p : Program) (e : Env) (s : State) (m : MethodId) (args : Array Value) (below : List Frame) (meth : Method) (c : Code) (Q : State → Prop) (ls : Array Slot),
      Q = MQ below Qc args s mc ms free → p.tables.exec = Jvm.exec → c.code = cc → meth.sig.returnType = ret → c.maxLocals = maxL → (∀ w ∈ lw_all, w.before args s = true) → s.vm.findClass y.cls = some m.cls → meth.locks = false → meth.name = y.name → KH g A s s.heap → F s.heap → lv_has ls maxL (lv_args 0 av) → W p l e rm s m args below meth c s.heap [] 0 0 Q (F0 m 0 ls [])) : Met l y (ws_ y cc maxL ret) rm (pcs g av A F) Qc mc ms free := by
  refine Met.ofW (cc := cc) (maxL := maxL) (ret := ret) hy rfl ?_
  intro p e s m args below meth c s₁ B hml hv
  obtain ⟨rfl, hK, hF⟩ := hv
  have hts := atoms_spec (ws := ws_ y cc maxL ret) B.pre
  have hl := lv_entry av (n := maxL) hmax
  rw [lg_entry_eq]
  exact body p e s m _ below meth c _ _ rfl B.exec B.bytes B.returns hml (fun w h => hts w (List.mem_cons_of_mem _ h)) (findClass_of_methodNamed B.named) B.notSynchronized (name_of_methodNamed B.named B.method).1 hK hF hl
theorem vx_Met.go {XC : String → State → State → Prop} (hy : plainName y.cls = true) (hmax : (lg_sl av).length ≤ maxL)
    (body : ∀ (p : Program) (e : Env) (s : State) (m : MethodId) (args : Array Value) (below : List Frame) (meth : Method) (c : Code) (Q : State → Prop) (ls : Array Slot),
      Q = vx_MQ below Qc XC args s mc ms free → p.tables.exec = Jvm.exec → c.code = cc → meth.sig.returnType = ret → c.maxLocals = maxL → (∀ w ∈ lw_all, w.before args s = true) → s.vm.findClass y.cls = some m.cls → meth.locks = false → (∀ x ∈ c.exceptionTable.toList, False) → KH g A s s.heap → F s.heap → lv_has ls maxL (lv_args 0 av) → W p l e rm s m args below meth c s.heap [] 0 0 Q (F0 m 0 ls [])) : vx_Met l y (ws_ y cc maxL ret) rm (pcs g av A F) Qc XC mc ms free := by
  refine vx_ofW (cc := cc) (maxL := maxL) (ret := ret) hy rfl ?_
  intro p e s m args below meth c s₁ B hml htab hv
  obtain ⟨rfl, hK, hF⟩ := hv
  have hts := atoms_spec (ws := ws_ y cc maxL ret) B.pre
  have hl := lv_entry av (n := maxL) hmax
  rw [lg_entry_eq]
  exact body p e s m _ below meth c _ _ rfl B.exec B.bytes B.returns hml (fun w h => hts w (List.mem_cons_of_mem _ h)) (findClass_of_methodNamed B.named) B.notSynchronized htab hK hF hl
end GO
