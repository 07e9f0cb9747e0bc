/-! THE TWIN: small changes (printed by gen/twin4.py) -/
set_option maxHeartbeats 4000000 in
set_option maxRecDepth 100000 in
theorem m_drops (l : Launch) (g : GD) (ad : TA) (hN9 : (fpT ad).Nodup) (sz : Nat) (fm fx fy ft fc fp fle flo : Nat → Int) (fn fl fh fk fhi fmi fd fth : Int) (σ : Sg) (k : Nat) (hT : TR σ (fm, fn, fl, fx, fy, ft, fc, fh, fk, fhi, fmi, fd, fth, fp, fle, flo)) (hk : k < (gCa σ).length) : Met l yX4_drops (ws_ yX4_drops cX4_drops 3 none) ({ frames := 1, cells := 0, slots := 0, locals := 40 } : Room) (pcs g [.ref (aO ad), .int (zi (k : Int))] (nA (fpT ad) sz) (fun h => h.size = sz ∧ va_P g.1 vwCl (TW g ad (fm, fn, fl, fx, fy, ft, fc, fh, fk, fhi, fmi, fd, fth, fp, fle, flo)) h)) (qRv (nA (fpT ad) sz) (fun h => ∃ (fc' : Nat → Int), va_P g.1 vwCl (TW g ad (fm, fn, fl, fx, fy, ft, fc', fh - 1, fk, fhi, fmi, fd, fth, fp, fle, flo)) h ∧ TR (setCa σ ((gCa σ).eraseIdx k)) (fm, fn, fl, fx, fy, ft, fc', fh - 1, fk, fhi, fmi, fd, fth, fp, fle, flo))) 0 0 (nA (fpT ad) sz) := by
  refine Met.go (by decide) (Nat.le_of_ble_eq_true rfl) ?_
  intro p e s m args below meth c Q ls hQ hx hb hr hml hts hown hlocks hin hKH hF hl
  have hown : s.vm.findClass RX4 = some m.cls := hown
  have hK := hKH.k
  have hNW := hKH.1.nw
  have hl : lv_has ls 3 [(0, .ref (aO ad)), (1, .int (zi (k : Int)))] := hl
  obtain ⟨hsz, hP⟩ := hF
  subst hsz
  obtain ⟨A, hAe⟩ : ∃ A, A = nA (fpT ad) s.heap.size := ⟨_, rfl⟩
  rw [← hAe] at hKH hQ
  have hAf : ∀ q ∈ fpT ad, A q := fun q h => by rw [hAe]; exact nA_in h
  have hA : ∀ q : Nat, s.heap.size ≤ q → A q := fun q h => by rw [hAe]; exact nA_new h
  have hD : va_D A (TW g ad (fm, fn, fl, fx, fy, ft, fc, fh, fk, fhi, fmi, fd, fth, fp, fle, flo)) := tw_D _ hN9 hAf
  have hS : va_S A s.heap s.heap [] := va_S.rf
  have hKq : KH g noA s s.heap := hKH.narrow (fun _ q => q.elim)
  have hP : va_P g.1 vwCl (TW g ad (fm, fn, fl, fx, fy, ft, fc, fh, fk, fhi, fmi, fd, fth, fp, fle, flo)) s.heap := hP
  have h5 := hT.c5
  have hh : fh = ((gCa σ).length : Int) := hT.h
  refine lv_aload_n hx hb dX4_drops_0 rfl (lv_at hl 0 rfl) ?_
  refine lv_dup hx hb dX4_drops_1 rfl ?_
  refine va_get (D := g.1) (ci := 10) (v := .int (zi fh)) (C := RX4) (T := TX4) (N := 16) hx hb hts in_X4 hown hK hP 0 rfl rfl 7 (by decide) (hts _ q1607) (fun _ h9 => h9) rfl dX4_drops_2 ?_
  refine r_c hx hb dX4_drops_5 ?_
  refine r_sub (z := fh - 1) hx hb dX4_drops_6 rfl ?_
  refine va_put (D := g.1) (ci := 10) (v := .int (zi (fh - 1))) (ty := .int) (C := RX4) (T := TX4) (N := 16) hx hb hts in_X4 tyX4 tyX4_ok nmX4 hown hK hP hD hS 0 rfl rfl 7 (by decide) (hts _ q1607) (fun _ h9 => h9) rfl (by decide +kernel) rfl rfl (Nat.le_of_ble_eq_true rfl) dX4_drops_7 (fun H locs hP hD hS => ?_)
  have hP : va_P g.1 vwCl (TW g ad (fm, fn, fl, fx, fy, ft, fc, fh - 1, fk, fhi, fmi, fd, fth, fp, fle, flo)) H := hP
  have hD : va_D A (TW g ad (fm, fn, fl, fx, fy, ft, fc, fh - 1, fk, fhi, fmi, fd, fth, fp, fle, flo)) := hD
  have hKq : KH g noA s H := (hKH.at hS).narrow (fun _ z => z.elim)
  refine r_c hx hb dX4_drops_10 ?_
  refine lv_iload_n hx hb dX4_drops_11 rfl (lv_at hl 1 rfl) ?_
  refine r_mul (z := ((4 * k : Nat) : Int)) hx hb dX4_drops_12 (by omega) ?_
  refine lv_istore_n (lv' := [(2, .int (zi ((4 * k : Nat) : Int))), (0, .ref (aO ad)), (1, .int (zi (k : Int)))]) hx hb dX4_drops_13 rfl hl (by decide) rfl (fun ls hl => ?_)
  have lp : ∀ (n x : Nat) (f : Nat → Int), 4 * k ≤ x → x ≤ 4 * ((gCa σ).length - 1) → (∀ i, f i = if 4 * k ≤ i ∧ i < x then fc (i + 4) else fc i) → 4 * ((gCa σ).length - 1) < x + n → ∀ (H : Heap) (locs : List Loc), va_P g.1 vwCl (TW g ad (fm, fn, fl, fx, fy, ft, f, fh - 1, fk, fhi, fmi, fd, fth, fp, fle, flo)) H → va_S A s.heap H locs → ∀ ls : Array Slot, lv_has ls 3 [(2, .int (zi (x : Int))), (0, .ref (aO ad)), (1, .int (zi (k : Int)))] → W p l e ({ frames := 1, cells := 0, slots := 0, locals := 40 } : Room) s m args below meth c H locs 0 0 Q (F0 m 14 ls []) := by
    intro n
    induction n with
    | zero =>
      intro x f h1 h2 h3 hbd
      exact absurd hbd (by omega)
    | succ n ih =>
      intro x f h1 h2 hf hbd H locs hP hS ls hl
      have hD : va_D A (TW g ad (fm, fn, fl, fx, fy, ft, f, fh - 1, fk, fhi, fmi, fd, fth, fp, fle, flo)) := tw_D _ hN9 hAf
      refine lv_iload_n hx hb dX4_drops_14 rfl (lv_at hl 0 rfl) ?_
      refine r_c hx hb dX4_drops_15 ?_
      refine lv_aload_n hx hb dX4_drops_16 rfl (lv_at hl 1 rfl) ?_
      refine va_get (D := g.1) (ci := 10) (v := .int (zi (fh - 1))) (C := RX4) (T := TX4) (N := 16) hx hb hts in_X4 hown hK hP 0 rfl rfl 7 (by decide) (hts _ q1607) (fun _ h9 => h9) rfl dX4_drops_17 ?_
      refine r_mul (z := ((4 * ((gCa σ).length - 1) : Nat) : Int)) hx hb dX4_drops_20 (by omega) ?_
      refine r_ge (tgt := 44) hx hb dX4_drops_21 (by decide) ⟨by omega, by omega⟩ ⟨by omega, by omega⟩ (fun h21 => ?_) (fun h21 => ?_)
      · rw [hQ]
        exact r_vret hx hb hr hlocks (Nat.le_refl 0) (Nat.le_refl 0) hS.2.2 dX4_drops_44 (fun t9 ht => ⟨_, rfl, ⟨rfl, by rw [ht]; exact ⟨f, hP, hT.cache (by rw [List.length_eraseIdx_of_lt hk]; omega) (er_wf hT.1.2.2.2.1) (by rw [List.length_eraseIdx_of_lt hk]; omega) (drops_rows hk hT.2.2.2.2.2.2.1 (fun i => by rw [hf]; exact ifc ⟨fun q => ⟨q.1, by omega⟩, fun q => ⟨q.1, by omega⟩⟩))⟩⟩, hS.F ht⟩)
      refine lv_aload_n hx hb dX4_drops_24 rfl (lv_at hl 1 rfl) ?_
      refine va_get (D := g.1) (ci := 10) (v := .ref (aC ad)) (C := RX4) (T := TX4) (N := 16) hx hb hts in_X4 hown hK hP 0 rfl rfl 6 (by decide) (hts _ q1606) (fun _ h9 => h9) rfl dX4_drops_25 ?_
      refine lv_iload_n hx hb dX4_drops_28 rfl (lv_at hl 0 rfl) ?_
      refine lv_aload_n hx hb dX4_drops_29 rfl (lv_at hl 1 rfl) ?_
      refine va_get (D := g.1) (ci := 10) (v := .ref (aC ad)) (C := RX4) (T := TX4) (N := 16) hx hb hts in_X4 hown hK hP 0 rfl rfl 6 (by decide) (hts _ q1606) (fun _ h9 => h9) rfl dX4_drops_30 ?_
      refine lv_iload_n hx hb dX4_drops_33 rfl (lv_at hl 0 rfl) ?_
      refine r_c hx hb dX4_drops_34 ?_
      refine r_add (z := (x : Int) + 4) hx hb dX4_drops_35 rfl ?_
      refine r_iald (v := f (x + 4)) hx hb hK hP 5 0 rfl rfl (k := x + 4) (by omega) (by omega) (by decide) rfl dX4_drops_36 ?_
      refine r_iast (v := f (x + 4)) hx hb hK hP hD hS 5 0 rfl rfl (k := x) rfl (by omega) (by decide) dX4_drops_37 (fun H locs hP hD hS => ?_)
      obtain ⟨f2, ef2⟩ : ∃ z, z = va_up f x (f (x + 4)) := ⟨_, rfl⟩
      rw [← ef2] at hP hD
      have hP : va_P g.1 vwCl (TW g ad (fm, fn, fl, fx, fy, ft, f2, fh - 1, fk, fhi, fmi, fd, fth, fp, fle, flo)) H := hP
      have hD : va_D A (TW g ad (fm, fn, fl, fx, fy, ft, f2, fh - 1, fk, fhi, fmi, fd, fth, fp, fle, flo)) := hD
      have hKq : KH g noA s H := (hKH.at hS).narrow (fun _ z => z.elim)
      refine r_iinc (z := ((x + 1 : Nat) : Int)) (lv' := [(2, .int (zi ((x + 1 : Nat) : Int))), (0, .ref (aO ad)), (1, .int (zi (k : Int)))]) hx hb dX4_drops_38 hl (k := 0) rfl (by omega) (by decide) rfl (fun ls hl => ?_)
      refine lv_goto (tgt := 14) hx hb dX4_drops_41 (by decide) ?_
      exact ih (x + 1) f2 (by omega) (by omega) (fun i => by rw [ef2]; exact drops_f hf h1 i) (by omega) H locs hP hS ls (lv_sub hl [0, 1, 2] rfl)
  exact lp (4 * ((gCa σ).length - 1) + 1) (4 * k) fc (Nat.le_refl _) (by omega) (fun i => by rw [if_neg (by omega)]) (by omega) H locs hP hS ls (lv_sub hl [0, 1, 2] rfl)
set_option maxHeartbeats 4000000 in
set_option maxRecDepth 100000 in
theorem m_holds (l : Launch) (g : GD) (ad : TA) (hN9 : (fpT ad).Nodup) (sz : Nat) (fm fx fy ft fc fp fle flo : Nat → Int) (fn fl fh fk fhi fmi fd fth : Int) (σ : Sg) (lv co ro wh : Int) (hT : TR σ (fm, fn, fl, fx, fy, ft, fc, fh, fk, fhi, fmi, fd, fth, fp, fle, flo)) (hk : (gCa σ).length < 5) (hw : wfT (lv, co, ro, wh)) : Met l yX4_holds (ws_ yX4_holds cX4_holds 5 none) ({ frames := 1, cells := 0, slots := 0, locals := 40 } : Room) (pcs g [.ref (aO ad), .int (zi lv), .int (zi co), .int (zi ro), .int (zi wh)] (nA (fpT ad) sz) (fun h => h.size = sz ∧ va_P g.1 vwCl (TW g ad (fm, fn, fl, fx, fy, ft, fc, fh, fk, fhi, fmi, fd, fth, fp, fle, flo)) h)) (qRv (nA (fpT ad) sz) (fun h => ∃ (fc' : Nat → Int), va_P g.1 vwCl (TW g ad (fm, fn, fl, fx, fy, ft, fc', fh + 1, fk, fhi, fmi, fd, fth, fp, fle, flo)) h ∧ TR (setCa σ (gCa σ ++ [(lv, co, ro, wh)])) (fm, fn, fl, fx, fy, ft, fc', fh + 1, fk, fhi, fmi, fd, fth, fp, fle, flo))) 0 0 (nA (fpT ad) sz) := by
  refine Met.go (by decide) (Nat.le_of_ble_eq_true rfl) ?_
  intro p e s m args below meth c Q ls hQ hx hb hr hml hts hown hlocks hin hKH hF hl
  have hown : s.vm.findClass RX4 = some m.cls := hown
  have hK := hKH.k
  have hNW := hKH.1.nw
  have hl : lv_has ls 5 [(0, .ref (aO ad)), (1, .int (zi lv)), (2, .int (zi co)), (3, .int (zi ro)), (4, .int (zi wh))] := hl
  obtain ⟨hsz, hP⟩ := hF
  subst hsz
  obtain ⟨A, hAe⟩ : ∃ A, A = nA (fpT ad) s.heap.size := ⟨_, rfl⟩
  rw [← hAe] at hKH hQ
  have hAf : ∀ q ∈ fpT ad, A q := fun q h => by rw [hAe]; exact nA_in h
  have hA : ∀ q : Nat, s.heap.size ≤ q → A q := fun q h => by rw [hAe]; exact nA_new h
  have hD : va_D A (TW g ad (fm, fn, fl, fx, fy, ft, fc, fh, fk, fhi, fmi, fd, fth, fp, fle, flo)) := tw_D _ hN9 hAf
  have hS : va_S A s.heap s.heap [] := va_S.rf
  have hKq : KH g noA s s.heap := hKH.narrow (fun _ q => q.elim)
  have hP : va_P g.1 vwCl (TW g ad (fm, fn, fl, fx, fy, ft, fc, fh, fk, fhi, fmi, fd, fth, fp, fle, flo)) s.heap := hP
  have h5 := hT.c5
  have hh : fh = ((gCa σ).length : Int) := hT.h
  obtain ⟨L, hL⟩ : ∃ L, (gCa σ).length = L := ⟨_, rfl⟩
  rw [hL] at hh hk
  refine lv_aload_n hx hb dX4_holds_0 rfl (lv_at hl 0 rfl) ?_
  refine va_get (D := g.1) (ci := 10) (v := .ref (aC ad)) (C := RX4) (T := TX4) (N := 16) hx hb hts in_X4 hown hK hP 0 rfl rfl 6 (by decide) (hts _ q1606) (fun _ h9 => h9) rfl dX4_holds_1 ?_
  refine r_c hx hb dX4_holds_4 ?_
  refine lv_aload_n hx hb dX4_holds_5 rfl (lv_at hl 0 rfl) ?_
  refine va_get (D := g.1) (ci := 10) (v := .int (zi fh)) (C := RX4) (T := TX4) (N := 16) hx hb hts in_X4 hown hK hP 0 rfl rfl 7 (by decide) (hts _ q1607) (fun _ h9 => h9) rfl dX4_holds_6 ?_
  refine r_mul (z := 4 * fh) hx hb dX4_holds_9 rfl ?_
  refine lv_iload_n hx hb dX4_holds_10 rfl (lv_at hl 1 rfl) ?_
  refine r_iast (v := lv) hx hb hK hP hD hS 5 0 rfl rfl (k := 4 * L) (by omega) (by omega) (by decide) dX4_holds_11 (fun H locs hP hD hS => ?_)
  obtain ⟨f1, ef1⟩ : ∃ z, z = va_up fc (4 * L) lv := ⟨_, rfl⟩
  rw [← ef1] at hP hD
  have hP : va_P g.1 vwCl (TW g ad (fm, fn, fl, fx, fy, ft, f1, fh, fk, fhi, fmi, fd, fth, fp, fle, flo)) H := hP
  have hD : va_D A (TW g ad (fm, fn, fl, fx, fy, ft, f1, fh, fk, fhi, fmi, fd, fth, fp, fle, flo)) := hD
  have hKq : KH g noA s H := (hKH.at hS).narrow (fun _ z => z.elim)
  refine lv_aload_n hx hb dX4_holds_12 rfl (lv_at hl 0 rfl) ?_
  refine va_get (D := g.1) (ci := 10) (v := .ref (aC ad)) (C := RX4) (T := TX4) (N := 16) hx hb hts in_X4 hown hK hP 0 rfl rfl 6 (by decide) (hts _ q1606) (fun _ h9 => h9) rfl dX4_holds_13 ?_
  refine r_c hx hb dX4_holds_16 ?_
  refine lv_aload_n hx hb dX4_holds_17 rfl (lv_at hl 0 rfl) ?_
  refine va_get (D := g.1) (ci := 10) (v := .int (zi fh)) (C := RX4) (T := TX4) (N := 16) hx hb hts in_X4 hown hK hP 0 rfl rfl 7 (by decide) (hts _ q1607) (fun _ h9 => h9) rfl dX4_holds_18 ?_
  refine r_mul (z := 4 * fh) hx hb dX4_holds_21 rfl ?_
  refine r_c hx hb dX4_holds_22 ?_
  refine r_add (z := (4 * fh) + 1) hx hb dX4_holds_23 rfl ?_
  refine lv_iload_n hx hb dX4_holds_24 rfl (lv_at hl 2 rfl) ?_
  refine r_iast (v := co) hx hb hK hP hD hS 5 0 rfl rfl (k := 4 * L + 1) (by omega) (by omega) (by decide) dX4_holds_25 (fun H locs hP hD hS => ?_)
  obtain ⟨f2, ef2⟩ : ∃ z, z = va_up f1 (4 * L + 1) co := ⟨_, rfl⟩
  rw [← ef2] at hP hD
  have hP : va_P g.1 vwCl (TW g ad (fm, fn, fl, fx, fy, ft, f2, fh, fk, fhi, fmi, fd, fth, fp, fle, flo)) H := hP
  have hD : va_D A (TW g ad (fm, fn, fl, fx, fy, ft, f2, fh, fk, fhi, fmi, fd, fth, fp, fle, flo)) := hD
  have hKq : KH g noA s H := (hKH.at hS).narrow (fun _ z => z.elim)
  refine lv_aload_n hx hb dX4_holds_26 rfl (lv_at hl 0 rfl) ?_
  refine va_get (D := g.1) (ci := 10) (v := .ref (aC ad)) (C := RX4) (T := TX4) (N := 16) hx hb hts in_X4 hown hK hP 0 rfl rfl 6 (by decide) (hts _ q1606) (fun _ h9 => h9) rfl dX4_holds_27 ?_
  refine r_c hx hb dX4_holds_30 ?_
  refine lv_aload_n hx hb dX4_holds_31 rfl (lv_at hl 0 rfl) ?_
  refine va_get (D := g.1) (ci := 10) (v := .int (zi fh)) (C := RX4) (T := TX4) (N := 16) hx hb hts in_X4 hown hK hP 0 rfl rfl 7 (by decide) (hts _ q1607) (fun _ h9 => h9) rfl dX4_holds_32 ?_
  refine r_mul (z := 4 * fh) hx hb dX4_holds_35 rfl ?_
  refine r_c hx hb dX4_holds_36 ?_
  refine r_add (z := (4 * fh) + 2) hx hb dX4_holds_37 rfl ?_
  refine lv_iload_n hx hb dX4_holds_38 rfl (lv_at hl 3 rfl) ?_
  refine r_iast (v := ro) hx hb hK hP hD hS 5 0 rfl rfl (k := 4 * L + 2) (by omega) (by omega) (by decide) dX4_holds_39 (fun H locs hP hD hS => ?_)
  obtain ⟨f3, ef3⟩ : ∃ z, z = va_up f2 (4 * L + 2) ro := ⟨_, rfl⟩
  rw [← ef3] at hP hD
  have hP : va_P g.1 vwCl (TW g ad (fm, fn, fl, fx, fy, ft, f3, fh, fk, fhi, fmi, fd, fth, fp, fle, flo)) H := hP
  have hD : va_D A (TW g ad (fm, fn, fl, fx, fy, ft, f3, fh, fk, fhi, fmi, fd, fth, fp, fle, flo)) := hD
  have hKq : KH g noA s H := (hKH.at hS).narrow (fun _ z => z.elim)
  refine lv_aload_n hx hb dX4_holds_40 rfl (lv_at hl 0 rfl) ?_
  refine va_get (D := g.1) (ci := 10) (v := .ref (aC ad)) (C := RX4) (T := TX4) (N := 16) hx hb hts in_X4 hown hK hP 0 rfl rfl 6 (by decide) (hts _ q1606) (fun _ h9 => h9) rfl dX4_holds_41 ?_
  refine r_c hx hb dX4_holds_44 ?_
  refine lv_aload_n hx hb dX4_holds_45 rfl (lv_at hl 0 rfl) ?_
  refine va_get (D := g.1) (ci := 10) (v := .int (zi fh)) (C := RX4) (T := TX4) (N := 16) hx hb hts in_X4 hown hK hP 0 rfl rfl 7 (by decide) (hts _ q1607) (fun _ h9 => h9) rfl dX4_holds_46 ?_
  refine r_mul (z := 4 * fh) hx hb dX4_holds_49 rfl ?_
  refine r_c hx hb dX4_holds_50 ?_
  refine r_add (z := (4 * fh) + 3) hx hb dX4_holds_51 rfl ?_
  refine lv_iload hx hb dX4_holds_52 (lv_at hl 4 rfl) ?_
  refine r_iast (v := wh) hx hb hK hP hD hS 5 0 rfl rfl (k := 4 * L + 3) (by omega) (by omega) (by decide) dX4_holds_54 (fun H locs hP hD hS => ?_)
  obtain ⟨f4, ef4⟩ : ∃ z, z = va_up f3 (4 * L + 3) wh := ⟨_, rfl⟩
  rw [← ef4] at hP hD
  have hP : va_P g.1 vwCl (TW g ad (fm, fn, fl, fx, fy, ft, f4, fh, fk, fhi, fmi, fd, fth, fp, fle, flo)) H := hP
  have hD : va_D A (TW g ad (fm, fn, fl, fx, fy, ft, f4, fh, fk, fhi, fmi, fd, fth, fp, fle, flo)) := hD
  have hKq : KH g noA s H := (hKH.at hS).narrow (fun _ z => z.elim)
  refine lv_aload_n hx hb dX4_holds_55 rfl (lv_at hl 0 rfl) ?_
  refine lv_dup hx hb dX4_holds_56 rfl ?_
  refine va_get (D := g.1) (ci := 10) (v := .int (zi fh)) (C := RX4) (T := TX4) (N := 16) hx hb hts in_X4 hown hK hP 0 rfl rfl 7 (by decide) (hts _ q1607) (fun _ h9 => h9) rfl dX4_holds_57 ?_
  refine r_c hx hb dX4_holds_60 ?_
  refine r_add (z := fh + 1) hx hb dX4_holds_61 rfl ?_
  refine va_put (D := g.1) (ci := 10) (v := .int (zi (fh + 1))) (ty := .int) (C := RX4) (T := TX4) (N := 16) hx hb hts in_X4 tyX4 tyX4_ok nmX4 hown hK hP hD hS 0 rfl rfl 7 (by decide) (hts _ q1607) (fun _ h9 => h9) rfl (by decide +kernel) rfl rfl (Nat.le_of_ble_eq_true rfl) dX4_holds_62 (fun H locs hP hD hS => ?_)
  have hP : va_P g.1 vwCl (TW g ad (fm, fn, fl, fx, fy, ft, f4, fh + 1, fk, fhi, fmi, fd, fth, fp, fle, flo)) H := hP
  have hD : va_D A (TW g ad (fm, fn, fl, fx, fy, ft, f4, fh + 1, fk, fhi, fmi, fd, fth, fp, fle, flo)) := hD
  have hKq : KH g noA s H := (hKH.at hS).narrow (fun _ z => z.elim)
  rw [hQ]
  exact r_vret hx hb hr hlocks (Nat.le_refl 0) (Nat.le_refl 0) hS.2.2 dX4_holds_65 (fun t9 ht => ⟨_, rfl, ⟨rfl, by rw [ht]; exact ⟨f4, hP, hT.cache (by rw [List.length_append, hL]; show L + 1 ≤ 5; omega) (app_wf hT.1.2.2.2.1 hw) (by rw [List.length_append, hL]; show fh + 1 = ((L + 1 : Nat) : Int); omega) (fun j c hj => by rw [ef4, ef3, ef2, ef1]; exact holds_rows hL hT.2.2.2.2.2.2.1 hj)⟩⟩, hS.F ht⟩)
set_option maxHeartbeats 4000000 in
set_option maxRecDepth 100000 in
theorem m_puts (l : Launch) (g : GD) (ad : TA) (hN9 : (fpT ad).Nodup) (sz : Nat) (fm fx fy ft fc fp fle flo : Nat → Int) (fn fl fh fk fhi fmi fd fth : Int) (si k : Nat) (x y : Int) (hk : fm (7 * si + 2) = (k : Int)) (h1 : 7 * si + 2 < 84) (h2 : 9 * si + k < 108) : Met l yX4_puts (ws_ yX4_puts cX4_puts 5 (some .int)) ({ frames := 2, cells := 0, slots := 0, locals := 62 } : Room) (pcs g [.ref (aO ad), .int (zi (si : Int)), .int (zi x), .int (zi y)] (nA (fpT ad) sz) (fun h => h.size = sz ∧ va_P g.1 vwCl (TW g ad (fm, fn, fl, fx, fy, ft, fc, fh, fk, fhi, fmi, fd, fth, fp, fle, flo)) h)) (qRi (nA (fpT ad) sz) ((k : Int) + 1) (fun h => va_P g.1 vwCl (TW g ad (va_up fm (7 * si + 2) ((k : Int) + 1), fn, fl, va_up fx (9 * si + k) x, va_up fy (9 * si + k) y, ft, fc, fh, fk, fhi, fmi, fd, fth, fp, fle, flo)) h)) 0 0 (nA (fpT ad) sz) := by
  refine Met.go (by decide) (Nat.le_of_ble_eq_true rfl) ?_
  intro p e s m args below meth c Q ls hQ hx hb hr hml hts hown hlocks hin hKH hF hl
  have hown : s.vm.findClass RX4 = some m.cls := hown
  have hK := hKH.k
  have hNW := hKH.1.nw
  have hl : lv_has ls 5 [(0, .ref (aO ad)), (1, .int (zi (si : Int))), (2, .int (zi x)), (3, .int (zi y))] := hl
  obtain ⟨hsz, hP⟩ := hF
  subst hsz
  obtain ⟨A, hAe⟩ : ∃ A, A = nA (fpT ad) s.heap.size := ⟨_, rfl⟩
  rw [← hAe] at hKH hQ
  have hAf : ∀ q ∈ fpT ad, A q := fun q h => by rw [hAe]; exact nA_in h
  have hA : ∀ q : Nat, s.heap.size ≤ q → A q := fun q h => by rw [hAe]; exact nA_new h
  have hD : va_D A (TW g ad (fm, fn, fl, fx, fy, ft, fc, fh, fk, fhi, fmi, fd, fth, fp, fle, flo)) := tw_D _ hN9 hAf
  have hS : va_S A s.heap s.heap [] := va_S.rf
  have hKq : KH g noA s s.heap := hKH.narrow (fun _ q => q.elim)
  have hP : va_P g.1 vwCl (TW g ad (fm, fn, fl, fx, fy, ft, fc, fh, fk, fhi, fmi, fd, fth, fp, fle, flo)) s.heap := hP
  refine lv_aload_n hx hb dX4_puts_0 rfl (lv_at hl 0 rfl) ?_
  refine lv_iload_n hx hb dX4_puts_1 rfl (lv_at hl 1 rfl) ?_
  refine r_c hx hb dX4_puts_2 ?_
  refine r_qi (z := (k : Int)) (va_runV (As := [.int (zi (si : Int)), .int (zi 2)]) (rest := []) ⟨hx, hb, hml, hown, hts⟩ (m_of l g ad (fm, fn, fl, fx, fy, ft, fc, fh, fk, fhi, fmi, fd, fth, fp, fle, flo) si 2 (7 * si + 2) (k : Int) (by omega) h1 hk) (cwV 2 hts (lw_V q1673 q1675 qs30 q69 q1676) rfl rfl rfl (by decide +kernel) ⟨Nat.le_of_ble_eq_true rfl, Nat.le_of_ble_eq_true rfl⟩) (pcs_V (va_recv hK hP (ci := 10) (q0 := 0) rfl rfl) hKq hP) rfl rfl hl.1 rfl (lv_room (Nat.le_of_ble_eq_true rfl)) dX4_puts_3 ⟨Nat.le_of_ble_eq_true rfl, Nat.le_of_ble_eq_true rfl⟩) ?_
  refine lv_istore (lv' := [(4, .int (zi (k : Int))), (0, .ref (aO ad)), (1, .int (zi (si : Int))), (2, .int (zi x)), (3, .int (zi y))]) hx hb dX4_puts_6 hl (by decide) rfl (fun ls hl => ?_)
  refine lv_aload_n hx hb dX4_puts_8 rfl (lv_at hl 1 rfl) ?_
  refine va_get (D := g.1) (ci := 10) (v := .ref (aX ad)) (C := RX4) (T := TX4) (N := 16) hx hb hts in_X4 hown hK hP 0 rfl rfl 3 (by decide) (hts _ q1603) (fun _ h9 => h9) rfl dX4_puts_9 ?_
  refine r_bip hx hb dX4_puts_12 (by decide) ?_
  refine lv_iload_n hx hb dX4_puts_14 rfl (lv_at hl 2 rfl) ?_
  refine r_mul (z := 9 * (si : Int)) hx hb dX4_puts_15 rfl ?_
  refine lv_iload hx hb dX4_puts_16 (lv_at hl 0 rfl) ?_
  refine r_add (z := (9 * (si : Int)) + (k : Int)) hx hb dX4_puts_18 rfl ?_
  refine lv_iload_n hx hb dX4_puts_19 rfl (lv_at hl 3 rfl) ?_
  refine r_iast (v := x) hx hb hK hP hD hS 2 0 rfl rfl (k := 9 * si + k) (by omega) (by omega) (by decide) dX4_puts_20 (fun H locs hP hD hS => ?_)
  have hP : va_P g.1 vwCl (TW g ad (fm, fn, fl, va_up fx (9 * si + k) x, fy, ft, fc, fh, fk, fhi, fmi, fd, fth, fp, fle, flo)) H := hP
  have hD : va_D A (TW g ad (fm, fn, fl, va_up fx (9 * si + k) x, fy, ft, fc, fh, fk, fhi, fmi, fd, fth, fp, fle, flo)) := hD
  have hKq : KH g noA s H := (hKH.at hS).narrow (fun _ z => z.elim)
  refine lv_aload_n hx hb dX4_puts_21 rfl (lv_at hl 1 rfl) ?_
  refine va_get (D := g.1) (ci := 10) (v := .ref (aY ad)) (C := RX4) (T := TX4) (N := 16) hx hb hts in_X4 hown hK hP 0 rfl rfl 4 (by decide) (hts _ q1604) (fun _ h9 => h9) rfl dX4_puts_22 ?_
  refine r_bip hx hb dX4_puts_25 (by decide) ?_
  refine lv_iload_n hx hb dX4_puts_27 rfl (lv_at hl 2 rfl) ?_
  refine r_mul (z := 9 * (si : Int)) hx hb dX4_puts_28 rfl ?_
  refine lv_iload hx hb dX4_puts_29 (lv_at hl 0 rfl) ?_
  refine r_add (z := (9 * (si : Int)) + (k : Int)) hx hb dX4_puts_31 rfl ?_
  refine lv_iload_n hx hb dX4_puts_32 rfl (lv_at hl 4 rfl) ?_
  refine r_iast (v := y) hx hb hK hP hD hS 3 0 rfl rfl (k := 9 * si + k) (by omega) (by omega) (by decide) dX4_puts_33 (fun H locs hP hD hS => ?_)
  have hP : va_P g.1 vwCl (TW g ad (fm, fn, fl, va_up fx (9 * si + k) x, va_up fy (9 * si + k) y, ft, fc, fh, fk, fhi, fmi, fd, fth, fp, fle, flo)) H := hP
  have hD : va_D A (TW g ad (fm, fn, fl, va_up fx (9 * si + k) x, va_up fy (9 * si + k) y, ft, fc, fh, fk, fhi, fmi, fd, fth, fp, fle, flo)) := hD
  have hKq : KH g noA s H := (hKH.at hS).narrow (fun _ z => z.elim)
  refine lv_aload_n hx hb dX4_puts_34 rfl (lv_at hl 1 rfl) ?_
  refine va_get (D := g.1) (ci := 10) (v := .ref (aM ad)) (C := RX4) (T := TX4) (N := 16) hx hb hts in_X4 hown hK hP 0 rfl rfl 0 (by decide) (hts _ q1600) (fun _ h9 => h9) rfl dX4_puts_35 ?_
  refine r_bip hx hb dX4_puts_38 (by decide) ?_
  refine lv_iload_n hx hb dX4_puts_40 rfl (lv_at hl 2 rfl) ?_
  refine r_mul (z := 7 * (si : Int)) hx hb dX4_puts_41 rfl ?_
  refine r_c hx hb dX4_puts_42 ?_
  refine r_add (z := (7 * (si : Int)) + 2) hx hb dX4_puts_43 rfl ?_
  refine lv_iload hx hb dX4_puts_44 (lv_at hl 0 rfl) ?_
  refine r_c hx hb dX4_puts_46 ?_
  refine r_add (z := (k : Int) + 1) hx hb dX4_puts_47 rfl ?_
  refine r_iast (v := (k : Int) + 1) hx hb hK hP hD hS 1 0 rfl rfl (k := 7 * si + 2) (by omega) (by omega) (by decide) dX4_puts_48 (fun H locs hP hD hS => ?_)
  have hP : va_P g.1 vwCl (TW g ad (va_up fm (7 * si + 2) ((k : Int) + 1), fn, fl, va_up fx (9 * si + k) x, va_up fy (9 * si + k) y, ft, fc, fh, fk, fhi, fmi, fd, fth, fp, fle, flo)) H := hP
  have hD : va_D A (TW g ad (va_up fm (7 * si + 2) ((k : Int) + 1), fn, fl, va_up fx (9 * si + k) x, va_up fy (9 * si + k) y, ft, fc, fh, fk, fhi, fmi, fd, fth, fp, fle, flo)) := hD
  have hKq : KH g noA s H := (hKH.at hS).narrow (fun _ z => z.elim)
  refine lv_iload hx hb dX4_puts_49 (lv_at hl 0 rfl) ?_
  refine r_c hx hb dX4_puts_51 ?_
  refine r_add (z := (k : Int) + 1) hx hb dX4_puts_52 rfl ?_
  rw [hQ]
  refine r_int (z := (k : Int) + 1) (rfl) ?_
  exact r_iret hx hb hr hlocks rfl (Nat.le_refl 0) (Nat.le_refl 0) hS.2.2 dX4_puts_53 (fun t9 ht => ⟨_, rfl, ⟨rfl, by rw [ht]; exact hP⟩, hS.F ht⟩)
set_option maxHeartbeats 4000000 in
set_option maxRecDepth 100000 in
theorem m_begins (l : Launch) (g : GD) (ad : TA) (hN9 : (fpT ad).Nodup) (sz : Nat) (fm fx fy ft fc fp fle flo : Nat → Int) (fn fl fh fk fhi fmi fd fth : Int) (N : Nat) (ar x y re cu : Int) (hN : fn = (N : Int)) (h1 : N < 12) : Met l yX4_begins (ws_ yX4_begins cX4_begins 7 (some .int)) ({ frames := 1, cells := 0, slots := 0, locals := 40 } : Room) (pcs g [.ref (aO ad), .int (zi ar), .int (zi x), .int (zi y), .int (zi re), .int (zi cu)] (nA (fpT ad) sz) (fun h => h.size = sz ∧ va_P g.1 vwCl (TW g ad (fm, fn, fl, fx, fy, ft, fc, fh, fk, fhi, fmi, fd, fth, fp, fle, flo)) h)) (qRi (nA (fpT ad) sz) ((N : Int)) (fun h => va_P g.1 vwCl (TW g ad (bgM fm N (fl + 1) ar re cu, fn + 1, fl + 1, va_up fx (9 * N) x, va_up fy (9 * N) y, ft, fc, fh, fk, fhi, fmi, fd, fth, fp, fle, flo)) h)) 0 0 (nA (fpT ad) sz) := by
  refine Met.go (by decide) (Nat.le_of_ble_eq_true rfl) ?_
  intro p e s m args below meth c Q ls hQ hx hb hr hml hts hown hlocks hin hKH hF hl
  have hown : s.vm.findClass RX4 = some m.cls := hown
  have hK := hKH.k
  have hNW := hKH.1.nw
  have hl : lv_has ls 7 [(0, .ref (aO ad)), (1, .int (zi ar)), (2, .int (zi x)), (3, .int (zi y)), (4, .int (zi re)), (5, .int (zi cu))] := hl
  obtain ⟨hsz, hP⟩ := hF
  subst hsz
  obtain ⟨A, hAe⟩ : ∃ A, A = nA (fpT ad) s.heap.size := ⟨_, rfl⟩
  rw [← hAe] at hKH hQ
  have hAf : ∀ q ∈ fpT ad, A q := fun q h => by rw [hAe]; exact nA_in h
  have hA : ∀ q : Nat, s.heap.size ≤ q → A q := fun q h => by rw [hAe]; exact nA_new h
  have hD : va_D A (TW g ad (fm, fn, fl, fx, fy, ft, fc, fh, fk, fhi, fmi, fd, fth, fp, fle, flo)) := tw_D _ hN9 hAf
  have hS : va_S A s.heap s.heap [] := va_S.rf
  have hKq : KH g noA s s.heap := hKH.narrow (fun _ q => q.elim)
  have hP : va_P g.1 vwCl (TW g ad (fm, fn, fl, fx, fy, ft, fc, fh, fk, fhi, fmi, fd, fth, fp, fle, flo)) s.heap := hP
  refine lv_aload_n hx hb dX4_begins_0 rfl (lv_at hl 0 rfl) ?_
  refine lv_dup hx hb dX4_begins_1 rfl ?_
  refine va_get (D := g.1) (ci := 10) (v := .int (zi fl)) (C := RX4) (T := TX4) (N := 16) hx hb hts in_X4 hown hK hP 0 rfl rfl 2 (by decide) (hts _ q1602) (fun _ h9 => h9) rfl dX4_begins_2 ?_
  refine r_c hx hb dX4_begins_5 ?_
  refine r_add (z := fl + 1) hx hb dX4_begins_6 rfl ?_
  refine va_put (D := g.1) (ci := 10) (v := .int (zi (fl + 1))) (ty := .int) (C := RX4) (T := TX4) (N := 16) hx hb hts in_X4 tyX4 tyX4_ok nmX4 hown hK hP hD hS 0 rfl rfl 2 (by decide) (hts _ q1602) (fun _ h9 => h9) rfl (by decide +kernel) rfl rfl (Nat.le_of_ble_eq_true rfl) dX4_begins_7 (fun H locs hP hD hS => ?_)
  have hP : va_P g.1 vwCl (TW g ad (fm, fn, fl + 1, fx, fy, ft, fc, fh, fk, fhi, fmi, fd, fth, fp, fle, flo)) H := hP
  have hD : va_D A (TW g ad (fm, fn, fl + 1, fx, fy, ft, fc, fh, fk, fhi, fmi, fd, fth, fp, fle, flo)) := hD
  have hKq : KH g noA s H := (hKH.at hS).narrow (fun _ z => z.elim)
  refine r_bip hx hb dX4_begins_10 (by decide) ?_
  refine lv_aload_n hx hb dX4_begins_12 rfl (lv_at hl 0 rfl) ?_
  refine va_get (D := g.1) (ci := 10) (v := .int (zi fn)) (C := RX4) (T := TX4) (N := 16) hx hb hts in_X4 hown hK hP 0 rfl rfl 1 (by decide) (hts _ q1601) (fun _ h9 => h9) rfl dX4_begins_13 ?_
  refine r_mul (z := 7 * fn) hx hb dX4_begins_16 rfl ?_
  refine lv_istore (lv' := [(6, .int (zi (7 * fn))), (0, .ref (aO ad)), (1, .int (zi ar)), (2, .int (zi x)), (3, .int (zi y)), (4, .int (zi re)), (5, .int (zi cu))]) hx hb dX4_begins_17 hl (by decide) rfl (fun ls hl => ?_)
  refine lv_aload_n hx hb dX4_begins_19 rfl (lv_at hl 1 rfl) ?_
  refine va_get (D := g.1) (ci := 10) (v := .ref (aM ad)) (C := RX4) (T := TX4) (N := 16) hx hb hts in_X4 hown hK hP 0 rfl rfl 0 (by decide) (hts _ q1600) (fun _ h9 => h9) rfl dX4_begins_20 ?_
  refine lv_iload hx hb dX4_begins_23 (lv_at hl 0 rfl) ?_
  refine r_c hx hb dX4_begins_25 ?_
  refine r_add (z := (7 * fn) + 0) hx hb dX4_begins_26 rfl ?_
  refine lv_aload_n hx hb dX4_begins_27 rfl (lv_at hl 1 rfl) ?_
  refine va_get (D := g.1) (ci := 10) (v := .int (zi (fl + 1))) (C := RX4) (T := TX4) (N := 16) hx hb hts in_X4 hown hK hP 0 rfl rfl 2 (by decide) (hts _ q1602) (fun _ h9 => h9) rfl dX4_begins_28 ?_
  refine r_iast (v := fl + 1) hx hb hK hP hD hS 1 0 rfl rfl (k := 7 * N) (by omega) (by omega) (by decide) dX4_begins_31 (fun H locs hP hD hS => ?_)
  have hP : va_P g.1 vwCl (TW g ad (va_up fm (7 * N) (fl + 1), fn, fl + 1, fx, fy, ft, fc, fh, fk, fhi, fmi, fd, fth, fp, fle, flo)) H := hP
  have hD : va_D A (TW g ad (va_up fm (7 * N) (fl + 1), fn, fl + 1, fx, fy, ft, fc, fh, fk, fhi, fmi, fd, fth, fp, fle, flo)) := hD
  have hKq : KH g noA s H := (hKH.at hS).narrow (fun _ z => z.elim)
  refine lv_aload_n hx hb dX4_begins_32 rfl (lv_at hl 1 rfl) ?_
  refine va_get (D := g.1) (ci := 10) (v := .ref (aM ad)) (C := RX4) (T := TX4) (N := 16) hx hb hts in_X4 hown hK hP 0 rfl rfl 0 (by decide) (hts _ q1600) (fun _ h9 => h9) rfl dX4_begins_33 ?_
  refine lv_iload hx hb dX4_begins_36 (lv_at hl 0 rfl) ?_
  refine r_c hx hb dX4_begins_38 ?_
  refine r_add (z := (7 * fn) + 1) hx hb dX4_begins_39 rfl ?_
  refine lv_iload_n hx hb dX4_begins_40 rfl (lv_at hl 2 rfl) ?_
  refine r_iast (v := ar) hx hb hK hP hD hS 1 0 rfl rfl (k := 7 * N + 1) (by omega) (by omega) (by decide) dX4_begins_41 (fun H locs hP hD hS => ?_)
  have hP : va_P g.1 vwCl (TW g ad (va_up (va_up fm (7 * N) (fl + 1)) (7 * N + 1) ar, fn, fl + 1, fx, fy, ft, fc, fh, fk, fhi, fmi, fd, fth, fp, fle, flo)) H := hP
  have hD : va_D A (TW g ad (va_up (va_up fm (7 * N) (fl + 1)) (7 * N + 1) ar, fn, fl + 1, fx, fy, ft, fc, fh, fk, fhi, fmi, fd, fth, fp, fle, flo)) := hD
  have hKq : KH g noA s H := (hKH.at hS).narrow (fun _ z => z.elim)
  refine lv_aload_n hx hb dX4_begins_42 rfl (lv_at hl 1 rfl) ?_
  refine va_get (D := g.1) (ci := 10) (v := .ref (aM ad)) (C := RX4) (T := TX4) (N := 16) hx hb hts in_X4 hown hK hP 0 rfl rfl 0 (by decide) (hts _ q1600) (fun _ h9 => h9) rfl dX4_begins_43 ?_
  refine lv_iload hx hb dX4_begins_46 (lv_at hl 0 rfl) ?_
  refine r_c hx hb dX4_begins_48 ?_
  refine r_add (z := (7 * fn) + 2) hx hb dX4_begins_49 rfl ?_
  refine r_c hx hb dX4_begins_50 ?_
  refine r_iast (v := 1) hx hb hK hP hD hS 1 0 rfl rfl (k := 7 * N + 2) (by omega) (by omega) (by decide) dX4_begins_51 (fun H locs hP hD hS => ?_)
  have hP : va_P g.1 vwCl (TW g ad (va_up (va_up (va_up fm (7 * N) (fl + 1)) (7 * N + 1) ar) (7 * N + 2) 1, fn, fl + 1, fx, fy, ft, fc, fh, fk, fhi, fmi, fd, fth, fp, fle, flo)) H := hP
  have hD : va_D A (TW g ad (va_up (va_up (va_up fm (7 * N) (fl + 1)) (7 * N + 1) ar) (7 * N + 2) 1, fn, fl + 1, fx, fy, ft, fc, fh, fk, fhi, fmi, fd, fth, fp, fle, flo)) := hD
  have hKq : KH g noA s H := (hKH.at hS).narrow (fun _ z => z.elim)
  refine lv_aload_n hx hb dX4_begins_52 rfl (lv_at hl 1 rfl) ?_
  refine va_get (D := g.1) (ci := 10) (v := .ref (aM ad)) (C := RX4) (T := TX4) (N := 16) hx hb hts in_X4 hown hK hP 0 rfl rfl 0 (by decide) (hts _ q1600) (fun _ h9 => h9) rfl dX4_begins_53 ?_
  refine lv_iload hx hb dX4_begins_56 (lv_at hl 0 rfl) ?_
  refine r_c hx hb dX4_begins_58 ?_
  refine r_add (z := (7 * fn) + 3) hx hb dX4_begins_59 rfl ?_
  refine lv_iload hx hb dX4_begins_60 (lv_at hl 5 rfl) ?_
  refine r_iast (v := re) hx hb hK hP hD hS 1 0 rfl rfl (k := 7 * N + 3) (by omega) (by omega) (by decide) dX4_begins_62 (fun H locs hP hD hS => ?_)
  have hP : va_P g.1 vwCl (TW g ad (va_up (va_up (va_up (va_up fm (7 * N) (fl + 1)) (7 * N + 1) ar) (7 * N + 2) 1) (7 * N + 3) re, fn, fl + 1, fx, fy, ft, fc, fh, fk, fhi, fmi, fd, fth, fp, fle, flo)) H := hP
  have hD : va_D A (TW g ad (va_up (va_up (va_up (va_up fm (7 * N) (fl + 1)) (7 * N + 1) ar) (7 * N + 2) 1) (7 * N + 3) re, fn, fl + 1, fx, fy, ft, fc, fh, fk, fhi, fmi, fd, fth, fp, fle, flo)) := hD
  have hKq : KH g noA s H := (hKH.at hS).narrow (fun _ z => z.elim)
  refine lv_aload_n hx hb dX4_begins_63 rfl (lv_at hl 1 rfl) ?_
  refine va_get (D := g.1) (ci := 10) (v := .ref (aM ad)) (C := RX4) (T := TX4) (N := 16) hx hb hts in_X4 hown hK hP 0 rfl rfl 0 (by decide) (hts _ q1600) (fun _ h9 => h9) rfl dX4_begins_64 ?_
  refine lv_iload hx hb dX4_begins_67 (lv_at hl 0 rfl) ?_
  refine r_c hx hb dX4_begins_69 ?_
  refine r_add (z := (7 * fn) + 4) hx hb dX4_begins_70 rfl ?_
  refine lv_iload hx hb dX4_begins_71 (lv_at hl 6 rfl) ?_
  refine r_iast (v := cu) hx hb hK hP hD hS 1 0 rfl rfl (k := 7 * N + 4) (by omega) (by omega) (by decide) dX4_begins_73 (fun H locs hP hD hS => ?_)
  have hP : va_P g.1 vwCl (TW g ad (va_up (va_up (va_up (va_up (va_up fm (7 * N) (fl + 1)) (7 * N + 1) ar) (7 * N + 2) 1) (7 * N + 3) re) (7 * N + 4) cu, fn, fl + 1, fx, fy, ft, fc, fh, fk, fhi, fmi, fd, fth, fp, fle, flo)) H := hP
  have hD : va_D A (TW g ad (va_up (va_up (va_up (va_up (va_up fm (7 * N) (fl + 1)) (7 * N + 1) ar) (7 * N + 2) 1) (7 * N + 3) re) (7 * N + 4) cu, fn, fl + 1, fx, fy, ft, fc, fh, fk, fhi, fmi, fd, fth, fp, fle, flo)) := hD
  have hKq : KH g noA s H := (hKH.at hS).narrow (fun _ z => z.elim)
  refine lv_aload_n hx hb dX4_begins_74 rfl (lv_at hl 1 rfl) ?_
  refine va_get (D := g.1) (ci := 10) (v := .ref (aM ad)) (C := RX4) (T := TX4) (N := 16) hx hb hts in_X4 hown hK hP 0 rfl rfl 0 (by decide) (hts _ q1600) (fun _ h9 => h9) rfl dX4_begins_75 ?_
  refine lv_iload hx hb dX4_begins_78 (lv_at hl 0 rfl) ?_
  refine r_c hx hb dX4_begins_80 ?_
  refine r_add (z := (7 * fn) + 5) hx hb dX4_begins_81 rfl ?_
  refine r_c hx hb dX4_begins_82 ?_
  refine r_iast (v := 0) hx hb hK hP hD hS 1 0 rfl rfl (k := 7 * N + 5) (by omega) (by omega) (by decide) dX4_begins_83 (fun H locs hP hD hS => ?_)
  have hP : va_P g.1 vwCl (TW g ad (va_up (va_up (va_up (va_up (va_up (va_up fm (7 * N) (fl + 1)) (7 * N + 1) ar) (7 * N + 2) 1) (7 * N + 3) re) (7 * N + 4) cu) (7 * N + 5) 0, fn, fl + 1, fx, fy, ft, fc, fh, fk, fhi, fmi, fd, fth, fp, fle, flo)) H := hP
  have hD : va_D A (TW g ad (va_up (va_up (va_up (va_up (va_up (va_up fm (7 * N) (fl + 1)) (7 * N + 1) ar) (7 * N + 2) 1) (7 * N + 3) re) (7 * N + 4) cu) (7 * N + 5) 0, fn, fl + 1, fx, fy, ft, fc, fh, fk, fhi, fmi, fd, fth, fp, fle, flo)) := hD
  have hKq : KH g noA s H := (hKH.at hS).narrow (fun _ z => z.elim)
  refine lv_aload_n hx hb dX4_begins_84 rfl (lv_at hl 1 rfl) ?_
  refine va_get (D := g.1) (ci := 10) (v := .ref (aM ad)) (C := RX4) (T := TX4) (N := 16) hx hb hts in_X4 hown hK hP 0 rfl rfl 0 (by decide) (hts _ q1600) (fun _ h9 => h9) rfl dX4_begins_85 ?_
  refine lv_iload hx hb dX4_begins_88 (lv_at hl 0 rfl) ?_
  refine r_bip hx hb dX4_begins_90 (by decide) ?_
  refine r_add (z := (7 * fn) + 6) hx hb dX4_begins_92 rfl ?_
  refine r_c hx hb dX4_begins_93 ?_
  refine r_iast (v := 0) hx hb hK hP hD hS 1 0 rfl rfl (k := 7 * N + 6) (by omega) (by omega) (by decide) dX4_begins_94 (fun H locs hP hD hS => ?_)
  have hP : va_P g.1 vwCl (TW g ad (va_up (va_up (va_up (va_up (va_up (va_up (va_up fm (7 * N) (fl + 1)) (7 * N + 1) ar) (7 * N + 2) 1) (7 * N + 3) re) (7 * N + 4) cu) (7 * N + 5) 0) (7 * N + 6) 0, fn, fl + 1, fx, fy, ft, fc, fh, fk, fhi, fmi, fd, fth, fp, fle, flo)) H := hP
  have hD : va_D A (TW g ad (va_up (va_up (va_up (va_up (va_up (va_up (va_up fm (7 * N) (fl + 1)) (7 * N + 1) ar) (7 * N + 2) 1) (7 * N + 3) re) (7 * N + 4) cu) (7 * N + 5) 0) (7 * N + 6) 0, fn, fl + 1, fx, fy, ft, fc, fh, fk, fhi, fmi, fd, fth, fp, fle, flo)) := hD
  have hKq : KH g noA s H := (hKH.at hS).narrow (fun _ z => z.elim)
  refine lv_aload_n hx hb dX4_begins_95 rfl (lv_at hl 1 rfl) ?_
  refine va_get (D := g.1) (ci := 10) (v := .ref (aX ad)) (C := RX4) (T := TX4) (N := 16) hx hb hts in_X4 hown hK hP 0 rfl rfl 3 (by decide) (hts _ q1603) (fun _ h9 => h9) rfl dX4_begins_96 ?_
  refine r_bip hx hb dX4_begins_99 (by decide) ?_
  refine lv_aload_n hx hb dX4_begins_101 rfl (lv_at hl 1 rfl) ?_
  refine va_get (D := g.1) (ci := 10) (v := .int (zi fn)) (C := RX4) (T := TX4) (N := 16) hx hb hts in_X4 hown hK hP 0 rfl rfl 1 (by decide) (hts _ q1601) (fun _ h9 => h9) rfl dX4_begins_102 ?_
  refine r_mul (z := 9 * fn) hx hb dX4_begins_105 rfl ?_
  refine lv_iload_n hx hb dX4_begins_106 rfl (lv_at hl 3 rfl) ?_
  refine r_iast (v := x) hx hb hK hP hD hS 2 0 rfl rfl (k := 9 * N) (by omega) (by omega) (by decide) dX4_begins_107 (fun H locs hP hD hS => ?_)
  have hP : va_P g.1 vwCl (TW g ad (va_up (va_up (va_up (va_up (va_up (va_up (va_up fm (7 * N) (fl + 1)) (7 * N + 1) ar) (7 * N + 2) 1) (7 * N + 3) re) (7 * N + 4) cu) (7 * N + 5) 0) (7 * N + 6) 0, fn, fl + 1, va_up fx (9 * N) x, fy, ft, fc, fh, fk, fhi, fmi, fd, fth, fp, fle, flo)) H := hP
  have hD : va_D A (TW g ad (va_up (va_up (va_up (va_up (va_up (va_up (va_up fm (7 * N) (fl + 1)) (7 * N + 1) ar) (7 * N + 2) 1) (7 * N + 3) re) (7 * N + 4) cu) (7 * N + 5) 0) (7 * N + 6) 0, fn, fl + 1, va_up fx (9 * N) x, fy, ft, fc, fh, fk, fhi, fmi, fd, fth, fp, fle, flo)) := hD
  have hKq : KH g noA s H := (hKH.at hS).narrow (fun _ z => z.elim)
  refine lv_aload_n hx hb dX4_begins_108 rfl (lv_at hl 1 rfl) ?_
  refine va_get (D := g.1) (ci := 10) (v := .ref (aY ad)) (C := RX4) (T := TX4) (N := 16) hx hb hts in_X4 hown hK hP 0 rfl rfl 4 (by decide) (hts _ q1604) (fun _ h9 => h9) rfl dX4_begins_109 ?_
  refine r_bip hx hb dX4_begins_112 (by decide) ?_
  refine lv_aload_n hx hb dX4_begins_114 rfl (lv_at hl 1 rfl) ?_
  refine va_get (D := g.1) (ci := 10) (v := .int (zi fn)) (C := RX4) (T := TX4) (N := 16) hx hb hts in_X4 hown hK hP 0 rfl rfl 1 (by decide) (hts _ q1601) (fun _ h9 => h9) rfl dX4_begins_115 ?_
  refine r_mul (z := 9 * fn) hx hb dX4_begins_118 rfl ?_
  refine lv_iload_n hx hb dX4_begins_119 rfl (lv_at hl 4 rfl) ?_
  refine r_iast (v := y) hx hb hK hP hD hS 3 0 rfl rfl (k := 9 * N) (by omega) (by omega) (by decide) dX4_begins_120 (fun H locs hP hD hS => ?_)
  have hP : va_P g.1 vwCl (TW g ad (va_up (va_up (va_up (va_up (va_up (va_up (va_up fm (7 * N) (fl + 1)) (7 * N + 1) ar) (7 * N + 2) 1) (7 * N + 3) re) (7 * N + 4) cu) (7 * N + 5) 0) (7 * N + 6) 0, fn, fl + 1, va_up fx (9 * N) x, va_up fy (9 * N) y, ft, fc, fh, fk, fhi, fmi, fd, fth, fp, fle, flo)) H := hP
  have hD : va_D A (TW g ad (va_up (va_up (va_up (va_up (va_up (va_up (va_up fm (7 * N) (fl + 1)) (7 * N + 1) ar) (7 * N + 2) 1) (7 * N + 3) re) (7 * N + 4) cu) (7 * N + 5) 0) (7 * N + 6) 0, fn, fl + 1, va_up fx (9 * N) x, va_up fy (9 * N) y, ft, fc, fh, fk, fhi, fmi, fd, fth, fp, fle, flo)) := hD
  have hKq : KH g noA s H := (hKH.at hS).narrow (fun _ z => z.elim)
  refine lv_aload_n hx hb dX4_begins_121 rfl (lv_at hl 1 rfl) ?_
  refine lv_dup hx hb dX4_begins_122 rfl ?_
  refine va_get (D := g.1) (ci := 10) (v := .int (zi fn)) (C := RX4) (T := TX4) (N := 16) hx hb hts in_X4 hown hK hP 0 rfl rfl 1 (by decide) (hts _ q1601) (fun _ h9 => h9) rfl dX4_begins_123 ?_
  refine r_c hx hb dX4_begins_126 ?_
  refine r_add (z := fn + 1) hx hb dX4_begins_127 rfl ?_
  refine va_put (D := g.1) (ci := 10) (v := .int (zi (fn + 1))) (ty := .int) (C := RX4) (T := TX4) (N := 16) hx hb hts in_X4 tyX4 tyX4_ok nmX4 hown hK hP hD hS 0 rfl rfl 1 (by decide) (hts _ q1601) (fun _ h9 => h9) rfl (by decide +kernel) rfl rfl (Nat.le_of_ble_eq_true rfl) dX4_begins_128 (fun H locs hP hD hS => ?_)
  have hP : va_P g.1 vwCl (TW g ad (va_up (va_up (va_up (va_up (va_up (va_up (va_up fm (7 * N) (fl + 1)) (7 * N + 1) ar) (7 * N + 2) 1) (7 * N + 3) re) (7 * N + 4) cu) (7 * N + 5) 0) (7 * N + 6) 0, fn + 1, fl + 1, va_up fx (9 * N) x, va_up fy (9 * N) y, ft, fc, fh, fk, fhi, fmi, fd, fth, fp, fle, flo)) H := hP
  have hD : va_D A (TW g ad (va_up (va_up (va_up (va_up (va_up (va_up (va_up fm (7 * N) (fl + 1)) (7 * N + 1) ar) (7 * N + 2) 1) (7 * N + 3) re) (7 * N + 4) cu) (7 * N + 5) 0) (7 * N + 6) 0, fn + 1, fl + 1, va_up fx (9 * N) x, va_up fy (9 * N) y, ft, fc, fh, fk, fhi, fmi, fd, fth, fp, fle, flo)) := hD
  have hKq : KH g noA s H := (hKH.at hS).narrow (fun _ z => z.elim)
  refine lv_aload_n hx hb dX4_begins_131 rfl (lv_at hl 1 rfl) ?_
  refine va_get (D := g.1) (ci := 10) (v := .int (zi (fn + 1))) (C := RX4) (T := TX4) (N := 16) hx hb hts in_X4 hown hK hP 0 rfl rfl 1 (by decide) (hts _ q1601) (fun _ h9 => h9) rfl dX4_begins_132 ?_
  refine r_c hx hb dX4_begins_135 ?_
  refine r_sub (z := (fn + 1) - 1) hx hb dX4_begins_136 rfl ?_
  rw [hQ]
  refine r_int (z := (N : Int)) ((by omega)) ?_
  exact r_iret hx hb hr hlocks rfl (Nat.le_refl 0) (Nat.le_refl 0) hS.2.2 dX4_begins_137 (fun t9 ht => ⟨_, rfl, ⟨rfl, by rw [ht]; exact hP⟩, hS.F ht⟩)
set_option maxHeartbeats 4000000 in
set_option maxRecDepth 100000 in
theorem m_isLine (l : Launch) (g : GD) (ad : TA) (hN9 : (fpT ad).Nodup) (sz : Nat) (fm fx fy ft fc fp fle flo : Nat → Int) (fn fl fh fk fhi fmi fd fth : Int) (σ : Sg) (v : Int) (hv : fit v) (hT : TR σ (fm, fn, fl, fx, fy, ft, fc, fh, fk, fhi, fmi, fd, fth, fp, fle, flo)) : Met l yX4_isLine (ws_ yX4_isLine cX4_isLine 3 (some .boolean)) ({ frames := 3, cells := 0, slots := 0, locals := 84 } : Room) (pcs g [.ref (aO ad), .int (zi v)] (nA (fpT ad) sz) (fun h => h.size = sz ∧ va_P g.1 vwCl (TW g ad (fm, fn, fl, fx, fy, ft, fc, fh, fk, fhi, fmi, fd, fth, fp, fle, flo)) h)) (qRi (nA (fpT ad) sz) (bi (decide (lineT (gSh σ) v = 0))) (fun h => va_P g.1 vwCl (TW g ad (fm, fn, fl, fx, fy, ft, fc, fh, fk, fhi, fmi, fd, lineT (gSh σ) v, fp, fle, flo)) h)) 0 0 (nA (fpT ad) sz) := by
  refine Met.go (by decide) (Nat.le_of_ble_eq_true rfl) ?_
  intro p e s m args below meth c Q ls hQ hx hb hr hml hts hown hlocks hin hKH hF hl
  have hown : s.vm.findClass RX4 = some m.cls := hown
  have hK := hKH.k
  have hNW := hKH.1.nw
  have hl : lv_has ls 3 [(0, .ref (aO ad)), (1, .int (zi v))] := hl
  obtain ⟨hsz, hP⟩ := hF
  subst hsz
  obtain ⟨A, hAe⟩ : ∃ A, A = nA (fpT ad) s.heap.size := ⟨_, rfl⟩
  rw [← hAe] at hKH hQ
  have hAf : ∀ q ∈ fpT ad, A q := fun q h => by rw [hAe]; exact nA_in h
  have hA : ∀ q : Nat, s.heap.size ≤ q → A q := fun q h => by rw [hAe]; exact nA_new h
  have hD : va_D A (TW g ad (fm, fn, fl, fx, fy, ft, fc, fh, fk, fhi, fmi, fd, fth, fp, fle, flo)) := tw_D _ hN9 hAf
  have hS : va_S A s.heap s.heap [] := va_S.rf
  have hKq : KH g noA s s.heap := hKH.narrow (fun _ q => q.elim)
  have hP : va_P g.1 vwCl (TW g ad (fm, fn, fl, fx, fy, ft, fc, fh, fk, fhi, fmi, fd, fth, fp, fle, flo)) s.heap := hP
  have hN := hT.n12
  refine lv_aload_n hx hb dX4_isLine_0 rfl (lv_at hl 0 rfl) ?_
  refine lv_iload_n hx hb dX4_isLine_1 rfl (lv_at hl 1 rfl) ?_
  refine r_qi (z := optZ (slotO (gSh σ) v)) (va_runV (As := [.int (zi v)]) (rest := []) ⟨hx, hb, hml, hown, hts⟩ (m_slot l g ad (fm, fn, fl, fx, fy, ft, fc, fh, fk, fhi, fmi, fd, fth, fp, fle, flo) σ v hv hT) (cwV 1 hts (lw_V q1710 q1712 qs37 q69 q1713) rfl rfl rfl (by decide +kernel) ⟨Nat.le_of_ble_eq_true rfl, Nat.le_of_ble_eq_true rfl⟩) (pcs_V (va_recv hK hP (ci := 10) (q0 := 0) rfl rfl) hKq hP) rfl rfl hl.1 rfl (lv_room (Nat.le_of_ble_eq_true rfl)) dX4_isLine_2 ⟨Nat.le_of_ble_eq_true rfl, Nat.le_of_ble_eq_true rfl⟩) ?_
  refine lv_istore_n (lv' := [(2, .int (zi (optZ (slotO (gSh σ) v)))), (0, .ref (aO ad)), (1, .int (zi v))]) hx hb dX4_isLine_5 rfl hl (by decide) rfl (fun ls hl => ?_)
  refine lv_aload_n hx hb dX4_isLine_6 rfl (lv_at hl 1 rfl) ?_
  have J31 : W p l e ({ frames := 3, cells := 0, slots := 0, locals := 84 } : Room) s m args below meth c s.heap ([]) 0 0 Q (F0 m 31 ls [.int (zi (lineT (gSh σ) v)), .ref (aO ad)]) := by
    refine va_put (D := g.1) (ci := 10) (v := .int (zi (lineT (gSh σ) v))) (ty := .int) (C := RX4) (T := TX4) (N := 16) hx hb hts in_X4 tyX4 tyX4_ok nmX4 hown hK hP hD hS 0 rfl rfl 12 (by decide) (hts _ q1612) (fun _ h9 => h9) rfl (by decide +kernel) rfl rfl (Nat.le_of_ble_eq_true rfl) dX4_isLine_31 (fun H locs hP hD hS => ?_)
    have hP : va_P g.1 vwCl (TW g ad (fm, fn, fl, fx, fy, ft, fc, fh, fk, fhi, fmi, fd, lineT (gSh σ) v, fp, fle, flo)) H := hP
    have hD : va_D A (TW g ad (fm, fn, fl, fx, fy, ft, fc, fh, fk, fhi, fmi, fd, lineT (gSh σ) v, fp, fle, flo)) := hD
    have hKq : KH g noA s H := (hKH.at hS).narrow (fun _ z => z.elim)
    refine lv_aload_n hx hb dX4_isLine_34 rfl (lv_at hl 1 rfl) ?_
    refine va_get (D := g.1) (ci := 10) (v := .int (zi (lineT (gSh σ) v))) (C := RX4) (T := TX4) (N := 16) hx hb hts in_X4 hown hK hP 0 rfl rfl 12 (by decide) (hts _ q1612) (fun _ h9 => h9) rfl dX4_isLine_35 ?_
    refine r_ne0 (tgt := 45) hx hb dX4_isLine_38 (by decide) (lineT_fit _ _) (fun h38 => ?_) (fun h38 => ?_)
    · refine r_c hx hb dX4_isLine_45 ?_
      rw [hQ]
      refine r_int (z := bi (decide (lineT (gSh σ) v = 0))) (by first | exact bi_t (by omega) | exact bi_f (by omega)) ?_
      exact r_iret hx hb hr hlocks (bi_nar _) (Nat.le_refl 0) (Nat.le_refl 0) hS.2.2 dX4_isLine_46 (fun t9 ht => ⟨_, rfl, ⟨rfl, by rw [ht]; exact hP⟩, hS.F ht⟩)
    refine r_c hx hb dX4_isLine_41 ?_
    refine lv_goto (tgt := 46) hx hb dX4_isLine_42 (by decide) ?_
    rw [hQ]
    refine r_int (z := bi (decide (lineT (gSh σ) v = 0))) (by first | exact bi_t (by omega) | exact bi_f (by omega)) ?_
    exact r_iret hx hb hr hlocks (bi_nar _) (Nat.le_refl 0) (Nat.le_refl 0) hS.2.2 dX4_isLine_46 (fun t9 ht => ⟨_, rfl, ⟨rfl, by rw [ht]; exact hP⟩, hS.F ht⟩)
  refine lv_iload_n hx hb dX4_isLine_7 rfl (lv_at hl 0 rfl) ?_
  refine r_c hx hb dX4_isLine_8 ?_
  refine r_ne (tgt := 16) hx hb dX4_isLine_9 (by decide) (best_fit (fun k hk => Nat.le_of_lt (by obtain ⟨y, hy, -⟩ := slotO_some hk; exact idx_lt hy)) (by omega)) ⟨by decide, by decide⟩ (fun h9 => ?_) (fun h9 => ?_)
  · obtain ⟨si, hsi⟩ : ∃ k, slotO (gSh σ) v = some k := by
      cases e : slotO (gSh σ) v with
      | none => rw [e] at h9; exact absurd rfl h9
      | some k => exact ⟨k, rfl⟩
    obtain ⟨sh, hs, -⟩ := slotO_some hsi
    have hsl := idx_lt hs
    rw [show optZ (slotO (gSh σ) v) = (si : Int) by rw [hsi]; rfl] at hl
    refine lv_aload_n hx hb dX4_isLine_16 rfl (lv_at hl 1 rfl) ?_
    refine lv_iload_n hx hb dX4_isLine_17 rfl (lv_at hl 0 rfl) ?_
    refine r_c hx hb dX4_isLine_18 ?_
    refine r_qi (z := bi (sAr sh)) (va_runV (As := [.int (zi (si : Int)), .int (zi 1)]) (rest := [.ref (aO ad)]) ⟨hx, hb, hml, hown, hts⟩ (m_of l g ad (fm, fn, fl, fx, fy, ft, fc, fh, fk, fhi, fmi, fd, fth, fp, fle, flo) si 1 (7 * si + 1) (bi (sAr sh)) (by omega) (by omega) ((hT.s hs).2.1)) (cwV 2 hts (lw_V q1673 q1675 qs30 q69 q1676) rfl rfl rfl (by decide +kernel) ⟨Nat.le_of_ble_eq_true rfl, Nat.le_of_ble_eq_true rfl⟩) (pcs_V (va_recv hK hP (ci := 10) (q0 := 0) rfl rfl) hKq hP) rfl rfl hl.1 rfl (lv_room (Nat.le_of_ble_eq_true rfl)) dX4_isLine_19 ⟨Nat.le_of_ble_eq_true rfl, Nat.le_of_ble_eq_true rfl⟩) ?_
    refine r_c hx hb dX4_isLine_22 ?_
    refine r_ne (tgt := 30) hx hb dX4_isLine_23 (by decide) (bi_fit _) ⟨by decide, by decide⟩ (fun h23 => ?_) (fun h23 => ?_)
    · refine r_c hx hb dX4_isLine_30 ?_
      refine r_int (z := lineT (gSh σ) v) (by first | exact (lineT_1 hsn).symm | exact (lineT_2 hsi hs (bi_ne (by omega))).symm | exact (lineT_0 hsi hs (bi_n1 h23)).symm) ?_
      exact J31
    refine r_c hx hb dX4_isLine_26 ?_
    refine lv_goto (tgt := 31) hx hb dX4_isLine_27 (by decide) ?_
    refine r_int (z := lineT (gSh σ) v) (by first | exact (lineT_1 hsn).symm | exact (lineT_2 hsi hs (bi_ne (by omega))).symm | exact (lineT_0 hsi hs (bi_n1 h23)).symm) ?_
    exact J31
  have hsn := optZ_neg.mp h9
  refine r_c hx hb dX4_isLine_12 ?_
  refine lv_goto (tgt := 31) hx hb dX4_isLine_13 (by decide) ?_
  refine r_int (z := lineT (gSh σ) v) (by first | exact (lineT_1 hsn).symm | exact (lineT_2 hsi hs (bi_ne (by omega))).symm | exact (lineT_0 hsi hs (bi_n1 h23)).symm) ?_
  exact J31
set_option maxHeartbeats 4000000 in
set_option maxRecDepth 100000 in
theorem m_isArea (l : Launch) (g : GD) (ad : TA) (hN9 : (fpT ad).Nodup) (sz : Nat) (fm fx fy ft fc fp fle flo : Nat → Int) (fn fl fh fk fhi fmi fd fth : Int) (σ : Sg) (v : Int) (hv : fit v) (hT : TR σ (fm, fn, fl, fx, fy, ft, fc, fh, fk, fhi, fmi, fd, fth, fp, fle, flo)) : Met l yX4_isArea (ws_ yX4_isArea cX4_isArea 3 (some .boolean)) ({ frames := 3, cells := 0, slots := 0, locals := 84 } : Room) (pcs g [.ref (aO ad), .int (zi v)] (nA (fpT ad) sz) (fun h => h.size = sz ∧ va_P g.1 vwCl (TW g ad (fm, fn, fl, fx, fy, ft, fc, fh, fk, fhi, fmi, fd, fth, fp, fle, flo)) h)) (qRi (nA (fpT ad) sz) (bi (decide (areaT (gSh σ) v = 0))) (fun h => va_P g.1 vwCl (TW g ad (fm, fn, fl, fx, fy, ft, fc, fh, fk, fhi, fmi, fd, areaT (gSh σ) v, fp, fle, flo)) h)) 0 0 (nA (fpT ad) sz) := by
  refine Met.go (by decide) (Nat.le_of_ble_eq_true rfl) ?_
  intro p e s m args below meth c Q ls hQ hx hb hr hml hts hown hlocks hin hKH hF hl
  have hown : s.vm.findClass RX4 = some m.cls := hown
  have hK := hKH.k
  have hNW := hKH.1.nw
  have hl : lv_has ls 3 [(0, .ref (aO ad)), (1, .int (zi v))] := hl
  obtain ⟨hsz, hP⟩ := hF
  subst hsz
  obtain ⟨A, hAe⟩ : ∃ A, A = nA (fpT ad) s.heap.size := ⟨_, rfl⟩
  rw [← hAe] at hKH hQ
  have hAf : ∀ q ∈ fpT ad, A q := fun q h => by rw [hAe]; exact nA_in h
  have hA : ∀ q : Nat, s.heap.size ≤ q → A q := fun q h => by rw [hAe]; exact nA_new h
  have hD : va_D A (TW g ad (fm, fn, fl, fx, fy, ft, fc, fh, fk, fhi, fmi, fd, fth, fp, fle, flo)) := tw_D _ hN9 hAf
  have hS : va_S A s.heap s.heap [] := va_S.rf
  have hKq : KH g noA s s.heap := hKH.narrow (fun _ q => q.elim)
  have hP : va_P g.1 vwCl (TW g ad (fm, fn, fl, fx, fy, ft, fc, fh, fk, fhi, fmi, fd, fth, fp, fle, flo)) s.heap := hP
  have hN := hT.n12
  refine lv_aload_n hx hb dX4_isArea_0 rfl (lv_at hl 0 rfl) ?_
  refine lv_iload_n hx hb dX4_isArea_1 rfl (lv_at hl 1 rfl) ?_
  refine r_qi (z := optZ (slotO (gSh σ) v)) (va_runV (As := [.int (zi v)]) (rest := []) ⟨hx, hb, hml, hown, hts⟩ (m_slot l g ad (fm, fn, fl, fx, fy, ft, fc, fh, fk, fhi, fmi, fd, fth, fp, fle, flo) σ v hv hT) (cwV 1 hts (lw_V q1710 q1712 qs37 q69 q1713) rfl rfl rfl (by decide +kernel) ⟨Nat.le_of_ble_eq_true rfl, Nat.le_of_ble_eq_true rfl⟩) (pcs_V (va_recv hK hP (ci := 10) (q0 := 0) rfl rfl) hKq hP) rfl rfl hl.1 rfl (lv_room (Nat.le_of_ble_eq_true rfl)) dX4_isArea_2 ⟨Nat.le_of_ble_eq_true rfl, Nat.le_of_ble_eq_true rfl⟩) ?_
  refine lv_istore_n (lv' := [(2, .int (zi (optZ (slotO (gSh σ) v)))), (0, .ref (aO ad)), (1, .int (zi v))]) hx hb dX4_isArea_5 rfl hl (by decide) rfl (fun ls hl => ?_)
  refine lv_aload_n hx hb dX4_isArea_6 rfl (lv_at hl 1 rfl) ?_
  have J30 : W p l e ({ frames := 3, cells := 0, slots := 0, locals := 84 } : Room) s m args below meth c s.heap ([]) 0 0 Q (F0 m 30 ls [.int (zi (areaT (gSh σ) v)), .ref (aO ad)]) := by
    refine va_put (D := g.1) (ci := 10) (v := .int (zi (areaT (gSh σ) v))) (ty := .int) (C := RX4) (T := TX4) (N := 16) hx hb hts in_X4 tyX4 tyX4_ok nmX4 hown hK hP hD hS 0 rfl rfl 12 (by decide) (hts _ q1612) (fun _ h9 => h9) rfl (by decide +kernel) rfl rfl (Nat.le_of_ble_eq_true rfl) dX4_isArea_30 (fun H locs hP hD hS => ?_)
    have hP : va_P g.1 vwCl (TW g ad (fm, fn, fl, fx, fy, ft, fc, fh, fk, fhi, fmi, fd, areaT (gSh σ) v, fp, fle, flo)) H := hP
    have hD : va_D A (TW g ad (fm, fn, fl, fx, fy, ft, fc, fh, fk, fhi, fmi, fd, areaT (gSh σ) v, fp, fle, flo)) := hD
    have hKq : KH g noA s H := (hKH.at hS).narrow (fun _ z => z.elim)
    refine lv_aload_n hx hb dX4_isArea_33 rfl (lv_at hl 1 rfl) ?_
    refine va_get (D := g.1) (ci := 10) (v := .int (zi (areaT (gSh σ) v))) (C := RX4) (T := TX4) (N := 16) hx hb hts in_X4 hown hK hP 0 rfl rfl 12 (by decide) (hts _ q1612) (fun _ h9 => h9) rfl dX4_isArea_34 ?_
    refine r_ne0 (tgt := 44) hx hb dX4_isArea_37 (by decide) (areaT_fit _ _) (fun h37 => ?_) (fun h37 => ?_)
    · refine r_c hx hb dX4_isArea_44 ?_
      rw [hQ]
      refine r_int (z := bi (decide (areaT (gSh σ) v = 0))) (by first | exact bi_t (by omega) | exact bi_f (by omega)) ?_
      exact r_iret hx hb hr hlocks (bi_nar _) (Nat.le_refl 0) (Nat.le_refl 0) hS.2.2 dX4_isArea_45 (fun t9 ht => ⟨_, rfl, ⟨rfl, by rw [ht]; exact hP⟩, hS.F ht⟩)
    refine r_c hx hb dX4_isArea_40 ?_
    refine lv_goto (tgt := 45) hx hb dX4_isArea_41 (by decide) ?_
    rw [hQ]
    refine r_int (z := bi (decide (areaT (gSh σ) v = 0))) (by first | exact bi_t (by omega) | exact bi_f (by omega)) ?_
    exact r_iret hx hb hr hlocks (bi_nar _) (Nat.le_refl 0) (Nat.le_refl 0) hS.2.2 dX4_isArea_45 (fun t9 ht => ⟨_, rfl, ⟨rfl, by rw [ht]; exact hP⟩, hS.F ht⟩)
  refine lv_iload_n hx hb dX4_isArea_7 rfl (lv_at hl 0 rfl) ?_
  refine r_c hx hb dX4_isArea_8 ?_
  refine r_ne (tgt := 16) hx hb dX4_isArea_9 (by decide) (best_fit (fun k hk => Nat.le_of_lt (by obtain ⟨y, hy, -⟩ := slotO_some hk; exact idx_lt hy)) (by omega)) ⟨by decide, by decide⟩ (fun h9 => ?_) (fun h9 => ?_)
  · obtain ⟨si, hsi⟩ : ∃ k, slotO (gSh σ) v = some k := by
      cases e : slotO (gSh σ) v with
      | none => rw [e] at h9; exact absurd rfl h9
      | some k => exact ⟨k, rfl⟩
    obtain ⟨sh, hs, -⟩ := slotO_some hsi
    have hsl := idx_lt hs
    rw [show optZ (slotO (gSh σ) v) = (si : Int) by rw [hsi]; rfl] at hl
    refine lv_aload_n hx hb dX4_isArea_16 rfl (lv_at hl 1 rfl) ?_
    refine lv_iload_n hx hb dX4_isArea_17 rfl (lv_at hl 0 rfl) ?_
    refine r_c hx hb dX4_isArea_18 ?_
    refine r_qi (z := bi (sAr sh)) (va_runV (As := [.int (zi (si : Int)), .int (zi 1)]) (rest := [.ref (aO ad)]) ⟨hx, hb, hml, hown, hts⟩ (m_of l g ad (fm, fn, fl, fx, fy, ft, fc, fh, fk, fhi, fmi, fd, fth, fp, fle, flo) si 1 (7 * si + 1) (bi (sAr sh)) (by omega) (by omega) ((hT.s hs).2.1)) (cwV 2 hts (lw_V q1673 q1675 qs30 q69 q1676) rfl rfl rfl (by decide +kernel) ⟨Nat.le_of_ble_eq_true rfl, Nat.le_of_ble_eq_true rfl⟩) (pcs_V (va_recv hK hP (ci := 10) (q0 := 0) rfl rfl) hKq hP) rfl rfl hl.1 rfl (lv_room (Nat.le_of_ble_eq_true rfl)) dX4_isArea_19 ⟨Nat.le_of_ble_eq_true rfl, Nat.le_of_ble_eq_true rfl⟩) ?_
    refine r_ne0 (tgt := 29) hx hb dX4_isArea_22 (by decide) (bi_fit _) (fun h22 => ?_) (fun h22 => ?_)
    · refine r_c hx hb dX4_isArea_29 ?_
      refine r_int (z := areaT (gSh σ) v) (by first | exact (areaT_1 hsn).symm | exact (areaT_2 hsi hs (bi_eq h22)).symm | exact (areaT_0 hsi hs (bi_ne h22)).symm) ?_
      exact J30
    refine r_c hx hb dX4_isArea_25 ?_
    refine lv_goto (tgt := 30) hx hb dX4_isArea_26 (by decide) ?_
    refine r_int (z := areaT (gSh σ) v) (by first | exact (areaT_1 hsn).symm | exact (areaT_2 hsi hs (bi_eq h22)).symm | exact (areaT_0 hsi hs (bi_ne h22)).symm) ?_
    exact J30
  have hsn := optZ_neg.mp h9
  refine r_c hx hb dX4_isArea_12 ?_
  refine lv_goto (tgt := 30) hx hb dX4_isArea_13 (by decide) ?_
  refine r_int (z := areaT (gSh σ) v) (by first | exact (areaT_1 hsn).symm | exact (areaT_2 hsi hs (bi_eq h22)).symm | exact (areaT_0 hsi hs (bi_ne h22)).symm) ?_
  exact J30
