/-! THE TWIN: places (printed by gen/twin3.py) -/
set_option maxHeartbeats 4000000 in
set_option maxRecDepth 100000 in
theorem m_heldAt (l : Launch) (g : GD) (ad : TA) (t : TS) (σ : Sg) (hT : TR σ t) (lv co ro : Int) (hlv : fit lv) (hco : fit co) (hro : fit ro) : Met l yX4_heldAt (ws_ yX4_heldAt cX4_heldAt 5 (some .int)) ({ frames := 1, cells := 0, slots := 0, locals := 40 } : Room) (pcs g [.ref (aO ad), .int (zi lv), .int (zi co), .int (zi ro)] noA (fun h => va_P g.1 vwCl (TW g ad t) h)) (qSi (optZ (heldO (gCa σ) lv co ro))) 0 0 noA := by
  refine Met.go (by decide) (Nat.le_of_ble_eq_true rfl) ?_
  intro p e s m args below meth c Q ls hQ hx hb hr hml hts hown hlocks hin hKH hF hl
  have hown : s.vm.findClass RX4 = some m.cls := hown
  have hK := hKH.k
  have hNW := hKH.1.nw
  have hl : lv_has ls 5 [(0, .ref (aO ad)), (1, .int (zi lv)), (2, .int (zi co)), (3, .int (zi ro))] := hl
  have hP : va_P g.1 vwCl (TW g ad t) s.heap := hF
  have hKq : KH g noA s s.heap := hKH
  have hN := hT.c5
  refine r_c hx hb dX4_heldAt_0 ?_
  refine lv_istore (lv' := [(4, .int (zi 0)), (0, .ref (aO ad)), (1, .int (zi lv)), (2, .int (zi co)), (3, .int (zi ro))]) hx hb dX4_heldAt_1 hl (by decide) rfl (fun ls hl => ?_)
  have lp : ∀ (n : Nat) (i : Nat), (i ≤ (gCa σ).length) → (heldF (gCa σ) lv co ro i = none) → (gCa σ).length < i + n → ∀ ls : Array Slot, lv_has ls 5 [(4, .int (zi (i : Int))), (0, .ref (aO ad)), (1, .int (zi lv)), (2, .int (zi co)), (3, .int (zi ro))] → W p l e ({ frames := 1, cells := 0, slots := 0, locals := 40 } : Room) s m args below meth c s.heap ([]) 0 0 Q (F0 m 3 ls []) := by
    intro n
    induction n with
    | zero =>
      intro i hi hn hbd
      exact absurd hbd (by omega)
    | succ n ih =>
      intro i hi hn hbd ls hl
      refine lv_iload hx hb dX4_heldAt_3 (lv_at hl 0 rfl) ?_
      refine lv_aload_n hx hb dX4_heldAt_5 rfl (lv_at hl 1 rfl) ?_
      refine va_get (D := g.1) (ci := 10) (v := .int (zi (uH t))) (C := RX4) (T := TX4) (N := 16) hx hb hts in_X4 hown hK hP 0 rfl rfl 7 (by decide) (hts _ q1607) (fun _ h9 => h9) rfl dX4_heldAt_6 ?_
      refine r_ge (tgt := 64) hx hb dX4_heldAt_9 (by decide) ⟨by omega, by omega⟩ ⟨by rw [hT.h]; omega, by rw [hT.h]; omega⟩ (fun h9 => ?_) (fun h9 => ?_)
      · have hie : i = (gCa σ).length := by rw [hT.h] at h9; omega
        refine r_c hx hb dX4_heldAt_64 ?_
        rw [hQ]
        exact r_qret (z := (-1)) hx hb hr hlocks rfl dX4_heldAt_65 (by rw [show heldO (gCa σ) lv co ro = none from by rw [← hn, hie]; rfl]; rfl)
      have hlt : i < (gCa σ).length := by rw [hT.h] at h9; omega
      obtain ⟨x, hh⟩ := get_lt hlt
      obtain ⟨⟨w1, w2⟩, ⟨w3, w4⟩, ⟨w5, w6⟩, -⟩ := hT.wt hh
      have hpw := pw_b w1 w2
      refine lv_aload_n hx hb dX4_heldAt_12 rfl (lv_at hl 1 rfl) ?_
      refine va_get (D := g.1) (ci := 10) (v := .ref (aC ad)) (C := RX4) (T := TX4) (N := 16) hx hb hts in_X4 hown hK hP 0 rfl rfl 6 (by decide) (hts _ q1606) (fun _ h9 => h9) rfl dX4_heldAt_13 ?_
      refine r_c hx hb dX4_heldAt_16 ?_
      refine lv_iload hx hb dX4_heldAt_17 (lv_at hl 0 rfl) ?_
      refine r_mul (z := 4 * (i : Int)) hx hb dX4_heldAt_19 rfl ?_
      refine r_iald (v := tLv x) hx hb hK hP 5 0 rfl rfl (k := 4 * i) (by omega) (by omega) (by decide) (hT.c hh).1 dX4_heldAt_20 ?_
      refine lv_iload_n hx hb dX4_heldAt_21 rfl (lv_at hl 2 rfl) ?_
      refine r_ne (tgt := 58) hx hb dX4_heldAt_22 (by decide) ⟨by omega, by omega⟩ hlv (fun h22 => ?_) (fun h22 => ?_)
      · refine r_iinc (z := ((i + 1 : Nat) : Int)) (lv' := [(4, .int (zi ((i + 1 : Nat) : Int))), (0, .ref (aO ad)), (1, .int (zi lv)), (2, .int (zi co)), (3, .int (zi ro))]) hx hb dX4_heldAt_58 hl (k := 0) rfl (by omega) (by decide) rfl (fun ls hl => ?_)
        refine lv_goto (tgt := 3) hx hb dX4_heldAt_61 (by decide) ?_
        exact ih (i + 1) (by omega) (by first | exact heldF_miss hn hh (fun q => h22 q.1) | exact heldF_miss hn hh (fun q => h37 q.2.1) | exact heldF_miss hn hh (fun q => h52 q.2.2)) (by omega) ls (lv_sub hl [0, 1, 2, 3, 4] rfl)
      refine lv_aload_n hx hb dX4_heldAt_25 rfl (lv_at hl 1 rfl) ?_
      refine va_get (D := g.1) (ci := 10) (v := .ref (aC ad)) (C := RX4) (T := TX4) (N := 16) hx hb hts in_X4 hown hK hP 0 rfl rfl 6 (by decide) (hts _ q1606) (fun _ h9 => h9) rfl dX4_heldAt_26 ?_
      refine r_c hx hb dX4_heldAt_29 ?_
      refine lv_iload hx hb dX4_heldAt_30 (lv_at hl 0 rfl) ?_
      refine r_mul (z := 4 * (i : Int)) hx hb dX4_heldAt_32 rfl ?_
      refine r_c hx hb dX4_heldAt_33 ?_
      refine r_add (z := (4 * (i : Int)) + 1) hx hb dX4_heldAt_34 rfl ?_
      refine r_iald (v := tCo x) hx hb hK hP 5 0 rfl rfl (k := 4 * i + 1) (by omega) (by omega) (by decide) (hT.c hh).2.1 dX4_heldAt_35 ?_
      refine lv_iload_n hx hb dX4_heldAt_36 rfl (lv_at hl 3 rfl) ?_
      refine r_ne (tgt := 58) hx hb dX4_heldAt_37 (by decide) ⟨by omega, by omega⟩ hco (fun h37 => ?_) (fun h37 => ?_)
      · refine r_iinc (z := ((i + 1 : Nat) : Int)) (lv' := [(4, .int (zi ((i + 1 : Nat) : Int))), (0, .ref (aO ad)), (1, .int (zi lv)), (2, .int (zi co)), (3, .int (zi ro))]) hx hb dX4_heldAt_58 hl (k := 0) rfl (by omega) (by decide) rfl (fun ls hl => ?_)
        refine lv_goto (tgt := 3) hx hb dX4_heldAt_61 (by decide) ?_
        exact ih (i + 1) (by omega) (by first | exact heldF_miss hn hh (fun q => h22 q.1) | exact heldF_miss hn hh (fun q => h37 q.2.1) | exact heldF_miss hn hh (fun q => h52 q.2.2)) (by omega) ls (lv_sub hl [0, 1, 2, 3, 4] rfl)
      refine lv_aload_n hx hb dX4_heldAt_40 rfl (lv_at hl 1 rfl) ?_
      refine va_get (D := g.1) (ci := 10) (v := .ref (aC ad)) (C := RX4) (T := TX4) (N := 16) hx hb hts in_X4 hown hK hP 0 rfl rfl 6 (by decide) (hts _ q1606) (fun _ h9 => h9) rfl dX4_heldAt_41 ?_
      refine r_c hx hb dX4_heldAt_44 ?_
      refine lv_iload hx hb dX4_heldAt_45 (lv_at hl 0 rfl) ?_
      refine r_mul (z := 4 * (i : Int)) hx hb dX4_heldAt_47 rfl ?_
      refine r_c hx hb dX4_heldAt_48 ?_
      refine r_add (z := (4 * (i : Int)) + 2) hx hb dX4_heldAt_49 rfl ?_
      refine r_iald (v := tRo x) hx hb hK hP 5 0 rfl rfl (k := 4 * i + 2) (by omega) (by omega) (by decide) (hT.c hh).2.2.1 dX4_heldAt_50 ?_
      refine lv_iload_n hx hb dX4_heldAt_51 rfl (lv_at hl 4 rfl) ?_
      refine r_ne (tgt := 58) hx hb dX4_heldAt_52 (by decide) ⟨by omega, by omega⟩ hro (fun h52 => ?_) (fun h52 => ?_)
      · refine r_iinc (z := ((i + 1 : Nat) : Int)) (lv' := [(4, .int (zi ((i + 1 : Nat) : Int))), (0, .ref (aO ad)), (1, .int (zi lv)), (2, .int (zi co)), (3, .int (zi ro))]) hx hb dX4_heldAt_58 hl (k := 0) rfl (by omega) (by decide) rfl (fun ls hl => ?_)
        refine lv_goto (tgt := 3) hx hb dX4_heldAt_61 (by decide) ?_
        exact ih (i + 1) (by omega) (by first | exact heldF_miss hn hh (fun q => h22 q.1) | exact heldF_miss hn hh (fun q => h37 q.2.1) | exact heldF_miss hn hh (fun q => h52 q.2.2)) (by omega) ls (lv_sub hl [0, 1, 2, 3, 4] rfl)
      have e : heldO (gCa σ) lv co ro = some i := heldF_hit hn hh ⟨h22, h37, h52⟩ _ hlt
      refine lv_iload hx hb dX4_heldAt_55 (lv_at hl 0 rfl) ?_
      rw [hQ]
      exact r_qret (z := (i : Int)) hx hb hr hlocks rfl dX4_heldAt_57 (by rw [e]; rfl)
  exact lp ((gCa σ).length + 1) 0 (Nat.zero_le _) rfl (by omega) ls (lv_sub hl [0, 1, 2, 3, 4] rfl)
set_option maxHeartbeats 4000000 in
set_option maxRecDepth 100000 in
theorem m_isMet (l : Launch) (g : GD) (ad : TA) (t : TS) (σ : Sg) (hT : TR σ t) (k : Nat) (ti : Ti) (hk : (gCa σ)[k]? = some ti) (l9 lo r9 hi : Int) (hl9 : -100 ≤ l9 ∧ l9 ≤ 200) (hlo : -100 ≤ lo ∧ lo ≤ 200) (hr9 : -100 ≤ r9 ∧ r9 ≤ 200) (hhi : -100 ≤ hi ∧ hi ≤ 200) : Met l yX4_isMet (ws_ yX4_isMet cX4_isMet 9 (some .boolean)) ({ frames := 2, cells := 0, slots := 0, locals := 60 } : Room) (pcs g [.ref (aO ad), .int (zi (k : Int)), .int (zi l9), .int (zi lo), .int (zi r9), .int (zi hi)] noA (fun h => va_P g.1 vwCl (TW g ad t) h)) (qSi (bi (metTi ti l9 lo r9 hi))) 0 0 noA := by
  refine Met.go (by decide) (Nat.le_of_ble_eq_true rfl) ?_
  intro p e s m args below meth c Q ls hQ hx hb hr hml hts hown hlocks hin hKH hF hl
  have hown : s.vm.findClass RX4 = some m.cls := hown
  have hK := hKH.k
  have hNW := hKH.1.nw
  have hl : lv_has ls 9 [(0, .ref (aO ad)), (1, .int (zi (k : Int))), (2, .int (zi l9)), (3, .int (zi lo)), (4, .int (zi r9)), (5, .int (zi hi))] := hl
  have hP : va_P g.1 vwCl (TW g ad t) s.heap := hF
  have hKq : KH g noA s s.heap := hKH
  have hN := hT.c5
  have hkl := idx_lt hk
  have hwt := hT.wt hk
  obtain ⟨tb1, tb2, tb3, tb4⟩ := tile_b hwt
  refine lv_aload_n hx hb dX4_isMet_0 rfl (lv_at hl 0 rfl) ?_
  refine va_get (D := g.1) (ci := 10) (v := .ref (aC ad)) (C := RX4) (T := TX4) (N := 16) hx hb hts in_X4 hown hK hP 0 rfl rfl 6 (by decide) (hts _ q1606) (fun _ h9 => h9) rfl dX4_isMet_1 ?_
  refine r_c hx hb dX4_isMet_4 ?_
  refine lv_iload_n hx hb dX4_isMet_5 rfl (lv_at hl 1 rfl) ?_
  refine r_mul (z := 4 * (k : Int)) hx hb dX4_isMet_6 rfl ?_
  refine r_iald (v := tLv ti) hx hb hK hP 5 0 rfl rfl (k := 4 * k) (by omega) (by omega) (by decide) (hT.c hk).1 dX4_isMet_7 ?_
  refine r_qi (z := 8 * cs (tLv ti)) (va_runS (As := [.int (zi (tLv ti))]) (rest := []) ⟨hx, hb, hml, hown, hts⟩ (m_tileSide l g (tLv ti) hwt.1.1 hwt.1.2) (va_cwS 1 hts (lw_S q1695 q1696 q69 q1697) rfl rfl rfl (by decide +kernel) ⟨Nat.le_of_ble_eq_true rfl, Nat.le_of_ble_eq_true rfl⟩) (pcs_S hKq trivial) rfl rfl hl.1 rfl (lv_room (Nat.le_of_ble_eq_true rfl)) dX4_isMet_8 ⟨Nat.le_of_ble_eq_true rfl, Nat.le_of_ble_eq_true rfl⟩) ?_
  refine lv_istore (lv' := [(6, .int (zi (8 * cs (tLv ti)))), (0, .ref (aO ad)), (1, .int (zi (k : Int))), (2, .int (zi l9)), (3, .int (zi lo)), (4, .int (zi r9)), (5, .int (zi hi))]) hx hb dX4_isMet_11 hl (by decide) rfl (fun ls hl => ?_)
  refine lv_aload_n hx hb dX4_isMet_13 rfl (lv_at hl 1 rfl) ?_
  refine va_get (D := g.1) (ci := 10) (v := .ref (aC ad)) (C := RX4) (T := TX4) (N := 16) hx hb hts in_X4 hown hK hP 0 rfl rfl 6 (by decide) (hts _ q1606) (fun _ h9 => h9) rfl dX4_isMet_14 ?_
  refine r_c hx hb dX4_isMet_17 ?_
  refine lv_iload_n hx hb dX4_isMet_18 rfl (lv_at hl 2 rfl) ?_
  refine r_mul (z := 4 * (k : Int)) hx hb dX4_isMet_19 rfl ?_
  refine r_c hx hb dX4_isMet_20 ?_
  refine r_add (z := (4 * (k : Int)) + 1) hx hb dX4_isMet_21 rfl ?_
  refine r_iald (v := tCo ti) hx hb hK hP 5 0 rfl rfl (k := 4 * k + 1) (by omega) (by omega) (by decide) (hT.c hk).2.1 dX4_isMet_22 ?_
  refine lv_iload hx hb dX4_isMet_23 (lv_at hl 0 rfl) ?_
  refine r_mul (z := (tCo ti) * (8 * cs (tLv ti))) hx hb dX4_isMet_25 rfl ?_
  refine lv_istore (lv' := [(7, .int (zi ((tCo ti) * (8 * cs (tLv ti))))), (6, .int (zi (8 * cs (tLv ti)))), (0, .ref (aO ad)), (1, .int (zi (k : Int))), (2, .int (zi l9)), (3, .int (zi lo)), (4, .int (zi r9)), (5, .int (zi hi))]) hx hb dX4_isMet_26 hl (by decide) rfl (fun ls hl => ?_)
  refine lv_aload_n hx hb dX4_isMet_28 rfl (lv_at hl 2 rfl) ?_
  refine va_get (D := g.1) (ci := 10) (v := .ref (aC ad)) (C := RX4) (T := TX4) (N := 16) hx hb hts in_X4 hown hK hP 0 rfl rfl 6 (by decide) (hts _ q1606) (fun _ h9 => h9) rfl dX4_isMet_29 ?_
  refine r_c hx hb dX4_isMet_32 ?_
  refine lv_iload_n hx hb dX4_isMet_33 rfl (lv_at hl 3 rfl) ?_
  refine r_mul (z := 4 * (k : Int)) hx hb dX4_isMet_34 rfl ?_
  refine r_c hx hb dX4_isMet_35 ?_
  refine r_add (z := (4 * (k : Int)) + 2) hx hb dX4_isMet_36 rfl ?_
  refine r_iald (v := tRo ti) hx hb hK hP 5 0 rfl rfl (k := 4 * k + 2) (by omega) (by omega) (by decide) (hT.c hk).2.2.1 dX4_isMet_37 ?_
  refine lv_iload hx hb dX4_isMet_38 (lv_at hl 1 rfl) ?_
  refine r_mul (z := (tRo ti) * (8 * cs (tLv ti))) hx hb dX4_isMet_40 rfl ?_
  refine lv_istore (lv' := [(8, .int (zi ((tRo ti) * (8 * cs (tLv ti))))), (7, .int (zi ((tCo ti) * (8 * cs (tLv ti))))), (6, .int (zi (8 * cs (tLv ti)))), (0, .ref (aO ad)), (1, .int (zi (k : Int))), (2, .int (zi l9)), (3, .int (zi lo)), (4, .int (zi r9)), (5, .int (zi hi))]) hx hb dX4_isMet_41 hl (by decide) rfl (fun ls hl => ?_)
  refine lv_iload hx hb dX4_isMet_43 (lv_at hl 1 rfl) ?_
  refine lv_iload hx hb dX4_isMet_45 (lv_at hl 7 rfl) ?_
  refine r_gt (tgt := 79) hx hb dX4_isMet_47 (by decide) ⟨by omega, by omega⟩ ⟨by omega, by omega⟩ (fun h47 => ?_) (fun h47 => ?_)
  · refine r_c hx hb dX4_isMet_79 ?_
    rw [hQ]
    exact r_qret (z := 0) hx hb hr hlocks (bi_nar false) dX4_isMet_80 (by first | (apply bi_tt; unfold metTi; simp only [Bool.and_eq_true, decide_eq_true_eq]; omega) | (apply bi_ff; unfold metTi; rw [← Bool.not_eq_true]; simp only [Bool.and_eq_true, decide_eq_true_eq]; omega))
  refine lv_iload hx hb dX4_isMet_50 (lv_at hl 1 rfl) ?_
  refine lv_iload hx hb dX4_isMet_52 (lv_at hl 2 rfl) ?_
  refine r_add (z := ((tCo ti) * (8 * cs (tLv ti))) + (8 * cs (tLv ti))) hx hb dX4_isMet_54 rfl ?_
  refine lv_iload_n hx hb dX4_isMet_55 rfl (lv_at hl 5 rfl) ?_
  refine r_lt (tgt := 79) hx hb dX4_isMet_56 (by decide) ⟨by omega, by omega⟩ ⟨by omega, by omega⟩ (fun h56 => ?_) (fun h56 => ?_)
  · refine r_c hx hb dX4_isMet_79 ?_
    rw [hQ]
    exact r_qret (z := 0) hx hb hr hlocks (bi_nar false) dX4_isMet_80 (by first | (apply bi_tt; unfold metTi; simp only [Bool.and_eq_true, decide_eq_true_eq]; omega) | (apply bi_ff; unfold metTi; rw [← Bool.not_eq_true]; simp only [Bool.and_eq_true, decide_eq_true_eq]; omega))
  refine lv_iload hx hb dX4_isMet_59 (lv_at hl 0 rfl) ?_
  refine lv_iload hx hb dX4_isMet_61 (lv_at hl 8 rfl) ?_
  refine r_gt (tgt := 79) hx hb dX4_isMet_63 (by decide) ⟨by omega, by omega⟩ ⟨by omega, by omega⟩ (fun h63 => ?_) (fun h63 => ?_)
  · refine r_c hx hb dX4_isMet_79 ?_
    rw [hQ]
    exact r_qret (z := 0) hx hb hr hlocks (bi_nar false) dX4_isMet_80 (by first | (apply bi_tt; unfold metTi; simp only [Bool.and_eq_true, decide_eq_true_eq]; omega) | (apply bi_ff; unfold metTi; rw [← Bool.not_eq_true]; simp only [Bool.and_eq_true, decide_eq_true_eq]; omega))
  refine lv_iload hx hb dX4_isMet_66 (lv_at hl 0 rfl) ?_
  refine lv_iload hx hb dX4_isMet_68 (lv_at hl 2 rfl) ?_
  refine r_add (z := ((tRo ti) * (8 * cs (tLv ti))) + (8 * cs (tLv ti))) hx hb dX4_isMet_70 rfl ?_
  refine lv_iload_n hx hb dX4_isMet_71 rfl (lv_at hl 6 rfl) ?_
  refine r_lt (tgt := 79) hx hb dX4_isMet_72 (by decide) ⟨by omega, by omega⟩ ⟨by omega, by omega⟩ (fun h72 => ?_) (fun h72 => ?_)
  · refine r_c hx hb dX4_isMet_79 ?_
    rw [hQ]
    exact r_qret (z := 0) hx hb hr hlocks (bi_nar false) dX4_isMet_80 (by first | (apply bi_tt; unfold metTi; simp only [Bool.and_eq_true, decide_eq_true_eq]; omega) | (apply bi_ff; unfold metTi; rw [← Bool.not_eq_true]; simp only [Bool.and_eq_true, decide_eq_true_eq]; omega))
  refine r_c hx hb dX4_isMet_75 ?_
  refine lv_goto (tgt := 80) hx hb dX4_isMet_76 (by decide) ?_
  rw [hQ]
  exact r_qret (z := 1) hx hb hr hlocks (bi_nar true) dX4_isMet_80 (by first | (apply bi_tt; unfold metTi; simp only [Bool.and_eq_true, decide_eq_true_eq]; omega) | (apply bi_ff; unfold metTi; rw [← Bool.not_eq_true]; simp only [Bool.and_eq_true, decide_eq_true_eq]; omega))
set_option maxHeartbeats 4000000 in
set_option maxRecDepth 100000 in
theorem m_isIn (l : Launch) (g : GD) (ad : TA) (t : TS) (σ : Sg) (si : Nat) (sh : Sh) (hT : TR σ t) (hs : (gSh σ)[si]? = some sh) (x y : Int) (har : sAr sh = true) (hx9 : -1000 ≤ x ∧ x ≤ 1000) (hy9 : -1000 ≤ y ∧ y ≤ 1000) : Met l yX4_isIn (ws_ yX4_isIn cX4_isIn 6 (some .boolean)) ({ frames := 2, cells := 0, slots := 0, locals := 62 } : Room) (pcs g [.ref (aO ad), .int (zi (si : Int)), .int (zi x), .int (zi y)] noA (fun h => va_P g.1 vwCl (TW g ad t) h)) (qSi (bi (isInB sh x y))) 0 0 noA := by
  refine Met.go (by decide) (Nat.le_of_ble_eq_true rfl) ?_
  intro p e s m args below meth c Q ls hQ hx hb hr hml hts hown hlocks hin hKH hF hl
  have hown : s.vm.findClass RX4 = some m.cls := hown
  have hK := hKH.k
  have hNW := hKH.1.nw
  have hl : lv_has ls 6 [(0, .ref (aO ad)), (1, .int (zi (si : Int))), (2, .int (zi x)), (3, .int (zi y))] := hl
  have hP : va_P g.1 vwCl (TW g ad t) s.heap := hF
  have hKq : KH g noA s s.heap := hKH
  have hN := hT.n12
  have hsl := idx_lt hs
  have hrow := hT.s hs
  have hw := hT.ws hs
  have h9 := hw.2.1
  have hwp := hw.1
  obtain ⟨hlen, hre1, hre2, hcu1, hcu2⟩ : (sPts sh).length = 1 ∧ 1 ≤ sRe sh ∧ sRe sh ≤ 20 ∧ sRe sh ≤ sCu sh ∧ sCu sh ≤ 2 * sRe sh := by
    rcases hw.2.2.1 with q | q
    · exact q.2
    · rw [har] at q; cases q.1
  obtain ⟨px0, py0⟩ := hwp 0 (by omega)
  have ia := iabs_b (z := x - 6 * pX (sPts sh) 0) (A := 2000) (by omega)
  have ib := iabs_b (z := y - 6 * pY (sPts sh) 0) (A := 2000) (by omega)
  refine lv_iload_n hx hb dX4_isIn_0 rfl (lv_at hl 2 rfl) ?_
  refine r_bip hx hb dX4_isIn_1 (by decide) ?_
  refine lv_aload_n hx hb dX4_isIn_3 rfl (lv_at hl 0 rfl) ?_
  refine lv_iload_n hx hb dX4_isIn_4 rfl (lv_at hl 1 rfl) ?_
  refine r_c hx hb dX4_isIn_5 ?_
  refine r_qi (z := pX (sPts sh) 0) (va_runV (As := [.int (zi (si : Int)), .int (zi 0)]) (rest := [.int (zi 6), .int (zi x)]) ⟨hx, hb, hml, hown, hts⟩ (m_x l g ad t si 0 (9 * si + 0) (pX (sPts sh) 0) (by omega) (by omega) ((hrow).2.2.2.2.2.2.2 0 (by omega)).1) (cwV 2 hts (lw_V q1681 q1683 qs32 q69 q1684) rfl rfl rfl (by decide +kernel) ⟨Nat.le_of_ble_eq_true rfl, Nat.le_of_ble_eq_true rfl⟩) (pcs_V (va_recv hK hP (ci := 10) (q0 := 0) rfl rfl) hKq hP) rfl rfl hl.1 rfl (lv_room (Nat.le_of_ble_eq_true rfl)) dX4_isIn_6 ⟨Nat.le_of_ble_eq_true rfl, Nat.le_of_ble_eq_true rfl⟩) ?_
  refine r_mul (z := 6 * (pX (sPts sh) 0)) hx hb dX4_isIn_9 rfl ?_
  refine r_sub (z := x - (6 * (pX (sPts sh) 0))) hx hb dX4_isIn_10 rfl ?_
  refine va_mabs hx hb (hml.trans hl.1.symm) hown (hts _ q1811) (hts _ q1216) (hts _ q78) (hts _ q1217) (Nat.le_of_ble_eq_true rfl) (Nat.le_of_ble_eq_true rfl) (Nat.le_of_ble_eq_true rfl) (Nat.le_of_ble_eq_true rfl) dX4_isIn_11 ?_
  refine r_raw (z := iabs (x - (6 * (pX (sPts sh) 0)))) (zi_abs ⟨by omega, by omega⟩) ?_
  refine lv_istore (lv' := [(4, .int (zi (iabs (x - (6 * (pX (sPts sh) 0)))))), (0, .ref (aO ad)), (1, .int (zi (si : Int))), (2, .int (zi x)), (3, .int (zi y))]) hx hb dX4_isIn_14 hl (by decide) rfl (fun ls hl => ?_)
  refine lv_iload_n hx hb dX4_isIn_16 rfl (lv_at hl 4 rfl) ?_
  refine r_bip hx hb dX4_isIn_17 (by decide) ?_
  refine lv_aload_n hx hb dX4_isIn_19 rfl (lv_at hl 1 rfl) ?_
  refine lv_iload_n hx hb dX4_isIn_20 rfl (lv_at hl 2 rfl) ?_
  refine r_c hx hb dX4_isIn_21 ?_
  refine r_qi (z := pY (sPts sh) 0) (va_runV (As := [.int (zi (si : Int)), .int (zi 0)]) (rest := [.int (zi 6), .int (zi y)]) ⟨hx, hb, hml, hown, hts⟩ (m_y l g ad t si 0 (9 * si + 0) (pY (sPts sh) 0) (by omega) (by omega) ((hrow).2.2.2.2.2.2.2 0 (by omega)).2) (cwV 2 hts (lw_V q1685 q1687 qs33 q69 q1688) rfl rfl rfl (by decide +kernel) ⟨Nat.le_of_ble_eq_true rfl, Nat.le_of_ble_eq_true rfl⟩) (pcs_V (va_recv hK hP (ci := 10) (q0 := 0) rfl rfl) hKq hP) rfl rfl hl.1 rfl (lv_room (Nat.le_of_ble_eq_true rfl)) dX4_isIn_22 ⟨Nat.le_of_ble_eq_true rfl, Nat.le_of_ble_eq_true rfl⟩) ?_
  refine r_mul (z := 6 * (pY (sPts sh) 0)) hx hb dX4_isIn_25 rfl ?_
  refine r_sub (z := y - (6 * (pY (sPts sh) 0))) hx hb dX4_isIn_26 rfl ?_
  refine va_mabs hx hb (hml.trans hl.1.symm) hown (hts _ q1811) (hts _ q1216) (hts _ q78) (hts _ q1217) (Nat.le_of_ble_eq_true rfl) (Nat.le_of_ble_eq_true rfl) (Nat.le_of_ble_eq_true rfl) (Nat.le_of_ble_eq_true rfl) dX4_isIn_27 ?_
  refine r_raw (z := iabs (y - (6 * (pY (sPts sh) 0)))) (zi_abs ⟨by omega, by omega⟩) ?_
  refine lv_istore (lv' := [(5, .int (zi (iabs (y - (6 * (pY (sPts sh) 0)))))), (4, .int (zi (iabs (x - (6 * (pX (sPts sh) 0)))))), (0, .ref (aO ad)), (1, .int (zi (si : Int))), (2, .int (zi x)), (3, .int (zi y))]) hx hb dX4_isIn_30 hl (by decide) rfl (fun ls hl => ?_)
  refine lv_iload hx hb dX4_isIn_32 (lv_at hl 1 rfl) ?_
  refine r_bip hx hb dX4_isIn_34 (by decide) ?_
  refine lv_aload_n hx hb dX4_isIn_36 rfl (lv_at hl 2 rfl) ?_
  refine lv_iload_n hx hb dX4_isIn_37 rfl (lv_at hl 3 rfl) ?_
  refine r_c hx hb dX4_isIn_38 ?_
  refine r_qi (z := sRe sh) (va_runV (As := [.int (zi (si : Int)), .int (zi 3)]) (rest := [.int (zi 6), .int (zi (iabs (x - (6 * (pX (sPts sh) 0)))))]) ⟨hx, hb, hml, hown, hts⟩ (m_of l g ad t si 3 (7 * si + 3) (sRe sh) (by omega) (by omega) (hrow.2.2.2.1)) (cwV 2 hts (lw_V q1673 q1675 qs30 q69 q1676) rfl rfl rfl (by decide +kernel) ⟨Nat.le_of_ble_eq_true rfl, Nat.le_of_ble_eq_true rfl⟩) (pcs_V (va_recv hK hP (ci := 10) (q0 := 0) rfl rfl) hKq hP) rfl rfl hl.1 rfl (lv_room (Nat.le_of_ble_eq_true rfl)) dX4_isIn_39 ⟨Nat.le_of_ble_eq_true rfl, Nat.le_of_ble_eq_true rfl⟩) ?_
  refine r_mul (z := 6 * (sRe sh)) hx hb dX4_isIn_42 rfl ?_
  refine r_ge (tgt := 81) hx hb dX4_isIn_43 (by decide) ⟨by omega, by omega⟩ ⟨by omega, by omega⟩ (fun h43 => ?_) (fun h43 => ?_)
  · refine r_c hx hb dX4_isIn_81 ?_
    rw [hQ]
    exact r_qret (z := 0) hx hb hr hlocks (bi_nar false) dX4_isIn_82 (by first | (apply bi_tt; unfold isInB; simp only [Bool.and_eq_true, decide_eq_true_eq]; omega) | (apply bi_ff; unfold isInB; rw [← Bool.not_eq_true]; simp only [Bool.and_eq_true, decide_eq_true_eq]; omega))
  refine lv_iload hx hb dX4_isIn_46 (lv_at hl 0 rfl) ?_
  refine r_bip hx hb dX4_isIn_48 (by decide) ?_
  refine lv_aload_n hx hb dX4_isIn_50 rfl (lv_at hl 2 rfl) ?_
  refine lv_iload_n hx hb dX4_isIn_51 rfl (lv_at hl 3 rfl) ?_
  refine r_c hx hb dX4_isIn_52 ?_
  refine r_qi (z := sRe sh) (va_runV (As := [.int (zi (si : Int)), .int (zi 3)]) (rest := [.int (zi 6), .int (zi (iabs (y - (6 * (pY (sPts sh) 0)))))]) ⟨hx, hb, hml, hown, hts⟩ (m_of l g ad t si 3 (7 * si + 3) (sRe sh) (by omega) (by omega) (hrow.2.2.2.1)) (cwV 2 hts (lw_V q1673 q1675 qs30 q69 q1676) rfl rfl rfl (by decide +kernel) ⟨Nat.le_of_ble_eq_true rfl, Nat.le_of_ble_eq_true rfl⟩) (pcs_V (va_recv hK hP (ci := 10) (q0 := 0) rfl rfl) hKq hP) rfl rfl hl.1 rfl (lv_room (Nat.le_of_ble_eq_true rfl)) dX4_isIn_53 ⟨Nat.le_of_ble_eq_true rfl, Nat.le_of_ble_eq_true rfl⟩) ?_
  refine r_mul (z := 6 * (sRe sh)) hx hb dX4_isIn_56 rfl ?_
  refine r_ge (tgt := 81) hx hb dX4_isIn_57 (by decide) ⟨by omega, by omega⟩ ⟨by omega, by omega⟩ (fun h57 => ?_) (fun h57 => ?_)
  · refine r_c hx hb dX4_isIn_81 ?_
    rw [hQ]
    exact r_qret (z := 0) hx hb hr hlocks (bi_nar false) dX4_isIn_82 (by first | (apply bi_tt; unfold isInB; simp only [Bool.and_eq_true, decide_eq_true_eq]; omega) | (apply bi_ff; unfold isInB; rw [← Bool.not_eq_true]; simp only [Bool.and_eq_true, decide_eq_true_eq]; omega))
  refine lv_iload hx hb dX4_isIn_60 (lv_at hl 1 rfl) ?_
  refine lv_iload hx hb dX4_isIn_62 (lv_at hl 0 rfl) ?_
  refine r_add (z := (iabs (x - (6 * (pX (sPts sh) 0)))) + (iabs (y - (6 * (pY (sPts sh) 0))))) hx hb dX4_isIn_64 rfl ?_
  refine r_bip hx hb dX4_isIn_65 (by decide) ?_
  refine lv_aload_n hx hb dX4_isIn_67 rfl (lv_at hl 2 rfl) ?_
  refine lv_iload_n hx hb dX4_isIn_68 rfl (lv_at hl 3 rfl) ?_
  refine r_c hx hb dX4_isIn_69 ?_
  refine r_qi (z := sCu sh) (va_runV (As := [.int (zi (si : Int)), .int (zi 4)]) (rest := [.int (zi 6), .int (zi ((iabs (x - (6 * (pX (sPts sh) 0)))) + (iabs (y - (6 * (pY (sPts sh) 0))))))]) ⟨hx, hb, hml, hown, hts⟩ (m_of l g ad t si 4 (7 * si + 4) (sCu sh) (by omega) (by omega) (hrow.2.2.2.2.1)) (cwV 2 hts (lw_V q1673 q1675 qs30 q69 q1676) rfl rfl rfl (by decide +kernel) ⟨Nat.le_of_ble_eq_true rfl, Nat.le_of_ble_eq_true rfl⟩) (pcs_V (va_recv hK hP (ci := 10) (q0 := 0) rfl rfl) hKq hP) rfl rfl hl.1 rfl (lv_room (Nat.le_of_ble_eq_true rfl)) dX4_isIn_70 ⟨Nat.le_of_ble_eq_true rfl, Nat.le_of_ble_eq_true rfl⟩) ?_
  refine r_mul (z := 6 * (sCu sh)) hx hb dX4_isIn_73 rfl ?_
  refine r_ge (tgt := 81) hx hb dX4_isIn_74 (by decide) ⟨by omega, by omega⟩ ⟨by omega, by omega⟩ (fun h74 => ?_) (fun h74 => ?_)
  · refine r_c hx hb dX4_isIn_81 ?_
    rw [hQ]
    exact r_qret (z := 0) hx hb hr hlocks (bi_nar false) dX4_isIn_82 (by first | (apply bi_tt; unfold isInB; simp only [Bool.and_eq_true, decide_eq_true_eq]; omega) | (apply bi_ff; unfold isInB; rw [← Bool.not_eq_true]; simp only [Bool.and_eq_true, decide_eq_true_eq]; omega))
  refine r_c hx hb dX4_isIn_77 ?_
  refine lv_goto (tgt := 82) hx hb dX4_isIn_78 (by decide) ?_
  rw [hQ]
  exact r_qret (z := 1) hx hb hr hlocks (bi_nar true) dX4_isIn_82 (by first | (apply bi_tt; unfold isInB; simp only [Bool.and_eq_true, decide_eq_true_eq]; omega) | (apply bi_ff; unfold isInB; rw [← Bool.not_eq_true]; simp only [Bool.and_eq_true, decide_eq_true_eq]; omega))
set_option maxHeartbeats 4000000 in
set_option maxRecDepth 100000 in
theorem m_middleX (l : Launch) (g : GD) (ad : TA) (t : TS) (σ : Sg) (si : Nat) (sh : Sh) (hT : TR σ t) (hs : (gSh σ)[si]? = some sh) : Met l yX4_middle (ws_ yX4_middle cX4_middle 6 (some .int)) ({ frames := 2, cells := 0, slots := 0, locals := 62 } : Room) (pcs g [.ref (aO ad), .int (zi (si : Int)), .ref (aX ad)] noA (fun h => va_P g.1 vwCl (TW g ad t) h)) (qSi (mnF (pX (sPts sh)) ((sPts sh).length - 1) + mxF (pX (sPts sh)) ((sPts sh).length - 1))) 0 0 noA := by
  refine Met.go (by decide) (Nat.le_of_ble_eq_true rfl) ?_
  intro p e s m args below meth c Q ls hQ hx hb hr hml hts hown hlocks hin hKH hF hl
  have hown : s.vm.findClass RX4 = some m.cls := hown
  have hK := hKH.k
  have hNW := hKH.1.nw
  have hl : lv_has ls 6 [(0, .ref (aO ad)), (1, .int (zi (si : Int))), (2, .ref (aX ad))] := hl
  have hP : va_P g.1 vwCl (TW g ad t) s.heap := hF
  have hKq : KH g noA s s.heap := hKH
  have hN := hT.n12
  have hsl := idx_lt hs
  have hrow := hT.s hs
  have hw := hT.ws hs
  have h9 := hw.2.1
  have hwp := hw.1
  have hl1 : 1 ≤ (sPts sh).length := by
    rcases hw.2.2.1 with ⟨-, q, -⟩ | ⟨-, q, -⟩ <;> omega
  refine lv_aload_n hx hb dX4_middle_0 rfl (lv_at hl 2 rfl) ?_
  refine r_bip hx hb dX4_middle_1 (by decide) ?_
  refine lv_iload_n hx hb dX4_middle_3 rfl (lv_at hl 1 rfl) ?_
  refine r_mul (z := 9 * (si : Int)) hx hb dX4_middle_4 rfl ?_
  refine r_iald (v := pX (sPts sh) 0) hx hb hK hP 2 0 rfl rfl (k := 9 * si) (by omega) (by omega) (by decide) ((hrow).2.2.2.2.2.2.2 0 (by omega)).1 dX4_middle_5 ?_
  refine lv_istore_n (lv' := [(3, .int (zi (pX (sPts sh) 0))), (0, .ref (aO ad)), (1, .int (zi (si : Int))), (2, .ref (aX ad))]) hx hb dX4_middle_6 rfl hl (by decide) rfl (fun ls hl => ?_)
  refine lv_iload_n hx hb dX4_middle_7 rfl (lv_at hl 0 rfl) ?_
  refine lv_istore (lv' := [(4, .int (zi (pX (sPts sh) 0))), (3, .int (zi (pX (sPts sh) 0))), (0, .ref (aO ad)), (1, .int (zi (si : Int))), (2, .ref (aX ad))]) hx hb dX4_middle_8 hl (by decide) rfl (fun ls hl => ?_)
  refine r_c hx hb dX4_middle_10 ?_
  refine lv_istore (lv' := [(5, .int (zi 1)), (4, .int (zi (pX (sPts sh) 0))), (3, .int (zi (pX (sPts sh) 0))), (0, .ref (aO ad)), (1, .int (zi (si : Int))), (2, .ref (aX ad))]) hx hb dX4_middle_11 hl (by decide) rfl (fun ls hl => ?_)
  have lp : ∀ (n : Nat) (j : Nat), (j + 1 ≤ (sPts sh).length) → (sPts sh).length < j + 1 + n → ∀ ls : Array Slot, lv_has ls 6 [(5, .int (zi ((j + 1 : Nat) : Int))), (4, .int (zi (mxF (pX (sPts sh)) j))), (3, .int (zi (mnF (pX (sPts sh)) j))), (0, .ref (aO ad)), (1, .int (zi (si : Int))), (2, .ref (aX ad))] → W p l e ({ frames := 2, cells := 0, slots := 0, locals := 62 } : Room) s m args below meth c s.heap ([]) 0 0 Q (F0 m 13 ls []) := by
    intro n
    induction n with
    | zero =>
      intro j hj hbd
      exact absurd hbd (by omega)
    | succ n ih =>
      intro j hj hbd ls hl
      refine lv_iload hx hb dX4_middle_13 (lv_at hl 0 rfl) ?_
      refine lv_aload_n hx hb dX4_middle_15 rfl (lv_at hl 3 rfl) ?_
      refine lv_iload_n hx hb dX4_middle_16 rfl (lv_at hl 4 rfl) ?_
      refine r_c hx hb dX4_middle_17 ?_
      refine r_qi (z := ((sPts sh).length : Int)) (va_runV (As := [.int (zi (si : Int)), .int (zi 2)]) (rest := [.int (zi ((j + 1 : Nat) : Int))]) ⟨hx, hb, hml, hown, hts⟩ (m_of l g ad t si 2 (7 * si + 2) (((sPts sh).length : Int)) (by omega) (by omega) (hrow.2.2.1)) (cwV 2 hts (lw_V q1673 q1675 qs30 q69 q1676) rfl rfl rfl (by decide +kernel) ⟨Nat.le_of_ble_eq_true rfl, Nat.le_of_ble_eq_true rfl⟩) (pcs_V (va_recv hK hP (ci := 10) (q0 := 0) rfl rfl) hKq hP) rfl rfl hl.1 rfl (lv_room (Nat.le_of_ble_eq_true rfl)) dX4_middle_18 ⟨Nat.le_of_ble_eq_true rfl, Nat.le_of_ble_eq_true rfl⟩) ?_
      refine r_ge (tgt := 60) hx hb dX4_middle_21 (by decide) ⟨by omega, by omega⟩ ⟨by omega, by omega⟩ (fun h21 => ?_) (fun h21 => ?_)
      · have hje : (sPts sh).length - 1 = j := by omega
        refine lv_iload_n hx hb dX4_middle_60 rfl (lv_at hl 2 rfl) ?_
        refine lv_iload hx hb dX4_middle_61 (lv_at hl 1 rfl) ?_
        refine r_add (z := (mnF (pX (sPts sh)) j) + (mxF (pX (sPts sh)) j)) hx hb dX4_middle_63 rfl ?_
        rw [hQ]
        exact r_qret (z := (mnF (pX (sPts sh)) j) + (mxF (pX (sPts sh)) j)) hx hb hr hlocks rfl dX4_middle_64 (by rw [hje])
      have hlt : j + 1 < (sPts sh).length := by omega
      have b1 := mnF_b (f := pX (sPts sh)) (lo := 0) (hi := 64) j (fun k hk => (hwp k (by omega)).1)
      have b2 := mxF_b (f := pX (sPts sh)) (lo := 0) (hi := 64) j (fun k hk => (hwp k (by omega)).1)
      have b3 := (hwp (j + 1) hlt).1
      refine lv_iload_n hx hb dX4_middle_24 rfl (lv_at hl 2 rfl) ?_
      refine lv_aload_n hx hb dX4_middle_25 rfl (lv_at hl 5 rfl) ?_
      refine r_bip hx hb dX4_middle_26 (by decide) ?_
      refine lv_iload_n hx hb dX4_middle_28 rfl (lv_at hl 4 rfl) ?_
      refine r_mul (z := 9 * (si : Int)) hx hb dX4_middle_29 rfl ?_
      refine lv_iload hx hb dX4_middle_30 (lv_at hl 0 rfl) ?_
      refine r_add (z := (9 * (si : Int)) + ((j + 1 : Nat) : Int)) hx hb dX4_middle_32 rfl ?_
      refine r_iald (v := pX (sPts sh) (j + 1)) hx hb hK hP 2 0 rfl rfl (k := 9 * si + (j + 1)) (by omega) (by omega) (by decide) ((hrow).2.2.2.2.2.2.2 (j + 1) (by omega)).1 dX4_middle_33 ?_
      refine va_mmin hx hb (hml.trans hl.1.symm) hown (hts _ q1689) (hts _ q575) (hts _ q78) (hts _ q576) (Nat.le_of_ble_eq_true rfl) (Nat.le_of_ble_eq_true rfl) (Nat.le_of_ble_eq_true rfl) (Nat.le_of_ble_eq_true rfl) dX4_middle_34 ?_
      refine r_raw (z := min (mnF (pX (sPts sh)) j) (pX (sPts sh) (j + 1))) (zi_min _ _ ⟨by omega, by omega⟩ ⟨by omega, by omega⟩) ?_
      refine lv_istore_n (lv' := [(3, .int (zi (min (mnF (pX (sPts sh)) j) (pX (sPts sh) (j + 1))))), (5, .int (zi ((j + 1 : Nat) : Int))), (4, .int (zi (mxF (pX (sPts sh)) j))), (0, .ref (aO ad)), (1, .int (zi (si : Int))), (2, .ref (aX ad))]) hx hb dX4_middle_37 rfl hl (by decide) rfl (fun ls hl => ?_)
      refine lv_iload hx hb dX4_middle_38 (lv_at hl 2 rfl) ?_
      refine lv_aload_n hx hb dX4_middle_40 rfl (lv_at hl 5 rfl) ?_
      refine r_bip hx hb dX4_middle_41 (by decide) ?_
      refine lv_iload_n hx hb dX4_middle_43 rfl (lv_at hl 4 rfl) ?_
      refine r_mul (z := 9 * (si : Int)) hx hb dX4_middle_44 rfl ?_
      refine lv_iload hx hb dX4_middle_45 (lv_at hl 1 rfl) ?_
      refine r_add (z := (9 * (si : Int)) + ((j + 1 : Nat) : Int)) hx hb dX4_middle_47 rfl ?_
      refine r_iald (v := pX (sPts sh) (j + 1)) hx hb hK hP 2 0 rfl rfl (k := 9 * si + (j + 1)) (by omega) (by omega) (by decide) ((hrow).2.2.2.2.2.2.2 (j + 1) (by omega)).1 dX4_middle_48 ?_
      refine va_mmax hx hb (hml.trans hl.1.symm) hown (hts _ q1690) (hts _ q531) (hts _ q78) (hts _ q532) (Nat.le_of_ble_eq_true rfl) (Nat.le_of_ble_eq_true rfl) (Nat.le_of_ble_eq_true rfl) (Nat.le_of_ble_eq_true rfl) dX4_middle_49 ?_
      refine r_raw (z := max (mxF (pX (sPts sh)) j) (pX (sPts sh) (j + 1))) (zi_max _ _ ⟨by omega, by omega⟩ ⟨by omega, by omega⟩) ?_
      refine lv_istore (lv' := [(4, .int (zi (max (mxF (pX (sPts sh)) j) (pX (sPts sh) (j + 1))))), (3, .int (zi (min (mnF (pX (sPts sh)) j) (pX (sPts sh) (j + 1))))), (5, .int (zi ((j + 1 : Nat) : Int))), (0, .ref (aO ad)), (1, .int (zi (si : Int))), (2, .ref (aX ad))]) hx hb dX4_middle_52 hl (by decide) rfl (fun ls hl => ?_)
      refine r_iinc (z := ((j + 1 + 1 : Nat) : Int)) (lv' := [(5, .int (zi ((j + 1 + 1 : Nat) : Int))), (4, .int (zi (max (mxF (pX (sPts sh)) j) (pX (sPts sh) (j + 1))))), (3, .int (zi (min (mnF (pX (sPts sh)) j) (pX (sPts sh) (j + 1))))), (0, .ref (aO ad)), (1, .int (zi (si : Int))), (2, .ref (aX ad))]) hx hb dX4_middle_54 hl (k := 2) rfl (by omega) (by decide) rfl (fun ls hl => ?_)
      refine lv_goto (tgt := 13) hx hb dX4_middle_57 (by decide) ?_
      exact ih (j + 1) (by omega) (by omega) ls (lv_sub hl [0, 1, 2, 3, 4, 5] rfl)
  exact lp ((sPts sh).length) 0 hl1 (by omega) ls (lv_sub hl [0, 1, 2, 3, 4, 5] rfl)
set_option maxHeartbeats 4000000 in
set_option maxRecDepth 100000 in
theorem m_middleY (l : Launch) (g : GD) (ad : TA) (t : TS) (σ : Sg) (si : Nat) (sh : Sh) (hT : TR σ t) (hs : (gSh σ)[si]? = some sh) : Met l yX4_middle (ws_ yX4_middle cX4_middle 6 (some .int)) ({ frames := 2, cells := 0, slots := 0, locals := 62 } : Room) (pcs g [.ref (aO ad), .int (zi (si : Int)), .ref (aY ad)] noA (fun h => va_P g.1 vwCl (TW g ad t) h)) (qSi (mnF (pY (sPts sh)) ((sPts sh).length - 1) + mxF (pY (sPts sh)) ((sPts sh).length - 1))) 0 0 noA := by
  refine Met.go (by decide) (Nat.le_of_ble_eq_true rfl) ?_
  intro p e s m args below meth c Q ls hQ hx hb hr hml hts hown hlocks hin hKH hF hl
  have hown : s.vm.findClass RX4 = some m.cls := hown
  have hK := hKH.k
  have hNW := hKH.1.nw
  have hl : lv_has ls 6 [(0, .ref (aO ad)), (1, .int (zi (si : Int))), (2, .ref (aY ad))] := hl
  have hP : va_P g.1 vwCl (TW g ad t) s.heap := hF
  have hKq : KH g noA s s.heap := hKH
  have hN := hT.n12
  have hsl := idx_lt hs
  have hrow := hT.s hs
  have hw := hT.ws hs
  have h9 := hw.2.1
  have hwp := hw.1
  have hl1 : 1 ≤ (sPts sh).length := by
    rcases hw.2.2.1 with ⟨-, q, -⟩ | ⟨-, q, -⟩ <;> omega
  refine lv_aload_n hx hb dX4_middle_0 rfl (lv_at hl 2 rfl) ?_
  refine r_bip hx hb dX4_middle_1 (by decide) ?_
  refine lv_iload_n hx hb dX4_middle_3 rfl (lv_at hl 1 rfl) ?_
  refine r_mul (z := 9 * (si : Int)) hx hb dX4_middle_4 rfl ?_
  refine r_iald (v := pY (sPts sh) 0) hx hb hK hP 3 0 rfl rfl (k := 9 * si) (by omega) (by omega) (by decide) ((hrow).2.2.2.2.2.2.2 0 (by omega)).2 dX4_middle_5 ?_
  refine lv_istore_n (lv' := [(3, .int (zi (pY (sPts sh) 0))), (0, .ref (aO ad)), (1, .int (zi (si : Int))), (2, .ref (aY ad))]) hx hb dX4_middle_6 rfl hl (by decide) rfl (fun ls hl => ?_)
  refine lv_iload_n hx hb dX4_middle_7 rfl (lv_at hl 0 rfl) ?_
  refine lv_istore (lv' := [(4, .int (zi (pY (sPts sh) 0))), (3, .int (zi (pY (sPts sh) 0))), (0, .ref (aO ad)), (1, .int (zi (si : Int))), (2, .ref (aY ad))]) hx hb dX4_middle_8 hl (by decide) rfl (fun ls hl => ?_)
  refine r_c hx hb dX4_middle_10 ?_
  refine lv_istore (lv' := [(5, .int (zi 1)), (4, .int (zi (pY (sPts sh) 0))), (3, .int (zi (pY (sPts sh) 0))), (0, .ref (aO ad)), (1, .int (zi (si : Int))), (2, .ref (aY ad))]) hx hb dX4_middle_11 hl (by decide) rfl (fun ls hl => ?_)
  have lp : ∀ (n : Nat) (j : Nat), (j + 1 ≤ (sPts sh).length) → (sPts sh).length < j + 1 + n → ∀ ls : Array Slot, lv_has ls 6 [(5, .int (zi ((j + 1 : Nat) : Int))), (4, .int (zi (mxF (pY (sPts sh)) j))), (3, .int (zi (mnF (pY (sPts sh)) j))), (0, .ref (aO ad)), (1, .int (zi (si : Int))), (2, .ref (aY ad))] → W p l e ({ frames := 2, cells := 0, slots := 0, locals := 62 } : Room) s m args below meth c s.heap ([]) 0 0 Q (F0 m 13 ls []) := by
    intro n
    induction n with
    | zero =>
      intro j hj hbd
      exact absurd hbd (by omega)
    | succ n ih =>
      intro j hj hbd ls hl
      refine lv_iload hx hb dX4_middle_13 (lv_at hl 0 rfl) ?_
      refine lv_aload_n hx hb dX4_middle_15 rfl (lv_at hl 3 rfl) ?_
      refine lv_iload_n hx hb dX4_middle_16 rfl (lv_at hl 4 rfl) ?_
      refine r_c hx hb dX4_middle_17 ?_
      refine r_qi (z := ((sPts sh).length : Int)) (va_runV (As := [.int (zi (si : Int)), .int (zi 2)]) (rest := [.int (zi ((j + 1 : Nat) : Int))]) ⟨hx, hb, hml, hown, hts⟩ (m_of l g ad t si 2 (7 * si + 2) (((sPts sh).length : Int)) (by omega) (by omega) (hrow.2.2.1)) (cwV 2 hts (lw_V q1673 q1675 qs30 q69 q1676) rfl rfl rfl (by decide +kernel) ⟨Nat.le_of_ble_eq_true rfl, Nat.le_of_ble_eq_true rfl⟩) (pcs_V (va_recv hK hP (ci := 10) (q0 := 0) rfl rfl) hKq hP) rfl rfl hl.1 rfl (lv_room (Nat.le_of_ble_eq_true rfl)) dX4_middle_18 ⟨Nat.le_of_ble_eq_true rfl, Nat.le_of_ble_eq_true rfl⟩) ?_
      refine r_ge (tgt := 60) hx hb dX4_middle_21 (by decide) ⟨by omega, by omega⟩ ⟨by omega, by omega⟩ (fun h21 => ?_) (fun h21 => ?_)
      · have hje : (sPts sh).length - 1 = j := by omega
        refine lv_iload_n hx hb dX4_middle_60 rfl (lv_at hl 2 rfl) ?_
        refine lv_iload hx hb dX4_middle_61 (lv_at hl 1 rfl) ?_
        refine r_add (z := (mnF (pY (sPts sh)) j) + (mxF (pY (sPts sh)) j)) hx hb dX4_middle_63 rfl ?_
        rw [hQ]
        exact r_qret (z := (mnF (pY (sPts sh)) j) + (mxF (pY (sPts sh)) j)) hx hb hr hlocks rfl dX4_middle_64 (by rw [hje])
      have hlt : j + 1 < (sPts sh).length := by omega
      have b1 := mnF_b (f := pY (sPts sh)) (lo := 0) (hi := 64) j (fun k hk => (hwp k (by omega)).2)
      have b2 := mxF_b (f := pY (sPts sh)) (lo := 0) (hi := 64) j (fun k hk => (hwp k (by omega)).2)
      have b3 := (hwp (j + 1) hlt).2
      refine lv_iload_n hx hb dX4_middle_24 rfl (lv_at hl 2 rfl) ?_
      refine lv_aload_n hx hb dX4_middle_25 rfl (lv_at hl 5 rfl) ?_
      refine r_bip hx hb dX4_middle_26 (by decide) ?_
      refine lv_iload_n hx hb dX4_middle_28 rfl (lv_at hl 4 rfl) ?_
      refine r_mul (z := 9 * (si : Int)) hx hb dX4_middle_29 rfl ?_
      refine lv_iload hx hb dX4_middle_30 (lv_at hl 0 rfl) ?_
      refine r_add (z := (9 * (si : Int)) + ((j + 1 : Nat) : Int)) hx hb dX4_middle_32 rfl ?_
      refine r_iald (v := pY (sPts sh) (j + 1)) hx hb hK hP 3 0 rfl rfl (k := 9 * si + (j + 1)) (by omega) (by omega) (by decide) ((hrow).2.2.2.2.2.2.2 (j + 1) (by omega)).2 dX4_middle_33 ?_
      refine va_mmin hx hb (hml.trans hl.1.symm) hown (hts _ q1689) (hts _ q575) (hts _ q78) (hts _ q576) (Nat.le_of_ble_eq_true rfl) (Nat.le_of_ble_eq_true rfl) (Nat.le_of_ble_eq_true rfl) (Nat.le_of_ble_eq_true rfl) dX4_middle_34 ?_
      refine r_raw (z := min (mnF (pY (sPts sh)) j) (pY (sPts sh) (j + 1))) (zi_min _ _ ⟨by omega, by omega⟩ ⟨by omega, by omega⟩) ?_
      refine lv_istore_n (lv' := [(3, .int (zi (min (mnF (pY (sPts sh)) j) (pY (sPts sh) (j + 1))))), (5, .int (zi ((j + 1 : Nat) : Int))), (4, .int (zi (mxF (pY (sPts sh)) j))), (0, .ref (aO ad)), (1, .int (zi (si : Int))), (2, .ref (aY ad))]) hx hb dX4_middle_37 rfl hl (by decide) rfl (fun ls hl => ?_)
      refine lv_iload hx hb dX4_middle_38 (lv_at hl 2 rfl) ?_
      refine lv_aload_n hx hb dX4_middle_40 rfl (lv_at hl 5 rfl) ?_
      refine r_bip hx hb dX4_middle_41 (by decide) ?_
      refine lv_iload_n hx hb dX4_middle_43 rfl (lv_at hl 4 rfl) ?_
      refine r_mul (z := 9 * (si : Int)) hx hb dX4_middle_44 rfl ?_
      refine lv_iload hx hb dX4_middle_45 (lv_at hl 1 rfl) ?_
      refine r_add (z := (9 * (si : Int)) + ((j + 1 : Nat) : Int)) hx hb dX4_middle_47 rfl ?_
      refine r_iald (v := pY (sPts sh) (j + 1)) hx hb hK hP 3 0 rfl rfl (k := 9 * si + (j + 1)) (by omega) (by omega) (by decide) ((hrow).2.2.2.2.2.2.2 (j + 1) (by omega)).2 dX4_middle_48 ?_
      refine va_mmax hx hb (hml.trans hl.1.symm) hown (hts _ q1690) (hts _ q531) (hts _ q78) (hts _ q532) (Nat.le_of_ble_eq_true rfl) (Nat.le_of_ble_eq_true rfl) (Nat.le_of_ble_eq_true rfl) (Nat.le_of_ble_eq_true rfl) dX4_middle_49 ?_
      refine r_raw (z := max (mxF (pY (sPts sh)) j) (pY (sPts sh) (j + 1))) (zi_max _ _ ⟨by omega, by omega⟩ ⟨by omega, by omega⟩) ?_
      refine lv_istore (lv' := [(4, .int (zi (max (mxF (pY (sPts sh)) j) (pY (sPts sh) (j + 1))))), (3, .int (zi (min (mnF (pY (sPts sh)) j) (pY (sPts sh) (j + 1))))), (5, .int (zi ((j + 1 : Nat) : Int))), (0, .ref (aO ad)), (1, .int (zi (si : Int))), (2, .ref (aY ad))]) hx hb dX4_middle_52 hl (by decide) rfl (fun ls hl => ?_)
      refine r_iinc (z := ((j + 1 + 1 : Nat) : Int)) (lv' := [(5, .int (zi ((j + 1 + 1 : Nat) : Int))), (4, .int (zi (max (mxF (pY (sPts sh)) j) (pY (sPts sh) (j + 1))))), (3, .int (zi (min (mnF (pY (sPts sh)) j) (pY (sPts sh) (j + 1))))), (0, .ref (aO ad)), (1, .int (zi (si : Int))), (2, .ref (aY ad))]) hx hb dX4_middle_54 hl (k := 2) rfl (by omega) (by decide) rfl (fun ls hl => ?_)
      refine lv_goto (tgt := 13) hx hb dX4_middle_57 (by decide) ?_
      exact ih (j + 1) (by omega) (by omega) ls (lv_sub hl [0, 1, 2, 3, 4, 5] rfl)
  exact lp ((sPts sh).length) 0 hl1 (by omega) ls (lv_sub hl [0, 1, 2, 3, 4, 5] rfl)
