/-! THE TWIN: small methods (printed by gen/twin1.py) -/
set_option maxHeartbeats 4000000 in
set_option maxRecDepth 100000 in
theorem m_in (l : Launch) (g : GD) (v lo hi : Int) (hv : fit v) (hlo : fit lo) (hhi : fit8 hi) : Met l yX4_in (ws_ yX4_in cX4_in 6 (some .boolean)) ({ frames := 1, cells := 0, slots := 0, locals := 40 } : Room) (pcs g [.long (zl v), .long (zl lo), .long (zl hi)] noA (fun _ => True)) (qSi (bi (decide (lo ≤ v ∧ v ≤ hi)))) 0 0 noA := by
  refine Met.go (by decide) (Nat.le_of_ble_eq_true rfl) ?_
  intro p e s m args below meth c Q ls hQ hx hb hr hml hts hown hlocks hin hKH hF hl
  have hown : s.vm.findClass RX4 = some m.cls := hown
  have hK := hKH.k
  have hNW := hKH.1.nw
  have hl : lv_has ls 6 [(0, .long (zl v)), (2, .long (zl lo)), (4, .long (zl hi))] := hl
  have hKq : KH g noA s s.heap := hKH
  obtain ⟨v1, v2⟩ := hv
  obtain ⟨l1, l2⟩ := hlo
  obtain ⟨k1, k2⟩ := hhi
  refine lv_lload_n hx hb dX4_in_0 rfl (lv_at hl 0 rfl) ?_
  refine lv_lload_n hx hb dX4_in_1 rfl (lv_at hl 1 rfl) ?_
  refine r_lcmp hx hb ⟨by omega, by omega⟩ ⟨by omega, by omega⟩ dX4_in_2 ?_
  refine r_lt0 (tgt := 17) hx hb dX4_in_3 (by decide) (icmp_fit _ _) (fun h3 => ?_) (fun h3 => ?_)
  · have h3 := icmp_lt.mp h3
    refine r_c hx hb dX4_in_17 ?_
    rw [hQ]
    exact r_qret (z := 0) hx hb hr hlocks (bi_nar false) dX4_in_18 (by first | exact bi_t (by omega) | exact bi_f (by omega))
  have h3 : ¬ v < lo := fun q => absurd (icmp_lt.mpr q) (by omega)
  refine lv_lload_n hx hb dX4_in_6 rfl (lv_at hl 0 rfl) ?_
  refine lv_lload hx hb dX4_in_7 (lv_at hl 2 rfl) ?_
  refine r_lcmp hx hb ⟨by omega, by omega⟩ ⟨by omega, by omega⟩ dX4_in_9 ?_
  refine r_gt0 (tgt := 17) hx hb dX4_in_10 (by decide) (icmp_fit _ _) (fun h10 => ?_) (fun h10 => ?_)
  · have h10 := icmp_gt.mp h10
    refine r_c hx hb dX4_in_17 ?_
    rw [hQ]
    exact r_qret (z := 0) hx hb hr hlocks (bi_nar false) dX4_in_18 (by first | exact bi_t (by omega) | exact bi_f (by omega))
  have h10 : ¬ hi < v := fun q => absurd (icmp_gt.mpr q) (by omega)
  refine r_c hx hb dX4_in_13 ?_
  refine lv_goto (tgt := 18) hx hb dX4_in_14 (by decide) ?_
  rw [hQ]
  exact r_qret (z := 1) hx hb hr hlocks (bi_nar true) dX4_in_18 (by first | exact bi_t (by omega) | exact bi_f (by omega))
set_option maxHeartbeats 4000000 in
set_option maxRecDepth 100000 in
theorem m_isCoordinate (l : Launch) (g : GD) (v : Int) (hv : fit v) : Met l yX4_isCoordinate (ws_ yX4_isCoordinate cX4_isCoordinate 1 (some .boolean)) ({ frames := 2, cells := 0, slots := 0, locals := 65 } : Room) (pcs g [.int (zi v)] noA (fun _ => True)) (qSi (bi (decide (0 ≤ v ∧ v ≤ 64)))) 0 0 noA := by
  refine Met.go (by decide) (Nat.le_of_ble_eq_true rfl) ?_
  intro p e s m args below meth c Q ls hQ hx hb hr hml hts hown hlocks hin hKH hF hl
  have hown : s.vm.findClass RX4 = some m.cls := hown
  have hK := hKH.k
  have hNW := hKH.1.nw
  have hl : lv_has ls 1 [(0, .int (zi v))] := hl
  have hKq : KH g noA s s.heap := hKH
  obtain ⟨v1, v2⟩ := hv
  refine lv_iload_n hx hb dX4_isCoordinate_0 rfl (lv_at hl 0 rfl) ?_
  refine r_i2l hx hb ⟨by omega, by omega⟩ dX4_isCoordinate_1 ?_
  refine lv_lconst (v := zl 0) hx hb dX4_isCoordinate_2 (by decide +kernel) ?_
  refine lv_ldc2 (v := zl 64) hx hb hown (hts _ q1661) dX4_isCoordinate_3 ?_
  refine r_qi (z := bi (decide (0 ≤ v ∧ v ≤ 64))) (va_runS (As := [.long (zl v), .long (zl 0), .long (zl 64)]) (rest := []) ⟨hx, hb, hml, hown, hts⟩ (m_in l g v 0 64 ⟨by omega, by omega⟩ ⟨by decide, by decide⟩ ⟨by decide, by decide⟩) (va_cwS 3 hts (lw_S q1662 q1663 q69 q1664) rfl rfl rfl (by decide +kernel) ⟨Nat.le_of_ble_eq_true rfl, Nat.le_of_ble_eq_true rfl⟩) (pcs_S hKq trivial) rfl rfl hl.1 rfl (lv_room (Nat.le_of_ble_eq_true rfl)) dX4_isCoordinate_6 ⟨Nat.le_of_ble_eq_true rfl, Nat.le_of_ble_eq_true rfl⟩) ?_
  rw [hQ]
  exact r_qret (z := bi (decide (0 ≤ v ∧ v ≤ 64))) hx hb hr hlocks (bi_nar _) dX4_isCoordinate_9 (rfl)
set_option maxHeartbeats 4000000 in
set_option maxRecDepth 100000 in
theorem m_isLevel (l : Launch) (g : GD) (v : Int) (hv : fit v) : Met l yX4_isLevel (ws_ yX4_isLevel cX4_isLevel 1 (some .boolean)) ({ frames := 2, cells := 0, slots := 0, locals := 65 } : Room) (pcs g [.int (zi v)] noA (fun _ => True)) (qSi (bi (decide (0 ≤ v ∧ v ≤ 3)))) 0 0 noA := by
  refine Met.go (by decide) (Nat.le_of_ble_eq_true rfl) ?_
  intro p e s m args below meth c Q ls hQ hx hb hr hml hts hown hlocks hin hKH hF hl
  have hown : s.vm.findClass RX4 = some m.cls := hown
  have hK := hKH.k
  have hNW := hKH.1.nw
  have hl : lv_has ls 1 [(0, .int (zi v))] := hl
  have hKq : KH g noA s s.heap := hKH
  obtain ⟨v1, v2⟩ := hv
  refine lv_iload_n hx hb dX4_isLevel_0 rfl (lv_at hl 0 rfl) ?_
  refine r_i2l hx hb ⟨by omega, by omega⟩ dX4_isLevel_1 ?_
  refine lv_lconst (v := zl 0) hx hb dX4_isLevel_2 (by decide +kernel) ?_
  refine lv_ldc2 (v := zl 3) hx hb hown (hts _ q1757) dX4_isLevel_3 ?_
  refine r_qi (z := bi (decide (0 ≤ v ∧ v ≤ 3))) (va_runS (As := [.long (zl v), .long (zl 0), .long (zl 3)]) (rest := []) ⟨hx, hb, hml, hown, hts⟩ (m_in l g v 0 3 ⟨by omega, by omega⟩ ⟨by decide, by decide⟩ ⟨by decide, by decide⟩) (va_cwS 3 hts (lw_S q1662 q1663 q69 q1664) rfl rfl rfl (by decide +kernel) ⟨Nat.le_of_ble_eq_true rfl, Nat.le_of_ble_eq_true rfl⟩) (pcs_S hKq trivial) rfl rfl hl.1 rfl (lv_room (Nat.le_of_ble_eq_true rfl)) dX4_isLevel_6 ⟨Nat.le_of_ble_eq_true rfl, Nat.le_of_ble_eq_true rfl⟩) ?_
  rw [hQ]
  exact r_qret (z := bi (decide (0 ≤ v ∧ v ≤ 3))) hx hb hr hlocks (bi_nar _) dX4_isLevel_9 (rfl)
set_option maxHeartbeats 4000000 in
set_option maxRecDepth 100000 in
theorem m_isTile (l : Launch) (g : GD) (lv co ro : Int) (hlv : fit lv) (hco : fit co) (hro : fit ro) : Met l yX4_isTile (ws_ yX4_isTile cX4_isTile 3 (some .boolean)) ({ frames := 3, cells := 0, slots := 0, locals := 85 } : Room) (pcs g [.int (zi lv), .int (zi co), .int (zi ro)] noA (fun _ => True)) (qSi (bi (decide (isTi lv co ro)))) 0 0 noA := by
  refine Met.go (by decide) (Nat.le_of_ble_eq_true rfl) ?_
  intro p e s m args below meth c Q ls hQ hx hb hr hml hts hown hlocks hin hKH hF hl
  have hown : s.vm.findClass RX4 = some m.cls := hown
  have hK := hKH.k
  have hNW := hKH.1.nw
  have hl : lv_has ls 3 [(0, .int (zi lv)), (1, .int (zi co)), (2, .int (zi ro))] := hl
  have hKq : KH g noA s s.heap := hKH
  obtain ⟨v1, v2⟩ := hlv
  obtain ⟨v3, v4⟩ := hco
  obtain ⟨v5, v6⟩ := hro
  refine lv_iload_n hx hb dX4_isTile_0 rfl (lv_at hl 0 rfl) ?_
  refine r_qi (z := bi (decide (0 ≤ lv ∧ lv ≤ 3))) (va_runS (As := [.int (zi lv)]) (rest := []) ⟨hx, hb, hml, hown, hts⟩ (m_isLevel l g lv ⟨by omega, by omega⟩) (va_cwS 1 hts (lw_S q1754 q1755 q69 q1756) rfl rfl rfl (by decide +kernel) ⟨Nat.le_of_ble_eq_true rfl, Nat.le_of_ble_eq_true rfl⟩) (pcs_S hKq trivial) rfl rfl hl.1 rfl (lv_room (Nat.le_of_ble_eq_true rfl)) dX4_isTile_1 ⟨Nat.le_of_ble_eq_true rfl, Nat.le_of_ble_eq_true rfl⟩) ?_
  refine r_peq0 (tgt := 41) hx hb dX4_isTile_4 (by decide) (fun h4 => ?_) (fun h4 => ?_)
  · refine r_c hx hb dX4_isTile_41 ?_
    rw [hQ]
    exact r_qret (z := 0) hx hb hr hlocks (bi_nar false) dX4_isTile_42 (by first | exact bi_t ⟨h4, h19, h34⟩ | exact bi_f (fun q => h4 q.1) | exact bi_f (fun q => h19 q.2.1) | exact bi_f (fun q => h34 q.2.2))
  have hpw := pw_b h4.1 h4.2
  refine lv_iload_n hx hb dX4_isTile_7 rfl (lv_at hl 1 rfl) ?_
  refine r_i2l hx hb ⟨by omega, by omega⟩ dX4_isTile_8 ?_
  refine lv_lconst (v := zl 0) hx hb dX4_isTile_9 (by decide +kernel) ?_
  refine r_c hx hb dX4_isTile_10 ?_
  refine lv_iload_n hx hb dX4_isTile_11 rfl (lv_at hl 0 rfl) ?_
  refine r_shl (z := pw lv) hx hb dX4_isTile_12 (shl_pw h4.1 h4.2) ?_
  refine r_c hx hb dX4_isTile_13 ?_
  refine r_sub (z := (pw lv) - 1) hx hb dX4_isTile_14 rfl ?_
  refine r_i2l hx hb ⟨by omega, by omega⟩ dX4_isTile_15 ?_
  refine r_qi (z := bi (decide (0 ≤ co ∧ co ≤ ((pw lv) - 1)))) (va_runS (As := [.long (zl co), .long (zl 0), .long (zl ((pw lv) - 1))]) (rest := []) ⟨hx, hb, hml, hown, hts⟩ (m_in l g co 0 ((pw lv) - 1) ⟨by omega, by omega⟩ ⟨by decide, by decide⟩ ⟨by omega, by omega⟩) (va_cwS 3 hts (lw_S q1662 q1663 q69 q1664) rfl rfl rfl (by decide +kernel) ⟨Nat.le_of_ble_eq_true rfl, Nat.le_of_ble_eq_true rfl⟩) (pcs_S hKq trivial) rfl rfl hl.1 rfl (lv_room (Nat.le_of_ble_eq_true rfl)) dX4_isTile_16 ⟨Nat.le_of_ble_eq_true rfl, Nat.le_of_ble_eq_true rfl⟩) ?_
  refine r_peq0 (tgt := 41) hx hb dX4_isTile_19 (by decide) (fun h19 => ?_) (fun h19 => ?_)
  · refine r_c hx hb dX4_isTile_41 ?_
    rw [hQ]
    exact r_qret (z := 0) hx hb hr hlocks (bi_nar false) dX4_isTile_42 (by first | exact bi_t ⟨h4, h19, h34⟩ | exact bi_f (fun q => h4 q.1) | exact bi_f (fun q => h19 q.2.1) | exact bi_f (fun q => h34 q.2.2))
  refine lv_iload_n hx hb dX4_isTile_22 rfl (lv_at hl 2 rfl) ?_
  refine r_i2l hx hb ⟨by omega, by omega⟩ dX4_isTile_23 ?_
  refine lv_lconst (v := zl 0) hx hb dX4_isTile_24 (by decide +kernel) ?_
  refine r_c hx hb dX4_isTile_25 ?_
  refine lv_iload_n hx hb dX4_isTile_26 rfl (lv_at hl 0 rfl) ?_
  refine r_shl (z := pw lv) hx hb dX4_isTile_27 (shl_pw h4.1 h4.2) ?_
  refine r_c hx hb dX4_isTile_28 ?_
  refine r_sub (z := (pw lv) - 1) hx hb dX4_isTile_29 rfl ?_
  refine r_i2l hx hb ⟨by omega, by omega⟩ dX4_isTile_30 ?_
  refine r_qi (z := bi (decide (0 ≤ ro ∧ ro ≤ ((pw lv) - 1)))) (va_runS (As := [.long (zl ro), .long (zl 0), .long (zl ((pw lv) - 1))]) (rest := []) ⟨hx, hb, hml, hown, hts⟩ (m_in l g ro 0 ((pw lv) - 1) ⟨by omega, by omega⟩ ⟨by decide, by decide⟩ ⟨by omega, by omega⟩) (va_cwS 3 hts (lw_S q1662 q1663 q69 q1664) rfl rfl rfl (by decide +kernel) ⟨Nat.le_of_ble_eq_true rfl, Nat.le_of_ble_eq_true rfl⟩) (pcs_S hKq trivial) rfl rfl hl.1 rfl (lv_room (Nat.le_of_ble_eq_true rfl)) dX4_isTile_31 ⟨Nat.le_of_ble_eq_true rfl, Nat.le_of_ble_eq_true rfl⟩) ?_
  refine r_peq0 (tgt := 41) hx hb dX4_isTile_34 (by decide) (fun h34 => ?_) (fun h34 => ?_)
  · refine r_c hx hb dX4_isTile_41 ?_
    rw [hQ]
    exact r_qret (z := 0) hx hb hr hlocks (bi_nar false) dX4_isTile_42 (by first | exact bi_t ⟨h4, h19, h34⟩ | exact bi_f (fun q => h4 q.1) | exact bi_f (fun q => h19 q.2.1) | exact bi_f (fun q => h34 q.2.2))
  refine r_c hx hb dX4_isTile_37 ?_
  refine lv_goto (tgt := 42) hx hb dX4_isTile_38 (by decide) ?_
  rw [hQ]
  exact r_qret (z := 1) hx hb hr hlocks (bi_nar true) dX4_isTile_42 (by first | exact bi_t ⟨h4, h19, h34⟩ | exact bi_f (fun q => h4 q.1) | exact bi_f (fun q => h19 q.2.1) | exact bi_f (fun q => h34 q.2.2))
set_option maxHeartbeats 4000000 in
set_option maxRecDepth 100000 in
theorem m_tileSide (l : Launch) (g : GD) (lv : Int) (h0 : 0 ≤ lv) (h3 : lv ≤ 3) : Met l yX4_tileSide (ws_ yX4_tileSide cX4_tileSide 1 (some .int)) ({ frames := 1, cells := 0, slots := 0, locals := 40 } : Room) (pcs g [.int (zi lv)] noA (fun _ => True)) (qSi (8 * cs lv)) 0 0 noA := by
  refine Met.go (by decide) (Nat.le_of_ble_eq_true rfl) ?_
  intro p e s m args below meth c Q ls hQ hx hb hr hml hts hown hlocks hin hKH hF hl
  have hown : s.vm.findClass RX4 = some m.cls := hown
  have hK := hKH.k
  have hNW := hKH.1.nw
  have hl : lv_has ls 1 [(0, .int (zi lv))] := hl
  have hKq : KH g noA s s.heap := hKH
  refine r_bip hx hb dX4_tileSide_0 (by decide) ?_
  refine lv_iload_n hx hb dX4_tileSide_2 rfl (lv_at hl 0 rfl) ?_
  refine r_shr (z := 8 * cs lv) hx hb dX4_tileSide_3 (shr_64 h0 h3) ?_
  rw [hQ]
  exact r_qret (z := 8 * cs lv) hx hb hr hlocks rfl dX4_tileSide_4 (rfl)
set_option maxHeartbeats 4000000 in
set_option maxRecDepth 100000 in
theorem m_of (l : Launch) (g : GD) (ad : TA) (t : TS) (si : Nat) (w : Int) (k : Nat) (v : Int) (hk : 7 * (si : Int) + w = k) (hlt : k < 84) (hv : uM t k = v) : Met l yX4_of (ws_ yX4_of cX4_of 3 (some .int)) ({ frames := 1, cells := 0, slots := 0, locals := 40 } : Room) (pcs g [.ref (aO ad), .int (zi (si : Int)), .int (zi w)] noA (fun h => va_P g.1 vwCl (TW g ad t) h)) (qSi (v)) 0 0 noA := by
  refine Met.go (by decide) (Nat.le_of_ble_eq_true rfl) ?_
  intro p e s m args below meth c Q ls hQ hx hb hr hml hts hown hlocks hin hKH hF hl
  have hown : s.vm.findClass RX4 = some m.cls := hown
  have hK := hKH.k
  have hNW := hKH.1.nw
  have hl : lv_has ls 3 [(0, .ref (aO ad)), (1, .int (zi (si : Int))), (2, .int (zi w))] := hl
  have hP : va_P g.1 vwCl (TW g ad t) s.heap := hF
  have hKq : KH g noA s s.heap := hKH
  refine lv_aload_n hx hb dX4_of_0 rfl (lv_at hl 0 rfl) ?_
  refine va_get (D := g.1) (ci := 10) (v := .ref (aM ad)) (C := RX4) (T := TX4) (N := 16) hx hb hts in_X4 hown hK hP 0 rfl rfl 0 (by decide) (hts _ q1600) (fun _ h9 => h9) rfl dX4_of_1 ?_
  refine r_bip hx hb dX4_of_4 (by decide) ?_
  refine lv_iload_n hx hb dX4_of_6 rfl (lv_at hl 1 rfl) ?_
  refine r_mul (z := 7 * (si : Int)) hx hb dX4_of_7 rfl ?_
  refine lv_iload_n hx hb dX4_of_8 rfl (lv_at hl 2 rfl) ?_
  refine r_add (z := (7 * (si : Int)) + w) hx hb dX4_of_9 rfl ?_
  refine r_iald (v := v) hx hb hK hP 1 0 rfl rfl (k := k) hk hlt (by decide) hv dX4_of_10 ?_
  rw [hQ]
  exact r_qret (z := v) hx hb hr hlocks rfl dX4_of_11 (rfl)
set_option maxHeartbeats 4000000 in
set_option maxRecDepth 100000 in
theorem m_x (l : Launch) (g : GD) (ad : TA) (t : TS) (si k j : Nat) (v : Int) (hj : 9 * si + k = j) (hlt : j < 108) (hv : uX t j = v) : Met l yX4_x (ws_ yX4_x cX4_x 3 (some .int)) ({ frames := 1, cells := 0, slots := 0, locals := 40 } : Room) (pcs g [.ref (aO ad), .int (zi (si : Int)), .int (zi (k : Int))] noA (fun h => va_P g.1 vwCl (TW g ad t) h)) (qSi (v)) 0 0 noA := by
  refine Met.go (by decide) (Nat.le_of_ble_eq_true rfl) ?_
  intro p e s m args below meth c Q ls hQ hx hb hr hml hts hown hlocks hin hKH hF hl
  have hown : s.vm.findClass RX4 = some m.cls := hown
  have hK := hKH.k
  have hNW := hKH.1.nw
  have hl : lv_has ls 3 [(0, .ref (aO ad)), (1, .int (zi (si : Int))), (2, .int (zi (k : Int)))] := hl
  have hP : va_P g.1 vwCl (TW g ad t) s.heap := hF
  have hKq : KH g noA s s.heap := hKH
  refine lv_aload_n hx hb dX4_x_0 rfl (lv_at hl 0 rfl) ?_
  refine va_get (D := g.1) (ci := 10) (v := .ref (aX ad)) (C := RX4) (T := TX4) (N := 16) hx hb hts in_X4 hown hK hP 0 rfl rfl 3 (by decide) (hts _ q1603) (fun _ h9 => h9) rfl dX4_x_1 ?_
  refine r_bip hx hb dX4_x_4 (by decide) ?_
  refine lv_iload_n hx hb dX4_x_6 rfl (lv_at hl 1 rfl) ?_
  refine r_mul (z := 9 * (si : Int)) hx hb dX4_x_7 rfl ?_
  refine lv_iload_n hx hb dX4_x_8 rfl (lv_at hl 2 rfl) ?_
  refine r_add (z := (9 * (si : Int)) + (k : Int)) hx hb dX4_x_9 rfl ?_
  refine r_iald (v := v) hx hb hK hP 2 0 rfl rfl (k := j) (by omega) hlt (by decide) hv dX4_x_10 ?_
  rw [hQ]
  exact r_qret (z := v) hx hb hr hlocks rfl dX4_x_11 (rfl)
set_option maxHeartbeats 4000000 in
set_option maxRecDepth 100000 in
theorem m_y (l : Launch) (g : GD) (ad : TA) (t : TS) (si k j : Nat) (v : Int) (hj : 9 * si + k = j) (hlt : j < 108) (hv : uY t j = v) : Met l yX4_y (ws_ yX4_y cX4_y 3 (some .int)) ({ frames := 1, cells := 0, slots := 0, locals := 40 } : Room) (pcs g [.ref (aO ad), .int (zi (si : Int)), .int (zi (k : Int))] noA (fun h => va_P g.1 vwCl (TW g ad t) h)) (qSi (v)) 0 0 noA := by
  refine Met.go (by decide) (Nat.le_of_ble_eq_true rfl) ?_
  intro p e s m args below meth c Q ls hQ hx hb hr hml hts hown hlocks hin hKH hF hl
  have hown : s.vm.findClass RX4 = some m.cls := hown
  have hK := hKH.k
  have hNW := hKH.1.nw
  have hl : lv_has ls 3 [(0, .ref (aO ad)), (1, .int (zi (si : Int))), (2, .int (zi (k : Int)))] := hl
  have hP : va_P g.1 vwCl (TW g ad t) s.heap := hF
  have hKq : KH g noA s s.heap := hKH
  refine lv_aload_n hx hb dX4_y_0 rfl (lv_at hl 0 rfl) ?_
  refine va_get (D := g.1) (ci := 10) (v := .ref (aY ad)) (C := RX4) (T := TX4) (N := 16) hx hb hts in_X4 hown hK hP 0 rfl rfl 4 (by decide) (hts _ q1604) (fun _ h9 => h9) rfl dX4_y_1 ?_
  refine r_bip hx hb dX4_y_4 (by decide) ?_
  refine lv_iload_n hx hb dX4_y_6 rfl (lv_at hl 1 rfl) ?_
  refine r_mul (z := 9 * (si : Int)) hx hb dX4_y_7 rfl ?_
  refine lv_iload_n hx hb dX4_y_8 rfl (lv_at hl 2 rfl) ?_
  refine r_add (z := (9 * (si : Int)) + (k : Int)) hx hb dX4_y_9 rfl ?_
  refine r_iald (v := v) hx hb hK hP 3 0 rfl rfl (k := j) (by omega) hlt (by decide) hv dX4_y_10 ?_
  rw [hQ]
  exact r_qret (z := v) hx hb hr hlocks rfl dX4_y_11 (rfl)
set_option maxHeartbeats 4000000 in
set_option maxRecDepth 100000 in
theorem m_slot (l : Launch) (g : GD) (ad : TA) (t : TS) (σ : Sg) (v : Int) (hv : fit v) (hT : TR σ t) : Met l yX4_slot (ws_ yX4_slot cX4_slot 3 (some .int)) ({ frames := 2, cells := 0, slots := 0, locals := 62 } : Room) (pcs g [.ref (aO ad), .int (zi v)] noA (fun h => va_P g.1 vwCl (TW g ad t) h)) (qSi (optZ (slotO (gSh σ) v))) 0 0 noA := by
  refine Met.go (by decide) (Nat.le_of_ble_eq_true rfl) ?_
  intro p e s m args below meth c Q ls hQ hx hb hr hml hts hown hlocks hin hKH hF hl
  have hown : s.vm.findClass RX4 = some m.cls := hown
  have hK := hKH.k
  have hNW := hKH.1.nw
  have hl : lv_has ls 3 [(0, .ref (aO ad)), (1, .int (zi v))] := hl
  have hP : va_P g.1 vwCl (TW g ad t) s.heap := hF
  have hKq : KH g noA s s.heap := hKH
  have hN := hT.n12
  refine r_c hx hb dX4_slot_0 ?_
  refine lv_istore_n (lv' := [(2, .int (zi 0)), (0, .ref (aO ad)), (1, .int (zi v))]) hx hb dX4_slot_1 rfl hl (by decide) rfl (fun ls hl => ?_)
  have lp : ∀ (n : Nat) (i : Nat), (i ≤ (gSh σ).length) → (slotF (gSh σ) v i = none) → (gSh σ).length < i + n → ∀ ls : Array Slot, lv_has ls 3 [(2, .int (zi (i : Int))), (0, .ref (aO ad)), (1, .int (zi v))] → W p l e ({ frames := 2, cells := 0, slots := 0, locals := 62 } : Room) s m args below meth c s.heap ([]) 0 0 Q (F0 m 2 ls []) := by
    intro n
    induction n with
    | zero =>
      intro i hi hn hbd
      exact absurd hbd (by omega)
    | succ n ih =>
      intro i hi hn hbd ls hl
      refine lv_iload_n hx hb dX4_slot_2 rfl (lv_at hl 0 rfl) ?_
      refine lv_aload_n hx hb dX4_slot_3 rfl (lv_at hl 1 rfl) ?_
      refine va_get (D := g.1) (ci := 10) (v := .int (zi (uN t))) (C := RX4) (T := TX4) (N := 16) hx hb hts in_X4 hown hK hP 0 rfl rfl 1 (by decide) (hts _ q1601) (fun _ h9 => h9) rfl dX4_slot_4 ?_
      refine r_ge (tgt := 28) hx hb dX4_slot_7 (by decide) ⟨by omega, by omega⟩ ⟨by rw [hT.n]; omega, by rw [hT.n]; omega⟩ (fun h7 => ?_) (fun h7 => ?_)
      · have hie : i = (gSh σ).length := by rw [hT.n] at h7; omega
        refine r_c hx hb dX4_slot_28 ?_
        rw [hQ]
        exact r_qret (z := (-1)) hx hb hr hlocks rfl dX4_slot_29 (by rw [show slotO (gSh σ) v = none from by rw [← hn, hie]; rfl]; rfl)
      have hlt : i < (gSh σ).length := by rw [hT.n] at h7; omega
      obtain ⟨x, hh⟩ := get_lt hlt
      have hw := hT.ws hh
      obtain ⟨-, -, -, -, -, hn1, hn2⟩ := hw
      refine lv_aload_n hx hb dX4_slot_10 rfl (lv_at hl 1 rfl) ?_
      refine lv_iload_n hx hb dX4_slot_11 rfl (lv_at hl 0 rfl) ?_
      refine r_c hx hb dX4_slot_12 ?_
      refine r_qi (z := sNum x) (va_runV (As := [.int (zi (i : Int)), .int (zi 0)]) (rest := []) ⟨hx, hb, hml, hown, hts⟩ (m_of l g ad t i 0 (7 * i + 0) (sNum x) (by omega) (by omega) ((hT.s hh).1)) (cwV 2 hts (lw_V q1673 q1675 qs30 q69 q1676) rfl rfl rfl (by decide +kernel) ⟨Nat.le_of_ble_eq_true rfl, Nat.le_of_ble_eq_true rfl⟩) (pcs_V (va_recv hK hP (ci := 10) (q0 := 0) rfl rfl) hKq hP) rfl rfl hl.1 rfl (lv_room (Nat.le_of_ble_eq_true rfl)) dX4_slot_13 ⟨Nat.le_of_ble_eq_true rfl, Nat.le_of_ble_eq_true rfl⟩) ?_
      refine lv_iload_n hx hb dX4_slot_16 rfl (lv_at hl 2 rfl) ?_
      refine r_ne (tgt := 22) hx hb dX4_slot_17 (by decide) ⟨by omega, by omega⟩ hv (fun h17 => ?_) (fun h17 => ?_)
      · refine r_iinc (z := ((i + 1 : Nat) : Int)) (lv' := [(2, .int (zi ((i + 1 : Nat) : Int))), (0, .ref (aO ad)), (1, .int (zi v))]) hx hb dX4_slot_22 hl (k := 0) rfl (by omega) (by decide) rfl (fun ls hl => ?_)
        refine lv_goto (tgt := 2) hx hb dX4_slot_25 (by decide) ?_
        exact ih (i + 1) hlt (slotF_miss hn hh h17) (by omega) ls (lv_sub hl [0, 1, 2] rfl)
      have e : slotO (gSh σ) v = some i := slotF_hit hn hh h17 _ hlt
      refine lv_iload_n hx hb dX4_slot_20 rfl (lv_at hl 0 rfl) ?_
      rw [hQ]
      exact r_qret (z := (i : Int)) hx hb hr hlocks rfl dX4_slot_21 (by rw [e]; rfl)
  exact lp ((gSh σ).length + 1) 0 (Nat.zero_le _) rfl (by omega) ls (lv_sub hl [0, 1, 2] rfl)
set_option maxHeartbeats 4000000 in
set_option maxRecDepth 100000 in
theorem m_cross (l : Launch) (g : GD) (ad : TA) (t : TS) (σ : Sg) (si : Nat) (sh : Sh) (hT : TR σ t) (hs : (gSh σ)[si]? = some sh) (a b : Nat) (x y : Int) (ha : a < (sPts sh).length) (hb9 : b < (sPts sh).length) : Met l yX4_cross (ws_ yX4_cross cX4_cross 6 (some .int)) ({ frames := 2, cells := 0, slots := 0, locals := 62 } : Room) (pcs g [.ref (aO ad), .int (zi (si : Int)), .int (zi (a : Int)), .int (zi (b : Int)), .int (zi x), .int (zi y)] noA (fun h => va_P g.1 vwCl (TW g ad t) h)) (qSi (crsP (sPts sh) a b x y)) 0 0 noA := by
  refine Met.go (by decide) (Nat.le_of_ble_eq_true rfl) ?_
  intro p e s m args below meth c Q ls hQ hx hb hr hml hts hown hlocks hin hKH hF hl
  have hown : s.vm.findClass RX4 = some m.cls := hown
  have hK := hKH.k
  have hNW := hKH.1.nw
  have hl : lv_has ls 6 [(0, .ref (aO ad)), (1, .int (zi (si : Int))), (2, .int (zi (a : Int))), (3, .int (zi (b : Int))), (4, .int (zi x)), (5, .int (zi y))] := hl
  have hP : va_P g.1 vwCl (TW g ad t) s.heap := hF
  have hKq : KH g noA s s.heap := hKH
  have hN := hT.n12
  have hsl := idx_lt hs
  have hrow := hT.s hs
  have hw := hT.ws hs
  have h9 := hw.2.1
  refine lv_aload_n hx hb dX4_cross_0 rfl (lv_at hl 0 rfl) ?_
  refine lv_iload_n hx hb dX4_cross_1 rfl (lv_at hl 1 rfl) ?_
  refine lv_iload_n hx hb dX4_cross_2 rfl (lv_at hl 3 rfl) ?_
  refine r_qi (z := pX (sPts sh) b) (va_runV (As := [.int (zi (si : Int)), .int (zi (b : Int))]) (rest := []) ⟨hx, hb, hml, hown, hts⟩ (m_x l g ad t si b (9 * si + b) (pX (sPts sh) b) (by omega) (by omega) ((hrow).2.2.2.2.2.2.2 b hb9).1) (cwV 2 hts (lw_V q1681 q1683 qs32 q69 q1684) rfl rfl rfl (by decide +kernel) ⟨Nat.le_of_ble_eq_true rfl, Nat.le_of_ble_eq_true rfl⟩) (pcs_V (va_recv hK hP (ci := 10) (q0 := 0) rfl rfl) hKq hP) rfl rfl hl.1 rfl (lv_room (Nat.le_of_ble_eq_true rfl)) dX4_cross_3 ⟨Nat.le_of_ble_eq_true rfl, Nat.le_of_ble_eq_true rfl⟩) ?_
  refine lv_aload_n hx hb dX4_cross_6 rfl (lv_at hl 0 rfl) ?_
  refine lv_iload_n hx hb dX4_cross_7 rfl (lv_at hl 1 rfl) ?_
  refine lv_iload_n hx hb dX4_cross_8 rfl (lv_at hl 2 rfl) ?_
  refine r_qi (z := pX (sPts sh) a) (va_runV (As := [.int (zi (si : Int)), .int (zi (a : Int))]) (rest := [.int (zi (pX (sPts sh) b))]) ⟨hx, hb, hml, hown, hts⟩ (m_x l g ad t si a (9 * si + a) (pX (sPts sh) a) (by omega) (by omega) ((hrow).2.2.2.2.2.2.2 a ha).1) (cwV 2 hts (lw_V q1681 q1683 qs32 q69 q1684) rfl rfl rfl (by decide +kernel) ⟨Nat.le_of_ble_eq_true rfl, Nat.le_of_ble_eq_true rfl⟩) (pcs_V (va_recv hK hP (ci := 10) (q0 := 0) rfl rfl) hKq hP) rfl rfl hl.1 rfl (lv_room (Nat.le_of_ble_eq_true rfl)) dX4_cross_9 ⟨Nat.le_of_ble_eq_true rfl, Nat.le_of_ble_eq_true rfl⟩) ?_
  refine r_sub (z := (pX (sPts sh) b) - (pX (sPts sh) a)) hx hb dX4_cross_12 rfl ?_
  refine lv_iload hx hb dX4_cross_13 (lv_at hl 5 rfl) ?_
  refine lv_aload_n hx hb dX4_cross_15 rfl (lv_at hl 0 rfl) ?_
  refine lv_iload_n hx hb dX4_cross_16 rfl (lv_at hl 1 rfl) ?_
  refine lv_iload_n hx hb dX4_cross_17 rfl (lv_at hl 2 rfl) ?_
  refine r_qi (z := pY (sPts sh) a) (va_runV (As := [.int (zi (si : Int)), .int (zi (a : Int))]) (rest := [.int (zi y), .int (zi ((pX (sPts sh) b) - (pX (sPts sh) a)))]) ⟨hx, hb, hml, hown, hts⟩ (m_y l g ad t si a (9 * si + a) (pY (sPts sh) a) (by omega) (by omega) ((hrow).2.2.2.2.2.2.2 a ha).2) (cwV 2 hts (lw_V q1685 q1687 qs33 q69 q1688) rfl rfl rfl (by decide +kernel) ⟨Nat.le_of_ble_eq_true rfl, Nat.le_of_ble_eq_true rfl⟩) (pcs_V (va_recv hK hP (ci := 10) (q0 := 0) rfl rfl) hKq hP) rfl rfl hl.1 rfl (lv_room (Nat.le_of_ble_eq_true rfl)) dX4_cross_18 ⟨Nat.le_of_ble_eq_true rfl, Nat.le_of_ble_eq_true rfl⟩) ?_
  refine r_sub (z := y - (pY (sPts sh) a)) hx hb dX4_cross_21 rfl ?_
  refine r_mul (z := ((pX (sPts sh) b) - (pX (sPts sh) a)) * (y - (pY (sPts sh) a))) hx hb dX4_cross_22 rfl ?_
  refine lv_aload_n hx hb dX4_cross_23 rfl (lv_at hl 0 rfl) ?_
  refine lv_iload_n hx hb dX4_cross_24 rfl (lv_at hl 1 rfl) ?_
  refine lv_iload_n hx hb dX4_cross_25 rfl (lv_at hl 3 rfl) ?_
  refine r_qi (z := pY (sPts sh) b) (va_runV (As := [.int (zi (si : Int)), .int (zi (b : Int))]) (rest := [.int (zi (((pX (sPts sh) b) - (pX (sPts sh) a)) * (y - (pY (sPts sh) a))))]) ⟨hx, hb, hml, hown, hts⟩ (m_y l g ad t si b (9 * si + b) (pY (sPts sh) b) (by omega) (by omega) ((hrow).2.2.2.2.2.2.2 b hb9).2) (cwV 2 hts (lw_V q1685 q1687 qs33 q69 q1688) rfl rfl rfl (by decide +kernel) ⟨Nat.le_of_ble_eq_true rfl, Nat.le_of_ble_eq_true rfl⟩) (pcs_V (va_recv hK hP (ci := 10) (q0 := 0) rfl rfl) hKq hP) rfl rfl hl.1 rfl (lv_room (Nat.le_of_ble_eq_true rfl)) dX4_cross_26 ⟨Nat.le_of_ble_eq_true rfl, Nat.le_of_ble_eq_true rfl⟩) ?_
  refine lv_aload_n hx hb dX4_cross_29 rfl (lv_at hl 0 rfl) ?_
  refine lv_iload_n hx hb dX4_cross_30 rfl (lv_at hl 1 rfl) ?_
  refine lv_iload_n hx hb dX4_cross_31 rfl (lv_at hl 2 rfl) ?_
  refine r_qi (z := pY (sPts sh) a) (va_runV (As := [.int (zi (si : Int)), .int (zi (a : Int))]) (rest := [.int (zi (pY (sPts sh) b)), .int (zi (((pX (sPts sh) b) - (pX (sPts sh) a)) * (y - (pY (sPts sh) a))))]) ⟨hx, hb, hml, hown, hts⟩ (m_y l g ad t si a (9 * si + a) (pY (sPts sh) a) (by omega) (by omega) ((hrow).2.2.2.2.2.2.2 a ha).2) (cwV 2 hts (lw_V q1685 q1687 qs33 q69 q1688) rfl rfl rfl (by decide +kernel) ⟨Nat.le_of_ble_eq_true rfl, Nat.le_of_ble_eq_true rfl⟩) (pcs_V (va_recv hK hP (ci := 10) (q0 := 0) rfl rfl) hKq hP) rfl rfl hl.1 rfl (lv_room (Nat.le_of_ble_eq_true rfl)) dX4_cross_32 ⟨Nat.le_of_ble_eq_true rfl, Nat.le_of_ble_eq_true rfl⟩) ?_
  refine r_sub (z := (pY (sPts sh) b) - (pY (sPts sh) a)) hx hb dX4_cross_35 rfl ?_
  refine lv_iload hx hb dX4_cross_36 (lv_at hl 4 rfl) ?_
  refine lv_aload_n hx hb dX4_cross_38 rfl (lv_at hl 0 rfl) ?_
  refine lv_iload_n hx hb dX4_cross_39 rfl (lv_at hl 1 rfl) ?_
  refine lv_iload_n hx hb dX4_cross_40 rfl (lv_at hl 2 rfl) ?_
  refine r_qi (z := pX (sPts sh) a) (va_runV (As := [.int (zi (si : Int)), .int (zi (a : Int))]) (rest := [.int (zi x), .int (zi ((pY (sPts sh) b) - (pY (sPts sh) a))), .int (zi (((pX (sPts sh) b) - (pX (sPts sh) a)) * (y - (pY (sPts sh) a))))]) ⟨hx, hb, hml, hown, hts⟩ (m_x l g ad t si a (9 * si + a) (pX (sPts sh) a) (by omega) (by omega) ((hrow).2.2.2.2.2.2.2 a ha).1) (cwV 2 hts (lw_V q1681 q1683 qs32 q69 q1684) rfl rfl rfl (by decide +kernel) ⟨Nat.le_of_ble_eq_true rfl, Nat.le_of_ble_eq_true rfl⟩) (pcs_V (va_recv hK hP (ci := 10) (q0 := 0) rfl rfl) hKq hP) rfl rfl hl.1 rfl (lv_room (Nat.le_of_ble_eq_true rfl)) dX4_cross_41 ⟨Nat.le_of_ble_eq_true rfl, Nat.le_of_ble_eq_true rfl⟩) ?_
  refine r_sub (z := x - (pX (sPts sh) a)) hx hb dX4_cross_44 rfl ?_
  refine r_mul (z := ((pY (sPts sh) b) - (pY (sPts sh) a)) * (x - (pX (sPts sh) a))) hx hb dX4_cross_45 rfl ?_
  refine r_sub (z := (((pX (sPts sh) b) - (pX (sPts sh) a)) * (y - (pY (sPts sh) a))) - (((pY (sPts sh) b) - (pY (sPts sh) a)) * (x - (pX (sPts sh) a)))) hx hb dX4_cross_46 rfl ?_
  rw [hQ]
  exact r_qret (z := (((pX (sPts sh) b) - (pX (sPts sh) a)) * (y - (pY (sPts sh) a))) - (((pY (sPts sh) b) - (pY (sPts sh) a)) * (x - (pX (sPts sh) a)))) hx hb hr hlocks rfl dX4_cross_47 (rfl)
set_option maxHeartbeats 4000000 in
set_option maxRecDepth 100000 in
theorem m_squared (l : Launch) (g : GD) (ad : TA) (t : TS) (σ : Sg) (si : Nat) (sh : Sh) (hT : TR σ t) (hs : (gSh σ)[si]? = some sh) (a b : Nat) (ha : a < (sPts sh).length) (hb9 : b < (sPts sh).length) : Met l yX4_squared (ws_ yX4_squared cX4_squared 6 (some .int)) ({ frames := 2, cells := 0, slots := 0, locals := 62 } : Room) (pcs g [.ref (aO ad), .int (zi (si : Int)), .int (zi (a : Int)), .int (zi (b : Int))] noA (fun h => va_P g.1 vwCl (TW g ad t) h)) (qSi (sqd (sPts sh) a b)) 0 0 noA := by
  refine Met.go (by decide) (Nat.le_of_ble_eq_true rfl) ?_
  intro p e s m args below meth c Q ls hQ hx hb hr hml hts hown hlocks hin hKH hF hl
  have hown : s.vm.findClass RX4 = some m.cls := hown
  have hK := hKH.k
  have hNW := hKH.1.nw
  have hl : lv_has ls 6 [(0, .ref (aO ad)), (1, .int (zi (si : Int))), (2, .int (zi (a : Int))), (3, .int (zi (b : Int)))] := hl
  have hP : va_P g.1 vwCl (TW g ad t) s.heap := hF
  have hKq : KH g noA s s.heap := hKH
  have hN := hT.n12
  have hsl := idx_lt hs
  have hrow := hT.s hs
  have hw := hT.ws hs
  have h9 := hw.2.1
  refine lv_aload_n hx hb dX4_squared_0 rfl (lv_at hl 0 rfl) ?_
  refine lv_iload_n hx hb dX4_squared_1 rfl (lv_at hl 1 rfl) ?_
  refine lv_iload_n hx hb dX4_squared_2 rfl (lv_at hl 2 rfl) ?_
  refine r_qi (z := pX (sPts sh) a) (va_runV (As := [.int (zi (si : Int)), .int (zi (a : Int))]) (rest := []) ⟨hx, hb, hml, hown, hts⟩ (m_x l g ad t si a (9 * si + a) (pX (sPts sh) a) (by omega) (by omega) ((hrow).2.2.2.2.2.2.2 a ha).1) (cwV 2 hts (lw_V q1681 q1683 qs32 q69 q1684) rfl rfl rfl (by decide +kernel) ⟨Nat.le_of_ble_eq_true rfl, Nat.le_of_ble_eq_true rfl⟩) (pcs_V (va_recv hK hP (ci := 10) (q0 := 0) rfl rfl) hKq hP) rfl rfl hl.1 rfl (lv_room (Nat.le_of_ble_eq_true rfl)) dX4_squared_3 ⟨Nat.le_of_ble_eq_true rfl, Nat.le_of_ble_eq_true rfl⟩) ?_
  refine lv_aload_n hx hb dX4_squared_6 rfl (lv_at hl 0 rfl) ?_
  refine lv_iload_n hx hb dX4_squared_7 rfl (lv_at hl 1 rfl) ?_
  refine lv_iload_n hx hb dX4_squared_8 rfl (lv_at hl 3 rfl) ?_
  refine r_qi (z := pX (sPts sh) b) (va_runV (As := [.int (zi (si : Int)), .int (zi (b : Int))]) (rest := [.int (zi (pX (sPts sh) a))]) ⟨hx, hb, hml, hown, hts⟩ (m_x l g ad t si b (9 * si + b) (pX (sPts sh) b) (by omega) (by omega) ((hrow).2.2.2.2.2.2.2 b hb9).1) (cwV 2 hts (lw_V q1681 q1683 qs32 q69 q1684) rfl rfl rfl (by decide +kernel) ⟨Nat.le_of_ble_eq_true rfl, Nat.le_of_ble_eq_true rfl⟩) (pcs_V (va_recv hK hP (ci := 10) (q0 := 0) rfl rfl) hKq hP) rfl rfl hl.1 rfl (lv_room (Nat.le_of_ble_eq_true rfl)) dX4_squared_9 ⟨Nat.le_of_ble_eq_true rfl, Nat.le_of_ble_eq_true rfl⟩) ?_
  refine r_sub (z := (pX (sPts sh) a) - (pX (sPts sh) b)) hx hb dX4_squared_12 rfl ?_
  refine lv_istore (lv' := [(4, .int (zi ((pX (sPts sh) a) - (pX (sPts sh) b)))), (0, .ref (aO ad)), (1, .int (zi (si : Int))), (2, .int (zi (a : Int))), (3, .int (zi (b : Int)))]) hx hb dX4_squared_13 hl (by decide) rfl (fun ls hl => ?_)
  refine lv_aload_n hx hb dX4_squared_15 rfl (lv_at hl 1 rfl) ?_
  refine lv_iload_n hx hb dX4_squared_16 rfl (lv_at hl 2 rfl) ?_
  refine lv_iload_n hx hb dX4_squared_17 rfl (lv_at hl 3 rfl) ?_
  refine r_qi (z := pY (sPts sh) a) (va_runV (As := [.int (zi (si : Int)), .int (zi (a : Int))]) (rest := []) ⟨hx, hb, hml, hown, hts⟩ (m_y l g ad t si a (9 * si + a) (pY (sPts sh) a) (by omega) (by omega) ((hrow).2.2.2.2.2.2.2 a ha).2) (cwV 2 hts (lw_V q1685 q1687 qs33 q69 q1688) rfl rfl rfl (by decide +kernel) ⟨Nat.le_of_ble_eq_true rfl, Nat.le_of_ble_eq_true rfl⟩) (pcs_V (va_recv hK hP (ci := 10) (q0 := 0) rfl rfl) hKq hP) rfl rfl hl.1 rfl (lv_room (Nat.le_of_ble_eq_true rfl)) dX4_squared_18 ⟨Nat.le_of_ble_eq_true rfl, Nat.le_of_ble_eq_true rfl⟩) ?_
  refine lv_aload_n hx hb dX4_squared_21 rfl (lv_at hl 1 rfl) ?_
  refine lv_iload_n hx hb dX4_squared_22 rfl (lv_at hl 2 rfl) ?_
  refine lv_iload_n hx hb dX4_squared_23 rfl (lv_at hl 4 rfl) ?_
  refine r_qi (z := pY (sPts sh) b) (va_runV (As := [.int (zi (si : Int)), .int (zi (b : Int))]) (rest := [.int (zi (pY (sPts sh) a))]) ⟨hx, hb, hml, hown, hts⟩ (m_y l g ad t si b (9 * si + b) (pY (sPts sh) b) (by omega) (by omega) ((hrow).2.2.2.2.2.2.2 b hb9).2) (cwV 2 hts (lw_V q1685 q1687 qs33 q69 q1688) rfl rfl rfl (by decide +kernel) ⟨Nat.le_of_ble_eq_true rfl, Nat.le_of_ble_eq_true rfl⟩) (pcs_V (va_recv hK hP (ci := 10) (q0 := 0) rfl rfl) hKq hP) rfl rfl hl.1 rfl (lv_room (Nat.le_of_ble_eq_true rfl)) dX4_squared_24 ⟨Nat.le_of_ble_eq_true rfl, Nat.le_of_ble_eq_true rfl⟩) ?_
  refine r_sub (z := (pY (sPts sh) a) - (pY (sPts sh) b)) hx hb dX4_squared_27 rfl ?_
  refine lv_istore (lv' := [(5, .int (zi ((pY (sPts sh) a) - (pY (sPts sh) b)))), (4, .int (zi ((pX (sPts sh) a) - (pX (sPts sh) b)))), (0, .ref (aO ad)), (1, .int (zi (si : Int))), (2, .int (zi (a : Int))), (3, .int (zi (b : Int)))]) hx hb dX4_squared_28 hl (by decide) rfl (fun ls hl => ?_)
  refine lv_iload hx hb dX4_squared_30 (lv_at hl 1 rfl) ?_
  refine lv_iload hx hb dX4_squared_32 (lv_at hl 1 rfl) ?_
  refine r_mul (z := ((pX (sPts sh) a) - (pX (sPts sh) b)) * ((pX (sPts sh) a) - (pX (sPts sh) b))) hx hb dX4_squared_34 rfl ?_
  refine lv_iload hx hb dX4_squared_35 (lv_at hl 0 rfl) ?_
  refine lv_iload hx hb dX4_squared_37 (lv_at hl 0 rfl) ?_
  refine r_mul (z := ((pY (sPts sh) a) - (pY (sPts sh) b)) * ((pY (sPts sh) a) - (pY (sPts sh) b))) hx hb dX4_squared_39 rfl ?_
  refine r_add (z := (((pX (sPts sh) a) - (pX (sPts sh) b)) * ((pX (sPts sh) a) - (pX (sPts sh) b))) + (((pY (sPts sh) a) - (pY (sPts sh) b)) * ((pY (sPts sh) a) - (pY (sPts sh) b)))) hx hb dX4_squared_40 rfl ?_
  rw [hQ]
  exact r_qret (z := (((pX (sPts sh) a) - (pX (sPts sh) b)) * ((pX (sPts sh) a) - (pX (sPts sh) b))) + (((pY (sPts sh) a) - (pY (sPts sh) b)) * ((pY (sPts sh) a) - (pY (sPts sh) b)))) hx hb hr hlocks rfl dX4_squared_41 (rfl)
set_option maxHeartbeats 4000000 in
set_option maxRecDepth 100000 in
theorem m_farthest (l : Launch) (g : GD) (ad : TA) (t : TS) (σ : Sg) (si : Nat) (sh : Sh) (hT : TR σ t) (hs : (gSh σ)[si]? = some sh) (a b : Nat) (tol : Int) (hab : a < b) (hb9 : b < (sPts sh).length) (ht : 0 ≤ tol ∧ tol ≤ 9) : Met l yX4_farthest (ws_ yX4_farthest cX4_farthest 10 (some .int)) ({ frames := 3, cells := 0, slots := 0, locals := 87 } : Room) (pcs g [.ref (aO ad), .int (zi (si : Int)), .int (zi (a : Int)), .int (zi (b : Int)), .int (zi tol)] noA (fun h => va_P g.1 vwCl (TW g ad t) h)) (qSi (optZ (farO (sPts sh) a b tol))) 0 0 noA := by
  refine Met.go (by decide) (Nat.le_of_ble_eq_true rfl) ?_
  intro p e s m args below meth c Q ls hQ hx hb hr hml hts hown hlocks hin hKH hF hl
  have hown : s.vm.findClass RX4 = some m.cls := hown
  have hK := hKH.k
  have hNW := hKH.1.nw
  have hl : lv_has ls 10 [(0, .ref (aO ad)), (1, .int (zi (si : Int))), (2, .int (zi (a : Int))), (3, .int (zi (b : Int))), (4, .int (zi tol))] := hl
  have hP : va_P g.1 vwCl (TW g ad t) s.heap := hF
  have hKq : KH g noA s s.heap := hKH
  have hN := hT.n12
  have hsl := idx_lt hs
  have hrow := hT.s hs
  have hw := hT.ws hs
  have h9 := hw.2.1
  have ha : a < (sPts sh).length := by omega
  have hwp := hw.1
  have hsq := sqd_b hwp ha hb9
  refine lv_aload_n hx hb dX4_farthest_0 rfl (lv_at hl 0 rfl) ?_
  refine lv_iload_n hx hb dX4_farthest_1 rfl (lv_at hl 1 rfl) ?_
  refine lv_iload_n hx hb dX4_farthest_2 rfl (lv_at hl 2 rfl) ?_
  refine lv_iload_n hx hb dX4_farthest_3 rfl (lv_at hl 3 rfl) ?_
  refine r_qi (z := sqd (sPts sh) a b) (va_runV (As := [.int (zi (si : Int)), .int (zi (a : Int)), .int (zi (b : Int))]) (rest := []) ⟨hx, hb, hml, hown, hts⟩ (m_squared l g ad t σ si sh hT hs a b ha hb9) (cwV 3 hts (lw_V q1803 q1805 qs43 q69 q1806) rfl rfl rfl (by decide +kernel) ⟨Nat.le_of_ble_eq_true rfl, Nat.le_of_ble_eq_true rfl⟩) (pcs_V (va_recv hK hP (ci := 10) (q0 := 0) rfl rfl) hKq hP) rfl rfl hl.1 rfl (lv_room (Nat.le_of_ble_eq_true rfl)) dX4_farthest_4 ⟨Nat.le_of_ble_eq_true rfl, Nat.le_of_ble_eq_true rfl⟩) ?_
  refine lv_istore (lv' := [(5, .int (zi (sqd (sPts sh) a b))), (0, .ref (aO ad)), (1, .int (zi (si : Int))), (2, .int (zi (a : Int))), (3, .int (zi (b : Int))), (4, .int (zi tol))]) hx hb dX4_farthest_7 hl (by decide) rfl (fun ls hl => ?_)
  refine r_c hx hb dX4_farthest_9 ?_
  refine lv_istore (lv' := [(6, .int (zi (-1))), (5, .int (zi (sqd (sPts sh) a b))), (0, .ref (aO ad)), (1, .int (zi (si : Int))), (2, .int (zi (a : Int))), (3, .int (zi (b : Int))), (4, .int (zi tol))]) hx hb dX4_farthest_10 hl (by decide) rfl (fun ls hl => ?_)
  refine r_c hx hb dX4_farthest_12 ?_
  refine lv_istore (lv' := [(7, .int (zi (-1))), (6, .int (zi (-1))), (5, .int (zi (sqd (sPts sh) a b))), (0, .ref (aO ad)), (1, .int (zi (si : Int))), (2, .int (zi (a : Int))), (3, .int (zi (b : Int))), (4, .int (zi tol))]) hx hb dX4_farthest_13 hl (by decide) rfl (fun ls hl => ?_)
  refine lv_iload_n hx hb dX4_farthest_15 rfl (lv_at hl 5 rfl) ?_
  refine r_c hx hb dX4_farthest_16 ?_
  refine r_add (z := ((a + 1 + 0 : Nat) : Int)) hx hb dX4_farthest_17 (by omega) ?_
  refine lv_istore (lv' := [(8, .int (zi ((a + 1 + 0 : Nat) : Int))), (7, .int (zi (-1))), (6, .int (zi (-1))), (5, .int (zi (sqd (sPts sh) a b))), (0, .ref (aO ad)), (1, .int (zi (si : Int))), (2, .int (zi (a : Int))), (3, .int (zi (b : Int))), (4, .int (zi tol))]) hx hb dX4_farthest_18 hl (by decide) rfl (fun ls hl => ?_)
  have lp : ∀ (n : Nat) (j : Nat), (a + 1 + j ≤ b) → b < a + 1 + j + n → ∀ ls : Array Slot, lv_has ls 10 [(8, .int (zi ((a + 1 + j : Nat) : Int))), (7, .int (zi ((bestF (sPts sh) a b j).2))), (6, .int (zi (optZ (bestF (sPts sh) a b j).1))), (5, .int (zi (sqd (sPts sh) a b))), (0, .ref (aO ad)), (1, .int (zi (si : Int))), (2, .int (zi (a : Int))), (3, .int (zi (b : Int))), (4, .int (zi tol))] → W p l e ({ frames := 3, cells := 0, slots := 0, locals := 87 } : Room) s m args below meth c s.heap ([]) 0 0 Q (F0 m 20 ls []) := by
    intro n
    induction n with
    | zero =>
      intro j hj hbd
      exact absurd hbd (by omega)
    | succ n ih =>
      intro j hj hbd ls hl
      refine lv_iload hx hb dX4_farthest_20 (lv_at hl 0 rfl) ?_
      refine lv_iload_n hx hb dX4_farthest_22 rfl (lv_at hl 7 rfl) ?_
      refine r_ge (tgt := 99) hx hb dX4_farthest_23 (by decide) ⟨by omega, by omega⟩ ⟨by omega, by omega⟩ (fun h23 => ?_) (fun h23 => ?_)
      · have hje : j = b - a - 1 := by omega
        subst hje
        have hb1 := bestF_b hwp ha hb9 (b - a - 1) (by omega)
        have J143 : W p l e ({ frames := 3, cells := 0, slots := 0, locals := 87 } : Room) s m args below meth c s.heap ([]) 0 0 Q (F0 m 143 ls [.int (zi (bi (isFarB (sqd (sPts sh) a b) (bestF (sPts sh) a b (b - a - 1)).2 tol)))]) := by
          refine lv_istore (lv' := [(8, .int (zi (bi (isFarB (sqd (sPts sh) a b) (bestF (sPts sh) a b (b - a - 1)).2 tol)))), (7, .int (zi ((bestF (sPts sh) a b (b - a - 1)).2))), (6, .int (zi (optZ (bestF (sPts sh) a b (b - a - 1)).1))), (5, .int (zi (sqd (sPts sh) a b))), (0, .ref (aO ad)), (1, .int (zi (si : Int))), (2, .int (zi (a : Int))), (3, .int (zi (b : Int))), (4, .int (zi tol))]) hx hb dX4_farthest_143 hl (by decide) rfl (fun ls hl => ?_)
          refine lv_iload hx hb dX4_farthest_145 (lv_at hl 2 rfl) ?_
          refine r_c hx hb dX4_farthest_147 ?_
          refine r_eq (tgt := 161) hx hb dX4_farthest_148 (by decide) (best_fit (fun k hk => (bestF_in _ k hk).2) (by omega)) ⟨by decide, by decide⟩ (fun h148 => ?_) (fun h148 => ?_)
          · refine r_c hx hb dX4_farthest_161 ?_
            rw [hQ]
            exact r_qret (z := (-1)) hx hb hr hlocks rfl dX4_farthest_162 (by first | (rw [farO_1 h148]; rfl) | (rw [farO_2 h153]; rfl) | rw [farO_3 h153])
          refine lv_iload hx hb dX4_farthest_151 (lv_at hl 0 rfl) ?_
          refine r_beq0 (tgt := 161) hx hb dX4_farthest_153 (by decide) (fun h153 => ?_) (fun h153 => ?_)
          · refine r_c hx hb dX4_farthest_161 ?_
            rw [hQ]
            exact r_qret (z := (-1)) hx hb hr hlocks rfl dX4_farthest_162 (by first | (rw [farO_1 h148]; rfl) | (rw [farO_2 h153]; rfl) | rw [farO_3 h153])
          refine lv_iload hx hb dX4_farthest_156 (lv_at hl 2 rfl) ?_
          refine lv_goto (tgt := 162) hx hb dX4_farthest_158 (by decide) ?_
          rw [hQ]
          exact r_qret (z := optZ (bestF (sPts sh) a b (b - a - 1)).1) hx hb hr hlocks rfl dX4_farthest_162 (by first | (rw [farO_1 h148]; rfl) | (rw [farO_2 h153]; rfl) | rw [farO_3 h153])
        refine lv_iload hx hb dX4_farthest_99 (lv_at hl 3 rfl) ?_
        refine r_ne0 (tgt := 122) hx hb dX4_farthest_101 (by decide) ⟨by omega, by omega⟩ (fun h101 => ?_) (fun h101 => ?_)
        · refine lv_iload hx hb dX4_farthest_122 (lv_at hl 1 rfl) ?_
          refine lv_iload hx hb dX4_farthest_124 (lv_at hl 1 rfl) ?_
          refine r_mul (z := ((bestF (sPts sh) a b (b - a - 1)).2) * ((bestF (sPts sh) a b (b - a - 1)).2)) hx hb dX4_farthest_126 rfl ?_
          refine lv_iload hx hb dX4_farthest_127 (lv_at hl 8 rfl) ?_
          refine lv_iload hx hb dX4_farthest_129 (lv_at hl 8 rfl) ?_
          refine r_mul (z := tol * tol) hx hb dX4_farthest_131 rfl ?_
          refine lv_iload hx hb dX4_farthest_132 (lv_at hl 3 rfl) ?_
          refine r_mul (z := (tol * tol) * (sqd (sPts sh) a b)) hx hb dX4_farthest_134 rfl ?_
          refine r_le (tgt := 142) hx hb dX4_farthest_135 (by decide) (most2 hb1) (tol3 ht hsq) (fun h135 => ?_) (fun h135 => ?_)
          · refine r_c hx hb dX4_farthest_142 ?_
            refine r_int (z := bi (isFarB (sqd (sPts sh) a b) (bestF (sPts sh) a b (b - a - 1)).2 tol)) (by unfold isFarB; first | (rw [if_pos h101, decide_eq_true (by omega)]; rfl) | (rw [if_pos h101, decide_eq_false (by omega)]; rfl) | (rw [if_neg h101, decide_eq_true (by omega)]; rfl) | (rw [if_neg h101, decide_eq_false (by omega)]; rfl)) ?_
            exact J143
          refine r_c hx hb dX4_farthest_138 ?_
          refine lv_goto (tgt := 143) hx hb dX4_farthest_139 (by decide) ?_
          refine r_int (z := bi (isFarB (sqd (sPts sh) a b) (bestF (sPts sh) a b (b - a - 1)).2 tol)) (by unfold isFarB; first | (rw [if_pos h101, decide_eq_true (by omega)]; rfl) | (rw [if_pos h101, decide_eq_false (by omega)]; rfl) | (rw [if_neg h101, decide_eq_true (by omega)]; rfl) | (rw [if_neg h101, decide_eq_false (by omega)]; rfl)) ?_
          exact J143
        refine lv_iload hx hb dX4_farthest_104 (lv_at hl 1 rfl) ?_
        refine lv_iload hx hb dX4_farthest_106 (lv_at hl 8 rfl) ?_
        refine lv_iload hx hb dX4_farthest_108 (lv_at hl 8 rfl) ?_
        refine r_mul (z := tol * tol) hx hb dX4_farthest_110 rfl ?_
        refine r_le (tgt := 118) hx hb dX4_farthest_111 (by decide) ⟨by omega, by omega⟩ (tol2 ht) (fun h111 => ?_) (fun h111 => ?_)
        · refine r_c hx hb dX4_farthest_118 ?_
          refine lv_goto (tgt := 143) hx hb dX4_farthest_119 (by decide) ?_
          refine r_int (z := bi (isFarB (sqd (sPts sh) a b) (bestF (sPts sh) a b (b - a - 1)).2 tol)) (by unfold isFarB; first | (rw [if_pos h101, decide_eq_true (by omega)]; rfl) | (rw [if_pos h101, decide_eq_false (by omega)]; rfl) | (rw [if_neg h101, decide_eq_true (by omega)]; rfl) | (rw [if_neg h101, decide_eq_false (by omega)]; rfl)) ?_
          exact J143
        refine r_c hx hb dX4_farthest_114 ?_
        refine lv_goto (tgt := 143) hx hb dX4_farthest_115 (by decide) ?_
        refine r_int (z := bi (isFarB (sqd (sPts sh) a b) (bestF (sPts sh) a b (b - a - 1)).2 tol)) (by unfold isFarB; first | (rw [if_pos h101, decide_eq_true (by omega)]; rfl) | (rw [if_pos h101, decide_eq_false (by omega)]; rfl) | (rw [if_neg h101, decide_eq_true (by omega)]; rfl) | (rw [if_neg h101, decide_eq_false (by omega)]; rfl)) ?_
        exact J143
      have hlt : a + 1 + j < b := by omega
      have hb1 := bestF_b hwp ha hb9 j (by omega)
      have hfar := far_b hwp ha hb9 (k := a + 1 + j) (by omega)
      have J66 : W p l e ({ frames := 3, cells := 0, slots := 0, locals := 87 } : Room) s m args below meth c s.heap ([]) 0 0 Q (F0 m 66 ls [.int (zi (far (sPts sh) a b (a + 1 + j)))]) := by
        refine lv_istore (lv' := [(9, .int (zi (far (sPts sh) a b (a + 1 + j)))), (8, .int (zi ((a + 1 + j : Nat) : Int))), (7, .int (zi ((bestF (sPts sh) a b j).2))), (6, .int (zi (optZ (bestF (sPts sh) a b j).1))), (5, .int (zi (sqd (sPts sh) a b))), (0, .ref (aO ad)), (1, .int (zi (si : Int))), (2, .int (zi (a : Int))), (3, .int (zi (b : Int))), (4, .int (zi tol))]) hx hb dX4_farthest_66 hl (by decide) rfl (fun ls hl => ?_)
        have J82 : W p l e ({ frames := 3, cells := 0, slots := 0, locals := 87 } : Room) s m args below meth c s.heap ([]) 0 0 Q (F0 m 82 ls [.int (zi (optZ (bestF (sPts sh) a b (j + 1)).1))]) := by
          refine lv_istore (lv' := [(6, .int (zi (optZ (bestF (sPts sh) a b (j + 1)).1))), (9, .int (zi (far (sPts sh) a b (a + 1 + j)))), (8, .int (zi ((a + 1 + j : Nat) : Int))), (7, .int (zi ((bestF (sPts sh) a b j).2))), (5, .int (zi (sqd (sPts sh) a b))), (0, .ref (aO ad)), (1, .int (zi (si : Int))), (2, .int (zi (a : Int))), (3, .int (zi (b : Int))), (4, .int (zi tol))]) hx hb dX4_farthest_82 hl (by decide) rfl (fun ls hl => ?_)
          refine lv_iload hx hb dX4_farthest_84 (lv_at hl 3 rfl) ?_
          refine lv_iload hx hb dX4_farthest_86 (lv_at hl 1 rfl) ?_
          refine va_mmax hx hb (hml.trans hl.1.symm) hown (hts _ q1690) (hts _ q531) (hts _ q78) (hts _ q532) (Nat.le_of_ble_eq_true rfl) (Nat.le_of_ble_eq_true rfl) (Nat.le_of_ble_eq_true rfl) (Nat.le_of_ble_eq_true rfl) dX4_farthest_88 ?_
          refine r_raw (z := max ((bestF (sPts sh) a b j).2) (far (sPts sh) a b (a + 1 + j))) (zi_max _ _ ⟨by omega, by omega⟩ ⟨by omega, by omega⟩) ?_
          refine lv_istore (lv' := [(7, .int (zi (max ((bestF (sPts sh) a b j).2) (far (sPts sh) a b (a + 1 + j))))), (6, .int (zi (optZ (bestF (sPts sh) a b (j + 1)).1))), (9, .int (zi (far (sPts sh) a b (a + 1 + j)))), (8, .int (zi ((a + 1 + j : Nat) : Int))), (5, .int (zi (sqd (sPts sh) a b))), (0, .ref (aO ad)), (1, .int (zi (si : Int))), (2, .int (zi (a : Int))), (3, .int (zi (b : Int))), (4, .int (zi tol))]) hx hb dX4_farthest_91 hl (by decide) rfl (fun ls hl => ?_)
          refine r_iinc (z := ((a + 1 + (j + 1) : Nat) : Int)) (lv' := [(8, .int (zi ((a + 1 + (j + 1) : Nat) : Int))), (7, .int (zi (max ((bestF (sPts sh) a b j).2) (far (sPts sh) a b (a + 1 + j))))), (6, .int (zi (optZ (bestF (sPts sh) a b (j + 1)).1))), (9, .int (zi (far (sPts sh) a b (a + 1 + j)))), (5, .int (zi (sqd (sPts sh) a b))), (0, .ref (aO ad)), (1, .int (zi (si : Int))), (2, .int (zi (a : Int))), (3, .int (zi (b : Int))), (4, .int (zi tol))]) hx hb dX4_farthest_93 hl (k := 3) rfl (by omega) (by decide) rfl (fun ls hl => ?_)
          refine lv_goto (tgt := 20) hx hb dX4_farthest_96 (by decide) ?_
          exact ih (j + 1) (by omega) (by omega) ls (lv_sub hl [0, 1, 2, 4, 5, 6, 7, 8, 9] rfl)
        refine lv_iload hx hb dX4_farthest_68 (lv_at hl 0 rfl) ?_
        refine lv_iload hx hb dX4_farthest_70 (lv_at hl 2 rfl) ?_
        refine r_le (tgt := 80) hx hb dX4_farthest_72 (by decide) ⟨by omega, by omega⟩ ⟨by omega, by omega⟩ (fun h72 => ?_) (fun h72 => ?_)
        · refine lv_iload hx hb dX4_farthest_80 (lv_at hl 3 rfl) ?_
          refine r_int (z := optZ (bestF (sPts sh) a b (j + 1)).1) ((bestF_n h72).symm) ?_
          exact J82
        refine lv_iload hx hb dX4_farthest_75 (lv_at hl 1 rfl) ?_
        refine lv_goto (tgt := 82) hx hb dX4_farthest_77 (by decide) ?_
        refine r_int (z := optZ (bestF (sPts sh) a b (j + 1)).1) ((bestF_y h72).symm) ?_
        exact J82
      refine lv_iload hx hb dX4_farthest_26 (lv_at hl 3 rfl) ?_
      refine r_ne0 (tgt := 42) hx hb dX4_farthest_28 (by decide) ⟨by omega, by omega⟩ (fun h28 => ?_) (fun h28 => ?_)
      · refine lv_aload_n hx hb dX4_farthest_42 rfl (lv_at hl 4 rfl) ?_
        refine lv_iload_n hx hb dX4_farthest_43 rfl (lv_at hl 5 rfl) ?_
        refine lv_iload_n hx hb dX4_farthest_44 rfl (lv_at hl 6 rfl) ?_
        refine lv_iload_n hx hb dX4_farthest_45 rfl (lv_at hl 7 rfl) ?_
        refine lv_aload_n hx hb dX4_farthest_46 rfl (lv_at hl 4 rfl) ?_
        refine lv_iload_n hx hb dX4_farthest_47 rfl (lv_at hl 5 rfl) ?_
        refine lv_iload hx hb dX4_farthest_48 (lv_at hl 0 rfl) ?_
        refine r_qi (z := pX (sPts sh) (a + 1 + j)) (va_runV (As := [.int (zi (si : Int)), .int (zi ((a + 1 + j : Nat) : Int))]) (rest := [.int (zi (b : Int)), .int (zi (a : Int)), .int (zi (si : Int)), .ref (aO ad)]) ⟨hx, hb, hml, hown, hts⟩ (m_x l g ad t si (a + 1 + j) (9 * si + (a + 1 + j)) (pX (sPts sh) (a + 1 + j)) (by omega) (by omega) ((hrow).2.2.2.2.2.2.2 (a + 1 + j) (by omega)).1) (cwV 2 hts (lw_V q1681 q1683 qs32 q69 q1684) rfl rfl rfl (by decide +kernel) ⟨Nat.le_of_ble_eq_true rfl, Nat.le_of_ble_eq_true rfl⟩) (pcs_V (va_recv hK hP (ci := 10) (q0 := 0) rfl rfl) hKq hP) rfl rfl hl.1 rfl (lv_room (Nat.le_of_ble_eq_true rfl)) dX4_farthest_50 ⟨Nat.le_of_ble_eq_true rfl, Nat.le_of_ble_eq_true rfl⟩) ?_
        refine lv_aload_n hx hb dX4_farthest_53 rfl (lv_at hl 4 rfl) ?_
        refine lv_iload_n hx hb dX4_farthest_54 rfl (lv_at hl 5 rfl) ?_
        refine lv_iload hx hb dX4_farthest_55 (lv_at hl 0 rfl) ?_
        refine r_qi (z := pY (sPts sh) (a + 1 + j)) (va_runV (As := [.int (zi (si : Int)), .int (zi ((a + 1 + j : Nat) : Int))]) (rest := [.int (zi (pX (sPts sh) (a + 1 + j))), .int (zi (b : Int)), .int (zi (a : Int)), .int (zi (si : Int)), .ref (aO ad)]) ⟨hx, hb, hml, hown, hts⟩ (m_y l g ad t si (a + 1 + j) (9 * si + (a + 1 + j)) (pY (sPts sh) (a + 1 + j)) (by omega) (by omega) ((hrow).2.2.2.2.2.2.2 (a + 1 + j) (by omega)).2) (cwV 2 hts (lw_V q1685 q1687 qs33 q69 q1688) rfl rfl rfl (by decide +kernel) ⟨Nat.le_of_ble_eq_true rfl, Nat.le_of_ble_eq_true rfl⟩) (pcs_V (va_recv hK hP (ci := 10) (q0 := 0) rfl rfl) hKq hP) rfl rfl hl.1 rfl (lv_room (Nat.le_of_ble_eq_true rfl)) dX4_farthest_57 ⟨Nat.le_of_ble_eq_true rfl, Nat.le_of_ble_eq_true rfl⟩) ?_
        refine r_qi (z := crsP (sPts sh) a b (pX (sPts sh) (a + 1 + j)) (pY (sPts sh) (a + 1 + j))) (va_runV (As := [.int (zi (si : Int)), .int (zi (a : Int)), .int (zi (b : Int)), .int (zi (pX (sPts sh) (a + 1 + j))), .int (zi (pY (sPts sh) (a + 1 + j)))]) (rest := []) ⟨hx, hb, hml, hown, hts⟩ (m_cross l g ad t σ si sh hT hs a b (pX (sPts sh) (a + 1 + j)) (pY (sPts sh) (a + 1 + j)) ha hb9) (cwV 5 hts (lw_V q1807 q1809 qs44 q69 q1810) rfl rfl rfl (by decide +kernel) ⟨Nat.le_of_ble_eq_true rfl, Nat.le_of_ble_eq_true rfl⟩) (pcs_V (va_recv hK hP (ci := 10) (q0 := 0) rfl rfl) hKq hP) rfl rfl hl.1 rfl (lv_room (Nat.le_of_ble_eq_true rfl)) dX4_farthest_60 ⟨Nat.le_of_ble_eq_true rfl, Nat.le_of_ble_eq_true rfl⟩) ?_
        refine va_mabs hx hb (hml.trans hl.1.symm) hown (hts _ q1811) (hts _ q1216) (hts _ q78) (hts _ q1217) (Nat.le_of_ble_eq_true rfl) (Nat.le_of_ble_eq_true rfl) (Nat.le_of_ble_eq_true rfl) (Nat.le_of_ble_eq_true rfl) dX4_farthest_63 ?_
        refine r_raw (z := iabs (crsP (sPts sh) a b (pX (sPts sh) (a + 1 + j)) (pY (sPts sh) (a + 1 + j)))) (zi_abs (fit8k (crs_b (hwp a ha).1 (hwp a ha).2 (hwp b hb9).1 (hwp b hb9).2 (hwp _ (by omega)).1 (hwp _ (by omega)).2))) ?_
        refine r_int (z := far (sPts sh) a b (a + 1 + j)) (by unfold far; rw [if_neg h28]) ?_
        exact J66
      refine lv_aload_n hx hb dX4_farthest_31 rfl (lv_at hl 4 rfl) ?_
      refine lv_iload_n hx hb dX4_farthest_32 rfl (lv_at hl 5 rfl) ?_
      refine lv_iload hx hb dX4_farthest_33 (lv_at hl 0 rfl) ?_
      refine lv_iload_n hx hb dX4_farthest_35 rfl (lv_at hl 6 rfl) ?_
      refine r_qi (z := sqd (sPts sh) (a + 1 + j) a) (va_runV (As := [.int (zi (si : Int)), .int (zi ((a + 1 + j : Nat) : Int)), .int (zi (a : Int))]) (rest := []) ⟨hx, hb, hml, hown, hts⟩ (m_squared l g ad t σ si sh hT hs (a + 1 + j) a (by omega) ha) (cwV 3 hts (lw_V q1803 q1805 qs43 q69 q1806) rfl rfl rfl (by decide +kernel) ⟨Nat.le_of_ble_eq_true rfl, Nat.le_of_ble_eq_true rfl⟩) (pcs_V (va_recv hK hP (ci := 10) (q0 := 0) rfl rfl) hKq hP) rfl rfl hl.1 rfl (lv_room (Nat.le_of_ble_eq_true rfl)) dX4_farthest_36 ⟨Nat.le_of_ble_eq_true rfl, Nat.le_of_ble_eq_true rfl⟩) ?_
      refine lv_goto (tgt := 66) hx hb dX4_farthest_39 (by decide) ?_
      refine r_int (z := far (sPts sh) a b (a + 1 + j)) (by unfold far; rw [if_pos h28]) ?_
      exact J66
  exact lp (b + 1) 0 (by omega) (by omega) ls (lv_sub hl [0, 1, 2, 3, 4, 5, 6, 7, 8] rfl)
set_option maxHeartbeats 4000000 in
set_option maxRecDepth 100000 in
theorem m_nextKept (l : Launch) (g : GD) (ad : TA) (t : TS) (N a b : Nat) (hN : N < 512) (hab : a < b) (hb9 : b < 9) (hbt : N.testBit b = true) (hno : ∀ j, a < j → j < b → N.testBit j = false) : Met l yX4_nextKept (ws_ yX4_nextKept cX4_nextKept 4 (some .int)) ({ frames := 1, cells := 0, slots := 0, locals := 40 } : Room) (pcs g [.ref (aO ad), .int (zi (N : Int)), .int (zi (a : Int))] noA (fun h => va_P g.1 vwCl (TW g ad t) h)) (qSi ((b : Int))) 0 0 noA := by
  refine Met.go (by decide) (Nat.le_of_ble_eq_true rfl) ?_
  intro p e s m args below meth c Q ls hQ hx hb hr hml hts hown hlocks hin hKH hF hl
  have hown : s.vm.findClass RX4 = some m.cls := hown
  have hK := hKH.k
  have hNW := hKH.1.nw
  have hl : lv_has ls 4 [(0, .ref (aO ad)), (1, .int (zi (N : Int))), (2, .int (zi (a : Int)))] := hl
  have hP : va_P g.1 vwCl (TW g ad t) s.heap := hF
  have hKq : KH g noA s s.heap := hKH
  refine lv_iload_n hx hb dX4_nextKept_0 rfl (lv_at hl 2 rfl) ?_
  refine r_c hx hb dX4_nextKept_1 ?_
  refine r_add (z := ((a + 1 : Nat) : Int)) hx hb dX4_nextKept_2 (by omega) ?_
  refine lv_istore_n (lv' := [(3, .int (zi ((a + 1 : Nat) : Int))), (0, .ref (aO ad)), (1, .int (zi (N : Int))), (2, .int (zi (a : Int)))]) hx hb dX4_nextKept_3 rfl hl (by decide) rfl (fun ls hl => ?_)
  have lp : ∀ (n : Nat) (k : Nat), (a < k) → (k ≤ b) → b < k + n → ∀ ls : Array Slot, lv_has ls 4 [(3, .int (zi (k : Int))), (0, .ref (aO ad)), (1, .int (zi (N : Int))), (2, .int (zi (a : Int)))] → W p l e ({ frames := 1, cells := 0, slots := 0, locals := 40 } : Room) s m args below meth c s.heap ([]) 0 0 Q (F0 m 4 ls []) := by
    intro n
    induction n with
    | zero =>
      intro k h1 h2 hbd
      exact absurd hbd (by omega)
    | succ n ih =>
      intro k h1 h2 hbd ls hl
      refine lv_iload_n hx hb dX4_nextKept_4 rfl (lv_at hl 2 rfl) ?_
      refine lv_iload_n hx hb dX4_nextKept_5 rfl (lv_at hl 0 rfl) ?_
      refine r_shr (z := ((N / 2 ^ k : Nat) : Int)) hx hb dX4_nextKept_6 (bit_at (by omega) (by omega)) ?_
      refine r_c hx hb dX4_nextKept_7 ?_
      refine r_and (z := bi (N.testBit k)) hx hb dX4_nextKept_8 (bit_and N k (by omega)) ?_
      refine r_ne0 (tgt := 18) hx hb dX4_nextKept_9 (by decide) (bi_fit _) (fun h9 => ?_) (fun h9 => ?_)
      · have hkb : k = b := by
          rcases Nat.lt_or_ge k b with q | q
          · exact absurd (bi_ne h9) (by rw [hno k h1 q]; decide)
          · omega
        refine lv_iload_n hx hb dX4_nextKept_18 rfl (lv_at hl 0 rfl) ?_
        rw [hQ]
        exact r_qret (z := (k : Int)) hx hb hr hlocks rfl dX4_nextKept_19 (by rw [hkb])
      have hkb : k < b := by
        rcases Nat.lt_or_ge k b with q | q
        · exact q
        · exact absurd (bi_eq h9) (by rw [show k = b by omega, hbt]; decide)
      refine r_iinc (z := ((k + 1 : Nat) : Int)) (lv' := [(3, .int (zi ((k + 1 : Nat) : Int))), (0, .ref (aO ad)), (1, .int (zi (N : Int))), (2, .int (zi (a : Int)))]) hx hb dX4_nextKept_12 hl (k := 0) rfl (by omega) (by decide) rfl (fun ls hl => ?_)
      refine lv_goto (tgt := 4) hx hb dX4_nextKept_15 (by decide) ?_
      exact ih (k + 1) (by omega) (by omega) (by omega) ls (lv_sub hl [0, 1, 2, 3] rfl)
  exact lp (b + 1) (a + 1) (by omega) (by omega) (by omega) ls (lv_sub hl [0, 1, 2, 3] rfl)
set_option maxHeartbeats 4000000 in
set_option maxRecDepth 100000 in
theorem m_kept (l : Launch) (g : GD) (ad : TA) (t : TS) (σ : Sg) (si : Nat) (sh : Sh) (hT : TR σ t) (hs : (gSh σ)[si]? = some sh) (lv : Int) (hv0 : 0 ≤ lv) (hv3 : lv ≤ 3) (hli : sAr sh = false) : Met l yX4_kept (ws_ yX4_kept cX4_kept 8 (some .int)) ({ frames := 4, cells := 0, slots := 0, locals := 116 } : Room) (pcs g [.ref (aO ad), .int (zi (si : Int)), .int (zi lv)] noA (fun h => va_P g.1 vwCl (TW g ad t) h)) (qS (fun v => ∃ N : Nat, v = some (.int (zi (N : Int))) ∧ N < 512 ∧ ∀ j, N.testBit j = keptB (sPts sh) (gTo σ lv.toNat) j)) 0 0 noA := by
  refine Met.go (by decide) (Nat.le_of_ble_eq_true rfl) ?_
  intro p e s m args below meth c Q ls hQ hx hb hr hml hts hown hlocks hin hKH hF hl
  have hown : s.vm.findClass RX4 = some m.cls := hown
  have hK := hKH.k
  have hNW := hKH.1.nw
  have hl : lv_has ls 8 [(0, .ref (aO ad)), (1, .int (zi (si : Int))), (2, .int (zi lv))] := hl
  have hP : va_P g.1 vwCl (TW g ad t) s.heap := hF
  have hKq : KH g noA s s.heap := hKH
  have hN := hT.n12
  have hsl := idx_lt hs
  have hrow := hT.s hs
  have hw := hT.ws hs
  have h9 := hw.2.1
  have hwp := hw.1
  have hto := hT.wto (j := lv.toNat) (by omega)
  have h2 : 2 ≤ (sPts sh).length := by
    rcases hw.2.2.1 with ⟨q, -⟩ | ⟨-, q, -⟩
    · rw [hli] at q; cases q
    · exact q
  obtain ⟨la, hla⟩ : ∃ la, (sPts sh).length - 1 = la := ⟨_, rfl⟩
  refine lv_aload_n hx hb dX4_kept_0 rfl (lv_at hl 0 rfl) ?_
  refine lv_iload_n hx hb dX4_kept_1 rfl (lv_at hl 1 rfl) ?_
  refine r_c hx hb dX4_kept_2 ?_
  refine r_qi (z := ((sPts sh).length : Int)) (va_runV (As := [.int (zi (si : Int)), .int (zi 2)]) (rest := []) ⟨hx, hb, hml, hown, hts⟩ (m_of l g ad t si 2 (7 * si + 2) (((sPts sh).length : Int)) (by omega) (by omega) (hrow.2.2.1)) (cwV 2 hts (lw_V q1673 q1675 qs30 q69 q1676) rfl rfl rfl (by decide +kernel) ⟨Nat.le_of_ble_eq_true rfl, Nat.le_of_ble_eq_true rfl⟩) (pcs_V (va_recv hK hP (ci := 10) (q0 := 0) rfl rfl) hKq hP) rfl rfl hl.1 rfl (lv_room (Nat.le_of_ble_eq_true rfl)) dX4_kept_3 ⟨Nat.le_of_ble_eq_true rfl, Nat.le_of_ble_eq_true rfl⟩) ?_
  refine r_c hx hb dX4_kept_6 ?_
  refine r_sub (z := (la : Int)) hx hb dX4_kept_7 (by omega) ?_
  refine lv_istore_n (lv' := [(3, .int (zi (la : Int))), (0, .ref (aO ad)), (1, .int (zi (si : Int))), (2, .int (zi lv))]) hx hb dX4_kept_8 rfl hl (by decide) rfl (fun ls hl => ?_)
  refine r_c hx hb dX4_kept_9 ?_
  refine r_c hx hb dX4_kept_10 ?_
  refine lv_iload_n hx hb dX4_kept_11 rfl (lv_at hl 0 rfl) ?_
  refine r_shl (z := ((2 ^ la : Nat) : Int)) hx hb dX4_kept_12 (shl_1 (by omega)) ?_
  refine r_or (z := ((1 ||| 2 ^ la : Nat) : Int)) hx hb dX4_kept_13 (or_nI 1 _) ?_
  refine lv_istore (lv' := [(4, .int (zi ((1 ||| 2 ^ la : Nat) : Int))), (3, .int (zi (la : Int))), (0, .ref (aO ad)), (1, .int (zi (si : Int))), (2, .int (zi lv))]) hx hb dX4_kept_14 hl (by decide) rfl (fun ls hl => ?_)
  refine r_c hx hb dX4_kept_16 ?_
  refine lv_istore (lv' := [(5, .int (zi 0)), (4, .int (zi ((1 ||| 2 ^ la : Nat) : Int))), (3, .int (zi (la : Int))), (0, .ref (aO ad)), (1, .int (zi (si : Int))), (2, .int (zi lv))]) hx hb dX4_kept_17 hl (by decide) rfl (fun ls hl => ?_)
  have lp : ∀ (n a b N : Nat), b - a ≤ n → a < b → b ≤ la → N < 512 → N.testBit b = true → (∀ j, a < j → j < b → N.testBit j = false) → (∀ N2 : Nat, N2 < 512 → (∀ j, N2.testBit j = (N.testBit j || dD (sPts sh) (gTo σ lv.toNat) a b j)) → ∀ ls : Array Slot, lv_has ls 8 [(5, .int (zi (b : Int))), (4, .int (zi (N2 : Int))), (3, .int (zi (la : Int))), (0, .ref (aO ad)), (1, .int (zi (si : Int))), (2, .int (zi lv))] → W p l e ({ frames := 4, cells := 0, slots := 0, locals := 116 } : Room) s m args below meth c s.heap ([]) 0 0 Q (F0 m 19 ls [])) → ∀ ls : Array Slot, lv_has ls 8 [(5, .int (zi (a : Int))), (4, .int (zi (N : Int))), (3, .int (zi (la : Int))), (0, .ref (aO ad)), (1, .int (zi (si : Int))), (2, .int (zi lv))] → W p l e ({ frames := 4, cells := 0, slots := 0, locals := 116 } : Room) s m args below meth c s.heap ([]) 0 0 Q (F0 m 19 ls []) := by
    intro n
    induction n with
    | zero =>
      intro a b N h1 h2
      exact absurd h1 (by omega)
    | succ n ih =>
      intro a b N hn hab hbl hN hbt hno hk ls hl
      refine lv_iload hx hb dX4_kept_19 (lv_at hl 0 rfl) ?_
      refine lv_iload_n hx hb dX4_kept_21 rfl (lv_at hl 2 rfl) ?_
      refine r_ge (tgt := 77) hx hb dX4_kept_22 (by decide) ⟨by omega, by omega⟩ ⟨by omega, by omega⟩ (fun h22 => ?_) (fun h22 => ?_)
      · exfalso; omega
      refine lv_aload_n hx hb dX4_kept_25 rfl (lv_at hl 3 rfl) ?_
      refine lv_iload hx hb dX4_kept_26 (lv_at hl 1 rfl) ?_
      refine lv_iload hx hb dX4_kept_28 (lv_at hl 0 rfl) ?_
      refine r_qi (z := (b : Int)) (va_runV (As := [.int (zi (N : Int)), .int (zi (a : Int))]) (rest := []) ⟨hx, hb, hml, hown, hts⟩ (m_nextKept l g ad t N a b hN hab (by omega) hbt hno) (cwV 2 hts (lw_V q1795 q1797 qs41 q69 q1798) rfl rfl rfl (by decide +kernel) ⟨Nat.le_of_ble_eq_true rfl, Nat.le_of_ble_eq_true rfl⟩) (pcs_V (va_recv hK hP (ci := 10) (q0 := 0) rfl rfl) hKq hP) rfl rfl hl.1 rfl (lv_room (Nat.le_of_ble_eq_true rfl)) dX4_kept_30 ⟨Nat.le_of_ble_eq_true rfl, Nat.le_of_ble_eq_true rfl⟩) ?_
      refine lv_istore (lv' := [(6, .int (zi (b : Int))), (5, .int (zi (a : Int))), (4, .int (zi (N : Int))), (3, .int (zi (la : Int))), (0, .ref (aO ad)), (1, .int (zi (si : Int))), (2, .int (zi lv))]) hx hb dX4_kept_33 hl (by decide) rfl (fun ls hl => ?_)
      refine lv_aload_n hx hb dX4_kept_35 rfl (lv_at hl 4 rfl) ?_
      refine lv_iload_n hx hb dX4_kept_36 rfl (lv_at hl 5 rfl) ?_
      refine lv_iload hx hb dX4_kept_37 (lv_at hl 1 rfl) ?_
      refine lv_iload hx hb dX4_kept_39 (lv_at hl 0 rfl) ?_
      refine lv_aload_n hx hb dX4_kept_41 rfl (lv_at hl 4 rfl) ?_
      refine va_get (D := g.1) (ci := 10) (v := .ref (aT ad)) (C := RX4) (T := TX4) (N := 16) hx hb hts in_X4 hown hK hP 0 rfl rfl 5 (by decide) (hts _ q1605) (fun _ h9 => h9) rfl dX4_kept_42 ?_
      refine lv_iload_n hx hb dX4_kept_45 rfl (lv_at hl 6 rfl) ?_
      refine r_iald (v := gTo σ lv.toNat) hx hb hK hP 4 0 rfl rfl (k := lv.toNat) (Int.toNat_of_nonneg hv0).symm (by omega) (by decide) (hT.to (by omega)) dX4_kept_46 ?_
      refine r_qi (z := optZ (farO (sPts sh) a b (gTo σ lv.toNat))) (va_runV (As := [.int (zi (si : Int)), .int (zi (a : Int)), .int (zi (b : Int)), .int (zi (gTo σ lv.toNat))]) (rest := []) ⟨hx, hb, hml, hown, hts⟩ (m_farthest l g ad t σ si sh hT hs a b (gTo σ lv.toNat) (by omega) (by omega) hto) (cwV 4 hts (lw_V q1799 q1801 qs42 q69 q1802) rfl rfl rfl (by decide +kernel) ⟨Nat.le_of_ble_eq_true rfl, Nat.le_of_ble_eq_true rfl⟩) (pcs_V (va_recv hK hP (ci := 10) (q0 := 0) rfl rfl) hKq hP) rfl rfl hl.1 rfl (lv_room (Nat.le_of_ble_eq_true rfl)) dX4_kept_47 ⟨Nat.le_of_ble_eq_true rfl, Nat.le_of_ble_eq_true rfl⟩) ?_
      refine lv_istore (lv' := [(7, .int (zi (optZ (farO (sPts sh) a b (gTo σ lv.toNat))))), (6, .int (zi (b : Int))), (5, .int (zi (a : Int))), (4, .int (zi (N : Int))), (3, .int (zi (la : Int))), (0, .ref (aO ad)), (1, .int (zi (si : Int))), (2, .int (zi lv))]) hx hb dX4_kept_50 hl (by decide) rfl (fun ls hl => ?_)
      refine lv_iload hx hb dX4_kept_52 (lv_at hl 0 rfl) ?_
      refine r_c hx hb dX4_kept_54 ?_
      refine r_ne (tgt := 65) hx hb dX4_kept_55 (by decide) (best_fit (fun k hk => Nat.le_of_lt (farO_in hk).2) (by omega)) ⟨by decide, by decide⟩ (fun h55 => ?_) (fun h55 => ?_)
      · obtain ⟨k, hk9⟩ : ∃ k, farO (sPts sh) a b (gTo σ lv.toNat) = some k := by
          cases e : farO (sPts sh) a b (gTo σ lv.toNat) with
          | none => rw [e] at h55; exact absurd rfl h55
          | some k => exact ⟨k, rfl⟩
        have hin := farO_in hk9
        rw [show optZ (farO (sPts sh) a b (gTo σ lv.toNat)) = (k : Int) by rw [hk9]; rfl] at hl
        refine lv_iload hx hb dX4_kept_65 (lv_at hl 3 rfl) ?_
        refine r_c hx hb dX4_kept_67 ?_
        refine lv_iload hx hb dX4_kept_68 (lv_at hl 0 rfl) ?_
        refine r_shl (z := ((2 ^ k : Nat) : Int)) hx hb dX4_kept_70 (shl_1 (by omega)) ?_
        refine r_or (z := ((N ||| 2 ^ k : Nat) : Int)) hx hb dX4_kept_71 (or_nI N _) ?_
        refine lv_istore (lv' := [(4, .int (zi ((N ||| 2 ^ k : Nat) : Int))), (7, .int (zi (k : Int))), (6, .int (zi (b : Int))), (5, .int (zi (a : Int))), (3, .int (zi (la : Int))), (0, .ref (aO ad)), (1, .int (zi (si : Int))), (2, .int (zi lv))]) hx hb dX4_kept_72 hl (by decide) rfl (fun ls hl => ?_)
        refine lv_goto (tgt := 19) hx hb dX4_kept_74 (by decide) ?_
        obtain ⟨hN1, hb1⟩ := or_bit hN (show k < 9 by omega)
        exact ih a k (N ||| 2 ^ k) (by omega) hin.1 (by omega) hN1 (by rw [hb1]; simp) (fun j h1 h2 => by rw [hb1, hno j h1 (by omega), Bool.false_or]; exact beq_false_of_ne (by omega)) (fun N2 hN2 hb2 ls hl => ih k b N2 (by omega) hin.2 hbl hN2 (by rw [hb2, hb1, hbt]; rfl) (fun j h1 h2 => by rw [hb2, hb1, hno j (by omega) h2, Bool.false_or, show (j == k) = false from beq_false_of_ne (by omega), Bool.false_or]; exact dD_out (by omega) (by omega)) (fun N3 hN3 hb3 ls hl => hk N3 hN3 (fun j => by rw [hb3, hb2, hb1, dD_some (by omega) hk9, Bool.or_assoc, Bool.or_assoc, Bool.or_assoc]) ls hl) ls hl) ls (lv_sub hl [3, 0, 4, 5, 6, 7] rfl)
      refine lv_iload hx hb dX4_kept_58 (lv_at hl 1 rfl) ?_
      refine lv_istore (lv' := [(5, .int (zi (b : Int))), (7, .int (zi (optZ (farO (sPts sh) a b (gTo σ lv.toNat))))), (6, .int (zi (b : Int))), (4, .int (zi (N : Int))), (3, .int (zi (la : Int))), (0, .ref (aO ad)), (1, .int (zi (si : Int))), (2, .int (zi lv))]) hx hb dX4_kept_60 hl (by decide) rfl (fun ls hl => ?_)
      refine lv_goto (tgt := 74) hx hb dX4_kept_62 (by decide) ?_
      refine lv_goto (tgt := 19) hx hb dX4_kept_74 (by decide) ?_
      exact hk N hN (fun j => by rw [dD_none (optZ_neg.mp h55), Bool.or_false]) ls (lv_sub hl [0, 3, 4, 5, 6, 7] rfl)
  obtain ⟨hN0, hb0⟩ := or_bit (N := 1) (by decide) (show la < 9 by omega)
  refine lp la 0 la (1 ||| 2 ^ la) (by omega) (by omega) (Nat.le_refl _) hN0 (by rw [hb0]; simp) (fun j h1 h2 => by rw [hb0, bit1, show (j == 0) = false from beq_false_of_ne (by omega), Bool.false_or]; exact beq_false_of_ne (by omega)) (fun N' hN' hb' ls hl => ?_) ls (lv_sub hl [0, 1, 2, 3, 4, 5] rfl)
  refine lv_iload hx hb dX4_kept_19 (lv_at hl 0 rfl) ?_
  refine lv_iload_n hx hb dX4_kept_21 rfl (lv_at hl 2 rfl) ?_
  refine r_ge (tgt := 77) hx hb dX4_kept_22 (by decide) ⟨by omega, by omega⟩ ⟨by omega, by omega⟩ (fun h22 => ?_) (fun h22 => ?_)
  · refine lv_iload hx hb dX4_kept_77 (lv_at hl 1 rfl) ?_
    rw [hQ]
    exact r_iret hx hb hr hlocks rfl (Nat.le_refl 0) (Nat.le_refl 0) noLocs dX4_kept_79 (fun t9 ht => ⟨_, rfl, ⟨N', rfl, hN', fun j => by rw [hb', hb0, bit1]; unfold keptB; rw [hla]⟩, ht⟩)
  · exfalso; omega
