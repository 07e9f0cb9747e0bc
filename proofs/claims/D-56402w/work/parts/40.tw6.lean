/-! THE TWIN: calls that change (printed by gen/twin6.py) -/
set_option maxHeartbeats 4000000 in
set_option maxRecDepth 100000 in
theorem m_addLine (l : Launch) (g : GD) (ad : TA) (hN9 : (fpT ad).Nodup) (sz : Nat) (fm fx fy ft fc fp fle flo : Nat → Int) (fn fl fh fk fhi fmi fd fth : Int) (σ : Sg) (x1 y1 x2 y2 : Int) (h_x1 : fit x1) (h_y1 : fit y1) (h_x2 : fit x2) (h_y2 : fit y2) (hT : TR σ (fm, fn, fl, fx, fy, ft, fc, fh, fk, fhi, fmi, fd, fth, fp, fle, flo)) (hRM : RMs σ) : Met l yX4_addLine (ws_ yX4_addLine cX4_addLine 7 (some .int)) ({ frames := 4, cells := 0, slots := 0, locals := 116 } : Room) (pcs g [.ref (aO ad), .int (zi x1), .int (zi y1), .int (zi x2), .int (zi y2)] (nA (fpT ad) sz) (fun h => h.size = sz ∧ va_P g.1 vwCl (TW g ad (fm, fn, fl, fx, fy, ft, fc, fh, fk, fhi, fmi, fd, fth, fp, fle, flo)) h)) (qRi (nA (fpT ad) sz) ((opAddLine σ x1 y1 x2 y2).2.1) (fun h => ∃ t9 : TS, va_P g.1 vwCl (TW g ad t9) h ∧ TR (opAddLine σ x1 y1 x2 y2).2.2 t9 ∧ uTh t9 = (opAddLine σ x1 y1 x2 y2).1)) 0 0 (nA (fpT ad) sz) := by
  refine Met.go (by decide) (Nat.le_of_ble_eq_true rfl) ?_
  intro p e s m args below meth c Q ls hQ hx hb hr hml hts hown hlocks hin hKH hF hl
  have hown : s.vm.findClass RX4 = some m.cls := hown
  have hK := hKH.k
  have hNW := hKH.1.nw
  have hl : lv_has ls 7 [(0, .ref (aO ad)), (1, .int (zi x1)), (2, .int (zi y1)), (3, .int (zi x2)), (4, .int (zi y2))] := hl
  obtain ⟨hsz, hP⟩ := hF
  subst hsz
  obtain ⟨A, hAe⟩ : ∃ A, A = nA (fpT ad) s.heap.size := ⟨_, rfl⟩
  rw [← hAe] at hKH hQ
  have hAf : ∀ q ∈ fpT ad, A q := fun q h => by rw [hAe]; exact nA_in h
  have hA : ∀ q : Nat, s.heap.size ≤ q → A q := fun q h => by rw [hAe]; exact nA_new h
  have hD : va_D A (TW g ad (fm, fn, fl, fx, fy, ft, fc, fh, fk, fhi, fmi, fd, fth, fp, fle, flo)) := tw_D _ hN9 hAf
  have hS : va_S A s.heap s.heap [] := va_S.rf
  have hKq : KH g noA s s.heap := hKH.narrow (fun _ q => q.elim)
  have hP : va_P g.1 vwCl (TW g ad (fm, fn, fl, fx, fy, ft, fc, fh, fk, fhi, fmi, fd, fth, fp, fle, flo)) s.heap := hP
  have hN := hT.n12
  have h5 := hT.c5
  have hfn : fn = ((gSh σ).length : Int) := hT.n
  have hfl : fl = gLa σ := hT.la
  have hwf := hT.1
  obtain ⟨rm1, rm2, rm3, rm4, rm5⟩ := hRM
  have hab := addT_b (decide (okL x1 y1 x2 y2)) (gSh σ).length
  obtain ⟨hl0, hl1⟩ := hwf.2.2.2.2.2.1
  have J34 : W p l e ({ frames := 4, cells := 0, slots := 0, locals := 116 } : Room) s m args below meth c s.heap ([]) 0 0 Q (F0 m 34 ls [.int (zi (bi (decide (okL x1 y1 x2 y2))))]) := by
    refine lv_istore (lv' := [(5, .int (zi (bi (decide (okL x1 y1 x2 y2))))), (0, .ref (aO ad)), (1, .int (zi x1)), (2, .int (zi y1)), (3, .int (zi x2)), (4, .int (zi y2))]) hx hb dX4_addLine_34 hl (by decide) rfl (fun ls hl => ?_)
    refine lv_aload_n hx hb dX4_addLine_36 rfl (lv_at hl 1 rfl) ?_
    have J60 : W p l e ({ frames := 4, cells := 0, slots := 0, locals := 116 } : Room) s m args below meth c s.heap ([]) 0 0 Q (F0 m 60 ls [.int (zi (addT (decide (okL x1 y1 x2 y2)) (gSh σ).length)), .ref (aO ad)]) := by
      refine va_put (D := g.1) (ci := 10) (v := .int (zi (addT (decide (okL x1 y1 x2 y2)) (gSh σ).length))) (ty := .int) (C := RX4) (T := TX4) (N := 16) hx hb hts in_X4 tyX4 tyX4_ok nmX4 hown hK hP hD hS 0 rfl rfl 12 (by decide) (hts _ q1612) (fun _ h9 => h9) rfl (by decide +kernel) rfl rfl (Nat.le_of_ble_eq_true rfl) dX4_addLine_60 (fun H locs hP hD hS => ?_)
      have hP : va_P g.1 vwCl (TW g ad (fm, fn, fl, fx, fy, ft, fc, fh, fk, fhi, fmi, fd, addT (decide (okL x1 y1 x2 y2)) (gSh σ).length, fp, fle, flo)) H := hP
      have hD : va_D A (TW g ad (fm, fn, fl, fx, fy, ft, fc, fh, fk, fhi, fmi, fd, addT (decide (okL x1 y1 x2 y2)) (gSh σ).length, fp, fle, flo)) := hD
      have hKq : KH g noA s H := (hKH.at hS).narrow (fun _ z => z.elim)
      have hT : TR σ (fm, fn, fl, fx, fy, ft, fc, fh, fk, fhi, fmi, fd, addT (decide (okL x1 y1 x2 y2)) (gSh σ).length, fp, fle, flo) := TR.thr hT
      refine lv_aload_n hx hb dX4_addLine_63 rfl (lv_at hl 1 rfl) ?_
      refine va_get (D := g.1) (ci := 10) (v := .int (zi (addT (decide (okL x1 y1 x2 y2)) (gSh σ).length))) (C := RX4) (T := TX4) (N := 16) hx hb hts in_X4 hown hK hP 0 rfl rfl 12 (by decide) (hts _ q1612) (fun _ h9 => h9) rfl dX4_addLine_64 ?_
      refine r_le0 (tgt := 72) hx hb dX4_addLine_67 (by decide) ⟨by omega, by omega⟩ (fun h67 => ?_) (fun h67 => ?_)
      · obtain ⟨ht0, hok9, hn12⟩ := addT_0 h67
        have hok : okL x1 y1 x2 y2 := of_decide_eq_true hok9
        have eo : opAddLine σ x1 y1 x2 y2 = (0, fl + 1, addSh σ (lineS (fl + 1) x1 y1 x2 y2)) := by
          rw [hfl]
          exact opR_y ht0
        refine lv_aload_n hx hb dX4_addLine_72 rfl (lv_at hl 1 rfl) ?_
        refine r_c hx hb dX4_addLine_73 ?_
        refine lv_iload_n hx hb dX4_addLine_74 rfl (lv_at hl 2 rfl) ?_
        refine lv_iload_n hx hb dX4_addLine_75 rfl (lv_at hl 3 rfl) ?_
        refine r_c hx hb dX4_addLine_76 ?_
        refine r_c hx hb dX4_addLine_77 ?_
        have hFc : ∀ q, nA (fpT ad) H.size q → A q := by rw [hAe]; exact nA_sub (fun _ h => h) hS.1
        refine r_r (va_runV (As := [.int (zi 0), .int (zi x1), .int (zi y1), .int (zi 0), .int (zi 0)]) (rest := []) ⟨hx, hb, hml, hown, hts⟩ (m_begins l g ad hN9 H.size fm fx fy ft fc fp fle flo fn fl fh fk fhi fmi fd (addT (decide (okL x1 y1 x2 y2)) (gSh σ).length) (gSh σ).length 0 x1 y1 0 0 hfn (by omega)) (cwV 5 hts (lw_V q1665 q1667 qs28 q69 q1668) rfl rfl rfl (by decide +kernel) ⟨Nat.le_of_ble_eq_true rfl, Nat.le_of_ble_eq_true rfl⟩) (pcs_V (va_recv hK hP (ci := 10) (q0 := 0) rfl rfl) ((hKH.at hS).narrow hFc) ⟨rfl, hP⟩) rfl rfl hl.1 rfl (lv_room (Nat.le_of_ble_eq_true rfl)) dX4_addLine_78 ⟨Nat.le_of_ble_eq_true rfl, Nat.le_of_ble_eq_true rfl⟩) hS (fun q _ h => hFc q h) hFc (fun v9 H locs hp9 hz9 hk9 hS => ?_)
        obtain ⟨rfl, hP⟩ := hp9
        have hD : va_D A (TW g ad (bgM fm (gSh σ).length (fl + 1) 0 0 0, fn + 1, fl + 1, va_up fx (9 * (gSh σ).length) x1, va_up fy (9 * (gSh σ).length) y1, ft, fc, fh, fk, fhi, fmi, fd, addT (decide (okL x1 y1 x2 y2)) (gSh σ).length, fp, fle, flo)) := tw_D _ hN9 hAf
        have hKq : KH g noA s H := (hKH.at hS).narrow (fun _ q => q.elim)
        refine r_st1 ?_
        refine lv_istore (lv' := [(6, .int (zi ((gSh σ).length : Int))), (5, .int (zi (bi (decide (okL x1 y1 x2 y2))))), (0, .ref (aO ad)), (1, .int (zi x1)), (2, .int (zi y1)), (3, .int (zi x2)), (4, .int (zi y2))]) hx hb dX4_addLine_81 hl (by decide) rfl (fun ls hl => ?_)
        refine lv_aload_n hx hb dX4_addLine_83 rfl (lv_at hl 2 rfl) ?_
        refine lv_iload hx hb dX4_addLine_84 (lv_at hl 0 rfl) ?_
        refine lv_iload_n hx hb dX4_addLine_86 rfl (lv_at hl 5 rfl) ?_
        refine lv_iload hx hb dX4_addLine_87 (lv_at hl 6 rfl) ?_
        have hFc : ∀ q, nA (fpT ad) H.size q → A q := by rw [hAe]; exact nA_sub (fun _ h => h) hS.1
        refine r_r (va_runV (As := [.int (zi ((gSh σ).length : Int)), .int (zi x2), .int (zi y2)]) (rest := []) ⟨hx, hb, hml, hown, hts⟩ (m_puts l g ad hN9 H.size (bgM fm (gSh σ).length (fl + 1) 0 0 0) (va_up fx (9 * (gSh σ).length) x1) (va_up fy (9 * (gSh σ).length) y1) ft fc fp fle flo (fn + 1) (fl + 1) fh fk fhi fmi fd (addT (decide (okL x1 y1 x2 y2)) (gSh σ).length) ((gSh σ).length) 1 x2 y2 (bgM_2) (by omega) (by omega)) (cwV 3 hts (lw_V q1669 q1671 qs29 q69 q1672) rfl rfl rfl (by decide +kernel) ⟨Nat.le_of_ble_eq_true rfl, Nat.le_of_ble_eq_true rfl⟩) (pcs_V (va_recv hK hP (ci := 10) (q0 := 0) rfl rfl) ((hKH.at hS).narrow hFc) ⟨rfl, hP⟩) rfl rfl hl.1 rfl (lv_room (Nat.le_of_ble_eq_true rfl)) dX4_addLine_89 ⟨Nat.le_of_ble_eq_true rfl, Nat.le_of_ble_eq_true rfl⟩) hS (fun q _ h => hFc q h) hFc (fun v9 H locs hp9 hz9 hk9 hS => ?_)
        obtain ⟨rfl, hP⟩ := hp9
        have hD : va_D A (TW g ad (va_up (bgM fm (gSh σ).length (fl + 1) 0 0 0) (7 * ((gSh σ).length) + 2) ((1 : Nat) + 1), fn + 1, fl + 1, va_up (va_up fx (9 * (gSh σ).length) x1) (9 * ((gSh σ).length) + 1) x2, va_up (va_up fy (9 * (gSh σ).length) y1) (9 * ((gSh σ).length) + 1) y2, ft, fc, fh, fk, fhi, fmi, fd, addT (decide (okL x1 y1 x2 y2)) (gSh σ).length, fp, fle, flo)) := tw_D _ hN9 hAf
        have hKq : KH g noA s H := (hKH.at hS).narrow (fun _ q => q.elim)
        refine r_st1 ?_
        refine lv_pop hx hb dX4_addLine_92 rfl ?_
        have hT1 := hT.add0 (x := lineS (fl + 1) x1 y1 x2 y2) (fm' := va_up (bgM fm (gSh σ).length (fl + 1) 0 0 0) (7 * ((gSh σ).length) + 2) ((1 : Nat) + 1)) (fx' := va_up (va_up fx (9 * (gSh σ).length) x1) (9 * ((gSh σ).length) + 1) x2) (fy' := va_up (va_up fy (9 * (gSh σ).length) y1) (9 * ((gSh σ).length) + 1) y2) (th' := addT (decide (okL x1 y1 x2 y2)) (gSh σ).length) (by omega) (lineS_wf (by omega) hok) (by omega) (fun i hi => by rw [va_up_n _ _ (by omega), bgM_out hi]) (fun i hi => by rw [va_up_n _ _ (by omega), va_up_n _ _ (by omega), va_up_n _ _ (by omega), va_up_n _ _ (by omega)]; exact ⟨rfl, rfl⟩) (line_rows (σ := σ) rfl)
        have hs1 : (gSh (addS0 σ (lineS (fl + 1) x1 y1 x2 y2)))[(gSh σ).length]? = some (lineS (fl + 1) x1 y1 x2 y2) := app_at _ _ []
        refine lv_aload_n hx hb dX4_addLine_93 rfl (lv_at hl 2 rfl) ?_
        refine lv_iload hx hb dX4_addLine_94 (lv_at hl 0 rfl) ?_
        have hFc : ∀ q, nA (fpT ad) H.size q → A q := by rw [hAe]; exact nA_sub (fun _ h => h) hS.1
        refine r_r (va_runV (As := [.int (zi ((gSh σ).length : Int))]) (rest := []) ⟨hx, hb, hml, hown, hts⟩ (m_leave l g ad hN9 H.size (va_up (bgM fm (gSh σ).length (fl + 1) 0 0 0) (7 * ((gSh σ).length) + 2) ((1 : Nat) + 1)) (va_up (va_up fx (9 * (gSh σ).length) x1) (9 * ((gSh σ).length) + 1) x2) (va_up (va_up fy (9 * (gSh σ).length) y1) (9 * ((gSh σ).length) + 1) y2) ft fc fp fle flo (fn + 1) (fl + 1) fh fk fhi fmi fd (addT (decide (okL x1 y1 x2 y2)) (gSh σ).length) (addS0 σ (lineS (fl + 1) x1 y1 x2 y2)) ((gSh σ).length) (lineS (fl + 1) x1 y1 x2 y2) hT1 hs1) (cwV 1 hts (lw_V q1677 q1679 qs31 q69 q1680) rfl rfl rfl (by decide +kernel) ⟨Nat.le_of_ble_eq_true rfl, Nat.le_of_ble_eq_true rfl⟩) (pcs_V (va_recv hK hP (ci := 10) (q0 := 0) rfl rfl) ((hKH.at hS).narrow hFc) ⟨rfl, hP⟩) rfl rfl hl.1 rfl (lv_room (Nat.le_of_ble_eq_true rfl)) dX4_addLine_96 ⟨Nat.le_of_ble_eq_true rfl, Nat.le_of_ble_eq_true rfl⟩) hS (fun q _ h => hFc q h) hFc (fun v9 H locs hp9 hz9 hk9 hS => ?_)
        obtain ⟨rfl, f1, h1, hP, hT1⟩ := hp9
        have hD : va_D A (TW g ad (va_up (bgM fm (gSh σ).length (fl + 1) 0 0 0) (7 * ((gSh σ).length) + 2) ((1 : Nat) + 1), fn + 1, fl + 1, va_up (va_up fx (9 * (gSh σ).length) x1) (9 * ((gSh σ).length) + 1) x2, va_up (va_up fy (9 * (gSh σ).length) y1) (9 * ((gSh σ).length) + 1) y2, ft, f1, h1, fk, fhi, fmi, fd, addT (decide (okL x1 y1 x2 y2)) (gSh σ).length, fp, fle, flo)) := tw_D _ hN9 hAf
        have hKq : KH g noA s H := (hKH.at hS).narrow (fun _ q => q.elim)
        refine r_st1 ?_
        refine lv_pop hx hb dX4_addLine_99 rfl ?_
        refine lv_aload_n hx hb dX4_addLine_100 rfl (lv_at hl 2 rfl) ?_
        refine va_get (D := g.1) (ci := 10) (v := .int (zi (fl + 1))) (C := RX4) (T := TX4) (N := 16) hx hb hts in_X4 hown hK hP 0 rfl rfl 2 (by decide) (hts _ q1602) (fun _ h9 => h9) rfl dX4_addLine_101 ?_
        rw [hQ]
        refine r_int (z := (opAddLine σ x1 y1 x2 y2).2.1) (by rw [eo]) ?_
        exact r_iret hx hb hr hlocks rfl (Nat.le_refl 0) (Nat.le_refl 0) hS.2.2 dX4_addLine_104 (fun t9 ht => ⟨_, rfl, ⟨rfl, by rw [ht]; exact ⟨_, hP, by rw [eo]; exact hT1, by rw [eo]; exact ht0⟩⟩, hS.F ht⟩)
      have eo : opAddLine σ x1 y1 x2 y2 = (addT (decide (okL x1 y1 x2 y2)) (gSh σ).length, -1, σ) := opR_n (by omega)
      refine r_c hx hb dX4_addLine_70 ?_
      rw [hQ]
      refine r_int (z := (opAddLine σ x1 y1 x2 y2).2.1) (by rw [eo]) ?_
      exact r_iret hx hb hr hlocks rfl (Nat.le_refl 0) (Nat.le_refl 0) hS.2.2 dX4_addLine_71 (fun t9 ht => ⟨_, rfl, ⟨rfl, by rw [ht]; exact ⟨_, hP, by rw [eo]; exact hT, by rw [eo]⟩⟩, hS.F ht⟩)
    refine lv_iload hx hb dX4_addLine_37 (lv_at hl 0 rfl) ?_
    refine r_pne0 (tgt := 46) hx hb dX4_addLine_39 (by decide) (fun h39 => ?_) (fun h39 => ?_)
    · refine lv_aload_n hx hb dX4_addLine_46 rfl (lv_at hl 1 rfl) ?_
      refine va_get (D := g.1) (ci := 10) (v := .int (zi fn)) (C := RX4) (T := TX4) (N := 16) hx hb hts in_X4 hown hK hP 0 rfl rfl 1 (by decide) (hts _ q1601) (fun _ h9 => h9) rfl dX4_addLine_47 ?_
      refine r_bip hx hb dX4_addLine_50 (by decide) ?_
      refine r_ne (tgt := 59) hx hb dX4_addLine_52 (by decide) ⟨by omega, by omega⟩ ⟨by decide, by decide⟩ (fun h52 => ?_) (fun h52 => ?_)
      · refine r_c hx hb dX4_addLine_59 ?_
        refine r_int (z := addT (decide (okL x1 y1 x2 y2)) (gSh σ).length) (by unfold addT; first | (rw [if_pos (decide_eq_false h39)]) | (rw [if_neg (by rw [decide_eq_true h39]; decide), if_pos (by omega)]) | (rw [if_neg (by rw [decide_eq_true h39]; decide), if_neg (by omega)])) ?_
        exact J60
      refine r_c hx hb dX4_addLine_55 ?_
      refine lv_goto (tgt := 60) hx hb dX4_addLine_56 (by decide) ?_
      refine r_int (z := addT (decide (okL x1 y1 x2 y2)) (gSh σ).length) (by unfold addT; first | (rw [if_pos (decide_eq_false h39)]) | (rw [if_neg (by rw [decide_eq_true h39]; decide), if_pos (by omega)]) | (rw [if_neg (by rw [decide_eq_true h39]; decide), if_neg (by omega)])) ?_
      exact J60
    refine r_c hx hb dX4_addLine_42 ?_
    refine lv_goto (tgt := 60) hx hb dX4_addLine_43 (by decide) ?_
    refine r_int (z := addT (decide (okL x1 y1 x2 y2)) (gSh σ).length) (by unfold addT; first | (rw [if_pos (decide_eq_false h39)]) | (rw [if_neg (by rw [decide_eq_true h39]; decide), if_pos (by omega)]) | (rw [if_neg (by rw [decide_eq_true h39]; decide), if_neg (by omega)])) ?_
    exact J60
  refine lv_iload_n hx hb dX4_addLine_0 rfl (lv_at hl 1 rfl) ?_
  refine r_qi (z := bi (decide (0 ≤ x1 ∧ x1 ≤ 64))) (va_runS (As := [.int (zi x1)]) (rest := []) ⟨hx, hb, hml, hown, hts⟩ (m_isCoordinate l g x1 h_x1) (va_cwS 1 hts (lw_S q1658 q1659 q69 q1660) rfl rfl rfl (by decide +kernel) ⟨Nat.le_of_ble_eq_true rfl, Nat.le_of_ble_eq_true rfl⟩) (pcs_S hKq trivial) rfl rfl hl.1 rfl (lv_room (Nat.le_of_ble_eq_true rfl)) dX4_addLine_1 ⟨Nat.le_of_ble_eq_true rfl, Nat.le_of_ble_eq_true rfl⟩) ?_
  refine r_peq0 (tgt := 33) hx hb dX4_addLine_4 (by decide) (fun h4 => ?_) (fun h4 => ?_)
  · refine r_c hx hb dX4_addLine_33 ?_
    refine r_int (z := bi (decide (okL x1 y1 x2 y2))) (by first | exact bi_f (fun q => h4 q.1.1) | exact bi_f (fun q => h11 q.1.2) | exact bi_f (fun q => h18 q.2.1) | exact bi_f (fun q => h26 q.2.2)) ?_
    exact J34
  refine lv_iload_n hx hb dX4_addLine_7 rfl (lv_at hl 2 rfl) ?_
  refine r_qi (z := bi (decide (0 ≤ y1 ∧ y1 ≤ 64))) (va_runS (As := [.int (zi y1)]) (rest := []) ⟨hx, hb, hml, hown, hts⟩ (m_isCoordinate l g y1 h_y1) (va_cwS 1 hts (lw_S q1658 q1659 q69 q1660) rfl rfl rfl (by decide +kernel) ⟨Nat.le_of_ble_eq_true rfl, Nat.le_of_ble_eq_true rfl⟩) (pcs_S hKq trivial) rfl rfl hl.1 rfl (lv_room (Nat.le_of_ble_eq_true rfl)) dX4_addLine_8 ⟨Nat.le_of_ble_eq_true rfl, Nat.le_of_ble_eq_true rfl⟩) ?_
  refine r_peq0 (tgt := 33) hx hb dX4_addLine_11 (by decide) (fun h11 => ?_) (fun h11 => ?_)
  · refine r_c hx hb dX4_addLine_33 ?_
    refine r_int (z := bi (decide (okL x1 y1 x2 y2))) (by first | exact bi_f (fun q => h4 q.1.1) | exact bi_f (fun q => h11 q.1.2) | exact bi_f (fun q => h18 q.2.1) | exact bi_f (fun q => h26 q.2.2)) ?_
    exact J34
  refine lv_iload_n hx hb dX4_addLine_14 rfl (lv_at hl 3 rfl) ?_
  refine r_qi (z := bi (decide (0 ≤ x2 ∧ x2 ≤ 64))) (va_runS (As := [.int (zi x2)]) (rest := []) ⟨hx, hb, hml, hown, hts⟩ (m_isCoordinate l g x2 h_x2) (va_cwS 1 hts (lw_S q1658 q1659 q69 q1660) rfl rfl rfl (by decide +kernel) ⟨Nat.le_of_ble_eq_true rfl, Nat.le_of_ble_eq_true rfl⟩) (pcs_S hKq trivial) rfl rfl hl.1 rfl (lv_room (Nat.le_of_ble_eq_true rfl)) dX4_addLine_15 ⟨Nat.le_of_ble_eq_true rfl, Nat.le_of_ble_eq_true rfl⟩) ?_
  refine r_peq0 (tgt := 33) hx hb dX4_addLine_18 (by decide) (fun h18 => ?_) (fun h18 => ?_)
  · refine r_c hx hb dX4_addLine_33 ?_
    refine r_int (z := bi (decide (okL x1 y1 x2 y2))) (by first | exact bi_f (fun q => h4 q.1.1) | exact bi_f (fun q => h11 q.1.2) | exact bi_f (fun q => h18 q.2.1) | exact bi_f (fun q => h26 q.2.2)) ?_
    exact J34
  refine lv_iload hx hb dX4_addLine_21 (lv_at hl 4 rfl) ?_
  refine r_qi (z := bi (decide (0 ≤ y2 ∧ y2 ≤ 64))) (va_runS (As := [.int (zi y2)]) (rest := []) ⟨hx, hb, hml, hown, hts⟩ (m_isCoordinate l g y2 h_y2) (va_cwS 1 hts (lw_S q1658 q1659 q69 q1660) rfl rfl rfl (by decide +kernel) ⟨Nat.le_of_ble_eq_true rfl, Nat.le_of_ble_eq_true rfl⟩) (pcs_S hKq trivial) rfl rfl hl.1 rfl (lv_room (Nat.le_of_ble_eq_true rfl)) dX4_addLine_23 ⟨Nat.le_of_ble_eq_true rfl, Nat.le_of_ble_eq_true rfl⟩) ?_
  refine r_peq0 (tgt := 33) hx hb dX4_addLine_26 (by decide) (fun h26 => ?_) (fun h26 => ?_)
  · refine r_c hx hb dX4_addLine_33 ?_
    refine r_int (z := bi (decide (okL x1 y1 x2 y2))) (by first | exact bi_f (fun q => h4 q.1.1) | exact bi_f (fun q => h11 q.1.2) | exact bi_f (fun q => h18 q.2.1) | exact bi_f (fun q => h26 q.2.2)) ?_
    exact J34
  refine r_c hx hb dX4_addLine_29 ?_
  refine lv_goto (tgt := 34) hx hb dX4_addLine_30 (by decide) ?_
  refine r_int (z := bi (decide (okL x1 y1 x2 y2))) (bi_t ⟨⟨h4, h11⟩, h18, h26⟩) ?_
  exact J34
