/-! THE TWIN: leave (printed by gen/twin5.py) -/
set_option maxHeartbeats 4000000 in
set_option maxRecDepth 100000 in
theorem m_leave (l : Launch) (g : GD) (ad : TA) (hN9 : (fpT ad).Nodup) (sz : Nat) (fm fx fy ft fc fp fle flo : Nat → Int) (fn fl fh fk fhi fmi fd fth : Int) (σ : Sg) (si : Nat) (sh : Sh) (hT : TR σ (fm, fn, fl, fx, fy, ft, fc, fh, fk, fhi, fmi, fd, fth, fp, fle, flo)) (hs : (gSh σ)[si]? = some sh) : Met l yX4_leave (ws_ yX4_leave cX4_leave 9 (some .int)) ({ frames := 3, cells := 0, slots := 0, locals := 88 } : Room) (pcs g [.ref (aO ad), .int (zi (si : Int))] (nA (fpT ad) sz) (fun h => h.size = sz ∧ va_P g.1 vwCl (TW g ad (fm, fn, fl, fx, fy, ft, fc, fh, fk, fhi, fmi, fd, fth, fp, fle, flo)) h)) (qRi (nA (fpT ad) sz) (((gCa σ).length : Int) - ((stay (metSh sh) (gCa σ)).length : Int)) (fun h => ∃ (fc' : Nat → Int) (fh' : Int), va_P g.1 vwCl (TW g ad (fm, fn, fl, fx, fy, ft, fc', fh', fk, fhi, fmi, fd, fth, fp, fle, flo)) h ∧ TR (setCa σ (stay (metSh sh) (gCa σ))) (fm, fn, fl, fx, fy, ft, fc', fh', fk, fhi, fmi, fd, fth, fp, fle, flo))) 0 0 (nA (fpT ad) sz) := by
  refine Met.go (by decide) (Nat.le_of_ble_eq_true rfl) ?_
  intro p e s m args below meth c Q ls hQ hx hb hr hml hts hown hlocks hin hKH hF hl
  have hown : s.vm.findClass RX4 = some m.cls := hown
  have hK := hKH.k
  have hNW := hKH.1.nw
  have hl : lv_has ls 9 [(0, .ref (aO ad)), (1, .int (zi (si : Int)))] := hl
  obtain ⟨hsz, hP⟩ := hF
  subst hsz
  obtain ⟨A, hAe⟩ : ∃ A, A = nA (fpT ad) s.heap.size := ⟨_, rfl⟩
  rw [← hAe] at hKH hQ
  have hAf : ∀ q ∈ fpT ad, A q := fun q h => by rw [hAe]; exact nA_in h
  have hA : ∀ q : Nat, s.heap.size ≤ q → A q := fun q h => by rw [hAe]; exact nA_new h
  have hD : va_D A (TW g ad (fm, fn, fl, fx, fy, ft, fc, fh, fk, fhi, fmi, fd, fth, fp, fle, flo)) := tw_D _ hN9 hAf
  have hS : va_S A s.heap s.heap [] := va_S.rf
  have hKq : KH g noA s s.heap := hKH.narrow (fun _ q => q.elim)
  have hP : va_P g.1 vwCl (TW g ad (fm, fn, fl, fx, fy, ft, fc, fh, fk, fhi, fmi, fd, fth, fp, fle, flo)) s.heap := hP
  have hN := hT.n12
  have hsl := idx_lt hs
  have hrow := hT.s hs
  have hw := hT.ws hs
  have h9 := hw.2.1
  have hwp := hw.1
  have hl1 : 1 ≤ (sPts sh).length := by
    rcases hw.2.2.1 with ⟨-, q, -⟩ | ⟨-, q, -⟩ <;> omega
  have hh : fh = ((gCa σ).length : Int) := hT.h
  have hre : 0 ≤ sRe sh ∧ sRe sh ≤ 20 := by
    rcases hw.2.2.1 with ⟨-, -, q1, q2, -⟩ | ⟨-, -, q, -⟩ <;> omega
  refine lv_aload_n hx hb dX4_leave_0 rfl (lv_at hl 0 rfl) ?_
  refine lv_iload_n hx hb dX4_leave_1 rfl (lv_at hl 1 rfl) ?_
  refine r_c hx hb dX4_leave_2 ?_
  refine r_qi (z := sRe sh) (va_runV (As := [.int (zi (si : Int)), .int (zi 3)]) (rest := []) ⟨hx, hb, hml, hown, hts⟩ (m_of l g ad (fm, fn, fl, fx, fy, ft, fc, fh, fk, fhi, fmi, fd, fth, fp, fle, flo) si 3 (7 * si + 3) (sRe sh) (by omega) (by omega) (hrow.2.2.2.1)) (cwV 2 hts (lw_V q1673 q1675 qs30 q69 q1676) rfl rfl rfl (by decide +kernel) ⟨Nat.le_of_ble_eq_true rfl, Nat.le_of_ble_eq_true rfl⟩) (pcs_V (va_recv hK hP (ci := 10) (q0 := 0) rfl rfl) hKq hP) rfl rfl hl.1 rfl (lv_room (Nat.le_of_ble_eq_true rfl)) dX4_leave_3 ⟨Nat.le_of_ble_eq_true rfl, Nat.le_of_ble_eq_true rfl⟩) ?_
  refine lv_istore_n (lv' := [(2, .int (zi (sRe sh))), (0, .ref (aO ad)), (1, .int (zi (si : Int)))]) hx hb dX4_leave_6 rfl hl (by decide) rfl (fun ls hl => ?_)
  refine lv_aload_n hx hb dX4_leave_7 rfl (lv_at hl 1 rfl) ?_
  refine lv_iload_n hx hb dX4_leave_8 rfl (lv_at hl 2 rfl) ?_
  refine r_c hx hb dX4_leave_9 ?_
  refine r_qi (z := pX (sPts sh) 0) (va_runV (As := [.int (zi (si : Int)), .int (zi 0)]) (rest := []) ⟨hx, hb, hml, hown, hts⟩ (m_x l g ad (fm, fn, fl, fx, fy, ft, fc, fh, fk, fhi, fmi, fd, fth, fp, fle, flo) si 0 (9 * si + 0) (pX (sPts sh) 0) (by omega) (by omega) ((hrow).2.2.2.2.2.2.2 0 (by omega)).1) (cwV 2 hts (lw_V q1681 q1683 qs32 q69 q1684) rfl rfl rfl (by decide +kernel) ⟨Nat.le_of_ble_eq_true rfl, Nat.le_of_ble_eq_true rfl⟩) (pcs_V (va_recv hK hP (ci := 10) (q0 := 0) rfl rfl) hKq hP) rfl rfl hl.1 rfl (lv_room (Nat.le_of_ble_eq_true rfl)) dX4_leave_10 ⟨Nat.le_of_ble_eq_true rfl, Nat.le_of_ble_eq_true rfl⟩) ?_
  refine lv_istore_n (lv' := [(3, .int (zi (pX (sPts sh) 0))), (2, .int (zi (sRe sh))), (0, .ref (aO ad)), (1, .int (zi (si : Int)))]) hx hb dX4_leave_13 rfl hl (by decide) rfl (fun ls hl => ?_)
  refine lv_aload_n hx hb dX4_leave_14 rfl (lv_at hl 2 rfl) ?_
  refine lv_iload_n hx hb dX4_leave_15 rfl (lv_at hl 3 rfl) ?_
  refine r_c hx hb dX4_leave_16 ?_
  refine r_qi (z := pY (sPts sh) 0) (va_runV (As := [.int (zi (si : Int)), .int (zi 0)]) (rest := []) ⟨hx, hb, hml, hown, hts⟩ (m_y l g ad (fm, fn, fl, fx, fy, ft, fc, fh, fk, fhi, fmi, fd, fth, fp, fle, flo) si 0 (9 * si + 0) (pY (sPts sh) 0) (by omega) (by omega) ((hrow).2.2.2.2.2.2.2 0 (by omega)).2) (cwV 2 hts (lw_V q1685 q1687 qs33 q69 q1688) rfl rfl rfl (by decide +kernel) ⟨Nat.le_of_ble_eq_true rfl, Nat.le_of_ble_eq_true rfl⟩) (pcs_V (va_recv hK hP (ci := 10) (q0 := 0) rfl rfl) hKq hP) rfl rfl hl.1 rfl (lv_room (Nat.le_of_ble_eq_true rfl)) dX4_leave_17 ⟨Nat.le_of_ble_eq_true rfl, Nat.le_of_ble_eq_true rfl⟩) ?_
  refine lv_istore (lv' := [(4, .int (zi (pY (sPts sh) 0))), (3, .int (zi (pX (sPts sh) 0))), (2, .int (zi (sRe sh))), (0, .ref (aO ad)), (1, .int (zi (si : Int)))]) hx hb dX4_leave_20 hl (by decide) rfl (fun ls hl => ?_)
  refine lv_iload_n hx hb dX4_leave_22 rfl (lv_at hl 1 rfl) ?_
  refine lv_istore (lv' := [(5, .int (zi (pX (sPts sh) 0))), (4, .int (zi (pY (sPts sh) 0))), (3, .int (zi (pX (sPts sh) 0))), (2, .int (zi (sRe sh))), (0, .ref (aO ad)), (1, .int (zi (si : Int)))]) hx hb dX4_leave_23 hl (by decide) rfl (fun ls hl => ?_)
  refine lv_iload hx hb dX4_leave_25 (lv_at hl 1 rfl) ?_
  refine lv_istore (lv' := [(6, .int (zi (pY (sPts sh) 0))), (5, .int (zi (pX (sPts sh) 0))), (4, .int (zi (pY (sPts sh) 0))), (3, .int (zi (pX (sPts sh) 0))), (2, .int (zi (sRe sh))), (0, .ref (aO ad)), (1, .int (zi (si : Int)))]) hx hb dX4_leave_27 hl (by decide) rfl (fun ls hl => ?_)
  refine r_c hx hb dX4_leave_29 ?_
  refine lv_istore (lv' := [(7, .int (zi 1)), (6, .int (zi (pY (sPts sh) 0))), (5, .int (zi (pX (sPts sh) 0))), (4, .int (zi (pY (sPts sh) 0))), (3, .int (zi (pX (sPts sh) 0))), (2, .int (zi (sRe sh))), (0, .ref (aO ad)), (1, .int (zi (si : Int)))]) hx hb dX4_leave_30 hl (by decide) rfl (fun ls hl => ?_)
  have lq : ∀ (n : Nat) (j : Nat), (j + 1 ≤ (sPts sh).length) → (sPts sh).length < j + 1 + n → ∀ ls : Array Slot, lv_has ls 9 [(7, .int (zi ((j + 1 : Nat) : Int))), (6, .int (zi (mxF (pY (sPts sh)) j))), (5, .int (zi (mxF (pX (sPts sh)) j))), (4, .int (zi (mnF (pY (sPts sh)) j))), (3, .int (zi (mnF (pX (sPts sh)) j))), (2, .int (zi (sRe sh))), (0, .ref (aO ad)), (1, .int (zi (si : Int)))] → W p l e ({ frames := 3, cells := 0, slots := 0, locals := 88 } : Room) s m args below meth c s.heap ([]) 0 0 Q (F0 m 32 ls []) := by
    intro n
    induction n with
    | zero =>
      intro j hj hbd
      exact absurd hbd (by omega)
    | succ n ih =>
      intro j hj hbd ls hl
      refine lv_iload hx hb dX4_leave_32 (lv_at hl 0 rfl) ?_
      refine lv_aload_n hx hb dX4_leave_34 rfl (lv_at hl 6 rfl) ?_
      refine lv_iload_n hx hb dX4_leave_35 rfl (lv_at hl 7 rfl) ?_
      refine r_c hx hb dX4_leave_36 ?_
      refine r_qi (z := ((sPts sh).length : Int)) (va_runV (As := [.int (zi (si : Int)), .int (zi 2)]) (rest := [.int (zi ((j + 1 : Nat) : Int))]) ⟨hx, hb, hml, hown, hts⟩ (m_of l g ad (fm, fn, fl, fx, fy, ft, fc, fh, fk, fhi, fmi, fd, fth, fp, fle, flo) si 2 (7 * si + 2) (((sPts sh).length : Int)) (by omega) (by omega) (hrow.2.2.1)) (cwV 2 hts (lw_V q1673 q1675 qs30 q69 q1676) rfl rfl rfl (by decide +kernel) ⟨Nat.le_of_ble_eq_true rfl, Nat.le_of_ble_eq_true rfl⟩) (pcs_V (va_recv hK hP (ci := 10) (q0 := 0) rfl rfl) hKq hP) rfl rfl hl.1 rfl (lv_room (Nat.le_of_ble_eq_true rfl)) dX4_leave_37 ⟨Nat.le_of_ble_eq_true rfl, Nat.le_of_ble_eq_true rfl⟩) ?_
      refine r_ge (tgt := 103) hx hb dX4_leave_40 (by decide) ⟨by omega, by omega⟩ ⟨by omega, by omega⟩ (fun h40 => ?_) (fun h40 => ?_)
      · have hje : j = (sPts sh).length - 1 := by omega
        subst hje
        have b1 := mnF_b (f := pX (sPts sh)) (lo := 0) (hi := 64) ((sPts sh).length - 1) (fun k hk => (hwp k (by omega)).1)
        have b2 := mxF_b (f := pX (sPts sh)) (lo := 0) (hi := 64) ((sPts sh).length - 1) (fun k hk => (hwp k (by omega)).1)
        have b4 := mnF_b (f := pY (sPts sh)) (lo := 0) (hi := 64) ((sPts sh).length - 1) (fun k hk => (hwp k (by omega)).2)
        have b5 := mxF_b (f := pY (sPts sh)) (lo := 0) (hi := 64) ((sPts sh).length - 1) (fun k hk => (hwp k (by omega)).2)
        refine r_c hx hb dX4_leave_103 ?_
        refine lv_istore (lv' := [(7, .int (zi 0)), (6, .int (zi (mxF (pY (sPts sh)) ((sPts sh).length - 1)))), (5, .int (zi (mxF (pX (sPts sh)) ((sPts sh).length - 1)))), (4, .int (zi (mnF (pY (sPts sh)) ((sPts sh).length - 1)))), (3, .int (zi (mnF (pX (sPts sh)) ((sPts sh).length - 1)))), (2, .int (zi (sRe sh))), (0, .ref (aO ad)), (1, .int (zi (si : Int)))]) hx hb dX4_leave_104 hl (by decide) rfl (fun ls hl => ?_)
        refine lv_aload_n hx hb dX4_leave_106 rfl (lv_at hl 6 rfl) ?_
        refine va_get (D := g.1) (ci := 10) (v := .int (zi fh)) (C := RX4) (T := TX4) (N := 16) hx hb hts in_X4 hown hK hP 0 rfl rfl 7 (by decide) (hts _ q1607) (fun _ h9 => h9) rfl dX4_leave_107 ?_
        refine r_c hx hb dX4_leave_110 ?_
        refine r_sub (z := ((gCa σ).length : Int) - 1) hx hb dX4_leave_111 (by rw [hh]) ?_
        refine lv_istore (lv' := [(8, .int (zi (((gCa σ).length : Int) - 1))), (7, .int (zi 0)), (6, .int (zi (mxF (pY (sPts sh)) ((sPts sh).length - 1)))), (5, .int (zi (mxF (pX (sPts sh)) ((sPts sh).length - 1)))), (4, .int (zi (mnF (pY (sPts sh)) ((sPts sh).length - 1)))), (3, .int (zi (mnF (pX (sPts sh)) ((sPts sh).length - 1)))), (2, .int (zi (sRe sh))), (0, .ref (aO ad)), (1, .int (zi (si : Int)))]) hx hb dX4_leave_112 hl (by decide) rfl (fun ls hl => ?_)
        have lp : ∀ (n : Nat) (pre suf : List Ti) (f9 : Nat → Int) (h9 : Int), gCa σ = pre ++ suf → TR (setCa σ (pre ++ stay (metSh sh) suf)) (fm, fn, fl, fx, fy, ft, f9, h9, fk, fhi, fmi, fd, fth, fp, fle, flo) → pre.length < n → ∀ (H : Heap) (locs : List Loc), va_P g.1 vwCl (TW g ad (fm, fn, fl, fx, fy, ft, f9, h9, fk, fhi, fmi, fd, fth, fp, fle, flo)) H → va_S A s.heap H locs → ∀ ls : Array Slot, lv_has ls 9 [(8, .int (zi ((pre.length : Int) - 1))), (7, .int (zi ((suf.length : Int) - ((stay (metSh sh) suf).length : Int)))), (6, .int (zi (mxF (pY (sPts sh)) ((sPts sh).length - 1)))), (5, .int (zi (mxF (pX (sPts sh)) ((sPts sh).length - 1)))), (4, .int (zi (mnF (pY (sPts sh)) ((sPts sh).length - 1)))), (3, .int (zi (mnF (pX (sPts sh)) ((sPts sh).length - 1)))), (2, .int (zi (sRe sh))), (0, .ref (aO ad)), (1, .int (zi (si : Int)))] → W p l e ({ frames := 3, cells := 0, slots := 0, locals := 88 } : Room) s m args below meth c H locs 0 0 Q (F0 m 114 ls []) := by
          intro n
          induction n with
          | zero =>
            intro pre suf f9 h9 h1 h2 hbd
            exact absurd hbd (by omega)
          | succ n ih =>
            intro pre suf f9 h9 hps hT9 hbd H locs hP hS ls hl
            have hD : va_D A (TW g ad (fm, fn, fl, fx, fy, ft, f9, h9, fk, fhi, fmi, fd, fth, fp, fle, flo)) := tw_D _ hN9 hAf
            have hKq : KH g noA s H := (hKH.at hS).narrow (fun _ q => q.elim)
            have hl5 : (pre ++ stay (metSh sh) suf).length ≤ 5 := hT9.c5
            rw [List.length_append] at hl5
            refine lv_iload hx hb dX4_leave_114 (lv_at hl 0 rfl) ?_
            refine r_lt0 (tgt := 158) hx hb dX4_leave_116 (by decide) ⟨by omega, by omega⟩ (fun h116 => ?_) (fun h116 => ?_)
            · have hp0 : pre = [] := List.eq_nil_of_length_eq_zero (by omega)
              subst hp0
              refine lv_iload hx hb dX4_leave_158 (lv_at hl 1 rfl) ?_
              rw [hQ]
              refine r_int (z := ((gCa σ).length : Int) - ((stay (metSh sh) (gCa σ)).length : Int)) ((by have e : gCa σ = suf := hps; rw [e])) ?_
              exact r_iret hx hb hr hlocks rfl (Nat.le_refl 0) (Nat.le_refl 0) hS.2.2 dX4_leave_160 (fun t9 ht => ⟨_, rfl, ⟨rfl, by rw [ht]; exact ⟨f9, h9, hP, by have e : gCa σ = suf := hps; rw [e]; exact hT9⟩⟩, hS.F ht⟩)
            obtain ⟨a, x, happ, hal⟩ := last_of (q := pre) (n := pre.length - 1) (by omega)
            have hpl : (pre.length : Int) - 1 = (a.length : Int) := by omega
            rw [hpl] at hl
            rw [show pre ++ stay (metSh sh) suf = a ++ x :: stay (metSh sh) suf by rw [happ]; exact List.append_assoc ..] at hT9
            have hk9 : (gCa (setCa σ (a ++ x :: stay (metSh sh) suf)))[a.length]? = some x := app_at a x _
            refine lv_aload_n hx hb dX4_leave_119 rfl (lv_at hl 7 rfl) ?_
            refine lv_iload hx hb dX4_leave_120 (lv_at hl 0 rfl) ?_
            refine lv_iload_n hx hb dX4_leave_122 rfl (lv_at hl 5 rfl) ?_
            refine lv_iload_n hx hb dX4_leave_123 rfl (lv_at hl 6 rfl) ?_
            refine r_sub (z := (mnF (pX (sPts sh)) ((sPts sh).length - 1)) - (sRe sh)) hx hb dX4_leave_124 rfl ?_
            refine lv_iload hx hb dX4_leave_125 (lv_at hl 4 rfl) ?_
            refine lv_iload_n hx hb dX4_leave_127 rfl (lv_at hl 6 rfl) ?_
            refine r_sub (z := (mnF (pY (sPts sh)) ((sPts sh).length - 1)) - (sRe sh)) hx hb dX4_leave_128 rfl ?_
            refine lv_iload hx hb dX4_leave_129 (lv_at hl 3 rfl) ?_
            refine lv_iload_n hx hb dX4_leave_131 rfl (lv_at hl 6 rfl) ?_
            refine r_add (z := (mxF (pX (sPts sh)) ((sPts sh).length - 1)) + (sRe sh)) hx hb dX4_leave_132 rfl ?_
            refine lv_iload hx hb dX4_leave_133 (lv_at hl 2 rfl) ?_
            refine lv_iload_n hx hb dX4_leave_135 rfl (lv_at hl 6 rfl) ?_
            refine r_add (z := (mxF (pY (sPts sh)) ((sPts sh).length - 1)) + (sRe sh)) hx hb dX4_leave_136 rfl ?_
            refine r_qi (z := bi (metTi x ((mnF (pX (sPts sh)) ((sPts sh).length - 1)) - (sRe sh)) ((mnF (pY (sPts sh)) ((sPts sh).length - 1)) - (sRe sh)) ((mxF (pX (sPts sh)) ((sPts sh).length - 1)) + (sRe sh)) ((mxF (pY (sPts sh)) ((sPts sh).length - 1)) + (sRe sh)))) (va_runV (As := [.int (zi (a.length : Int)), .int (zi ((mnF (pX (sPts sh)) ((sPts sh).length - 1)) - (sRe sh))), .int (zi ((mnF (pY (sPts sh)) ((sPts sh).length - 1)) - (sRe sh))), .int (zi ((mxF (pX (sPts sh)) ((sPts sh).length - 1)) + (sRe sh))), .int (zi ((mxF (pY (sPts sh)) ((sPts sh).length - 1)) + (sRe sh)))]) (rest := []) ⟨hx, hb, hml, hown, hts⟩ (m_isMet l g ad (fm, fn, fl, fx, fy, ft, f9, h9, fk, fhi, fmi, fd, fth, fp, fle, flo) (setCa σ (a ++ x :: stay (metSh sh) suf)) hT9 a.length x hk9 ((mnF (pX (sPts sh)) ((sPts sh).length - 1)) - (sRe sh)) ((mnF (pY (sPts sh)) ((sPts sh).length - 1)) - (sRe sh)) ((mxF (pX (sPts sh)) ((sPts sh).length - 1)) + (sRe sh)) ((mxF (pY (sPts sh)) ((sPts sh).length - 1)) + (sRe sh)) ⟨by omega, by omega⟩ ⟨by omega, by omega⟩ ⟨by omega, by omega⟩ ⟨by omega, by omega⟩) (cwV 5 hts (lw_V q1691 q1693 qs34 q69 q1694) rfl rfl rfl (by decide +kernel) ⟨Nat.le_of_ble_eq_true rfl, Nat.le_of_ble_eq_true rfl⟩) (pcs_V (va_recv hK hP (ci := 10) (q0 := 0) rfl rfl) hKq hP) rfl rfl hl.1 rfl (lv_room (Nat.le_of_ble_eq_true rfl)) dX4_leave_137 ⟨Nat.le_of_ble_eq_true rfl, Nat.le_of_ble_eq_true rfl⟩) ?_
            refine r_beq0 (tgt := 152) hx hb dX4_leave_140 (by decide) (fun h140 => ?_) (fun h140 => ?_)
            · have hmet : metSh sh x = false := h140
              rw [show (suf.length : Int) - ((stay (metSh sh) suf).length : Int) = ((x :: suf).length : Int) - ((stay (metSh sh) (x :: suf)).length : Int) by rw [stay_n hmet, List.length_cons, List.length_cons]; omega] at hl
              rw [← stay_n hmet] at hT9
              refine r_iinc (z := (a.length : Int) - 1) (lv' := [(8, .int (zi ((a.length : Int) - 1))), (7, .int (zi (((x :: suf).length : Int) - ((stay (metSh sh) (x :: suf)).length : Int)))), (6, .int (zi (mxF (pY (sPts sh)) ((sPts sh).length - 1)))), (5, .int (zi (mxF (pX (sPts sh)) ((sPts sh).length - 1)))), (4, .int (zi (mnF (pY (sPts sh)) ((sPts sh).length - 1)))), (3, .int (zi (mnF (pX (sPts sh)) ((sPts sh).length - 1)))), (2, .int (zi (sRe sh))), (0, .ref (aO ad)), (1, .int (zi (si : Int)))]) hx hb dX4_leave_152 hl (k := 0) rfl (by omega) (by decide) rfl (fun ls hl => ?_)
              refine lv_goto (tgt := 114) hx hb dX4_leave_155 (by decide) ?_
              exact ih a (x :: suf) f9 h9 (by rw [hps, happ]; exact List.append_assoc ..) hT9 (by omega) H locs hP hS ls (lv_sub hl [0, 1, 2, 3, 4, 5, 6, 7, 8] rfl)
            have hmet : metSh sh x = true := h140
            refine lv_aload_n hx hb dX4_leave_143 rfl (lv_at hl 7 rfl) ?_
            refine lv_iload hx hb dX4_leave_144 (lv_at hl 0 rfl) ?_
            have hFc : ∀ q, nA (fpT ad) H.size q → A q := by rw [hAe]; exact nA_sub (fun _ h => h) hS.1
            refine r_r (va_runV (As := [.int (zi (a.length : Int))]) (rest := []) ⟨hx, hb, hml, hown, hts⟩ (m_drops l g ad hN9 H.size fm fx fy ft f9 fp fle flo fn fl h9 fk fhi fmi fd fth (setCa σ (a ++ x :: stay (metSh sh) suf)) a.length hT9 (idx_lt hk9)) (cwV 1 hts (lw_V q1698 q1700 qs35 q69 q1701) rfl rfl rfl (by decide +kernel) ⟨Nat.le_of_ble_eq_true rfl, Nat.le_of_ble_eq_true rfl⟩) (pcs_V (va_recv hK hP (ci := 10) (q0 := 0) rfl rfl) ((hKH.at hS).narrow hFc) ⟨rfl, hP⟩) rfl rfl hl.1 rfl (lv_room (Nat.le_of_ble_eq_true rfl)) dX4_leave_146 ⟨Nat.le_of_ble_eq_true rfl, Nat.le_of_ble_eq_true rfl⟩) hS (fun q _ h => hFc q h) hFc (fun v9 H locs hp9 hz9 hk9 hS => ?_)
            obtain ⟨rfl, f9, hP, hT9⟩ := hp9
            have hT9 : TR (setCa σ (a ++ stay (metSh sh) suf)) (fm, fn, fl, fx, fy, ft, f9, h9 - 1, fk, fhi, fmi, fd, fth, fp, fle, flo) := by
              rw [← app_er a x (stay (metSh sh) suf)]
              exact hT9
            have hD : va_D A (TW g ad (fm, fn, fl, fx, fy, ft, f9, h9 - 1, fk, fhi, fmi, fd, fth, fp, fle, flo)) := tw_D _ hN9 hAf
            have hKq : KH g noA s H := (hKH.at hS).narrow (fun _ q => q.elim)
            refine r_st0 ?_
            refine r_iinc (z := ((x :: suf).length : Int) - ((stay (metSh sh) (x :: suf)).length : Int)) (lv' := [(7, .int (zi (((x :: suf).length : Int) - ((stay (metSh sh) (x :: suf)).length : Int)))), (8, .int (zi (a.length : Int))), (6, .int (zi (mxF (pY (sPts sh)) ((sPts sh).length - 1)))), (5, .int (zi (mxF (pX (sPts sh)) ((sPts sh).length - 1)))), (4, .int (zi (mnF (pY (sPts sh)) ((sPts sh).length - 1)))), (3, .int (zi (mnF (pX (sPts sh)) ((sPts sh).length - 1)))), (2, .int (zi (sRe sh))), (0, .ref (aO ad)), (1, .int (zi (si : Int)))]) hx hb dX4_leave_149 hl (k := 1) rfl (by rw [stay_y hmet, List.length_cons]; omega) (by decide) rfl (fun ls hl => ?_)
            refine r_iinc (z := (a.length : Int) - 1) (lv' := [(8, .int (zi ((a.length : Int) - 1))), (7, .int (zi (((x :: suf).length : Int) - ((stay (metSh sh) (x :: suf)).length : Int)))), (6, .int (zi (mxF (pY (sPts sh)) ((sPts sh).length - 1)))), (5, .int (zi (mxF (pX (sPts sh)) ((sPts sh).length - 1)))), (4, .int (zi (mnF (pY (sPts sh)) ((sPts sh).length - 1)))), (3, .int (zi (mnF (pX (sPts sh)) ((sPts sh).length - 1)))), (2, .int (zi (sRe sh))), (0, .ref (aO ad)), (1, .int (zi (si : Int)))]) hx hb dX4_leave_152 hl (k := 1) rfl (by omega) (by decide) rfl (fun ls hl => ?_)
            refine lv_goto (tgt := 114) hx hb dX4_leave_155 (by decide) ?_
            exact ih a (x :: suf) f9 _ (by rw [hps, happ]; exact List.append_assoc ..) (by rw [stay_y hmet]; exact hT9) (by omega) H locs hP hS ls (lv_sub hl [0, 1, 2, 3, 4, 5, 6, 7, 8] rfl)
        exact lp ((gCa σ).length + 1) (gCa σ) [] fc fh (List.append_nil _).symm (by rw [show setCa σ (gCa σ ++ stay (metSh sh) []) = σ by rw [show gCa σ ++ stay (metSh sh) [] = gCa σ from List.append_nil _]]; exact hT) (Nat.lt_succ_self _) s.heap [] hP hS ls (lv_sub hl [0, 1, 2, 3, 4, 5, 6, 7, 8] rfl)
      have hlt : j + 1 < (sPts sh).length := by omega
      have b1 := mnF_b (f := pX (sPts sh)) (lo := 0) (hi := 64) j (fun k hk => (hwp k (by omega)).1)
      have b2 := mxF_b (f := pX (sPts sh)) (lo := 0) (hi := 64) j (fun k hk => (hwp k (by omega)).1)
      have b3 := hwp (j + 1) hlt
      have b4 := mnF_b (f := pY (sPts sh)) (lo := 0) (hi := 64) j (fun k hk => (hwp k (by omega)).2)
      have b5 := mxF_b (f := pY (sPts sh)) (lo := 0) (hi := 64) j (fun k hk => (hwp k (by omega)).2)
      refine lv_iload_n hx hb dX4_leave_43 rfl (lv_at hl 4 rfl) ?_
      refine lv_aload_n hx hb dX4_leave_44 rfl (lv_at hl 6 rfl) ?_
      refine lv_iload_n hx hb dX4_leave_45 rfl (lv_at hl 7 rfl) ?_
      refine lv_iload hx hb dX4_leave_46 (lv_at hl 0 rfl) ?_
      refine r_qi (z := pX (sPts sh) (j + 1)) (va_runV (As := [.int (zi (si : Int)), .int (zi ((j + 1 : Nat) : Int))]) (rest := [.int (zi (mnF (pX (sPts sh)) j))]) ⟨hx, hb, hml, hown, hts⟩ (m_x l g ad (fm, fn, fl, fx, fy, ft, fc, fh, fk, fhi, fmi, fd, fth, fp, fle, flo) si (j + 1) (9 * si + (j + 1)) (pX (sPts sh) (j + 1)) (by omega) (by omega) ((hrow).2.2.2.2.2.2.2 (j + 1) (by omega)).1) (cwV 2 hts (lw_V q1681 q1683 qs32 q69 q1684) rfl rfl rfl (by decide +kernel) ⟨Nat.le_of_ble_eq_true rfl, Nat.le_of_ble_eq_true rfl⟩) (pcs_V (va_recv hK hP (ci := 10) (q0 := 0) rfl rfl) hKq hP) rfl rfl hl.1 rfl (lv_room (Nat.le_of_ble_eq_true rfl)) dX4_leave_48 ⟨Nat.le_of_ble_eq_true rfl, Nat.le_of_ble_eq_true rfl⟩) ?_
      refine va_mmin hx hb (hml.trans hl.1.symm) hown (hts _ q1689) (hts _ q575) (hts _ q78) (hts _ q576) (Nat.le_of_ble_eq_true rfl) (Nat.le_of_ble_eq_true rfl) (Nat.le_of_ble_eq_true rfl) (Nat.le_of_ble_eq_true rfl) dX4_leave_51 ?_
      refine r_raw (z := min (mnF (pX (sPts sh)) j) (pX (sPts sh) (j + 1))) (zi_min _ _ ⟨by omega, by omega⟩ ⟨by omega, by omega⟩) ?_
      refine lv_istore_n (lv' := [(3, .int (zi (min (mnF (pX (sPts sh)) j) (pX (sPts sh) (j + 1))))), (7, .int (zi ((j + 1 : Nat) : Int))), (6, .int (zi (mxF (pY (sPts sh)) j))), (5, .int (zi (mxF (pX (sPts sh)) j))), (4, .int (zi (mnF (pY (sPts sh)) j))), (2, .int (zi (sRe sh))), (0, .ref (aO ad)), (1, .int (zi (si : Int)))]) hx hb dX4_leave_54 rfl hl (by decide) rfl (fun ls hl => ?_)
      refine lv_iload hx hb dX4_leave_55 (lv_at hl 4 rfl) ?_
      refine lv_aload_n hx hb dX4_leave_57 rfl (lv_at hl 6 rfl) ?_
      refine lv_iload_n hx hb dX4_leave_58 rfl (lv_at hl 7 rfl) ?_
      refine lv_iload hx hb dX4_leave_59 (lv_at hl 1 rfl) ?_
      refine r_qi (z := pY (sPts sh) (j + 1)) (va_runV (As := [.int (zi (si : Int)), .int (zi ((j + 1 : Nat) : Int))]) (rest := [.int (zi (mnF (pY (sPts sh)) j))]) ⟨hx, hb, hml, hown, hts⟩ (m_y l g ad (fm, fn, fl, fx, fy, ft, fc, fh, fk, fhi, fmi, fd, fth, fp, fle, flo) si (j + 1) (9 * si + (j + 1)) (pY (sPts sh) (j + 1)) (by omega) (by omega) ((hrow).2.2.2.2.2.2.2 (j + 1) (by omega)).2) (cwV 2 hts (lw_V q1685 q1687 qs33 q69 q1688) rfl rfl rfl (by decide +kernel) ⟨Nat.le_of_ble_eq_true rfl, Nat.le_of_ble_eq_true rfl⟩) (pcs_V (va_recv hK hP (ci := 10) (q0 := 0) rfl rfl) hKq hP) rfl rfl hl.1 rfl (lv_room (Nat.le_of_ble_eq_true rfl)) dX4_leave_61 ⟨Nat.le_of_ble_eq_true rfl, Nat.le_of_ble_eq_true rfl⟩) ?_
      refine va_mmin hx hb (hml.trans hl.1.symm) hown (hts _ q1689) (hts _ q575) (hts _ q78) (hts _ q576) (Nat.le_of_ble_eq_true rfl) (Nat.le_of_ble_eq_true rfl) (Nat.le_of_ble_eq_true rfl) (Nat.le_of_ble_eq_true rfl) dX4_leave_64 ?_
      refine r_raw (z := min (mnF (pY (sPts sh)) j) (pY (sPts sh) (j + 1))) (zi_min _ _ ⟨by omega, by omega⟩ ⟨by omega, by omega⟩) ?_
      refine lv_istore (lv' := [(4, .int (zi (min (mnF (pY (sPts sh)) j) (pY (sPts sh) (j + 1))))), (3, .int (zi (min (mnF (pX (sPts sh)) j) (pX (sPts sh) (j + 1))))), (7, .int (zi ((j + 1 : Nat) : Int))), (6, .int (zi (mxF (pY (sPts sh)) j))), (5, .int (zi (mxF (pX (sPts sh)) j))), (2, .int (zi (sRe sh))), (0, .ref (aO ad)), (1, .int (zi (si : Int)))]) hx hb dX4_leave_67 hl (by decide) rfl (fun ls hl => ?_)
      refine lv_iload hx hb dX4_leave_69 (lv_at hl 4 rfl) ?_
      refine lv_aload_n hx hb dX4_leave_71 rfl (lv_at hl 6 rfl) ?_
      refine lv_iload_n hx hb dX4_leave_72 rfl (lv_at hl 7 rfl) ?_
      refine lv_iload hx hb dX4_leave_73 (lv_at hl 2 rfl) ?_
      refine r_qi (z := pX (sPts sh) (j + 1)) (va_runV (As := [.int (zi (si : Int)), .int (zi ((j + 1 : Nat) : Int))]) (rest := [.int (zi (mxF (pX (sPts sh)) j))]) ⟨hx, hb, hml, hown, hts⟩ (m_x l g ad (fm, fn, fl, fx, fy, ft, fc, fh, fk, fhi, fmi, fd, fth, fp, fle, flo) si (j + 1) (9 * si + (j + 1)) (pX (sPts sh) (j + 1)) (by omega) (by omega) ((hrow).2.2.2.2.2.2.2 (j + 1) (by omega)).1) (cwV 2 hts (lw_V q1681 q1683 qs32 q69 q1684) rfl rfl rfl (by decide +kernel) ⟨Nat.le_of_ble_eq_true rfl, Nat.le_of_ble_eq_true rfl⟩) (pcs_V (va_recv hK hP (ci := 10) (q0 := 0) rfl rfl) hKq hP) rfl rfl hl.1 rfl (lv_room (Nat.le_of_ble_eq_true rfl)) dX4_leave_75 ⟨Nat.le_of_ble_eq_true rfl, Nat.le_of_ble_eq_true rfl⟩) ?_
      refine va_mmax hx hb (hml.trans hl.1.symm) hown (hts _ q1690) (hts _ q531) (hts _ q78) (hts _ q532) (Nat.le_of_ble_eq_true rfl) (Nat.le_of_ble_eq_true rfl) (Nat.le_of_ble_eq_true rfl) (Nat.le_of_ble_eq_true rfl) dX4_leave_78 ?_
      refine r_raw (z := max (mxF (pX (sPts sh)) j) (pX (sPts sh) (j + 1))) (zi_max _ _ ⟨by omega, by omega⟩ ⟨by omega, by omega⟩) ?_
      refine lv_istore (lv' := [(5, .int (zi (max (mxF (pX (sPts sh)) j) (pX (sPts sh) (j + 1))))), (4, .int (zi (min (mnF (pY (sPts sh)) j) (pY (sPts sh) (j + 1))))), (3, .int (zi (min (mnF (pX (sPts sh)) j) (pX (sPts sh) (j + 1))))), (7, .int (zi ((j + 1 : Nat) : Int))), (6, .int (zi (mxF (pY (sPts sh)) j))), (2, .int (zi (sRe sh))), (0, .ref (aO ad)), (1, .int (zi (si : Int)))]) hx hb dX4_leave_81 hl (by decide) rfl (fun ls hl => ?_)
      refine lv_iload hx hb dX4_leave_83 (lv_at hl 4 rfl) ?_
      refine lv_aload_n hx hb dX4_leave_85 rfl (lv_at hl 6 rfl) ?_
      refine lv_iload_n hx hb dX4_leave_86 rfl (lv_at hl 7 rfl) ?_
      refine lv_iload hx hb dX4_leave_87 (lv_at hl 3 rfl) ?_
      refine r_qi (z := pY (sPts sh) (j + 1)) (va_runV (As := [.int (zi (si : Int)), .int (zi ((j + 1 : Nat) : Int))]) (rest := [.int (zi (mxF (pY (sPts sh)) j))]) ⟨hx, hb, hml, hown, hts⟩ (m_y l g ad (fm, fn, fl, fx, fy, ft, fc, fh, fk, fhi, fmi, fd, fth, fp, fle, flo) si (j + 1) (9 * si + (j + 1)) (pY (sPts sh) (j + 1)) (by omega) (by omega) ((hrow).2.2.2.2.2.2.2 (j + 1) (by omega)).2) (cwV 2 hts (lw_V q1685 q1687 qs33 q69 q1688) rfl rfl rfl (by decide +kernel) ⟨Nat.le_of_ble_eq_true rfl, Nat.le_of_ble_eq_true rfl⟩) (pcs_V (va_recv hK hP (ci := 10) (q0 := 0) rfl rfl) hKq hP) rfl rfl hl.1 rfl (lv_room (Nat.le_of_ble_eq_true rfl)) dX4_leave_89 ⟨Nat.le_of_ble_eq_true rfl, Nat.le_of_ble_eq_true rfl⟩) ?_
      refine va_mmax hx hb (hml.trans hl.1.symm) hown (hts _ q1690) (hts _ q531) (hts _ q78) (hts _ q532) (Nat.le_of_ble_eq_true rfl) (Nat.le_of_ble_eq_true rfl) (Nat.le_of_ble_eq_true rfl) (Nat.le_of_ble_eq_true rfl) dX4_leave_92 ?_
      refine r_raw (z := max (mxF (pY (sPts sh)) j) (pY (sPts sh) (j + 1))) (zi_max _ _ ⟨by omega, by omega⟩ ⟨by omega, by omega⟩) ?_
      refine lv_istore (lv' := [(6, .int (zi (max (mxF (pY (sPts sh)) j) (pY (sPts sh) (j + 1))))), (5, .int (zi (max (mxF (pX (sPts sh)) j) (pX (sPts sh) (j + 1))))), (4, .int (zi (min (mnF (pY (sPts sh)) j) (pY (sPts sh) (j + 1))))), (3, .int (zi (min (mnF (pX (sPts sh)) j) (pX (sPts sh) (j + 1))))), (7, .int (zi ((j + 1 : Nat) : Int))), (2, .int (zi (sRe sh))), (0, .ref (aO ad)), (1, .int (zi (si : Int)))]) hx hb dX4_leave_95 hl (by decide) rfl (fun ls hl => ?_)
      refine r_iinc (z := ((j + 1 + 1 : Nat) : Int)) (lv' := [(7, .int (zi ((j + 1 + 1 : Nat) : Int))), (6, .int (zi (max (mxF (pY (sPts sh)) j) (pY (sPts sh) (j + 1))))), (5, .int (zi (max (mxF (pX (sPts sh)) j) (pX (sPts sh) (j + 1))))), (4, .int (zi (min (mnF (pY (sPts sh)) j) (pY (sPts sh) (j + 1))))), (3, .int (zi (min (mnF (pX (sPts sh)) j) (pX (sPts sh) (j + 1))))), (2, .int (zi (sRe sh))), (0, .ref (aO ad)), (1, .int (zi (si : Int)))]) hx hb dX4_leave_97 hl (k := 4) rfl (by omega) (by decide) rfl (fun ls hl => ?_)
      refine lv_goto (tgt := 32) hx hb dX4_leave_100 (by decide) ?_
      exact ih (j + 1) (by omega) (by omega) ls (lv_sub hl [0, 1, 2, 3, 4, 5, 6, 7] rfl)
  exact lq ((sPts sh).length) 0 hl1 (by omega) ls (lv_sub hl [0, 1, 2, 3, 4, 5, 6, 7] rfl)
set_option maxHeartbeats 4000000 in
set_option maxRecDepth 100000 in
theorem m_isPoint (l : Launch) (g : GD) (ad : TA) (hN9 : (fpT ad).Nodup) (sz : Nat) (fm fx fy ft fc fp fle flo : Nat → Int) (fn fl fh fk fhi fmi fd fth : Int) (σ : Sg) (v ix : Int) (hv : fit v) (hix : fit ix) (hT : TR σ (fm, fn, fl, fx, fy, ft, fc, fh, fk, fhi, fmi, fd, fth, fp, fle, flo)) : Met l yX4_isPoint (ws_ yX4_isPoint cX4_isPoint 3 (some .boolean)) ({ frames := 4, cells := 0, slots := 0, locals := 106 } : Room) (pcs g [.ref (aO ad), .int (zi v), .int (zi ix)] (nA (fpT ad) sz) (fun h => h.size = sz ∧ va_P g.1 vwCl (TW g ad (fm, fn, fl, fx, fy, ft, fc, fh, fk, fhi, fmi, fd, fth, fp, fle, flo)) h)) (qRi (nA (fpT ad) sz) (bi (decide (pointT (gSh σ) v ix = 0))) (fun h => va_P g.1 vwCl (TW g ad (fm, fn, fl, fx, fy, ft, fc, fh, fk, fhi, fmi, fd, pointT (gSh σ) v ix, fp, fle, flo)) h)) 0 0 (nA (fpT ad) sz) := by
  refine Met.go (by decide) (Nat.le_of_ble_eq_true rfl) ?_
  intro p e s m args below meth c Q ls hQ hx hb hr hml hts hown hlocks hin hKH hF hl
  have hown : s.vm.findClass RX4 = some m.cls := hown
  have hK := hKH.k
  have hNW := hKH.1.nw
  have hl : lv_has ls 3 [(0, .ref (aO ad)), (1, .int (zi v)), (2, .int (zi ix))] := hl
  obtain ⟨hsz, hP⟩ := hF
  subst hsz
  obtain ⟨A, hAe⟩ : ∃ A, A = nA (fpT ad) s.heap.size := ⟨_, rfl⟩
  rw [← hAe] at hKH hQ
  have hAf : ∀ q ∈ fpT ad, A q := fun q h => by rw [hAe]; exact nA_in h
  have hA : ∀ q : Nat, s.heap.size ≤ q → A q := fun q h => by rw [hAe]; exact nA_new h
  have hD : va_D A (TW g ad (fm, fn, fl, fx, fy, ft, fc, fh, fk, fhi, fmi, fd, fth, fp, fle, flo)) := tw_D _ hN9 hAf
  have hS : va_S A s.heap s.heap [] := va_S.rf
  have hKq : KH g noA s s.heap := hKH.narrow (fun _ q => q.elim)
  have hP : va_P g.1 vwCl (TW g ad (fm, fn, fl, fx, fy, ft, fc, fh, fk, fhi, fmi, fd, fth, fp, fle, flo)) s.heap := hP
  have hN := hT.n12
  obtain ⟨i1, i2⟩ := hix
  refine lv_aload_n hx hb dX4_isPoint_0 rfl (lv_at hl 0 rfl) ?_
  refine lv_iload_n hx hb dX4_isPoint_1 rfl (lv_at hl 1 rfl) ?_
  have hFc : ∀ q, nA (fpT ad) s.heap.size q → A q := by rw [hAe]; exact nA_sub (fun _ h => h) hS.1
  refine r_r (va_runV (As := [.int (zi v)]) (rest := []) ⟨hx, hb, hml, hown, hts⟩ (m_isLine l g ad hN9 s.heap.size fm fx fy ft fc fp fle flo fn fl fh fk fhi fmi fd fth σ v hv hT) (cwV 1 hts (lw_V q1706 q1708 qs36 q69 q1709) rfl rfl rfl (by decide +kernel) ⟨Nat.le_of_ble_eq_true rfl, Nat.le_of_ble_eq_true rfl⟩) (pcs_V (va_recv hK hP (ci := 10) (q0 := 0) rfl rfl) ((hKH.at hS).narrow hFc) ⟨rfl, hP⟩) rfl rfl hl.1 rfl (lv_room (Nat.le_of_ble_eq_true rfl)) dX4_isPoint_2 ⟨Nat.le_of_ble_eq_true rfl, Nat.le_of_ble_eq_true rfl⟩) hS (fun q _ h => hFc q h) hFc (fun v9 H locs hp9 hz9 hk9 hS => ?_)
  obtain ⟨rfl, hP⟩ := hp9
  have hT : TR σ (fm, fn, fl, fx, fy, ft, fc, fh, fk, fhi, fmi, fd, lineT (gSh σ) v, fp, fle, flo) := TR.thr hT
  have hD : va_D A (TW g ad (fm, fn, fl, fx, fy, ft, fc, fh, fk, fhi, fmi, fd, lineT (gSh σ) v, fp, fle, flo)) := tw_D _ hN9 hAf
  have hKq : KH g noA s H := (hKH.at hS).narrow (fun _ q => q.elim)
  refine r_st1 ?_
  refine r_peq0 (tgt := 39) hx hb dX4_isPoint_5 (by decide) (fun h5 => ?_) (fun h5 => ?_)
  · have ep := pointT_n (ix := ix) h5
    rw [← ep] at hP hD
    refine lv_aload_n hx hb dX4_isPoint_39 rfl (lv_at hl 0 rfl) ?_
    refine va_get (D := g.1) (ci := 10) (v := .int (zi (pointT (gSh σ) v ix))) (C := RX4) (T := TX4) (N := 16) hx hb hts in_X4 hown hK hP 0 rfl rfl 12 (by decide) (hts _ q1612) (fun _ h9 => h9) rfl dX4_isPoint_40 ?_
    refine r_ne0 (tgt := 50) hx hb dX4_isPoint_43 (by decide) (pointT_fit _ _ _) (fun h43 => ?_) (fun h43 => ?_)
    · refine r_c hx hb dX4_isPoint_50 ?_
      rw [hQ]
      refine r_int (z := bi (decide (pointT (gSh σ) v ix = 0))) (by first | exact bi_t (by omega) | exact bi_f (by omega)) ?_
      exact r_iret hx hb hr hlocks (bi_nar _) (Nat.le_refl 0) (Nat.le_refl 0) hS.2.2 dX4_isPoint_51 (fun t9 ht => ⟨_, rfl, ⟨rfl, by rw [ht]; exact hP⟩, hS.F ht⟩)
    refine r_c hx hb dX4_isPoint_46 ?_
    refine lv_goto (tgt := 51) hx hb dX4_isPoint_47 (by decide) ?_
    rw [hQ]
    refine r_int (z := bi (decide (pointT (gSh σ) v ix = 0))) (by first | exact bi_t (by omega) | exact bi_f (by omega)) ?_
    exact r_iret hx hb hr hlocks (bi_nar _) (Nat.le_refl 0) (Nat.le_refl 0) hS.2.2 dX4_isPoint_51 (fun t9 ht => ⟨_, rfl, ⟨rfl, by rw [ht]; exact hP⟩, hS.F ht⟩)
  obtain ⟨e0, si, sh, hsi, hs, hli⟩ : lineT (gSh σ) v = 0 ∧ ∃ k x, slotO (gSh σ) v = some k ∧ (gSh σ)[k]? = some x ∧ sAr x = false := by
    rcases lineT_c (gSh σ) v with q | q | q
    · omega
    · omega
    · exact q
  have hsl := idx_lt hs
  have hw9 := (hT.ws hs).2.1
  refine lv_aload_n hx hb dX4_isPoint_8 rfl (lv_at hl 0 rfl) ?_
  have J36 : W p l e ({ frames := 4, cells := 0, slots := 0, locals := 106 } : Room) s m args below meth c H locs 0 0 Q (F0 m 36 ls [.int (zi (pointT (gSh σ) v ix)), .ref (aO ad)]) := by
    refine va_put (D := g.1) (ci := 10) (v := .int (zi (pointT (gSh σ) v ix))) (ty := .int) (C := RX4) (T := TX4) (N := 16) hx hb hts in_X4 tyX4 tyX4_ok nmX4 hown hK hP hD hS 0 rfl rfl 12 (by decide) (hts _ q1612) (fun _ h9 => h9) rfl (by decide +kernel) rfl rfl (Nat.le_of_ble_eq_true rfl) dX4_isPoint_36 (fun H locs hP hD hS => ?_)
    have hP : va_P g.1 vwCl (TW g ad (fm, fn, fl, fx, fy, ft, fc, fh, fk, fhi, fmi, fd, pointT (gSh σ) v ix, fp, fle, flo)) H := hP
    have hD : va_D A (TW g ad (fm, fn, fl, fx, fy, ft, fc, fh, fk, fhi, fmi, fd, pointT (gSh σ) v ix, fp, fle, flo)) := hD
    have hKq : KH g noA s H := (hKH.at hS).narrow (fun _ z => z.elim)
    have hT : TR σ (fm, fn, fl, fx, fy, ft, fc, fh, fk, fhi, fmi, fd, pointT (gSh σ) v ix, fp, fle, flo) := TR.thr hT
    refine lv_aload_n hx hb dX4_isPoint_39 rfl (lv_at hl 0 rfl) ?_
    refine va_get (D := g.1) (ci := 10) (v := .int (zi (pointT (gSh σ) v ix))) (C := RX4) (T := TX4) (N := 16) hx hb hts in_X4 hown hK hP 0 rfl rfl 12 (by decide) (hts _ q1612) (fun _ h9 => h9) rfl dX4_isPoint_40 ?_
    refine r_ne0 (tgt := 50) hx hb dX4_isPoint_43 (by decide) (pointT_fit _ _ _) (fun h43 => ?_) (fun h43 => ?_)
    · refine r_c hx hb dX4_isPoint_50 ?_
      rw [hQ]
      refine r_int (z := bi (decide (pointT (gSh σ) v ix = 0))) (by first | exact bi_t (by omega) | exact bi_f (by omega)) ?_
      exact r_iret hx hb hr hlocks (bi_nar _) (Nat.le_refl 0) (Nat.le_refl 0) hS.2.2 dX4_isPoint_51 (fun t9 ht => ⟨_, rfl, ⟨rfl, by rw [ht]; exact hP⟩, hS.F ht⟩)
    refine r_c hx hb dX4_isPoint_46 ?_
    refine lv_goto (tgt := 51) hx hb dX4_isPoint_47 (by decide) ?_
    rw [hQ]
    refine r_int (z := bi (decide (pointT (gSh σ) v ix = 0))) (by first | exact bi_t (by omega) | exact bi_f (by omega)) ?_
    exact r_iret hx hb hr hlocks (bi_nar _) (Nat.le_refl 0) (Nat.le_refl 0) hS.2.2 dX4_isPoint_51 (fun t9 ht => ⟨_, rfl, ⟨rfl, by rw [ht]; exact hP⟩, hS.F ht⟩)
  refine lv_iload_n hx hb dX4_isPoint_9 rfl (lv_at hl 2 rfl) ?_
  refine r_i2l hx hb ⟨by omega, by omega⟩ dX4_isPoint_10 ?_
  refine lv_lconst (v := zl 0) hx hb dX4_isPoint_11 (by decide +kernel) ?_
  refine lv_aload_n hx hb dX4_isPoint_12 rfl (lv_at hl 0 rfl) ?_
  refine lv_aload_n hx hb dX4_isPoint_13 rfl (lv_at hl 0 rfl) ?_
  refine lv_iload_n hx hb dX4_isPoint_14 rfl (lv_at hl 1 rfl) ?_
  refine r_qi (z := optZ (slotO (gSh σ) v)) (va_runV (As := [.int (zi v)]) (rest := [.ref (aO ad), .long (zl 0), .long (zl ix), .ref (aO ad)]) ⟨hx, hb, hml, hown, hts⟩ (m_slot l g ad (fm, fn, fl, fx, fy, ft, fc, fh, fk, fhi, fmi, fd, lineT (gSh σ) v, fp, fle, flo) σ v hv hT) (cwV 1 hts (lw_V q1710 q1712 qs37 q69 q1713) rfl rfl rfl (by decide +kernel) ⟨Nat.le_of_ble_eq_true rfl, Nat.le_of_ble_eq_true rfl⟩) (pcs_V (va_recv hK hP (ci := 10) (q0 := 0) rfl rfl) hKq hP) rfl rfl hl.1 rfl (lv_room (Nat.le_of_ble_eq_true rfl)) dX4_isPoint_15 ⟨Nat.le_of_ble_eq_true rfl, Nat.le_of_ble_eq_true rfl⟩) ?_
  refine r_int (z := (si : Int)) (by rw [hsi]; rfl) ?_
  refine r_c hx hb dX4_isPoint_18 ?_
  refine r_qi (z := ((sPts sh).length : Int)) (va_runV (As := [.int (zi (si : Int)), .int (zi 2)]) (rest := [.long (zl 0), .long (zl ix), .ref (aO ad)]) ⟨hx, hb, hml, hown, hts⟩ (m_of l g ad (fm, fn, fl, fx, fy, ft, fc, fh, fk, fhi, fmi, fd, lineT (gSh σ) v, fp, fle, flo) si 2 (7 * si + 2) (((sPts sh).length : Int)) (by omega) (by omega) ((hT.s hs).2.2.1)) (cwV 2 hts (lw_V q1673 q1675 qs30 q69 q1676) rfl rfl rfl (by decide +kernel) ⟨Nat.le_of_ble_eq_true rfl, Nat.le_of_ble_eq_true rfl⟩) (pcs_V (va_recv hK hP (ci := 10) (q0 := 0) rfl rfl) hKq hP) rfl rfl hl.1 rfl (lv_room (Nat.le_of_ble_eq_true rfl)) dX4_isPoint_19 ⟨Nat.le_of_ble_eq_true rfl, Nat.le_of_ble_eq_true rfl⟩) ?_
  refine r_c hx hb dX4_isPoint_22 ?_
  refine r_sub (z := ((sPts sh).length : Int) - 1) hx hb dX4_isPoint_23 rfl ?_
  refine r_i2l hx hb ⟨by omega, by omega⟩ dX4_isPoint_24 ?_
  refine r_qi (z := bi (decide (0 ≤ ix ∧ ix ≤ (((sPts sh).length : Int) - 1)))) (va_runS (As := [.long (zl ix), .long (zl 0), .long (zl (((sPts sh).length : Int) - 1))]) (rest := [.ref (aO ad)]) ⟨hx, hb, hml, hown, hts⟩ (m_in l g ix 0 (((sPts sh).length : Int) - 1) ⟨by omega, by omega⟩ ⟨by decide, by decide⟩ ⟨by omega, by omega⟩) (va_cwS 3 hts (lw_S q1662 q1663 q69 q1664) rfl rfl rfl (by decide +kernel) ⟨Nat.le_of_ble_eq_true rfl, Nat.le_of_ble_eq_true rfl⟩) (pcs_S hKq trivial) rfl rfl hl.1 rfl (lv_room (Nat.le_of_ble_eq_true rfl)) dX4_isPoint_25 ⟨Nat.le_of_ble_eq_true rfl, Nat.le_of_ble_eq_true rfl⟩) ?_
  refine r_peq0 (tgt := 35) hx hb dX4_isPoint_28 (by decide) (fun h28 => ?_) (fun h28 => ?_)
  · refine r_c hx hb dX4_isPoint_35 ?_
    refine r_int (z := pointT (gSh σ) v ix) (by rw [pointT_y hsi hs hli]; first | exact (if_pos h28).symm | exact (if_neg h28).symm) ?_
    exact J36
  refine r_c hx hb dX4_isPoint_31 ?_
  refine lv_goto (tgt := 36) hx hb dX4_isPoint_32 (by decide) ?_
  refine r_int (z := pointT (gSh σ) v ix) (by rw [pointT_y hsi hs hli]; first | exact (if_pos h28).symm | exact (if_neg h28).symm) ?_
  exact J36
