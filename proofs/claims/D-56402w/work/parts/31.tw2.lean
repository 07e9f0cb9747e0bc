/-! THE TWIN: rectangles (printed by gen/twin2.py) -/
theorem btf {b : Bool} (h : b = false → False) : b = true := by cases b; exact absurd rfl h; rfl
set_option maxHeartbeats 4000000 in
set_option maxRecDepth 100000 in
theorem m_meets (l : Launch) (g : GD) (ad : TA) (t : TS) (σ : Sg) (si : Nat) (sh : Sh) (hT : TR σ t) (hs : (gSh σ)[si]? = some sh) (a b : Nat) (l9 lo r9 hi : Int) (ha : a < (sPts sh).length) (hb9 : b < (sPts sh).length) (hl9 : 0 ≤ l9 ∧ l9 ≤ 64) (hlo : 0 ≤ lo ∧ lo ≤ 64) (hr9 : 0 ≤ r9 ∧ r9 ≤ 64) (hhi : 0 ≤ hi ∧ hi ≤ 64) : Met l yX4_meets (ws_ yX4_meets cX4_meets 13 (some .boolean)) ({ frames := 3, cells := 0, slots := 0, locals := 87 } : Room) (pcs g [.ref (aO ad), .int (zi (si : Int)), .int (zi (a : Int)), .int (zi (b : Int)), .int (zi l9), .int (zi lo), .int (zi r9), .int (zi hi)] noA (fun h => va_P g.1 vwCl (TW g ad t) h)) (qSi (bi (mtP (sPts sh) l9 lo r9 hi a b))) 0 0 noA := by
  refine Met.go (by decide) (Nat.le_of_ble_eq_true rfl) ?_
  intro p e s m args below meth c Q ls hQ hx hb hr hml hts hown hlocks hin hKH hF hl
  have hown : s.vm.findClass RX4 = some m.cls := hown
  have hK := hKH.k
  have hNW := hKH.1.nw
  have hl : lv_has ls 13 [(0, .ref (aO ad)), (1, .int (zi (si : Int))), (2, .int (zi (a : Int))), (3, .int (zi (b : Int))), (4, .int (zi l9)), (5, .int (zi lo)), (6, .int (zi r9)), (7, .int (zi hi))] := hl
  have hP : va_P g.1 vwCl (TW g ad t) s.heap := hF
  have hKq : KH g noA s s.heap := hKH
  have hN := hT.n12
  have hsl := idx_lt hs
  have hrow := hT.s hs
  have hw := hT.ws hs
  have h9 := hw.2.1
  have hwp := hw.1
  obtain ⟨xa, ya⟩ := hwp a ha
  obtain ⟨xb, yb⟩ := hwp b hb9
  have J45 : W p l e ({ frames := 3, cells := 0, slots := 0, locals := 87 } : Room) s m args below meth c s.heap ([]) 0 0 Q (F0 m 45 ls [.int (zi (bi (rchB (pX (sPts sh) a) (pX (sPts sh) b) l9 r9)))]) := by
    refine lv_istore (lv' := [(8, .int (zi (bi (rchB (pX (sPts sh) a) (pX (sPts sh) b) l9 r9)))), (0, .ref (aO ad)), (1, .int (zi (si : Int))), (2, .int (zi (a : Int))), (3, .int (zi (b : Int))), (4, .int (zi l9)), (5, .int (zi lo)), (6, .int (zi r9)), (7, .int (zi hi))]) hx hb dX4_meets_45 hl (by decide) rfl (fun ls hl => ?_)
    have J97 : W p l e ({ frames := 3, cells := 0, slots := 0, locals := 87 } : Room) s m args below meth c s.heap ([]) 0 0 Q (F0 m 97 ls [.int (zi (bi (rchB (pX (sPts sh) a) (pX (sPts sh) b) l9 r9 && rchB (pY (sPts sh) a) (pY (sPts sh) b) lo hi)))]) := by
      refine lv_istore (lv' := [(8, .int (zi (bi (rchB (pX (sPts sh) a) (pX (sPts sh) b) l9 r9 && rchB (pY (sPts sh) a) (pY (sPts sh) b) lo hi)))), (0, .ref (aO ad)), (1, .int (zi (si : Int))), (2, .int (zi (a : Int))), (3, .int (zi (b : Int))), (4, .int (zi l9)), (5, .int (zi lo)), (6, .int (zi r9)), (7, .int (zi hi))]) hx hb dX4_meets_97 hl (by decide) rfl (fun ls hl => ?_)
      refine r_c hx hb dX4_meets_99 ?_
      refine lv_istore (lv' := [(9, .int (zi 0)), (8, .int (zi (bi (rchB (pX (sPts sh) a) (pX (sPts sh) b) l9 r9 && rchB (pY (sPts sh) a) (pY (sPts sh) b) lo hi)))), (0, .ref (aO ad)), (1, .int (zi (si : Int))), (2, .int (zi (a : Int))), (3, .int (zi (b : Int))), (4, .int (zi l9)), (5, .int (zi lo)), (6, .int (zi r9)), (7, .int (zi hi))]) hx hb dX4_meets_100 hl (by decide) rfl (fun ls hl => ?_)
      refine r_c hx hb dX4_meets_102 ?_
      refine lv_istore (lv' := [(10, .int (zi 0)), (9, .int (zi 0)), (8, .int (zi (bi (rchB (pX (sPts sh) a) (pX (sPts sh) b) l9 r9 && rchB (pY (sPts sh) a) (pY (sPts sh) b) lo hi)))), (0, .ref (aO ad)), (1, .int (zi (si : Int))), (2, .int (zi (a : Int))), (3, .int (zi (b : Int))), (4, .int (zi l9)), (5, .int (zi lo)), (6, .int (zi r9)), (7, .int (zi hi))]) hx hb dX4_meets_103 hl (by decide) rfl (fun ls hl => ?_)
      refine r_c hx hb dX4_meets_105 ?_
      refine lv_istore (lv' := [(11, .int (zi 0)), (10, .int (zi 0)), (9, .int (zi 0)), (8, .int (zi (bi (rchB (pX (sPts sh) a) (pX (sPts sh) b) l9 r9 && rchB (pY (sPts sh) a) (pY (sPts sh) b) lo hi)))), (0, .ref (aO ad)), (1, .int (zi (si : Int))), (2, .int (zi (a : Int))), (3, .int (zi (b : Int))), (4, .int (zi l9)), (5, .int (zi lo)), (6, .int (zi r9)), (7, .int (zi hi))]) hx hb dX4_meets_106 hl (by decide) rfl (fun ls hl => ?_)
      refine lv_iload hx hb dX4_meets_108 (lv_at hl 0 rfl) ?_
      refine r_c hx hb dX4_meets_110 ?_
      refine r_ge (tgt := 186) hx hb dX4_meets_111 (by decide) ⟨by decide, by decide⟩ ⟨by decide, by decide⟩ (fun q => absurd q (by decide)) (fun _ => ?_)
      refine lv_aload_n hx hb dX4_meets_114 rfl (lv_at hl 4 rfl) ?_
      refine lv_iload_n hx hb dX4_meets_115 rfl (lv_at hl 5 rfl) ?_
      refine lv_iload_n hx hb dX4_meets_116 rfl (lv_at hl 6 rfl) ?_
      refine lv_iload_n hx hb dX4_meets_117 rfl (lv_at hl 7 rfl) ?_
      refine lv_iload hx hb dX4_meets_118 (lv_at hl 0 rfl) ?_
      refine r_c hx hb dX4_meets_120 ?_
      refine r_rem (z := 0) hx hb dX4_meets_121 (by decide) (by decide +kernel) ?_
      refine r_ne0 (tgt := 130) hx hb dX4_meets_122 (by decide) ⟨by decide, by decide⟩ (fun q => absurd q (by decide)) (fun _ => ?_)
      refine lv_iload hx hb dX4_meets_125 (lv_at hl 8 rfl) ?_
      refine lv_goto (tgt := 132) hx hb dX4_meets_127 (by decide) ?_
      refine lv_iload hx hb dX4_meets_132 (lv_at hl 0 rfl) ?_
      refine r_c hx hb dX4_meets_134 ?_
      refine r_ge (tgt := 143) hx hb dX4_meets_135 (by decide) ⟨by decide, by decide⟩ ⟨by decide, by decide⟩ (fun q => absurd q (by decide)) (fun _ => ?_)
      refine lv_iload hx hb dX4_meets_138 (lv_at hl 9 rfl) ?_
      refine lv_goto (tgt := 145) hx hb dX4_meets_140 (by decide) ?_
      refine r_qi (z := crsP (sPts sh) a b l9 lo) (va_runV (As := [.int (zi (si : Int)), .int (zi (a : Int)), .int (zi (b : Int)), .int (zi l9), .int (zi lo)]) (rest := []) ⟨hx, hb, hml, hown, hts⟩ (m_cross l g ad t σ si sh hT hs a b l9 lo ha hb9) (cwV 5 hts (lw_V q1807 q1809 qs44 q69 q1810) rfl rfl rfl (by decide +kernel) ⟨Nat.le_of_ble_eq_true rfl, Nat.le_of_ble_eq_true rfl⟩) (pcs_V (va_recv hK hP (ci := 10) (q0 := 0) rfl rfl) hKq hP) rfl rfl hl.1 rfl (lv_room (Nat.le_of_ble_eq_true rfl)) dX4_meets_145 ⟨Nat.le_of_ble_eq_true rfl, Nat.le_of_ble_eq_true rfl⟩) ?_
      refine lv_istore (lv' := [(12, .int (zi (crsP (sPts sh) a b l9 lo))), (11, .int (zi 0)), (10, .int (zi 0)), (9, .int (zi 0)), (8, .int (zi (bi (rchB (pX (sPts sh) a) (pX (sPts sh) b) l9 r9 && rchB (pY (sPts sh) a) (pY (sPts sh) b) lo hi)))), (0, .ref (aO ad)), (1, .int (zi (si : Int))), (2, .int (zi (a : Int))), (3, .int (zi (b : Int))), (4, .int (zi l9)), (5, .int (zi lo)), (6, .int (zi r9)), (7, .int (zi hi))]) hx hb dX4_meets_148 hl (by decide) rfl (fun ls hl => ?_)
      refine lv_iload hx hb dX4_meets_150 (lv_at hl 3 rfl) ?_
      have J162 : W p l e ({ frames := 3, cells := 0, slots := 0, locals := 87 } : Room) s m args below meth c s.heap ([]) 0 0 Q (F0 m 162 ls [.int (zi (bi (decide (0 < crsP (sPts sh) a b l9 lo)))), .int (zi 0)]) := by
        refine r_add (z := 0 + (bi (decide (0 < crsP (sPts sh) a b l9 lo)))) hx hb dX4_meets_162 rfl ?_
        refine lv_istore (lv' := [(9, .int (zi (0 + (bi (decide (0 < crsP (sPts sh) a b l9 lo)))))), (12, .int (zi (crsP (sPts sh) a b l9 lo))), (11, .int (zi 0)), (10, .int (zi 0)), (8, .int (zi (bi (rchB (pX (sPts sh) a) (pX (sPts sh) b) l9 r9 && rchB (pY (sPts sh) a) (pY (sPts sh) b) lo hi)))), (0, .ref (aO ad)), (1, .int (zi (si : Int))), (2, .int (zi (a : Int))), (3, .int (zi (b : Int))), (4, .int (zi l9)), (5, .int (zi lo)), (6, .int (zi r9)), (7, .int (zi hi))]) hx hb dX4_meets_163 hl (by decide) rfl (fun ls hl => ?_)
        refine lv_iload hx hb dX4_meets_165 (lv_at hl 3 rfl) ?_
        have J177 : W p l e ({ frames := 3, cells := 0, slots := 0, locals := 87 } : Room) s m args below meth c s.heap ([]) 0 0 Q (F0 m 177 ls [.int (zi (bi (decide (crsP (sPts sh) a b l9 lo < 0)))), .int (zi 0)]) := by
          refine r_add (z := 0 + (bi (decide (crsP (sPts sh) a b l9 lo < 0)))) hx hb dX4_meets_177 rfl ?_
          refine lv_istore (lv' := [(10, .int (zi (0 + (bi (decide (crsP (sPts sh) a b l9 lo < 0)))))), (9, .int (zi (0 + (bi (decide (0 < crsP (sPts sh) a b l9 lo)))))), (12, .int (zi (crsP (sPts sh) a b l9 lo))), (11, .int (zi 0)), (8, .int (zi (bi (rchB (pX (sPts sh) a) (pX (sPts sh) b) l9 r9 && rchB (pY (sPts sh) a) (pY (sPts sh) b) lo hi)))), (0, .ref (aO ad)), (1, .int (zi (si : Int))), (2, .int (zi (a : Int))), (3, .int (zi (b : Int))), (4, .int (zi l9)), (5, .int (zi lo)), (6, .int (zi r9)), (7, .int (zi hi))]) hx hb dX4_meets_178 hl (by decide) rfl (fun ls hl => ?_)
          refine r_iinc (z := 1) (lv' := [(11, .int (zi 1)), (10, .int (zi (0 + (bi (decide (crsP (sPts sh) a b l9 lo < 0)))))), (9, .int (zi (0 + (bi (decide (0 < crsP (sPts sh) a b l9 lo)))))), (12, .int (zi (crsP (sPts sh) a b l9 lo))), (8, .int (zi (bi (rchB (pX (sPts sh) a) (pX (sPts sh) b) l9 r9 && rchB (pY (sPts sh) a) (pY (sPts sh) b) lo hi)))), (0, .ref (aO ad)), (1, .int (zi (si : Int))), (2, .int (zi (a : Int))), (3, .int (zi (b : Int))), (4, .int (zi l9)), (5, .int (zi lo)), (6, .int (zi r9)), (7, .int (zi hi))]) hx hb dX4_meets_180 hl (k := 3) rfl rfl (by decide) rfl (fun ls hl => ?_)
          refine lv_goto (tgt := 108) hx hb dX4_meets_183 (by decide) ?_
          refine lv_iload hx hb dX4_meets_108 (lv_at hl 0 rfl) ?_
          refine r_c hx hb dX4_meets_110 ?_
          refine r_ge (tgt := 186) hx hb dX4_meets_111 (by decide) ⟨by decide, by decide⟩ ⟨by decide, by decide⟩ (fun q => absurd q (by decide)) (fun _ => ?_)
          refine lv_aload_n hx hb dX4_meets_114 rfl (lv_at hl 5 rfl) ?_
          refine lv_iload_n hx hb dX4_meets_115 rfl (lv_at hl 6 rfl) ?_
          refine lv_iload_n hx hb dX4_meets_116 rfl (lv_at hl 7 rfl) ?_
          refine lv_iload_n hx hb dX4_meets_117 rfl (lv_at hl 8 rfl) ?_
          refine lv_iload hx hb dX4_meets_118 (lv_at hl 0 rfl) ?_
          refine r_c hx hb dX4_meets_120 ?_
          refine r_rem (z := 1) hx hb dX4_meets_121 (by decide) (by decide +kernel) ?_
          refine r_ne0 (tgt := 130) hx hb dX4_meets_122 (by decide) ⟨by decide, by decide⟩ (fun _ => ?_) (fun q => absurd q (by decide))
          refine lv_iload hx hb dX4_meets_130 (lv_at hl 11 rfl) ?_
          refine lv_iload hx hb dX4_meets_132 (lv_at hl 0 rfl) ?_
          refine r_c hx hb dX4_meets_134 ?_
          refine r_ge (tgt := 143) hx hb dX4_meets_135 (by decide) ⟨by decide, by decide⟩ ⟨by decide, by decide⟩ (fun q => absurd q (by decide)) (fun _ => ?_)
          refine lv_iload hx hb dX4_meets_138 (lv_at hl 10 rfl) ?_
          refine lv_goto (tgt := 145) hx hb dX4_meets_140 (by decide) ?_
          refine r_qi (z := crsP (sPts sh) a b r9 lo) (va_runV (As := [.int (zi (si : Int)), .int (zi (a : Int)), .int (zi (b : Int)), .int (zi r9), .int (zi lo)]) (rest := []) ⟨hx, hb, hml, hown, hts⟩ (m_cross l g ad t σ si sh hT hs a b r9 lo ha hb9) (cwV 5 hts (lw_V q1807 q1809 qs44 q69 q1810) rfl rfl rfl (by decide +kernel) ⟨Nat.le_of_ble_eq_true rfl, Nat.le_of_ble_eq_true rfl⟩) (pcs_V (va_recv hK hP (ci := 10) (q0 := 0) rfl rfl) hKq hP) rfl rfl hl.1 rfl (lv_room (Nat.le_of_ble_eq_true rfl)) dX4_meets_145 ⟨Nat.le_of_ble_eq_true rfl, Nat.le_of_ble_eq_true rfl⟩) ?_
          refine lv_istore (lv' := [(12, .int (zi (crsP (sPts sh) a b r9 lo))), (11, .int (zi 1)), (10, .int (zi (0 + (bi (decide (crsP (sPts sh) a b l9 lo < 0)))))), (9, .int (zi (0 + (bi (decide (0 < crsP (sPts sh) a b l9 lo)))))), (8, .int (zi (bi (rchB (pX (sPts sh) a) (pX (sPts sh) b) l9 r9 && rchB (pY (sPts sh) a) (pY (sPts sh) b) lo hi)))), (0, .ref (aO ad)), (1, .int (zi (si : Int))), (2, .int (zi (a : Int))), (3, .int (zi (b : Int))), (4, .int (zi l9)), (5, .int (zi lo)), (6, .int (zi r9)), (7, .int (zi hi))]) hx hb dX4_meets_148 hl (by decide) rfl (fun ls hl => ?_)
          refine lv_iload hx hb dX4_meets_150 (lv_at hl 3 rfl) ?_
          have J162 : W p l e ({ frames := 3, cells := 0, slots := 0, locals := 87 } : Room) s m args below meth c s.heap ([]) 0 0 Q (F0 m 162 ls [.int (zi (bi (decide (0 < crsP (sPts sh) a b r9 lo)))), .int (zi (0 + (bi (decide (0 < crsP (sPts sh) a b l9 lo)))))]) := by
            refine r_add (z := (0 + (bi (decide (0 < crsP (sPts sh) a b l9 lo)))) + (bi (decide (0 < crsP (sPts sh) a b r9 lo)))) hx hb dX4_meets_162 rfl ?_
            refine lv_istore (lv' := [(9, .int (zi ((0 + (bi (decide (0 < crsP (sPts sh) a b l9 lo)))) + (bi (decide (0 < crsP (sPts sh) a b r9 lo)))))), (12, .int (zi (crsP (sPts sh) a b r9 lo))), (11, .int (zi 1)), (10, .int (zi (0 + (bi (decide (crsP (sPts sh) a b l9 lo < 0)))))), (8, .int (zi (bi (rchB (pX (sPts sh) a) (pX (sPts sh) b) l9 r9 && rchB (pY (sPts sh) a) (pY (sPts sh) b) lo hi)))), (0, .ref (aO ad)), (1, .int (zi (si : Int))), (2, .int (zi (a : Int))), (3, .int (zi (b : Int))), (4, .int (zi l9)), (5, .int (zi lo)), (6, .int (zi r9)), (7, .int (zi hi))]) hx hb dX4_meets_163 hl (by decide) rfl (fun ls hl => ?_)
            refine lv_iload hx hb dX4_meets_165 (lv_at hl 3 rfl) ?_
            have J177 : W p l e ({ frames := 3, cells := 0, slots := 0, locals := 87 } : Room) s m args below meth c s.heap ([]) 0 0 Q (F0 m 177 ls [.int (zi (bi (decide (crsP (sPts sh) a b r9 lo < 0)))), .int (zi (0 + (bi (decide (crsP (sPts sh) a b l9 lo < 0)))))]) := by
              refine r_add (z := (0 + (bi (decide (crsP (sPts sh) a b l9 lo < 0)))) + (bi (decide (crsP (sPts sh) a b r9 lo < 0)))) hx hb dX4_meets_177 rfl ?_
              refine lv_istore (lv' := [(10, .int (zi ((0 + (bi (decide (crsP (sPts sh) a b l9 lo < 0)))) + (bi (decide (crsP (sPts sh) a b r9 lo < 0)))))), (9, .int (zi ((0 + (bi (decide (0 < crsP (sPts sh) a b l9 lo)))) + (bi (decide (0 < crsP (sPts sh) a b r9 lo)))))), (12, .int (zi (crsP (sPts sh) a b r9 lo))), (11, .int (zi 1)), (8, .int (zi (bi (rchB (pX (sPts sh) a) (pX (sPts sh) b) l9 r9 && rchB (pY (sPts sh) a) (pY (sPts sh) b) lo hi)))), (0, .ref (aO ad)), (1, .int (zi (si : Int))), (2, .int (zi (a : Int))), (3, .int (zi (b : Int))), (4, .int (zi l9)), (5, .int (zi lo)), (6, .int (zi r9)), (7, .int (zi hi))]) hx hb dX4_meets_178 hl (by decide) rfl (fun ls hl => ?_)
              refine r_iinc (z := 2) (lv' := [(11, .int (zi 2)), (10, .int (zi ((0 + (bi (decide (crsP (sPts sh) a b l9 lo < 0)))) + (bi (decide (crsP (sPts sh) a b r9 lo < 0)))))), (9, .int (zi ((0 + (bi (decide (0 < crsP (sPts sh) a b l9 lo)))) + (bi (decide (0 < crsP (sPts sh) a b r9 lo)))))), (12, .int (zi (crsP (sPts sh) a b r9 lo))), (8, .int (zi (bi (rchB (pX (sPts sh) a) (pX (sPts sh) b) l9 r9 && rchB (pY (sPts sh) a) (pY (sPts sh) b) lo hi)))), (0, .ref (aO ad)), (1, .int (zi (si : Int))), (2, .int (zi (a : Int))), (3, .int (zi (b : Int))), (4, .int (zi l9)), (5, .int (zi lo)), (6, .int (zi r9)), (7, .int (zi hi))]) hx hb dX4_meets_180 hl (k := 3) rfl rfl (by decide) rfl (fun ls hl => ?_)
              refine lv_goto (tgt := 108) hx hb dX4_meets_183 (by decide) ?_
              refine lv_iload hx hb dX4_meets_108 (lv_at hl 0 rfl) ?_
              refine r_c hx hb dX4_meets_110 ?_
              refine r_ge (tgt := 186) hx hb dX4_meets_111 (by decide) ⟨by decide, by decide⟩ ⟨by decide, by decide⟩ (fun q => absurd q (by decide)) (fun _ => ?_)
              refine lv_aload_n hx hb dX4_meets_114 rfl (lv_at hl 5 rfl) ?_
              refine lv_iload_n hx hb dX4_meets_115 rfl (lv_at hl 6 rfl) ?_
              refine lv_iload_n hx hb dX4_meets_116 rfl (lv_at hl 7 rfl) ?_
              refine lv_iload_n hx hb dX4_meets_117 rfl (lv_at hl 8 rfl) ?_
              refine lv_iload hx hb dX4_meets_118 (lv_at hl 0 rfl) ?_
              refine r_c hx hb dX4_meets_120 ?_
              refine r_rem (z := 0) hx hb dX4_meets_121 (by decide) (by decide +kernel) ?_
              refine r_ne0 (tgt := 130) hx hb dX4_meets_122 (by decide) ⟨by decide, by decide⟩ (fun q => absurd q (by decide)) (fun _ => ?_)
              refine lv_iload hx hb dX4_meets_125 (lv_at hl 9 rfl) ?_
              refine lv_goto (tgt := 132) hx hb dX4_meets_127 (by decide) ?_
              refine lv_iload hx hb dX4_meets_132 (lv_at hl 0 rfl) ?_
              refine r_c hx hb dX4_meets_134 ?_
              refine r_ge (tgt := 143) hx hb dX4_meets_135 (by decide) ⟨by decide, by decide⟩ ⟨by decide, by decide⟩ (fun _ => ?_) (fun q => absurd q (by decide))
              refine lv_iload hx hb dX4_meets_143 (lv_at hl 12 rfl) ?_
              refine r_qi (z := crsP (sPts sh) a b l9 hi) (va_runV (As := [.int (zi (si : Int)), .int (zi (a : Int)), .int (zi (b : Int)), .int (zi l9), .int (zi hi)]) (rest := []) ⟨hx, hb, hml, hown, hts⟩ (m_cross l g ad t σ si sh hT hs a b l9 hi ha hb9) (cwV 5 hts (lw_V q1807 q1809 qs44 q69 q1810) rfl rfl rfl (by decide +kernel) ⟨Nat.le_of_ble_eq_true rfl, Nat.le_of_ble_eq_true rfl⟩) (pcs_V (va_recv hK hP (ci := 10) (q0 := 0) rfl rfl) hKq hP) rfl rfl hl.1 rfl (lv_room (Nat.le_of_ble_eq_true rfl)) dX4_meets_145 ⟨Nat.le_of_ble_eq_true rfl, Nat.le_of_ble_eq_true rfl⟩) ?_
              refine lv_istore (lv' := [(12, .int (zi (crsP (sPts sh) a b l9 hi))), (11, .int (zi 2)), (10, .int (zi ((0 + (bi (decide (crsP (sPts sh) a b l9 lo < 0)))) + (bi (decide (crsP (sPts sh) a b r9 lo < 0)))))), (9, .int (zi ((0 + (bi (decide (0 < crsP (sPts sh) a b l9 lo)))) + (bi (decide (0 < crsP (sPts sh) a b r9 lo)))))), (8, .int (zi (bi (rchB (pX (sPts sh) a) (pX (sPts sh) b) l9 r9 && rchB (pY (sPts sh) a) (pY (sPts sh) b) lo hi)))), (0, .ref (aO ad)), (1, .int (zi (si : Int))), (2, .int (zi (a : Int))), (3, .int (zi (b : Int))), (4, .int (zi l9)), (5, .int (zi lo)), (6, .int (zi r9)), (7, .int (zi hi))]) hx hb dX4_meets_148 hl (by decide) rfl (fun ls hl => ?_)
              refine lv_iload hx hb dX4_meets_150 (lv_at hl 3 rfl) ?_
              have J162 : W p l e ({ frames := 3, cells := 0, slots := 0, locals := 87 } : Room) s m args below meth c s.heap ([]) 0 0 Q (F0 m 162 ls [.int (zi (bi (decide (0 < crsP (sPts sh) a b l9 hi)))), .int (zi ((0 + (bi (decide (0 < crsP (sPts sh) a b l9 lo)))) + (bi (decide (0 < crsP (sPts sh) a b r9 lo)))))]) := by
                refine r_add (z := ((0 + (bi (decide (0 < crsP (sPts sh) a b l9 lo)))) + (bi (decide (0 < crsP (sPts sh) a b r9 lo)))) + (bi (decide (0 < crsP (sPts sh) a b l9 hi)))) hx hb dX4_meets_162 rfl ?_
                refine lv_istore (lv' := [(9, .int (zi (((0 + (bi (decide (0 < crsP (sPts sh) a b l9 lo)))) + (bi (decide (0 < crsP (sPts sh) a b r9 lo)))) + (bi (decide (0 < crsP (sPts sh) a b l9 hi)))))), (12, .int (zi (crsP (sPts sh) a b l9 hi))), (11, .int (zi 2)), (10, .int (zi ((0 + (bi (decide (crsP (sPts sh) a b l9 lo < 0)))) + (bi (decide (crsP (sPts sh) a b r9 lo < 0)))))), (8, .int (zi (bi (rchB (pX (sPts sh) a) (pX (sPts sh) b) l9 r9 && rchB (pY (sPts sh) a) (pY (sPts sh) b) lo hi)))), (0, .ref (aO ad)), (1, .int (zi (si : Int))), (2, .int (zi (a : Int))), (3, .int (zi (b : Int))), (4, .int (zi l9)), (5, .int (zi lo)), (6, .int (zi r9)), (7, .int (zi hi))]) hx hb dX4_meets_163 hl (by decide) rfl (fun ls hl => ?_)
                refine lv_iload hx hb dX4_meets_165 (lv_at hl 3 rfl) ?_
                have J177 : W p l e ({ frames := 3, cells := 0, slots := 0, locals := 87 } : Room) s m args below meth c s.heap ([]) 0 0 Q (F0 m 177 ls [.int (zi (bi (decide (crsP (sPts sh) a b l9 hi < 0)))), .int (zi ((0 + (bi (decide (crsP (sPts sh) a b l9 lo < 0)))) + (bi (decide (crsP (sPts sh) a b r9 lo < 0)))))]) := by
                  refine r_add (z := ((0 + (bi (decide (crsP (sPts sh) a b l9 lo < 0)))) + (bi (decide (crsP (sPts sh) a b r9 lo < 0)))) + (bi (decide (crsP (sPts sh) a b l9 hi < 0)))) hx hb dX4_meets_177 rfl ?_
                  refine lv_istore (lv' := [(10, .int (zi (((0 + (bi (decide (crsP (sPts sh) a b l9 lo < 0)))) + (bi (decide (crsP (sPts sh) a b r9 lo < 0)))) + (bi (decide (crsP (sPts sh) a b l9 hi < 0)))))), (9, .int (zi (((0 + (bi (decide (0 < crsP (sPts sh) a b l9 lo)))) + (bi (decide (0 < crsP (sPts sh) a b r9 lo)))) + (bi (decide (0 < crsP (sPts sh) a b l9 hi)))))), (12, .int (zi (crsP (sPts sh) a b l9 hi))), (11, .int (zi 2)), (8, .int (zi (bi (rchB (pX (sPts sh) a) (pX (sPts sh) b) l9 r9 && rchB (pY (sPts sh) a) (pY (sPts sh) b) lo hi)))), (0, .ref (aO ad)), (1, .int (zi (si : Int))), (2, .int (zi (a : Int))), (3, .int (zi (b : Int))), (4, .int (zi l9)), (5, .int (zi lo)), (6, .int (zi r9)), (7, .int (zi hi))]) hx hb dX4_meets_178 hl (by decide) rfl (fun ls hl => ?_)
                  refine r_iinc (z := 3) (lv' := [(11, .int (zi 3)), (10, .int (zi (((0 + (bi (decide (crsP (sPts sh) a b l9 lo < 0)))) + (bi (decide (crsP (sPts sh) a b r9 lo < 0)))) + (bi (decide (crsP (sPts sh) a b l9 hi < 0)))))), (9, .int (zi (((0 + (bi (decide (0 < crsP (sPts sh) a b l9 lo)))) + (bi (decide (0 < crsP (sPts sh) a b r9 lo)))) + (bi (decide (0 < crsP (sPts sh) a b l9 hi)))))), (12, .int (zi (crsP (sPts sh) a b l9 hi))), (8, .int (zi (bi (rchB (pX (sPts sh) a) (pX (sPts sh) b) l9 r9 && rchB (pY (sPts sh) a) (pY (sPts sh) b) lo hi)))), (0, .ref (aO ad)), (1, .int (zi (si : Int))), (2, .int (zi (a : Int))), (3, .int (zi (b : Int))), (4, .int (zi l9)), (5, .int (zi lo)), (6, .int (zi r9)), (7, .int (zi hi))]) hx hb dX4_meets_180 hl (k := 3) rfl rfl (by decide) rfl (fun ls hl => ?_)
                  refine lv_goto (tgt := 108) hx hb dX4_meets_183 (by decide) ?_
                  refine lv_iload hx hb dX4_meets_108 (lv_at hl 0 rfl) ?_
                  refine r_c hx hb dX4_meets_110 ?_
                  refine r_ge (tgt := 186) hx hb dX4_meets_111 (by decide) ⟨by decide, by decide⟩ ⟨by decide, by decide⟩ (fun q => absurd q (by decide)) (fun _ => ?_)
                  refine lv_aload_n hx hb dX4_meets_114 rfl (lv_at hl 5 rfl) ?_
                  refine lv_iload_n hx hb dX4_meets_115 rfl (lv_at hl 6 rfl) ?_
                  refine lv_iload_n hx hb dX4_meets_116 rfl (lv_at hl 7 rfl) ?_
                  refine lv_iload_n hx hb dX4_meets_117 rfl (lv_at hl 8 rfl) ?_
                  refine lv_iload hx hb dX4_meets_118 (lv_at hl 0 rfl) ?_
                  refine r_c hx hb dX4_meets_120 ?_
                  refine r_rem (z := 1) hx hb dX4_meets_121 (by decide) (by decide +kernel) ?_
                  refine r_ne0 (tgt := 130) hx hb dX4_meets_122 (by decide) ⟨by decide, by decide⟩ (fun _ => ?_) (fun q => absurd q (by decide))
                  refine lv_iload hx hb dX4_meets_130 (lv_at hl 11 rfl) ?_
                  refine lv_iload hx hb dX4_meets_132 (lv_at hl 0 rfl) ?_
                  refine r_c hx hb dX4_meets_134 ?_
                  refine r_ge (tgt := 143) hx hb dX4_meets_135 (by decide) ⟨by decide, by decide⟩ ⟨by decide, by decide⟩ (fun _ => ?_) (fun q => absurd q (by decide))
                  refine lv_iload hx hb dX4_meets_143 (lv_at hl 12 rfl) ?_
                  refine r_qi (z := crsP (sPts sh) a b r9 hi) (va_runV (As := [.int (zi (si : Int)), .int (zi (a : Int)), .int (zi (b : Int)), .int (zi r9), .int (zi hi)]) (rest := []) ⟨hx, hb, hml, hown, hts⟩ (m_cross l g ad t σ si sh hT hs a b r9 hi ha hb9) (cwV 5 hts (lw_V q1807 q1809 qs44 q69 q1810) rfl rfl rfl (by decide +kernel) ⟨Nat.le_of_ble_eq_true rfl, Nat.le_of_ble_eq_true rfl⟩) (pcs_V (va_recv hK hP (ci := 10) (q0 := 0) rfl rfl) hKq hP) rfl rfl hl.1 rfl (lv_room (Nat.le_of_ble_eq_true rfl)) dX4_meets_145 ⟨Nat.le_of_ble_eq_true rfl, Nat.le_of_ble_eq_true rfl⟩) ?_
                  refine lv_istore (lv' := [(12, .int (zi (crsP (sPts sh) a b r9 hi))), (11, .int (zi 3)), (10, .int (zi (((0 + (bi (decide (crsP (sPts sh) a b l9 lo < 0)))) + (bi (decide (crsP (sPts sh) a b r9 lo < 0)))) + (bi (decide (crsP (sPts sh) a b l9 hi < 0)))))), (9, .int (zi (((0 + (bi (decide (0 < crsP (sPts sh) a b l9 lo)))) + (bi (decide (0 < crsP (sPts sh) a b r9 lo)))) + (bi (decide (0 < crsP (sPts sh) a b l9 hi)))))), (8, .int (zi (bi (rchB (pX (sPts sh) a) (pX (sPts sh) b) l9 r9 && rchB (pY (sPts sh) a) (pY (sPts sh) b) lo hi)))), (0, .ref (aO ad)), (1, .int (zi (si : Int))), (2, .int (zi (a : Int))), (3, .int (zi (b : Int))), (4, .int (zi l9)), (5, .int (zi lo)), (6, .int (zi r9)), (7, .int (zi hi))]) hx hb dX4_meets_148 hl (by decide) rfl (fun ls hl => ?_)
                  refine lv_iload hx hb dX4_meets_150 (lv_at hl 3 rfl) ?_
                  have J162 : W p l e ({ frames := 3, cells := 0, slots := 0, locals := 87 } : Room) s m args below meth c s.heap ([]) 0 0 Q (F0 m 162 ls [.int (zi (bi (decide (0 < crsP (sPts sh) a b r9 hi)))), .int (zi (((0 + (bi (decide (0 < crsP (sPts sh) a b l9 lo)))) + (bi (decide (0 < crsP (sPts sh) a b r9 lo)))) + (bi (decide (0 < crsP (sPts sh) a b l9 hi)))))]) := by
                    refine r_add (z := (((0 + (bi (decide (0 < crsP (sPts sh) a b l9 lo)))) + (bi (decide (0 < crsP (sPts sh) a b r9 lo)))) + (bi (decide (0 < crsP (sPts sh) a b l9 hi)))) + (bi (decide (0 < crsP (sPts sh) a b r9 hi)))) hx hb dX4_meets_162 rfl ?_
                    refine lv_istore (lv' := [(9, .int (zi ((((0 + (bi (decide (0 < crsP (sPts sh) a b l9 lo)))) + (bi (decide (0 < crsP (sPts sh) a b r9 lo)))) + (bi (decide (0 < crsP (sPts sh) a b l9 hi)))) + (bi (decide (0 < crsP (sPts sh) a b r9 hi)))))), (12, .int (zi (crsP (sPts sh) a b r9 hi))), (11, .int (zi 3)), (10, .int (zi (((0 + (bi (decide (crsP (sPts sh) a b l9 lo < 0)))) + (bi (decide (crsP (sPts sh) a b r9 lo < 0)))) + (bi (decide (crsP (sPts sh) a b l9 hi < 0)))))), (8, .int (zi (bi (rchB (pX (sPts sh) a) (pX (sPts sh) b) l9 r9 && rchB (pY (sPts sh) a) (pY (sPts sh) b) lo hi)))), (0, .ref (aO ad)), (1, .int (zi (si : Int))), (2, .int (zi (a : Int))), (3, .int (zi (b : Int))), (4, .int (zi l9)), (5, .int (zi lo)), (6, .int (zi r9)), (7, .int (zi hi))]) hx hb dX4_meets_163 hl (by decide) rfl (fun ls hl => ?_)
                    refine lv_iload hx hb dX4_meets_165 (lv_at hl 3 rfl) ?_
                    have J177 : W p l e ({ frames := 3, cells := 0, slots := 0, locals := 87 } : Room) s m args below meth c s.heap ([]) 0 0 Q (F0 m 177 ls [.int (zi (bi (decide (crsP (sPts sh) a b r9 hi < 0)))), .int (zi (((0 + (bi (decide (crsP (sPts sh) a b l9 lo < 0)))) + (bi (decide (crsP (sPts sh) a b r9 lo < 0)))) + (bi (decide (crsP (sPts sh) a b l9 hi < 0)))))]) := by
                      refine r_add (z := (((0 + (bi (decide (crsP (sPts sh) a b l9 lo < 0)))) + (bi (decide (crsP (sPts sh) a b r9 lo < 0)))) + (bi (decide (crsP (sPts sh) a b l9 hi < 0)))) + (bi (decide (crsP (sPts sh) a b r9 hi < 0)))) hx hb dX4_meets_177 rfl ?_
                      refine lv_istore (lv' := [(10, .int (zi ((((0 + (bi (decide (crsP (sPts sh) a b l9 lo < 0)))) + (bi (decide (crsP (sPts sh) a b r9 lo < 0)))) + (bi (decide (crsP (sPts sh) a b l9 hi < 0)))) + (bi (decide (crsP (sPts sh) a b r9 hi < 0)))))), (9, .int (zi ((((0 + (bi (decide (0 < crsP (sPts sh) a b l9 lo)))) + (bi (decide (0 < crsP (sPts sh) a b r9 lo)))) + (bi (decide (0 < crsP (sPts sh) a b l9 hi)))) + (bi (decide (0 < crsP (sPts sh) a b r9 hi)))))), (12, .int (zi (crsP (sPts sh) a b r9 hi))), (11, .int (zi 3)), (8, .int (zi (bi (rchB (pX (sPts sh) a) (pX (sPts sh) b) l9 r9 && rchB (pY (sPts sh) a) (pY (sPts sh) b) lo hi)))), (0, .ref (aO ad)), (1, .int (zi (si : Int))), (2, .int (zi (a : Int))), (3, .int (zi (b : Int))), (4, .int (zi l9)), (5, .int (zi lo)), (6, .int (zi r9)), (7, .int (zi hi))]) hx hb dX4_meets_178 hl (by decide) rfl (fun ls hl => ?_)
                      refine r_iinc (z := 4) (lv' := [(11, .int (zi 4)), (10, .int (zi ((((0 + (bi (decide (crsP (sPts sh) a b l9 lo < 0)))) + (bi (decide (crsP (sPts sh) a b r9 lo < 0)))) + (bi (decide (crsP (sPts sh) a b l9 hi < 0)))) + (bi (decide (crsP (sPts sh) a b r9 hi < 0)))))), (9, .int (zi ((((0 + (bi (decide (0 < crsP (sPts sh) a b l9 lo)))) + (bi (decide (0 < crsP (sPts sh) a b r9 lo)))) + (bi (decide (0 < crsP (sPts sh) a b l9 hi)))) + (bi (decide (0 < crsP (sPts sh) a b r9 hi)))))), (12, .int (zi (crsP (sPts sh) a b r9 hi))), (8, .int (zi (bi (rchB (pX (sPts sh) a) (pX (sPts sh) b) l9 r9 && rchB (pY (sPts sh) a) (pY (sPts sh) b) lo hi)))), (0, .ref (aO ad)), (1, .int (zi (si : Int))), (2, .int (zi (a : Int))), (3, .int (zi (b : Int))), (4, .int (zi l9)), (5, .int (zi lo)), (6, .int (zi r9)), (7, .int (zi hi))]) hx hb dX4_meets_180 hl (k := 3) rfl rfl (by decide) rfl (fun ls hl => ?_)
                      refine lv_goto (tgt := 108) hx hb dX4_meets_183 (by decide) ?_
                      refine lv_iload hx hb dX4_meets_108 (lv_at hl 0 rfl) ?_
                      refine r_c hx hb dX4_meets_110 ?_
                      refine r_ge (tgt := 186) hx hb dX4_meets_111 (by decide) ⟨by decide, by decide⟩ ⟨by decide, by decide⟩ (fun _ => ?_) (fun q => absurd q (by decide))
                      refine lv_iload hx hb dX4_meets_186 (lv_at hl 4 rfl) ?_
                      have := bi_b (decide (crsP (sPts sh) a b l9 lo < 0))
                      have := bi_b (decide (crsP (sPts sh) a b r9 lo < 0))
                      have := bi_b (decide (crsP (sPts sh) a b l9 hi < 0))
                      have := bi_b (decide (crsP (sPts sh) a b r9 hi < 0))
                      have := bi_b (decide (0 < crsP (sPts sh) a b l9 lo))
                      have := bi_b (decide (0 < crsP (sPts sh) a b r9 lo))
                      have := bi_b (decide (0 < crsP (sPts sh) a b l9 hi))
                      have := bi_b (decide (0 < crsP (sPts sh) a b r9 hi))
                      refine r_beq0 (tgt := 207) hx hb dX4_meets_188 (by decide) (fun h188 => ?_) (fun h188 => ?_)
                      · refine r_c hx hb dX4_meets_207 ?_
                        rw [hQ]
                        refine r_qret (z := 0) hx hb hr hlocks (bi_nar false) dX4_meets_208 ?_
                        show _ = bi (mtB _ _ _ _ _ _ _ _)
                        rw [mtB_eq]
                        first | (rw [h188]; rfl) | exact ba1 _ _ _ (btf fun k => absurd ((sum4 _ _ _ _).mpr k) (Int.not_lt.mpr h194)) | exact ba2 _ _ _ (btf fun k => absurd ((sum4 _ _ _ _).mpr k) (Int.not_lt.mpr h200))
                      refine lv_iload hx hb dX4_meets_191 (lv_at hl 2 rfl) ?_
                      refine r_c hx hb dX4_meets_193 ?_
                      refine r_ge (tgt := 207) hx hb dX4_meets_194 (by decide) ⟨by omega, by omega⟩ ⟨by decide, by decide⟩ (fun h194 => ?_) (fun h194 => ?_)
                      · refine r_c hx hb dX4_meets_207 ?_
                        rw [hQ]
                        refine r_qret (z := 0) hx hb hr hlocks (bi_nar false) dX4_meets_208 ?_
                        show _ = bi (mtB _ _ _ _ _ _ _ _)
                        rw [mtB_eq]
                        first | (rw [h188]; rfl) | exact ba1 _ _ _ (btf fun k => absurd ((sum4 _ _ _ _).mpr k) (Int.not_lt.mpr h194)) | exact ba2 _ _ _ (btf fun k => absurd ((sum4 _ _ _ _).mpr k) (Int.not_lt.mpr h200))
                      refine lv_iload hx hb dX4_meets_197 (lv_at hl 1 rfl) ?_
                      refine r_c hx hb dX4_meets_199 ?_
                      refine r_ge (tgt := 207) hx hb dX4_meets_200 (by decide) ⟨by omega, by omega⟩ ⟨by decide, by decide⟩ (fun h200 => ?_) (fun h200 => ?_)
                      · refine r_c hx hb dX4_meets_207 ?_
                        rw [hQ]
                        refine r_qret (z := 0) hx hb hr hlocks (bi_nar false) dX4_meets_208 ?_
                        show _ = bi (mtB _ _ _ _ _ _ _ _)
                        rw [mtB_eq]
                        first | (rw [h188]; rfl) | exact ba1 _ _ _ (btf fun k => absurd ((sum4 _ _ _ _).mpr k) (Int.not_lt.mpr h194)) | exact ba2 _ _ _ (btf fun k => absurd ((sum4 _ _ _ _).mpr k) (Int.not_lt.mpr h200))
                      refine r_c hx hb dX4_meets_203 ?_
                      refine lv_goto (tgt := 208) hx hb dX4_meets_204 (by decide) ?_
                      rw [hQ]
                      refine r_qret (z := 1) hx hb hr hlocks (bi_nar true) dX4_meets_208 ?_
                      show _ = bi (mtB _ _ _ _ _ _ _ _)
                      rw [mtB_eq]
                      have e1 := (sum4 _ _ _ _).mp h194
                      have e2 := (sum4 _ _ _ _).mp h200
                      unfold crsP at e1 e2
                      rw [h188, e1, e2]
                      rfl
                    refine lv_iload hx hb dX4_meets_167 (lv_at hl 1 rfl) ?_
                    refine r_ge0 (tgt := 176) hx hb dX4_meets_169 (by decide) (fit8k (crs_b (hwp a ha).1 (hwp a ha).2 (hwp b hb9).1 (hwp b hb9).2 hr9 hhi)) (fun h169 => ?_) (fun h169 => ?_)
                    · refine r_c hx hb dX4_meets_176 ?_
                      refine r_int (z := bi (decide (crsP (sPts sh) a b r9 hi < 0))) (bi_f (by omega)) ?_
                      exact J177
                    refine r_c hx hb dX4_meets_172 ?_
                    refine lv_goto (tgt := 177) hx hb dX4_meets_173 (by decide) ?_
                    refine r_int (z := bi (decide (crsP (sPts sh) a b r9 hi < 0))) (bi_t h169) ?_
                    exact J177
                  refine lv_iload hx hb dX4_meets_152 (lv_at hl 0 rfl) ?_
                  refine r_le0 (tgt := 161) hx hb dX4_meets_154 (by decide) (fit8k (crs_b (hwp a ha).1 (hwp a ha).2 (hwp b hb9).1 (hwp b hb9).2 hr9 hhi)) (fun h154 => ?_) (fun h154 => ?_)
                  · refine r_c hx hb dX4_meets_161 ?_
                    refine r_int (z := bi (decide (0 < crsP (sPts sh) a b r9 hi))) (bi_f (by omega)) ?_
                    exact J162
                  refine r_c hx hb dX4_meets_157 ?_
                  refine lv_goto (tgt := 162) hx hb dX4_meets_158 (by decide) ?_
                  refine r_int (z := bi (decide (0 < crsP (sPts sh) a b r9 hi))) (bi_t h154) ?_
                  exact J162
                refine lv_iload hx hb dX4_meets_167 (lv_at hl 1 rfl) ?_
                refine r_ge0 (tgt := 176) hx hb dX4_meets_169 (by decide) (fit8k (crs_b (hwp a ha).1 (hwp a ha).2 (hwp b hb9).1 (hwp b hb9).2 hl9 hhi)) (fun h169 => ?_) (fun h169 => ?_)
                · refine r_c hx hb dX4_meets_176 ?_
                  refine r_int (z := bi (decide (crsP (sPts sh) a b l9 hi < 0))) (bi_f (by omega)) ?_
                  exact J177
                refine r_c hx hb dX4_meets_172 ?_
                refine lv_goto (tgt := 177) hx hb dX4_meets_173 (by decide) ?_
                refine r_int (z := bi (decide (crsP (sPts sh) a b l9 hi < 0))) (bi_t h169) ?_
                exact J177
              refine lv_iload hx hb dX4_meets_152 (lv_at hl 0 rfl) ?_
              refine r_le0 (tgt := 161) hx hb dX4_meets_154 (by decide) (fit8k (crs_b (hwp a ha).1 (hwp a ha).2 (hwp b hb9).1 (hwp b hb9).2 hl9 hhi)) (fun h154 => ?_) (fun h154 => ?_)
              · refine r_c hx hb dX4_meets_161 ?_
                refine r_int (z := bi (decide (0 < crsP (sPts sh) a b l9 hi))) (bi_f (by omega)) ?_
                exact J162
              refine r_c hx hb dX4_meets_157 ?_
              refine lv_goto (tgt := 162) hx hb dX4_meets_158 (by decide) ?_
              refine r_int (z := bi (decide (0 < crsP (sPts sh) a b l9 hi))) (bi_t h154) ?_
              exact J162
            refine lv_iload hx hb dX4_meets_167 (lv_at hl 1 rfl) ?_
            refine r_ge0 (tgt := 176) hx hb dX4_meets_169 (by decide) (fit8k (crs_b (hwp a ha).1 (hwp a ha).2 (hwp b hb9).1 (hwp b hb9).2 hr9 hlo)) (fun h169 => ?_) (fun h169 => ?_)
            · refine r_c hx hb dX4_meets_176 ?_
              refine r_int (z := bi (decide (crsP (sPts sh) a b r9 lo < 0))) (bi_f (by omega)) ?_
              exact J177
            refine r_c hx hb dX4_meets_172 ?_
            refine lv_goto (tgt := 177) hx hb dX4_meets_173 (by decide) ?_
            refine r_int (z := bi (decide (crsP (sPts sh) a b r9 lo < 0))) (bi_t h169) ?_
            exact J177
          refine lv_iload hx hb dX4_meets_152 (lv_at hl 0 rfl) ?_
          refine r_le0 (tgt := 161) hx hb dX4_meets_154 (by decide) (fit8k (crs_b (hwp a ha).1 (hwp a ha).2 (hwp b hb9).1 (hwp b hb9).2 hr9 hlo)) (fun h154 => ?_) (fun h154 => ?_)
          · refine r_c hx hb dX4_meets_161 ?_
            refine r_int (z := bi (decide (0 < crsP (sPts sh) a b r9 lo))) (bi_f (by omega)) ?_
            exact J162
          refine r_c hx hb dX4_meets_157 ?_
          refine lv_goto (tgt := 162) hx hb dX4_meets_158 (by decide) ?_
          refine r_int (z := bi (decide (0 < crsP (sPts sh) a b r9 lo))) (bi_t h154) ?_
          exact J162
        refine lv_iload hx hb dX4_meets_167 (lv_at hl 1 rfl) ?_
        refine r_ge0 (tgt := 176) hx hb dX4_meets_169 (by decide) (fit8k (crs_b (hwp a ha).1 (hwp a ha).2 (hwp b hb9).1 (hwp b hb9).2 hl9 hlo)) (fun h169 => ?_) (fun h169 => ?_)
        · refine r_c hx hb dX4_meets_176 ?_
          refine r_int (z := bi (decide (crsP (sPts sh) a b l9 lo < 0))) (bi_f (by omega)) ?_
          exact J177
        refine r_c hx hb dX4_meets_172 ?_
        refine lv_goto (tgt := 177) hx hb dX4_meets_173 (by decide) ?_
        refine r_int (z := bi (decide (crsP (sPts sh) a b l9 lo < 0))) (bi_t h169) ?_
        exact J177
      refine lv_iload hx hb dX4_meets_152 (lv_at hl 0 rfl) ?_
      refine r_le0 (tgt := 161) hx hb dX4_meets_154 (by decide) (fit8k (crs_b (hwp a ha).1 (hwp a ha).2 (hwp b hb9).1 (hwp b hb9).2 hl9 hlo)) (fun h154 => ?_) (fun h154 => ?_)
      · refine r_c hx hb dX4_meets_161 ?_
        refine r_int (z := bi (decide (0 < crsP (sPts sh) a b l9 lo))) (bi_f (by omega)) ?_
        exact J162
      refine r_c hx hb dX4_meets_157 ?_
      refine lv_goto (tgt := 162) hx hb dX4_meets_158 (by decide) ?_
      refine r_int (z := bi (decide (0 < crsP (sPts sh) a b l9 lo))) (bi_t h154) ?_
      exact J162
    refine lv_iload hx hb dX4_meets_47 (lv_at hl 0 rfl) ?_
    refine r_beq0 (tgt := 96) hx hb dX4_meets_49 (by decide) (fun h49 => ?_) (fun h49 => ?_)
    · refine r_c hx hb dX4_meets_96 ?_
      refine r_int (z := bi (rchB (pX (sPts sh) a) (pX (sPts sh) b) l9 r9 && rchB (pY (sPts sh) a) (pY (sPts sh) b) lo hi)) (by first | (rw [h49]; rfl) | (rw [rch_2 h69, Bool.and_false]; rfl) | (rw [rch_3 h89, Bool.and_false]; rfl)) ?_
      exact J97
    refine lv_aload_n hx hb dX4_meets_52 rfl (lv_at hl 1 rfl) ?_
    refine lv_iload_n hx hb dX4_meets_53 rfl (lv_at hl 2 rfl) ?_
    refine lv_iload_n hx hb dX4_meets_54 rfl (lv_at hl 3 rfl) ?_
    refine r_qi (z := pY (sPts sh) a) (va_runV (As := [.int (zi (si : Int)), .int (zi (a : Int))]) (rest := []) ⟨hx, hb, hml, hown, hts⟩ (m_y l g ad t si a (9 * si + a) (pY (sPts sh) a) (by omega) (by omega) ((hrow).2.2.2.2.2.2.2 a ha).2) (cwV 2 hts (lw_V q1685 q1687 qs33 q69 q1688) rfl rfl rfl (by decide +kernel) ⟨Nat.le_of_ble_eq_true rfl, Nat.le_of_ble_eq_true rfl⟩) (pcs_V (va_recv hK hP (ci := 10) (q0 := 0) rfl rfl) hKq hP) rfl rfl hl.1 rfl (lv_room (Nat.le_of_ble_eq_true rfl)) dX4_meets_55 ⟨Nat.le_of_ble_eq_true rfl, Nat.le_of_ble_eq_true rfl⟩) ?_
    refine lv_aload_n hx hb dX4_meets_58 rfl (lv_at hl 1 rfl) ?_
    refine lv_iload_n hx hb dX4_meets_59 rfl (lv_at hl 2 rfl) ?_
    refine lv_iload_n hx hb dX4_meets_60 rfl (lv_at hl 4 rfl) ?_
    refine r_qi (z := pY (sPts sh) b) (va_runV (As := [.int (zi (si : Int)), .int (zi (b : Int))]) (rest := [.int (zi (pY (sPts sh) a))]) ⟨hx, hb, hml, hown, hts⟩ (m_y l g ad t si b (9 * si + b) (pY (sPts sh) b) (by omega) (by omega) ((hrow).2.2.2.2.2.2.2 b hb9).2) (cwV 2 hts (lw_V q1685 q1687 qs33 q69 q1688) rfl rfl rfl (by decide +kernel) ⟨Nat.le_of_ble_eq_true rfl, Nat.le_of_ble_eq_true rfl⟩) (pcs_V (va_recv hK hP (ci := 10) (q0 := 0) rfl rfl) hKq hP) rfl rfl hl.1 rfl (lv_room (Nat.le_of_ble_eq_true rfl)) dX4_meets_61 ⟨Nat.le_of_ble_eq_true rfl, Nat.le_of_ble_eq_true rfl⟩) ?_
    refine va_mmin hx hb (hml.trans hl.1.symm) hown (hts _ q1689) (hts _ q575) (hts _ q78) (hts _ q576) (Nat.le_of_ble_eq_true rfl) (Nat.le_of_ble_eq_true rfl) (Nat.le_of_ble_eq_true rfl) (Nat.le_of_ble_eq_true rfl) dX4_meets_64 ?_
    refine r_raw (z := min (pY (sPts sh) a) (pY (sPts sh) b)) (zi_min _ _ ⟨by omega, by omega⟩ ⟨by omega, by omega⟩) ?_
    refine lv_iload hx hb dX4_meets_67 (lv_at hl 8 rfl) ?_
    refine r_gt (tgt := 96) hx hb dX4_meets_69 (by decide) ⟨by omega, by omega⟩ ⟨by omega, by omega⟩ (fun h69 => ?_) (fun h69 => ?_)
    · refine r_c hx hb dX4_meets_96 ?_
      refine r_int (z := bi (rchB (pX (sPts sh) a) (pX (sPts sh) b) l9 r9 && rchB (pY (sPts sh) a) (pY (sPts sh) b) lo hi)) (by first | (rw [h49]; rfl) | (rw [rch_2 h69, Bool.and_false]; rfl) | (rw [rch_3 h89, Bool.and_false]; rfl)) ?_
      exact J97
    refine lv_aload_n hx hb dX4_meets_72 rfl (lv_at hl 1 rfl) ?_
    refine lv_iload_n hx hb dX4_meets_73 rfl (lv_at hl 2 rfl) ?_
    refine lv_iload_n hx hb dX4_meets_74 rfl (lv_at hl 3 rfl) ?_
    refine r_qi (z := pY (sPts sh) a) (va_runV (As := [.int (zi (si : Int)), .int (zi (a : Int))]) (rest := []) ⟨hx, hb, hml, hown, hts⟩ (m_y l g ad t si a (9 * si + a) (pY (sPts sh) a) (by omega) (by omega) ((hrow).2.2.2.2.2.2.2 a ha).2) (cwV 2 hts (lw_V q1685 q1687 qs33 q69 q1688) rfl rfl rfl (by decide +kernel) ⟨Nat.le_of_ble_eq_true rfl, Nat.le_of_ble_eq_true rfl⟩) (pcs_V (va_recv hK hP (ci := 10) (q0 := 0) rfl rfl) hKq hP) rfl rfl hl.1 rfl (lv_room (Nat.le_of_ble_eq_true rfl)) dX4_meets_75 ⟨Nat.le_of_ble_eq_true rfl, Nat.le_of_ble_eq_true rfl⟩) ?_
    refine lv_aload_n hx hb dX4_meets_78 rfl (lv_at hl 1 rfl) ?_
    refine lv_iload_n hx hb dX4_meets_79 rfl (lv_at hl 2 rfl) ?_
    refine lv_iload_n hx hb dX4_meets_80 rfl (lv_at hl 4 rfl) ?_
    refine r_qi (z := pY (sPts sh) b) (va_runV (As := [.int (zi (si : Int)), .int (zi (b : Int))]) (rest := [.int (zi (pY (sPts sh) a))]) ⟨hx, hb, hml, hown, hts⟩ (m_y l g ad t si b (9 * si + b) (pY (sPts sh) b) (by omega) (by omega) ((hrow).2.2.2.2.2.2.2 b hb9).2) (cwV 2 hts (lw_V q1685 q1687 qs33 q69 q1688) rfl rfl rfl (by decide +kernel) ⟨Nat.le_of_ble_eq_true rfl, Nat.le_of_ble_eq_true rfl⟩) (pcs_V (va_recv hK hP (ci := 10) (q0 := 0) rfl rfl) hKq hP) rfl rfl hl.1 rfl (lv_room (Nat.le_of_ble_eq_true rfl)) dX4_meets_81 ⟨Nat.le_of_ble_eq_true rfl, Nat.le_of_ble_eq_true rfl⟩) ?_
    refine va_mmax hx hb (hml.trans hl.1.symm) hown (hts _ q1690) (hts _ q531) (hts _ q78) (hts _ q532) (Nat.le_of_ble_eq_true rfl) (Nat.le_of_ble_eq_true rfl) (Nat.le_of_ble_eq_true rfl) (Nat.le_of_ble_eq_true rfl) dX4_meets_84 ?_
    refine r_raw (z := max (pY (sPts sh) a) (pY (sPts sh) b)) (zi_max _ _ ⟨by omega, by omega⟩ ⟨by omega, by omega⟩) ?_
    refine lv_iload hx hb dX4_meets_87 (lv_at hl 6 rfl) ?_
    refine r_lt (tgt := 96) hx hb dX4_meets_89 (by decide) ⟨by omega, by omega⟩ ⟨by omega, by omega⟩ (fun h89 => ?_) (fun h89 => ?_)
    · refine r_c hx hb dX4_meets_96 ?_
      refine r_int (z := bi (rchB (pX (sPts sh) a) (pX (sPts sh) b) l9 r9 && rchB (pY (sPts sh) a) (pY (sPts sh) b) lo hi)) (by first | (rw [h49]; rfl) | (rw [rch_2 h69, Bool.and_false]; rfl) | (rw [rch_3 h89, Bool.and_false]; rfl)) ?_
      exact J97
    refine r_c hx hb dX4_meets_92 ?_
    refine lv_goto (tgt := 97) hx hb dX4_meets_93 (by decide) ?_
    refine r_int (z := bi (rchB (pX (sPts sh) a) (pX (sPts sh) b) l9 r9 && rchB (pY (sPts sh) a) (pY (sPts sh) b) lo hi)) (by rw [h49, rch_1 h69 h89]; rfl) ?_
    exact J97
  refine lv_aload_n hx hb dX4_meets_0 rfl (lv_at hl 0 rfl) ?_
  refine lv_iload_n hx hb dX4_meets_1 rfl (lv_at hl 1 rfl) ?_
  refine lv_iload_n hx hb dX4_meets_2 rfl (lv_at hl 2 rfl) ?_
  refine r_qi (z := pX (sPts sh) a) (va_runV (As := [.int (zi (si : Int)), .int (zi (a : Int))]) (rest := []) ⟨hx, hb, hml, hown, hts⟩ (m_x l g ad t si a (9 * si + a) (pX (sPts sh) a) (by omega) (by omega) ((hrow).2.2.2.2.2.2.2 a ha).1) (cwV 2 hts (lw_V q1681 q1683 qs32 q69 q1684) rfl rfl rfl (by decide +kernel) ⟨Nat.le_of_ble_eq_true rfl, Nat.le_of_ble_eq_true rfl⟩) (pcs_V (va_recv hK hP (ci := 10) (q0 := 0) rfl rfl) hKq hP) rfl rfl hl.1 rfl (lv_room (Nat.le_of_ble_eq_true rfl)) dX4_meets_3 ⟨Nat.le_of_ble_eq_true rfl, Nat.le_of_ble_eq_true rfl⟩) ?_
  refine lv_aload_n hx hb dX4_meets_6 rfl (lv_at hl 0 rfl) ?_
  refine lv_iload_n hx hb dX4_meets_7 rfl (lv_at hl 1 rfl) ?_
  refine lv_iload_n hx hb dX4_meets_8 rfl (lv_at hl 3 rfl) ?_
  refine r_qi (z := pX (sPts sh) b) (va_runV (As := [.int (zi (si : Int)), .int (zi (b : Int))]) (rest := [.int (zi (pX (sPts sh) a))]) ⟨hx, hb, hml, hown, hts⟩ (m_x l g ad t si b (9 * si + b) (pX (sPts sh) b) (by omega) (by omega) ((hrow).2.2.2.2.2.2.2 b hb9).1) (cwV 2 hts (lw_V q1681 q1683 qs32 q69 q1684) rfl rfl rfl (by decide +kernel) ⟨Nat.le_of_ble_eq_true rfl, Nat.le_of_ble_eq_true rfl⟩) (pcs_V (va_recv hK hP (ci := 10) (q0 := 0) rfl rfl) hKq hP) rfl rfl hl.1 rfl (lv_room (Nat.le_of_ble_eq_true rfl)) dX4_meets_9 ⟨Nat.le_of_ble_eq_true rfl, Nat.le_of_ble_eq_true rfl⟩) ?_
  refine va_mmin hx hb (hml.trans hl.1.symm) hown (hts _ q1689) (hts _ q575) (hts _ q78) (hts _ q576) (Nat.le_of_ble_eq_true rfl) (Nat.le_of_ble_eq_true rfl) (Nat.le_of_ble_eq_true rfl) (Nat.le_of_ble_eq_true rfl) dX4_meets_12 ?_
  refine r_raw (z := min (pX (sPts sh) a) (pX (sPts sh) b)) (zi_min _ _ ⟨by omega, by omega⟩ ⟨by omega, by omega⟩) ?_
  refine lv_iload hx hb dX4_meets_15 (lv_at hl 6 rfl) ?_
  refine r_gt (tgt := 44) hx hb dX4_meets_17 (by decide) ⟨by omega, by omega⟩ ⟨by omega, by omega⟩ (fun h17 => ?_) (fun h17 => ?_)
  · refine r_c hx hb dX4_meets_44 ?_
    refine r_int (z := bi (rchB (pX (sPts sh) a) (pX (sPts sh) b) l9 r9)) (by first | (rw [rch_2 h17]; rfl) | (rw [rch_3 h37]; rfl)) ?_
    exact J45
  refine lv_aload_n hx hb dX4_meets_20 rfl (lv_at hl 0 rfl) ?_
  refine lv_iload_n hx hb dX4_meets_21 rfl (lv_at hl 1 rfl) ?_
  refine lv_iload_n hx hb dX4_meets_22 rfl (lv_at hl 2 rfl) ?_
  refine r_qi (z := pX (sPts sh) a) (va_runV (As := [.int (zi (si : Int)), .int (zi (a : Int))]) (rest := []) ⟨hx, hb, hml, hown, hts⟩ (m_x l g ad t si a (9 * si + a) (pX (sPts sh) a) (by omega) (by omega) ((hrow).2.2.2.2.2.2.2 a ha).1) (cwV 2 hts (lw_V q1681 q1683 qs32 q69 q1684) rfl rfl rfl (by decide +kernel) ⟨Nat.le_of_ble_eq_true rfl, Nat.le_of_ble_eq_true rfl⟩) (pcs_V (va_recv hK hP (ci := 10) (q0 := 0) rfl rfl) hKq hP) rfl rfl hl.1 rfl (lv_room (Nat.le_of_ble_eq_true rfl)) dX4_meets_23 ⟨Nat.le_of_ble_eq_true rfl, Nat.le_of_ble_eq_true rfl⟩) ?_
  refine lv_aload_n hx hb dX4_meets_26 rfl (lv_at hl 0 rfl) ?_
  refine lv_iload_n hx hb dX4_meets_27 rfl (lv_at hl 1 rfl) ?_
  refine lv_iload_n hx hb dX4_meets_28 rfl (lv_at hl 3 rfl) ?_
  refine r_qi (z := pX (sPts sh) b) (va_runV (As := [.int (zi (si : Int)), .int (zi (b : Int))]) (rest := [.int (zi (pX (sPts sh) a))]) ⟨hx, hb, hml, hown, hts⟩ (m_x l g ad t si b (9 * si + b) (pX (sPts sh) b) (by omega) (by omega) ((hrow).2.2.2.2.2.2.2 b hb9).1) (cwV 2 hts (lw_V q1681 q1683 qs32 q69 q1684) rfl rfl rfl (by decide +kernel) ⟨Nat.le_of_ble_eq_true rfl, Nat.le_of_ble_eq_true rfl⟩) (pcs_V (va_recv hK hP (ci := 10) (q0 := 0) rfl rfl) hKq hP) rfl rfl hl.1 rfl (lv_room (Nat.le_of_ble_eq_true rfl)) dX4_meets_29 ⟨Nat.le_of_ble_eq_true rfl, Nat.le_of_ble_eq_true rfl⟩) ?_
  refine va_mmax hx hb (hml.trans hl.1.symm) hown (hts _ q1690) (hts _ q531) (hts _ q78) (hts _ q532) (Nat.le_of_ble_eq_true rfl) (Nat.le_of_ble_eq_true rfl) (Nat.le_of_ble_eq_true rfl) (Nat.le_of_ble_eq_true rfl) dX4_meets_32 ?_
  refine r_raw (z := max (pX (sPts sh) a) (pX (sPts sh) b)) (zi_max _ _ ⟨by omega, by omega⟩ ⟨by omega, by omega⟩) ?_
  refine lv_iload hx hb dX4_meets_35 (lv_at hl 4 rfl) ?_
  refine r_lt (tgt := 44) hx hb dX4_meets_37 (by decide) ⟨by omega, by omega⟩ ⟨by omega, by omega⟩ (fun h37 => ?_) (fun h37 => ?_)
  · refine r_c hx hb dX4_meets_44 ?_
    refine r_int (z := bi (rchB (pX (sPts sh) a) (pX (sPts sh) b) l9 r9)) (by first | (rw [rch_2 h17]; rfl) | (rw [rch_3 h37]; rfl)) ?_
    exact J45
  refine r_c hx hb dX4_meets_40 ?_
  refine lv_goto (tgt := 45) hx hb dX4_meets_41 (by decide) ?_
  refine r_int (z := bi (rchB (pX (sPts sh) a) (pX (sPts sh) b) l9 r9)) (by rw [rch_1 h17 h37]; rfl) ?_
  exact J45
set_option maxHeartbeats 4000000 in
set_option maxRecDepth 100000 in
theorem m_met (l : Launch) (g : GD) (ad : TA) (t : TS) (σ : Sg) (si : Nat) (sh : Sh) (hT : TR σ t) (hs : (gSh σ)[si]? = some sh) (lv : Int) (hv0 : 0 ≤ lv) (hv3 : lv ≤ 3) (hli : sAr sh = false) (l9 lo r9 hi : Int) (hl9 : 0 ≤ l9 ∧ l9 ≤ 64) (hlo : 0 ≤ lo ∧ lo ≤ 64) (hr9 : 0 ≤ r9 ∧ r9 ≤ 64) (hhi : 0 ≤ hi ∧ hi ≤ 64) : Met l yX4_met (ws_ yX4_met cX4_met 11 (some .int)) ({ frames := 5, cells := 0, slots := 0, locals := 143 } : Room) (pcs g [.ref (aO ad), .int (zi (si : Int)), .int (zi lv), .int (zi l9), .int (zi lo), .int (zi r9), .int (zi hi)] noA (fun h => va_P g.1 vwCl (TW g ad t) h)) (qSi (metC (sPts sh) (gTo σ lv.toNat) l9 lo r9 hi)) 0 0 noA := by
  refine Met.go (by decide) (Nat.le_of_ble_eq_true rfl) ?_
  intro p e s m args below meth c Q ls hQ hx hb hr hml hts hown hlocks hin hKH hF hl
  have hown : s.vm.findClass RX4 = some m.cls := hown
  have hK := hKH.k
  have hNW := hKH.1.nw
  have hl : lv_has ls 11 [(0, .ref (aO ad)), (1, .int (zi (si : Int))), (2, .int (zi lv)), (3, .int (zi l9)), (4, .int (zi lo)), (5, .int (zi r9)), (6, .int (zi hi))] := hl
  have hP : va_P g.1 vwCl (TW g ad t) s.heap := hF
  have hKq : KH g noA s s.heap := hKH
  have hN := hT.n12
  have hsl := idx_lt hs
  have hrow := hT.s hs
  have hw := hT.ws hs
  have h9 := hw.2.1
  have hwp := hw.1
  have h2 : 2 ≤ (sPts sh).length := by
    rcases hw.2.2.1 with ⟨q, -⟩ | ⟨-, q, -⟩
    · rw [hli] at q; cases q
    · exact q
  obtain ⟨la, hla⟩ : ∃ la, (sPts sh).length - 1 = la := ⟨_, rfl⟩
  refine lv_aload_n hx hb dX4_met_0 rfl (lv_at hl 0 rfl) ?_
  refine lv_iload_n hx hb dX4_met_1 rfl (lv_at hl 1 rfl) ?_
  refine lv_iload_n hx hb dX4_met_2 rfl (lv_at hl 2 rfl) ?_
  refine r_q (va_runV (As := [.int (zi (si : Int)), .int (zi lv)]) (rest := []) ⟨hx, hb, hml, hown, hts⟩ (m_kept l g ad t σ si sh hT hs lv hv0 hv3 hli) (cwV 2 hts (lw_V q1791 q1793 qs40 q69 q1794) rfl rfl rfl (by decide +kernel) ⟨Nat.le_of_ble_eq_true rfl, Nat.le_of_ble_eq_true rfl⟩) (pcs_V (va_recv hK hP (ci := 10) (q0 := 0) rfl rfl) hKq hP) rfl rfl hl.1 rfl (lv_room (Nat.le_of_ble_eq_true rfl)) dX4_met_3 ⟨Nat.le_of_ble_eq_true rfl, Nat.le_of_ble_eq_true rfl⟩) (fun v9 hv9 => ?_)
  obtain ⟨N, rfl, hN5, hbt5⟩ := hv9
  refine r_st1 ?_
  refine lv_istore (lv' := [(7, .int (zi (N : Int))), (0, .ref (aO ad)), (1, .int (zi (si : Int))), (2, .int (zi lv)), (3, .int (zi l9)), (4, .int (zi lo)), (5, .int (zi r9)), (6, .int (zi hi))]) hx hb dX4_met_6 hl (by decide) rfl (fun ls hl => ?_)
  refine lv_aload_n hx hb dX4_met_8 rfl (lv_at hl 1 rfl) ?_
  refine lv_iload_n hx hb dX4_met_9 rfl (lv_at hl 2 rfl) ?_
  refine r_c hx hb dX4_met_10 ?_
  refine r_qi (z := ((sPts sh).length : Int)) (va_runV (As := [.int (zi (si : Int)), .int (zi 2)]) (rest := []) ⟨hx, hb, hml, hown, hts⟩ (m_of l g ad t si 2 (7 * si + 2) (((sPts sh).length : Int)) (by omega) (by omega) (hrow.2.2.1)) (cwV 2 hts (lw_V q1673 q1675 qs30 q69 q1676) rfl rfl rfl (by decide +kernel) ⟨Nat.le_of_ble_eq_true rfl, Nat.le_of_ble_eq_true rfl⟩) (pcs_V (va_recv hK hP (ci := 10) (q0 := 0) rfl rfl) hKq hP) rfl rfl hl.1 rfl (lv_room (Nat.le_of_ble_eq_true rfl)) dX4_met_11 ⟨Nat.le_of_ble_eq_true rfl, Nat.le_of_ble_eq_true rfl⟩) ?_
  refine r_c hx hb dX4_met_14 ?_
  refine r_sub (z := (la : Int)) hx hb dX4_met_15 (by omega) ?_
  refine lv_istore (lv' := [(8, .int (zi (la : Int))), (7, .int (zi (N : Int))), (0, .ref (aO ad)), (1, .int (zi (si : Int))), (2, .int (zi lv)), (3, .int (zi l9)), (4, .int (zi lo)), (5, .int (zi r9)), (6, .int (zi hi))]) hx hb dX4_met_16 hl (by decide) rfl (fun ls hl => ?_)
  refine r_c hx hb dX4_met_18 ?_
  refine lv_istore (lv' := [(9, .int (zi 0)), (8, .int (zi (la : Int))), (7, .int (zi (N : Int))), (0, .ref (aO ad)), (1, .int (zi (si : Int))), (2, .int (zi lv)), (3, .int (zi l9)), (4, .int (zi lo)), (5, .int (zi r9)), (6, .int (zi hi))]) hx hb dX4_met_19 hl (by decide) rfl (fun ls hl => ?_)
  obtain ⟨suf0, hkl, hsk0⟩ := SufK_0 (q := sPts sh) (tol := (gTo σ lv.toNat)) (by omega)
  have hkl2 : (kl (sPts sh) (gTo σ lv.toNat)).length = suf0.length + 1 := by rw [hkl]; rfl
  refine r_c hx hb dX4_met_21 ?_
  refine lv_istore (lv' := [(10, .int (zi 0)), (9, .int (zi 0)), (8, .int (zi (la : Int))), (7, .int (zi (N : Int))), (0, .ref (aO ad)), (1, .int (zi (si : Int))), (2, .int (zi lv)), (3, .int (zi l9)), (4, .int (zi lo)), (5, .int (zi r9)), (6, .int (zi hi))]) hx hb dX4_met_22 hl (by decide) rfl (fun ls hl => ?_)
  have lp : ∀ (n : Nat) (a : Nat) (suf : List Nat) (cnt : Int), (a ≤ la) → (SufK (sPts sh) (gTo σ lv.toNat) a suf) → (cnt + segC (mtP (sPts sh) l9 lo r9 hi) (a :: suf) = metC (sPts sh) (gTo σ lv.toNat) l9 lo r9 hi) → suf.length < n → ∀ ls : Array Slot, lv_has ls 11 [(10, .int (zi (a : Int))), (9, .int (zi cnt)), (8, .int (zi (la : Int))), (7, .int (zi (N : Int))), (0, .ref (aO ad)), (1, .int (zi (si : Int))), (2, .int (zi lv)), (3, .int (zi l9)), (4, .int (zi lo)), (5, .int (zi r9)), (6, .int (zi hi))] → W p l e ({ frames := 5, cells := 0, slots := 0, locals := 143 } : Room) s m args below meth c s.heap ([]) 0 0 Q (F0 m 24 ls []) := by
    intro n
    induction n with
    | zero =>
      intro a suf cnt ha hsk hc hbd
      exact absurd hbd (by omega)
    | succ n ih =>
      intro a suf cnt ha hsk hc hbd ls hl
      refine lv_iload hx hb dX4_met_24 (lv_at hl 0 rfl) ?_
      refine lv_iload hx hb dX4_met_26 (lv_at hl 2 rfl) ?_
      refine r_ge (tgt := 79) hx hb dX4_met_28 (by decide) ⟨by omega, by omega⟩ ⟨by omega, by omega⟩ (fun h28 => ?_) (fun h28 => ?_)
      · have hend := SufK_end hsk (by omega)
        subst hend
        refine lv_iload hx hb dX4_met_79 (lv_at hl 1 rfl) ?_
        rw [hQ]
        exact r_qret (z := cnt) hx hb hr hlocks rfl dX4_met_81 (by rw [← hc]; exact (Int.add_zero cnt).symm)
      obtain ⟨b, r, hsb, hab, hbq, hkb, hno, hsk2⟩ := SufK_next hsk (by omega)
      subst hsb
      have hln : (b :: r).length = r.length + 1 := rfl
      refine lv_iload hx hb dX4_met_31 (lv_at hl 1 rfl) ?_
      have J63 : W p l e ({ frames := 5, cells := 0, slots := 0, locals := 143 } : Room) s m args below meth c s.heap ([]) 0 0 Q (F0 m 63 ls [.int (zi (bi (mtP (sPts sh) l9 lo r9 hi a b))), .int (zi cnt)]) := by
        refine r_add (z := cnt + bi (mtP (sPts sh) l9 lo r9 hi a b)) hx hb dX4_met_63 rfl ?_
        refine lv_istore (lv' := [(9, .int (zi (cnt + bi (mtP (sPts sh) l9 lo r9 hi a b)))), (10, .int (zi (a : Int))), (8, .int (zi (la : Int))), (7, .int (zi (N : Int))), (0, .ref (aO ad)), (1, .int (zi (si : Int))), (2, .int (zi lv)), (3, .int (zi l9)), (4, .int (zi lo)), (5, .int (zi r9)), (6, .int (zi hi))]) hx hb dX4_met_64 hl (by decide) rfl (fun ls hl => ?_)
        refine lv_aload_n hx hb dX4_met_66 rfl (lv_at hl 4 rfl) ?_
        refine lv_iload hx hb dX4_met_67 (lv_at hl 3 rfl) ?_
        refine lv_iload hx hb dX4_met_69 (lv_at hl 1 rfl) ?_
        refine r_qi (z := (b : Int)) (va_runV (As := [.int (zi (N : Int)), .int (zi (a : Int))]) (rest := []) ⟨hx, hb, hml, hown, hts⟩ (m_nextKept l g ad t N a b hN5 hab (by omega) (by rw [hbt5]; exact hkb) (fun j g1 g2 => by rw [hbt5]; exact hno j g1 g2)) (cwV 2 hts (lw_V q1795 q1797 qs41 q69 q1798) rfl rfl rfl (by decide +kernel) ⟨Nat.le_of_ble_eq_true rfl, Nat.le_of_ble_eq_true rfl⟩) (pcs_V (va_recv hK hP (ci := 10) (q0 := 0) rfl rfl) hKq hP) rfl rfl hl.1 rfl (lv_room (Nat.le_of_ble_eq_true rfl)) dX4_met_71 ⟨Nat.le_of_ble_eq_true rfl, Nat.le_of_ble_eq_true rfl⟩) ?_
        refine lv_istore (lv' := [(10, .int (zi (b : Int))), (9, .int (zi (cnt + bi (mtP (sPts sh) l9 lo r9 hi a b)))), (8, .int (zi (la : Int))), (7, .int (zi (N : Int))), (0, .ref (aO ad)), (1, .int (zi (si : Int))), (2, .int (zi lv)), (3, .int (zi l9)), (4, .int (zi lo)), (5, .int (zi r9)), (6, .int (zi hi))]) hx hb dX4_met_74 hl (by decide) rfl (fun ls hl => ?_)
        refine lv_goto (tgt := 24) hx hb dX4_met_76 (by decide) ?_
        exact ih b r (cnt + bi (mtP (sPts sh) l9 lo r9 hi a b)) (by omega) hsk2 (by rw [← hc, segC_1]; omega) (by omega) ls (lv_sub hl [0, 1, 2, 3, 4, 5, 6, 7, 8, 9, 10] rfl)
      refine lv_aload_n hx hb dX4_met_33 rfl (lv_at hl 4 rfl) ?_
      refine lv_iload_n hx hb dX4_met_34 rfl (lv_at hl 5 rfl) ?_
      refine lv_iload hx hb dX4_met_35 (lv_at hl 0 rfl) ?_
      refine lv_aload_n hx hb dX4_met_37 rfl (lv_at hl 4 rfl) ?_
      refine lv_iload hx hb dX4_met_38 (lv_at hl 3 rfl) ?_
      refine lv_iload hx hb dX4_met_40 (lv_at hl 0 rfl) ?_
      refine r_qi (z := (b : Int)) (va_runV (As := [.int (zi (N : Int)), .int (zi (a : Int))]) (rest := [.int (zi (a : Int)), .int (zi (si : Int)), .ref (aO ad), .int (zi cnt)]) ⟨hx, hb, hml, hown, hts⟩ (m_nextKept l g ad t N a b hN5 hab (by omega) (by rw [hbt5]; exact hkb) (fun j g1 g2 => by rw [hbt5]; exact hno j g1 g2)) (cwV 2 hts (lw_V q1795 q1797 qs41 q69 q1798) rfl rfl rfl (by decide +kernel) ⟨Nat.le_of_ble_eq_true rfl, Nat.le_of_ble_eq_true rfl⟩) (pcs_V (va_recv hK hP (ci := 10) (q0 := 0) rfl rfl) hKq hP) rfl rfl hl.1 rfl (lv_room (Nat.le_of_ble_eq_true rfl)) dX4_met_42 ⟨Nat.le_of_ble_eq_true rfl, Nat.le_of_ble_eq_true rfl⟩) ?_
      refine lv_iload_n hx hb dX4_met_45 rfl (lv_at hl 7 rfl) ?_
      refine lv_iload hx hb dX4_met_46 (lv_at hl 8 rfl) ?_
      refine lv_iload hx hb dX4_met_48 (lv_at hl 9 rfl) ?_
      refine lv_iload hx hb dX4_met_50 (lv_at hl 10 rfl) ?_
      refine r_qi (z := bi (mtP (sPts sh) l9 lo r9 hi a b)) (va_runV (As := [.int (zi (si : Int)), .int (zi (a : Int)), .int (zi (b : Int)), .int (zi l9), .int (zi lo), .int (zi r9), .int (zi hi)]) (rest := [.int (zi cnt)]) ⟨hx, hb, hml, hown, hts⟩ (m_meets l g ad t σ si sh hT hs a b l9 lo r9 hi (by omega) (by omega) hl9 hlo hr9 hhi) (cwV 7 hts (lw_V q1859 q1861 qs51 q69 q1862) rfl rfl rfl (by decide +kernel) ⟨Nat.le_of_ble_eq_true rfl, Nat.le_of_ble_eq_true rfl⟩) (pcs_V (va_recv hK hP (ci := 10) (q0 := 0) rfl rfl) hKq hP) rfl rfl hl.1 rfl (lv_room (Nat.le_of_ble_eq_true rfl)) dX4_met_52 ⟨Nat.le_of_ble_eq_true rfl, Nat.le_of_ble_eq_true rfl⟩) ?_
      refine r_beq0 (tgt := 62) hx hb dX4_met_55 (by decide) (fun h55 => ?_) (fun h55 => ?_)
      · refine r_c hx hb dX4_met_62 ?_
        refine r_int (z := bi (mtP (sPts sh) l9 lo r9 hi a b)) (by rw [h55]; rfl) ?_
        exact J63
      refine r_c hx hb dX4_met_58 ?_
      refine lv_goto (tgt := 63) hx hb dX4_met_59 (by decide) ?_
      refine r_int (z := bi (mtP (sPts sh) l9 lo r9 hi a b)) (by rw [h55]; rfl) ?_
      exact J63
  exact lp ((kl (sPts sh) (gTo σ lv.toNat)).length + 1) 0 suf0 0 (Nat.zero_le _) hsk0 (by rw [← hkl]; exact Int.zero_add _) (by omega) ls (lv_sub hl [0, 1, 2, 3, 4, 5, 6, 7, 8, 9, 10] rfl)
set_option maxHeartbeats 4000000 in
set_option maxRecDepth 100000 in
theorem m_between (l : Launch) (g : GD) (v lo hi : Int) (hv : 0 ≤ v ∧ v ≤ 64) (hlo : 0 ≤ lo ∧ lo ≤ 64) (hhi : 0 ≤ hi ∧ hi ≤ 64) : Met l yX4_between (ws_ yX4_between cX4_between 3 (some .int)) ({ frames := 1, cells := 0, slots := 0, locals := 40 } : Room) (pcs g [.int (zi v), .int (zi lo), .int (zi hi)] noA (fun _ => True)) (qSi (btw v lo hi)) 0 0 noA := by
  refine Met.go (by decide) (Nat.le_of_ble_eq_true rfl) ?_
  intro p e s m args below meth c Q ls hQ hx hb hr hml hts hown hlocks hin hKH hF hl
  have hown : s.vm.findClass RX4 = some m.cls := hown
  have hK := hKH.k
  have hNW := hKH.1.nw
  have hl : lv_has ls 3 [(0, .int (zi v)), (1, .int (zi lo)), (2, .int (zi hi))] := hl
  have hKq : KH g noA s s.heap := hKH
  refine r_c hx hb dX4_between_0 ?_
  refine lv_iload_n hx hb dX4_between_1 rfl (lv_at hl 1 rfl) ?_
  refine lv_iload_n hx hb dX4_between_2 rfl (lv_at hl 0 rfl) ?_
  refine r_sub (z := lo - v) hx hb dX4_between_3 rfl ?_
  refine lv_iload_n hx hb dX4_between_4 rfl (lv_at hl 0 rfl) ?_
  refine lv_iload_n hx hb dX4_between_5 rfl (lv_at hl 2 rfl) ?_
  refine r_sub (z := v - hi) hx hb dX4_between_6 rfl ?_
  refine va_mmax hx hb (hml.trans hl.1.symm) hown (hts _ q1690) (hts _ q531) (hts _ q78) (hts _ q532) (Nat.le_of_ble_eq_true rfl) (Nat.le_of_ble_eq_true rfl) (Nat.le_of_ble_eq_true rfl) (Nat.le_of_ble_eq_true rfl) dX4_between_7 ?_
  refine r_raw (z := max (lo - v) (v - hi)) (zi_max _ _ ⟨by omega, by omega⟩ ⟨by omega, by omega⟩) ?_
  refine va_mmax hx hb (hml.trans hl.1.symm) hown (hts _ q1690) (hts _ q531) (hts _ q78) (hts _ q532) (Nat.le_of_ble_eq_true rfl) (Nat.le_of_ble_eq_true rfl) (Nat.le_of_ble_eq_true rfl) (Nat.le_of_ble_eq_true rfl) dX4_between_10 ?_
  refine r_raw (z := max 0 (max (lo - v) (v - hi))) (zi_max _ _ ⟨by decide, by decide⟩ ⟨by omega, by omega⟩) ?_
  rw [hQ]
  exact r_qret (z := max 0 (max (lo - v) (v - hi))) hx hb hr hlocks rfl dX4_between_13 (rfl)
set_option maxHeartbeats 4000000 in
set_option maxRecDepth 100000 in
theorem m_shows (l : Launch) (g : GD) (ad : TA) (t : TS) (σ : Sg) (si : Nat) (sh : Sh) (hT : TR σ t) (hs : (gSh σ)[si]? = some sh) (lv : Int) (hv0 : 0 ≤ lv) (hv3 : lv ≤ 3) (l9 lo r9 hi : Int) (hl9 : 0 ≤ l9 ∧ l9 ≤ 64) (hlo : 0 ≤ lo ∧ lo ≤ 64) (hr9 : 0 ≤ r9 ∧ r9 ≤ 64) (hhi : 0 ≤ hi ∧ hi ≤ 64) : Met l yX4_shows (ws_ yX4_shows cX4_shows 9 (some .boolean)) ({ frames := 6, cells := 0, slots := 0, locals := 173 } : Room) (pcs g [.ref (aO ad), .int (zi (si : Int)), .int (zi lv), .int (zi l9), .int (zi lo), .int (zi r9), .int (zi hi)] noA (fun h => va_P g.1 vwCl (TW g ad t) h)) (qSi (bi (shwB sh (gTo σ lv.toNat) l9 lo r9 hi))) 0 0 noA := by
  refine Met.go (by decide) (Nat.le_of_ble_eq_true rfl) ?_
  intro p e s m args below meth c Q ls hQ hx hb hr hml hts hown hlocks hin hKH hF hl
  have hown : s.vm.findClass RX4 = some m.cls := hown
  have hK := hKH.k
  have hNW := hKH.1.nw
  have hl : lv_has ls 9 [(0, .ref (aO ad)), (1, .int (zi (si : Int))), (2, .int (zi lv)), (3, .int (zi l9)), (4, .int (zi lo)), (5, .int (zi r9)), (6, .int (zi hi))] := hl
  have hP : va_P g.1 vwCl (TW g ad t) s.heap := hF
  have hKq : KH g noA s s.heap := hKH
  have hN := hT.n12
  have hsl := idx_lt hs
  have hrow := hT.s hs
  have hw := hT.ws hs
  have h9 := hw.2.1
  have hwp := hw.1
  refine lv_aload_n hx hb dX4_shows_0 rfl (lv_at hl 0 rfl) ?_
  refine lv_iload_n hx hb dX4_shows_1 rfl (lv_at hl 1 rfl) ?_
  refine r_c hx hb dX4_shows_2 ?_
  refine r_qi (z := bi (sAr sh)) (va_runV (As := [.int (zi (si : Int)), .int (zi 1)]) (rest := []) ⟨hx, hb, hml, hown, hts⟩ (m_of l g ad t si 1 (7 * si + 1) (bi (sAr sh)) (by omega) (by omega) (hrow.2.1)) (cwV 2 hts (lw_V q1673 q1675 qs30 q69 q1676) rfl rfl rfl (by decide +kernel) ⟨Nat.le_of_ble_eq_true rfl, Nat.le_of_ble_eq_true rfl⟩) (pcs_V (va_recv hK hP (ci := 10) (q0 := 0) rfl rfl) hKq hP) rfl rfl hl.1 rfl (lv_room (Nat.le_of_ble_eq_true rfl)) dX4_shows_3 ⟨Nat.le_of_ble_eq_true rfl, Nat.le_of_ble_eq_true rfl⟩) ?_
  refine r_ne0 (tgt := 31) hx hb dX4_shows_6 (by decide) (bi_fit _) (fun h6 => ?_) (fun h6 => ?_)
  · have har := bi_ne h6
    obtain ⟨hlen, hre1, hre2, hcu1, hcu2⟩ : (sPts sh).length = 1 ∧ 1 ≤ sRe sh ∧ sRe sh ≤ 20 ∧ sRe sh ≤ sCu sh ∧ sCu sh ≤ 2 * sRe sh := by
      rcases hw.2.2.1 with q | q
      · exact q.2
      · rw [har] at q; cases q.1
    obtain ⟨px0, py0⟩ := hwp 0 (by omega)
    have hb1 := btw_b px0 hl9 hr9
    have hb2 := btw_b py0 hlo hhi
    refine lv_aload_n hx hb dX4_shows_31 rfl (lv_at hl 0 rfl) ?_
    refine lv_iload_n hx hb dX4_shows_32 rfl (lv_at hl 1 rfl) ?_
    refine r_c hx hb dX4_shows_33 ?_
    refine r_qi (z := pX (sPts sh) 0) (va_runV (As := [.int (zi (si : Int)), .int (zi 0)]) (rest := []) ⟨hx, hb, hml, hown, hts⟩ (m_x l g ad t si 0 (9 * si + 0) (pX (sPts sh) 0) (by omega) (by omega) ((hrow).2.2.2.2.2.2.2 0 (by omega)).1) (cwV 2 hts (lw_V q1681 q1683 qs32 q69 q1684) rfl rfl rfl (by decide +kernel) ⟨Nat.le_of_ble_eq_true rfl, Nat.le_of_ble_eq_true rfl⟩) (pcs_V (va_recv hK hP (ci := 10) (q0 := 0) rfl rfl) hKq hP) rfl rfl hl.1 rfl (lv_room (Nat.le_of_ble_eq_true rfl)) dX4_shows_34 ⟨Nat.le_of_ble_eq_true rfl, Nat.le_of_ble_eq_true rfl⟩) ?_
    refine lv_iload_n hx hb dX4_shows_37 rfl (lv_at hl 3 rfl) ?_
    refine lv_iload hx hb dX4_shows_38 (lv_at hl 5 rfl) ?_
    refine r_qi (z := btw (pX (sPts sh) 0) l9 r9) (va_runS (As := [.int (zi (pX (sPts sh) 0)), .int (zi l9), .int (zi r9)]) (rest := []) ⟨hx, hb, hml, hown, hts⟩ (m_between l g (pX (sPts sh) 0) l9 r9 (by omega) (by omega) (by omega)) (va_cwS 3 hts (lw_S q1863 q1864 q69 q1865) rfl rfl rfl (by decide +kernel) ⟨Nat.le_of_ble_eq_true rfl, Nat.le_of_ble_eq_true rfl⟩) (pcs_S hKq trivial) rfl rfl hl.1 rfl (lv_room (Nat.le_of_ble_eq_true rfl)) dX4_shows_40 ⟨Nat.le_of_ble_eq_true rfl, Nat.le_of_ble_eq_true rfl⟩) ?_
    refine lv_istore (lv' := [(7, .int (zi (btw (pX (sPts sh) 0) l9 r9))), (0, .ref (aO ad)), (1, .int (zi (si : Int))), (2, .int (zi lv)), (3, .int (zi l9)), (4, .int (zi lo)), (5, .int (zi r9)), (6, .int (zi hi))]) hx hb dX4_shows_43 hl (by decide) rfl (fun ls hl => ?_)
    refine lv_aload_n hx hb dX4_shows_45 rfl (lv_at hl 1 rfl) ?_
    refine lv_iload_n hx hb dX4_shows_46 rfl (lv_at hl 2 rfl) ?_
    refine r_c hx hb dX4_shows_47 ?_
    refine r_qi (z := pY (sPts sh) 0) (va_runV (As := [.int (zi (si : Int)), .int (zi 0)]) (rest := []) ⟨hx, hb, hml, hown, hts⟩ (m_y l g ad t si 0 (9 * si + 0) (pY (sPts sh) 0) (by omega) (by omega) ((hrow).2.2.2.2.2.2.2 0 (by omega)).2) (cwV 2 hts (lw_V q1685 q1687 qs33 q69 q1688) rfl rfl rfl (by decide +kernel) ⟨Nat.le_of_ble_eq_true rfl, Nat.le_of_ble_eq_true rfl⟩) (pcs_V (va_recv hK hP (ci := 10) (q0 := 0) rfl rfl) hKq hP) rfl rfl hl.1 rfl (lv_room (Nat.le_of_ble_eq_true rfl)) dX4_shows_48 ⟨Nat.le_of_ble_eq_true rfl, Nat.le_of_ble_eq_true rfl⟩) ?_
    refine lv_iload hx hb dX4_shows_51 (lv_at hl 5 rfl) ?_
    refine lv_iload hx hb dX4_shows_53 (lv_at hl 7 rfl) ?_
    refine r_qi (z := btw (pY (sPts sh) 0) lo hi) (va_runS (As := [.int (zi (pY (sPts sh) 0)), .int (zi lo), .int (zi hi)]) (rest := []) ⟨hx, hb, hml, hown, hts⟩ (m_between l g (pY (sPts sh) 0) lo hi (by omega) (by omega) (by omega)) (va_cwS 3 hts (lw_S q1863 q1864 q69 q1865) rfl rfl rfl (by decide +kernel) ⟨Nat.le_of_ble_eq_true rfl, Nat.le_of_ble_eq_true rfl⟩) (pcs_S hKq trivial) rfl rfl hl.1 rfl (lv_room (Nat.le_of_ble_eq_true rfl)) dX4_shows_55 ⟨Nat.le_of_ble_eq_true rfl, Nat.le_of_ble_eq_true rfl⟩) ?_
    refine lv_istore (lv' := [(8, .int (zi (btw (pY (sPts sh) 0) lo hi))), (7, .int (zi (btw (pX (sPts sh) 0) l9 r9))), (0, .ref (aO ad)), (1, .int (zi (si : Int))), (2, .int (zi lv)), (3, .int (zi l9)), (4, .int (zi lo)), (5, .int (zi r9)), (6, .int (zi hi))]) hx hb dX4_shows_58 hl (by decide) rfl (fun ls hl => ?_)
    refine lv_iload hx hb dX4_shows_60 (lv_at hl 1 rfl) ?_
    refine lv_aload_n hx hb dX4_shows_62 rfl (lv_at hl 2 rfl) ?_
    refine lv_iload_n hx hb dX4_shows_63 rfl (lv_at hl 3 rfl) ?_
    refine r_c hx hb dX4_shows_64 ?_
    refine r_qi (z := sRe sh) (va_runV (As := [.int (zi (si : Int)), .int (zi 3)]) (rest := [.int (zi (btw (pX (sPts sh) 0) l9 r9))]) ⟨hx, hb, hml, hown, hts⟩ (m_of l g ad t si 3 (7 * si + 3) (sRe sh) (by omega) (by omega) (hrow.2.2.2.1)) (cwV 2 hts (lw_V q1673 q1675 qs30 q69 q1676) rfl rfl rfl (by decide +kernel) ⟨Nat.le_of_ble_eq_true rfl, Nat.le_of_ble_eq_true rfl⟩) (pcs_V (va_recv hK hP (ci := 10) (q0 := 0) rfl rfl) hKq hP) rfl rfl hl.1 rfl (lv_room (Nat.le_of_ble_eq_true rfl)) dX4_shows_65 ⟨Nat.le_of_ble_eq_true rfl, Nat.le_of_ble_eq_true rfl⟩) ?_
    refine r_ge (tgt := 100) hx hb dX4_shows_68 (by decide) ⟨by omega, by omega⟩ ⟨by omega, by omega⟩ (fun h68 => ?_) (fun h68 => ?_)
    · refine r_c hx hb dX4_shows_100 ?_
      rw [hQ]
      exact r_qret (z := 0) hx hb hr hlocks (bi_nar false) dX4_shows_101 (by unfold shwB; first | (rw [if_pos har, decide_eq_true h68, decide_eq_true h79, decide_eq_true h93]; rfl) | (rw [if_pos har, decide_eq_false (p := _ + _ < _) (by omega)]; simp [bi]) | (rw [if_pos har, decide_eq_false (p := btw (pY _ _) _ _ < _) (by omega)]; simp [bi]) | (rw [if_pos har, decide_eq_false (p := btw (pX _ _) _ _ < _) (by omega)]; simp [bi]) | (rw [if_neg (by rw [bi_eq h6]; decide), decide_eq_true (by omega)]; rfl) | (rw [if_neg (by rw [bi_eq h6]; decide), decide_eq_false (by omega)]; rfl))
    refine lv_iload hx hb dX4_shows_71 (lv_at hl 0 rfl) ?_
    refine lv_aload_n hx hb dX4_shows_73 rfl (lv_at hl 2 rfl) ?_
    refine lv_iload_n hx hb dX4_shows_74 rfl (lv_at hl 3 rfl) ?_
    refine r_c hx hb dX4_shows_75 ?_
    refine r_qi (z := sRe sh) (va_runV (As := [.int (zi (si : Int)), .int (zi 3)]) (rest := [.int (zi (btw (pY (sPts sh) 0) lo hi))]) ⟨hx, hb, hml, hown, hts⟩ (m_of l g ad t si 3 (7 * si + 3) (sRe sh) (by omega) (by omega) (hrow.2.2.2.1)) (cwV 2 hts (lw_V q1673 q1675 qs30 q69 q1676) rfl rfl rfl (by decide +kernel) ⟨Nat.le_of_ble_eq_true rfl, Nat.le_of_ble_eq_true rfl⟩) (pcs_V (va_recv hK hP (ci := 10) (q0 := 0) rfl rfl) hKq hP) rfl rfl hl.1 rfl (lv_room (Nat.le_of_ble_eq_true rfl)) dX4_shows_76 ⟨Nat.le_of_ble_eq_true rfl, Nat.le_of_ble_eq_true rfl⟩) ?_
    refine r_ge (tgt := 100) hx hb dX4_shows_79 (by decide) ⟨by omega, by omega⟩ ⟨by omega, by omega⟩ (fun h79 => ?_) (fun h79 => ?_)
    · refine r_c hx hb dX4_shows_100 ?_
      rw [hQ]
      exact r_qret (z := 0) hx hb hr hlocks (bi_nar false) dX4_shows_101 (by unfold shwB; first | (rw [if_pos har, decide_eq_true h68, decide_eq_true h79, decide_eq_true h93]; rfl) | (rw [if_pos har, decide_eq_false (p := _ + _ < _) (by omega)]; simp [bi]) | (rw [if_pos har, decide_eq_false (p := btw (pY _ _) _ _ < _) (by omega)]; simp [bi]) | (rw [if_pos har, decide_eq_false (p := btw (pX _ _) _ _ < _) (by omega)]; simp [bi]) | (rw [if_neg (by rw [bi_eq h6]; decide), decide_eq_true (by omega)]; rfl) | (rw [if_neg (by rw [bi_eq h6]; decide), decide_eq_false (by omega)]; rfl))
    refine lv_iload hx hb dX4_shows_82 (lv_at hl 1 rfl) ?_
    refine lv_iload hx hb dX4_shows_84 (lv_at hl 0 rfl) ?_
    refine r_add (z := (btw (pX (sPts sh) 0) l9 r9) + (btw (pY (sPts sh) 0) lo hi)) hx hb dX4_shows_86 rfl ?_
    refine lv_aload_n hx hb dX4_shows_87 rfl (lv_at hl 2 rfl) ?_
    refine lv_iload_n hx hb dX4_shows_88 rfl (lv_at hl 3 rfl) ?_
    refine r_c hx hb dX4_shows_89 ?_
    refine r_qi (z := sCu sh) (va_runV (As := [.int (zi (si : Int)), .int (zi 4)]) (rest := [.int (zi ((btw (pX (sPts sh) 0) l9 r9) + (btw (pY (sPts sh) 0) lo hi)))]) ⟨hx, hb, hml, hown, hts⟩ (m_of l g ad t si 4 (7 * si + 4) (sCu sh) (by omega) (by omega) (hrow.2.2.2.2.1)) (cwV 2 hts (lw_V q1673 q1675 qs30 q69 q1676) rfl rfl rfl (by decide +kernel) ⟨Nat.le_of_ble_eq_true rfl, Nat.le_of_ble_eq_true rfl⟩) (pcs_V (va_recv hK hP (ci := 10) (q0 := 0) rfl rfl) hKq hP) rfl rfl hl.1 rfl (lv_room (Nat.le_of_ble_eq_true rfl)) dX4_shows_90 ⟨Nat.le_of_ble_eq_true rfl, Nat.le_of_ble_eq_true rfl⟩) ?_
    refine r_ge (tgt := 100) hx hb dX4_shows_93 (by decide) ⟨by omega, by omega⟩ ⟨by omega, by omega⟩ (fun h93 => ?_) (fun h93 => ?_)
    · refine r_c hx hb dX4_shows_100 ?_
      rw [hQ]
      exact r_qret (z := 0) hx hb hr hlocks (bi_nar false) dX4_shows_101 (by unfold shwB; first | (rw [if_pos har, decide_eq_true h68, decide_eq_true h79, decide_eq_true h93]; rfl) | (rw [if_pos har, decide_eq_false (p := _ + _ < _) (by omega)]; simp [bi]) | (rw [if_pos har, decide_eq_false (p := btw (pY _ _) _ _ < _) (by omega)]; simp [bi]) | (rw [if_pos har, decide_eq_false (p := btw (pX _ _) _ _ < _) (by omega)]; simp [bi]) | (rw [if_neg (by rw [bi_eq h6]; decide), decide_eq_true (by omega)]; rfl) | (rw [if_neg (by rw [bi_eq h6]; decide), decide_eq_false (by omega)]; rfl))
    refine r_c hx hb dX4_shows_96 ?_
    refine lv_goto (tgt := 101) hx hb dX4_shows_97 (by decide) ?_
    rw [hQ]
    exact r_qret (z := 1) hx hb hr hlocks (bi_nar true) dX4_shows_101 (by unfold shwB; first | (rw [if_pos har, decide_eq_true h68, decide_eq_true h79, decide_eq_true h93]; rfl) | (rw [if_pos har, decide_eq_false (p := _ + _ < _) (by omega)]; simp [bi]) | (rw [if_pos har, decide_eq_false (p := btw (pY _ _) _ _ < _) (by omega)]; simp [bi]) | (rw [if_pos har, decide_eq_false (p := btw (pX _ _) _ _ < _) (by omega)]; simp [bi]) | (rw [if_neg (by rw [bi_eq h6]; decide), decide_eq_true (by omega)]; rfl) | (rw [if_neg (by rw [bi_eq h6]; decide), decide_eq_false (by omega)]; rfl))
  have hmb := metC_b (sPts sh) (gTo σ lv.toNat) l9 lo r9 hi
  refine lv_aload_n hx hb dX4_shows_9 rfl (lv_at hl 0 rfl) ?_
  refine lv_iload_n hx hb dX4_shows_10 rfl (lv_at hl 1 rfl) ?_
  refine lv_iload_n hx hb dX4_shows_11 rfl (lv_at hl 2 rfl) ?_
  refine lv_iload_n hx hb dX4_shows_12 rfl (lv_at hl 3 rfl) ?_
  refine lv_iload hx hb dX4_shows_13 (lv_at hl 4 rfl) ?_
  refine lv_iload hx hb dX4_shows_15 (lv_at hl 5 rfl) ?_
  refine lv_iload hx hb dX4_shows_17 (lv_at hl 6 rfl) ?_
  refine r_qi (z := metC (sPts sh) (gTo σ lv.toNat) l9 lo r9 hi) (va_runV (As := [.int (zi (si : Int)), .int (zi lv), .int (zi l9), .int (zi lo), .int (zi r9), .int (zi hi)]) (rest := []) ⟨hx, hb, hml, hown, hts⟩ (m_met l g ad t σ si sh hT hs lv hv0 hv3 (bi_eq h6) l9 lo r9 hi hl9 hlo hr9 hhi) (cwV 6 hts (lw_V q1855 q1857 qs50 q69 q1858) rfl rfl rfl (by decide +kernel) ⟨Nat.le_of_ble_eq_true rfl, Nat.le_of_ble_eq_true rfl⟩) (pcs_V (va_recv hK hP (ci := 10) (q0 := 0) rfl rfl) hKq hP) rfl rfl hl.1 rfl (lv_room (Nat.le_of_ble_eq_true rfl)) dX4_shows_19 ⟨Nat.le_of_ble_eq_true rfl, Nat.le_of_ble_eq_true rfl⟩) ?_
  refine r_le0 (tgt := 29) hx hb dX4_shows_22 (by decide) ⟨by omega, by omega⟩ (fun h22 => ?_) (fun h22 => ?_)
  · refine r_c hx hb dX4_shows_29 ?_
    rw [hQ]
    exact r_qret (z := 0) hx hb hr hlocks (bi_nar false) dX4_shows_30 (by unfold shwB; first | (rw [if_pos har, decide_eq_true h68, decide_eq_true h79, decide_eq_true h93]; rfl) | (rw [if_pos har, decide_eq_false (p := _ + _ < _) (by omega)]; simp [bi]) | (rw [if_pos har, decide_eq_false (p := btw (pY _ _) _ _ < _) (by omega)]; simp [bi]) | (rw [if_pos har, decide_eq_false (p := btw (pX _ _) _ _ < _) (by omega)]; simp [bi]) | (rw [if_neg (by rw [bi_eq h6]; decide), decide_eq_true (by omega)]; rfl) | (rw [if_neg (by rw [bi_eq h6]; decide), decide_eq_false (by omega)]; rfl))
  refine r_c hx hb dX4_shows_25 ?_
  refine lv_goto (tgt := 30) hx hb dX4_shows_26 (by decide) ?_
  rw [hQ]
  exact r_qret (z := 1) hx hb hr hlocks (bi_nar true) dX4_shows_30 (by unfold shwB; first | (rw [if_pos har, decide_eq_true h68, decide_eq_true h79, decide_eq_true h93]; rfl) | (rw [if_pos har, decide_eq_false (p := _ + _ < _) (by omega)]; simp [bi]) | (rw [if_pos har, decide_eq_false (p := btw (pY _ _) _ _ < _) (by omega)]; simp [bi]) | (rw [if_pos har, decide_eq_false (p := btw (pX _ _) _ _ < _) (by omega)]; simp [bi]) | (rw [if_neg (by rw [bi_eq h6]; decide), decide_eq_true (by omega)]; rfl) | (rw [if_neg (by rw [bi_eq h6]; decide), decide_eq_false (by omega)]; rfl))
set_option maxHeartbeats 4000000 in
set_option maxRecDepth 100000 in
theorem m_drawing (l : Launch) (g : GD) (ad : TA) (t : TS) (σ : Sg) (hT : TR σ t) (lv co ro x y : Int) (hti : isTi lv co ro) (hx9 : 0 ≤ x ∧ x ≤ 7) (hy9 : 0 ≤ y ∧ y ≤ 7) : Met l yX4_drawing (ws_ yX4_drawing cX4_drawing 11 (some .int)) ({ frames := 7, cells := 0, slots := 0, locals := 201 } : Room) (pcs g [.ref (aO ad), .int (zi lv), .int (zi co), .int (zi ro), .int (zi x), .int (zi y)] noA (fun h => va_P g.1 vwCl (TW g ad t) h)) (qSi (cellZ (gSh σ) (gTo σ lv.toNat) lv co ro x y)) 0 0 noA := by
  refine Met.go (by decide) (Nat.le_of_ble_eq_true rfl) ?_
  intro p e s m args below meth c Q ls hQ hx hb hr hml hts hown hlocks hin hKH hF hl
  have hown : s.vm.findClass RX4 = some m.cls := hown
  have hK := hKH.k
  have hNW := hKH.1.nw
  have hl : lv_has ls 11 [(0, .ref (aO ad)), (1, .int (zi lv)), (2, .int (zi co)), (3, .int (zi ro)), (4, .int (zi x)), (5, .int (zi y))] := hl
  have hP : va_P g.1 vwCl (TW g ad t) s.heap := hF
  have hKq : KH g noA s s.heap := hKH
  have hN := hT.n12
  obtain ⟨⟨hv0, hv3⟩, hco, hro⟩ := hti
  obtain ⟨cx1, cx2, cs1, cs2⟩ := cell_b hv0 hv3 hco hx9
  obtain ⟨cy1, cy2, -, -⟩ := cell_b hv0 hv3 hro hy9
  refine r_bip hx hb dX4_drawing_0 (by decide) ?_
  refine lv_iload_n hx hb dX4_drawing_2 rfl (lv_at hl 1 rfl) ?_
  refine r_shr (z := cs lv) hx hb dX4_drawing_3 (shr_8 hv0 hv3) ?_
  refine lv_istore (lv' := [(6, .int (zi (cs lv))), (0, .ref (aO ad)), (1, .int (zi lv)), (2, .int (zi co)), (3, .int (zi ro)), (4, .int (zi x)), (5, .int (zi y))]) hx hb dX4_drawing_4 hl (by decide) rfl (fun ls hl => ?_)
  refine r_bip hx hb dX4_drawing_6 (by decide) ?_
  refine lv_iload_n hx hb dX4_drawing_8 rfl (lv_at hl 3 rfl) ?_
  refine r_mul (z := 8 * co) hx hb dX4_drawing_9 rfl ?_
  refine lv_iload hx hb dX4_drawing_10 (lv_at hl 5 rfl) ?_
  refine r_add (z := (8 * co) + x) hx hb dX4_drawing_12 rfl ?_
  refine lv_iload hx hb dX4_drawing_13 (lv_at hl 0 rfl) ?_
  refine r_mul (z := ((8 * co) + x) * (cs lv)) hx hb dX4_drawing_15 rfl ?_
  refine lv_istore (lv' := [(7, .int (zi (((8 * co) + x) * (cs lv)))), (6, .int (zi (cs lv))), (0, .ref (aO ad)), (1, .int (zi lv)), (2, .int (zi co)), (3, .int (zi ro)), (4, .int (zi x)), (5, .int (zi y))]) hx hb dX4_drawing_16 hl (by decide) rfl (fun ls hl => ?_)
  refine r_bip hx hb dX4_drawing_18 (by decide) ?_
  refine lv_iload_n hx hb dX4_drawing_20 rfl (lv_at hl 5 rfl) ?_
  refine r_mul (z := 8 * ro) hx hb dX4_drawing_21 rfl ?_
  refine lv_iload hx hb dX4_drawing_22 (lv_at hl 7 rfl) ?_
  refine r_add (z := (8 * ro) + y) hx hb dX4_drawing_24 rfl ?_
  refine lv_iload hx hb dX4_drawing_25 (lv_at hl 1 rfl) ?_
  refine r_mul (z := ((8 * ro) + y) * (cs lv)) hx hb dX4_drawing_27 rfl ?_
  refine lv_istore (lv' := [(8, .int (zi (((8 * ro) + y) * (cs lv)))), (7, .int (zi (((8 * co) + x) * (cs lv)))), (6, .int (zi (cs lv))), (0, .ref (aO ad)), (1, .int (zi lv)), (2, .int (zi co)), (3, .int (zi ro)), (4, .int (zi x)), (5, .int (zi y))]) hx hb dX4_drawing_28 hl (by decide) rfl (fun ls hl => ?_)
  refine r_c hx hb dX4_drawing_30 ?_
  refine lv_istore (lv' := [(9, .int (zi 0)), (8, .int (zi (((8 * ro) + y) * (cs lv)))), (7, .int (zi (((8 * co) + x) * (cs lv)))), (6, .int (zi (cs lv))), (0, .ref (aO ad)), (1, .int (zi lv)), (2, .int (zi co)), (3, .int (zi ro)), (4, .int (zi x)), (5, .int (zi y))]) hx hb dX4_drawing_31 hl (by decide) rfl (fun ls hl => ?_)
  refine r_c hx hb dX4_drawing_33 ?_
  refine lv_istore (lv' := [(10, .int (zi 0)), (9, .int (zi 0)), (8, .int (zi (((8 * ro) + y) * (cs lv)))), (7, .int (zi (((8 * co) + x) * (cs lv)))), (6, .int (zi (cs lv))), (0, .ref (aO ad)), (1, .int (zi lv)), (2, .int (zi co)), (3, .int (zi ro)), (4, .int (zi x)), (5, .int (zi y))]) hx hb dX4_drawing_34 hl (by decide) rfl (fun ls hl => ?_)
  have lp : ∀ (n : Nat) (i : Nat), (i ≤ (gSh σ).length) → (gSh σ).length < i + n → ∀ ls : Array Slot, lv_has ls 11 [(10, .int (zi (i : Int))), (9, .int (zi (drw (gSh σ) (gTo σ lv.toNat) ((8 * co + x) * cs lv) ((8 * ro + y) * cs lv) (((8 * co + x) * cs lv) + cs lv) (((8 * ro + y) * cs lv) + cs lv) i))), (8, .int (zi ((8 * ro + y) * cs lv))), (7, .int (zi ((8 * co + x) * cs lv))), (6, .int (zi (cs lv))), (0, .ref (aO ad)), (1, .int (zi lv))] → W p l e ({ frames := 7, cells := 0, slots := 0, locals := 201 } : Room) s m args below meth c s.heap ([]) 0 0 Q (F0 m 36 ls []) := by
    intro n
    induction n with
    | zero =>
      intro i hi hbd
      exact absurd hbd (by omega)
    | succ n ih =>
      intro i hi hbd ls hl
      refine lv_iload hx hb dX4_drawing_36 (lv_at hl 0 rfl) ?_
      refine lv_aload_n hx hb dX4_drawing_38 rfl (lv_at hl 5 rfl) ?_
      refine va_get (D := g.1) (ci := 10) (v := .int (zi (uN t))) (C := RX4) (T := TX4) (N := 16) hx hb hts in_X4 hown hK hP 0 rfl rfl 1 (by decide) (hts _ q1601) (fun _ h9 => h9) rfl dX4_drawing_39 ?_
      refine r_ge (tgt := 89) hx hb dX4_drawing_42 (by decide) ⟨by omega, by omega⟩ ⟨by rw [hT.n]; omega, by rw [hT.n]; omega⟩ (fun h42 => ?_) (fun h42 => ?_)
      · have hie : i = (gSh σ).length := by rw [hT.n] at h42; omega
        refine lv_iload hx hb dX4_drawing_89 (lv_at hl 1 rfl) ?_
        rw [hQ]
        exact r_qret (z := drw (gSh σ) (gTo σ lv.toNat) ((8 * co + x) * cs lv) ((8 * ro + y) * cs lv) (((8 * co + x) * cs lv) + cs lv) (((8 * ro + y) * cs lv) + cs lv) i) hx hb hr hlocks rfl dX4_drawing_91 (by rw [hie]; rfl)
      have hlt : i < (gSh σ).length := by rw [hT.n] at h42; omega
      obtain ⟨sh, hs⟩ := get_lt hlt
      have J81 : W p l e ({ frames := 7, cells := 0, slots := 0, locals := 201 } : Room) s m args below meth c s.heap ([]) 0 0 Q (F0 m 81 ls [.int (zi (drw (gSh σ) (gTo σ lv.toNat) ((8 * co + x) * cs lv) ((8 * ro + y) * cs lv) (((8 * co + x) * cs lv) + cs lv) (((8 * ro + y) * cs lv) + cs lv) (i + 1)))]) := by
        refine lv_istore (lv' := [(9, .int (zi (drw (gSh σ) (gTo σ lv.toNat) ((8 * co + x) * cs lv) ((8 * ro + y) * cs lv) (((8 * co + x) * cs lv) + cs lv) (((8 * ro + y) * cs lv) + cs lv) (i + 1)))), (10, .int (zi (i : Int))), (8, .int (zi ((8 * ro + y) * cs lv))), (7, .int (zi ((8 * co + x) * cs lv))), (6, .int (zi (cs lv))), (0, .ref (aO ad)), (1, .int (zi lv))]) hx hb dX4_drawing_81 hl (by decide) rfl (fun ls hl => ?_)
        refine r_iinc (z := ((i + 1 : Nat) : Int)) (lv' := [(10, .int (zi ((i + 1 : Nat) : Int))), (9, .int (zi (drw (gSh σ) (gTo σ lv.toNat) ((8 * co + x) * cs lv) ((8 * ro + y) * cs lv) (((8 * co + x) * cs lv) + cs lv) (((8 * ro + y) * cs lv) + cs lv) (i + 1)))), (8, .int (zi ((8 * ro + y) * cs lv))), (7, .int (zi ((8 * co + x) * cs lv))), (6, .int (zi (cs lv))), (0, .ref (aO ad)), (1, .int (zi lv))]) hx hb dX4_drawing_83 hl (k := 1) rfl (by omega) (by decide) rfl (fun ls hl => ?_)
        refine lv_goto (tgt := 36) hx hb dX4_drawing_86 (by decide) ?_
        exact ih (i + 1) (by omega) (by omega) ls (lv_sub hl [0, 1, 2, 3, 4, 5, 6] rfl)
      refine lv_aload_n hx hb dX4_drawing_45 rfl (lv_at hl 5 rfl) ?_
      refine lv_iload hx hb dX4_drawing_46 (lv_at hl 0 rfl) ?_
      refine lv_iload_n hx hb dX4_drawing_48 rfl (lv_at hl 6 rfl) ?_
      refine lv_iload hx hb dX4_drawing_49 (lv_at hl 3 rfl) ?_
      refine lv_iload hx hb dX4_drawing_51 (lv_at hl 2 rfl) ?_
      refine lv_iload hx hb dX4_drawing_53 (lv_at hl 3 rfl) ?_
      refine lv_iload hx hb dX4_drawing_55 (lv_at hl 4 rfl) ?_
      refine r_add (z := ((8 * co + x) * cs lv) + (cs lv)) hx hb dX4_drawing_57 rfl ?_
      refine lv_iload hx hb dX4_drawing_58 (lv_at hl 2 rfl) ?_
      refine lv_iload hx hb dX4_drawing_60 (lv_at hl 4 rfl) ?_
      refine r_add (z := ((8 * ro + y) * cs lv) + (cs lv)) hx hb dX4_drawing_62 rfl ?_
      refine r_qi (z := bi (shwB sh (gTo σ lv.toNat) ((8 * co + x) * cs lv) ((8 * ro + y) * cs lv) (((8 * co + x) * cs lv) + (cs lv)) (((8 * ro + y) * cs lv) + (cs lv)))) (va_runV (As := [.int (zi (i : Int)), .int (zi lv), .int (zi ((8 * co + x) * cs lv)), .int (zi ((8 * ro + y) * cs lv)), .int (zi (((8 * co + x) * cs lv) + (cs lv))), .int (zi (((8 * ro + y) * cs lv) + (cs lv)))]) (rest := []) ⟨hx, hb, hml, hown, hts⟩ (m_shows l g ad t σ i sh hT hs lv hv0 hv3 ((8 * co + x) * cs lv) ((8 * ro + y) * cs lv) (((8 * co + x) * cs lv) + (cs lv)) (((8 * ro + y) * cs lv) + (cs lv)) ⟨by omega, by omega⟩ ⟨by omega, by omega⟩ ⟨by omega, by omega⟩ ⟨by omega, by omega⟩) (cwV 6 hts (lw_V q1851 q1853 qs49 q69 q1854) rfl rfl rfl (by decide +kernel) ⟨Nat.le_of_ble_eq_true rfl, Nat.le_of_ble_eq_true rfl⟩) (pcs_V (va_recv hK hP (ci := 10) (q0 := 0) rfl rfl) hKq hP) rfl rfl hl.1 rfl (lv_room (Nat.le_of_ble_eq_true rfl)) dX4_drawing_63 ⟨Nat.le_of_ble_eq_true rfl, Nat.le_of_ble_eq_true rfl⟩) ?_
      refine r_beq0 (tgt := 79) hx hb dX4_drawing_66 (by decide) (fun h66 => ?_) (fun h66 => ?_)
      · refine lv_iload hx hb dX4_drawing_79 (lv_at hl 1 rfl) ?_
        refine r_int (z := drw (gSh σ) (gTo σ lv.toNat) ((8 * co + x) * cs lv) ((8 * ro + y) * cs lv) (((8 * co + x) * cs lv) + cs lv) (((8 * ro + y) * cs lv) + cs lv) (i + 1)) ((drw_n hs h66).symm) ?_
        exact J81
      refine lv_aload_n hx hb dX4_drawing_69 rfl (lv_at hl 5 rfl) ?_
      refine lv_iload hx hb dX4_drawing_70 (lv_at hl 0 rfl) ?_
      refine r_c hx hb dX4_drawing_72 ?_
      refine r_qi (z := sNum sh) (va_runV (As := [.int (zi (i : Int)), .int (zi 0)]) (rest := []) ⟨hx, hb, hml, hown, hts⟩ (m_of l g ad t i 0 (7 * i + 0) (sNum sh) (by omega) (by omega) ((hT.s hs).1)) (cwV 2 hts (lw_V q1673 q1675 qs30 q69 q1676) rfl rfl rfl (by decide +kernel) ⟨Nat.le_of_ble_eq_true rfl, Nat.le_of_ble_eq_true rfl⟩) (pcs_V (va_recv hK hP (ci := 10) (q0 := 0) rfl rfl) hKq hP) rfl rfl hl.1 rfl (lv_room (Nat.le_of_ble_eq_true rfl)) dX4_drawing_73 ⟨Nat.le_of_ble_eq_true rfl, Nat.le_of_ble_eq_true rfl⟩) ?_
      refine lv_goto (tgt := 81) hx hb dX4_drawing_76 (by decide) ?_
      refine r_int (z := drw (gSh σ) (gTo σ lv.toNat) ((8 * co + x) * cs lv) ((8 * ro + y) * cs lv) (((8 * co + x) * cs lv) + cs lv) (((8 * ro + y) * cs lv) + cs lv) (i + 1)) ((drw_y hs h66).symm) ?_
      exact J81
  exact lp ((gSh σ).length + 1) 0 (Nat.zero_le _) (by omega) ls (lv_sub hl [0, 1, 2, 3, 4, 5, 6] rfl)
